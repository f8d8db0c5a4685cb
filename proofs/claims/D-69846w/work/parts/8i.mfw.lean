/-! m: the first way on among the cheapest -/
theorem tgL_ok {e : CE} {u : Nat} {n : Int} (h : tgL e u n ≠ -1) : okL e u n := by
  by_cases y : okL e u n
  · exact y
  · exact absurd (tgL_n y) h
theorem okL_m {e : CE} {u : Nat} {n m : Int} (l : n ≤ m) (o : okL e u m) : okL e u n := fun r rl => ⟨by have := (o r rl).1; omega, fun k k0 k1 => (o r rl).2 k k0 (by omega)⟩
theorem tgL_m {e : CE} {u : Nat} {n m : Int} (l : n ≤ m) (h : tgL e u n = -1) : tgL e u m = -1 := by
  by_cases y : okL e u m
  · have := tgL_y (okL_m l y); omega
  · exact tgL_n y
/-- what choosing rests upon, at m -/
def chN (h : AH) (e : CE) (t d : Int → Int) (N : Int) (k : Nat) : Prop := cuM h e ∧ vCE e ∧ FND h e t d N ∧ (∀ s, 0 ≤ s → s < 178 → spM h e s) ∧ drM (h (836 + k)) e t d N k ∧ drM (h (836 + (k + 1))) e t d N (k + 1)
theorem chN_f {h h' : AH} {e : CE} {t d : Int → Int} {N : Int} {k : Nat} (c : chN h e t d N k) (f : ∀ a x, ¬ (a = 828 ∧ 0 ≤ x) → ¬ (a = 841 ∨ a = 842) → ¬ (a = 454 ∧ x = 125) → h' a x = h a x) (hk : k ≤ 3) : chN h' e t d N k := by
  obtain ⟨c1, c2, c3, c4, c5, c6⟩ := c
  refine ⟨cuM_f c1 (fun a s y => f a s (by omega) (by omega) (by omega)), c2, FND_f c3 (fun a s y => f a s (by omega) (by omega) (by omega)), fun s s0 s1 => spM_f (c4 s s0 s1) c2.1.2 (fun a s y => f a s (by omega) (by omega) (by omega)), ?_, ?_⟩
  · rw [show h' (836 + (k : Int)) = h (836 + (k : Int)) from funext fun s => f _ _ (by omega) (by omega) (by omega)]; exact c5
  · rw [show h' (836 + ((k : Int) + 1)) = h (836 + ((k : Int) + 1)) from funext fun s => f _ _ (by omega) (by omega) (by omega)]; exact c6
theorem chN_j {h : AH} {e : CE} {t d : Int → Int} {N s : Int} {k u : Nat} (c : chN h e t d N k) (s0 : 0 ≤ s ∧ s < N ∧ t s = u) (ds : d s + k + 1 ≤ 4) {m : Int × Int} (hm : mvI e u m) : ∃ j, (0 ≤ j ∧ j < N) ∧ t j = m.2 := by
  obtain ⟨j, j0, j1, j2, _⟩ := c.2.2.1.2.2.2.2 s s0.1 s0.2.1 (by omega) m (by rw [s0.2.2, show ((u : Int)).toNat = u by omega]; exact mvL_m.mpr hm)
  exact ⟨j, ⟨j0, j1⟩, j2⟩
theorem chN_d {h : AH} {e : CE} {t d : Int → Int} {N s j : Int} {k u : Nat} (c : chN h e t d N k) (s0 : 0 ≤ s ∧ s < N ∧ t s = u) (ds : d s + k + 1 ≤ 4) {m : Int × Int} (hm : mvI e u m) (j0 : 0 ≤ j ∧ j < N) (tj : t j = m.2) : d j ≤ d s + 1 ∧ h (836 + (k : Int)) j = chP e k m.2 := by
  have q := FND_j c.2.2.1 ⟨s0.1, s0.2.1⟩ s0.2.2 (by omega) (mvL_m.mpr hm) j0 tj
  exact ⟨q, by rw [← tj]; exact c.2.2.2.2.1 j j0.1 j0.2 (by omega)⟩
theorem mvI_w {e : CE} {u : Nat} {n : Int} (n0 : 1 ≤ n ∧ n ≤ 3) (t : tgL e u n ≠ -1) : mvI e u (2 * n, tgL e u n) := Or.inl ⟨n.toNat, by omega, by omega, by rw [show ((n.toNat : Nat) : Int) = n by omega]; exact t, by rw [show ((n.toNat : Nat) : Int) = n by omega]⟩
theorem mvI_c {e : CE} {u : Nat} {a b : Int} (a0 : 0 ≤ a ∧ a < 178) (b0 : 0 ≤ b ∧ b < 178) (pa : isP e a) (pb : isP e b) (t : tgC e u a b ≠ -1) : mvI e u (spR a + spR b, tgC e u a b) := Or.inr ⟨a.toNat, b.toNat, by omega, by omega, by rw [show ((a.toNat : Nat) : Int) = a by omega]; exact pa, by rw [show ((b.toNat : Nat) : Int) = b by omega]; exact pb, by rw [show ((a.toNat : Nat) : Int) = a by omega, show ((b.toNat : Nat) : Int) = b by omega]; exact t, by rw [show ((a.toNat : Nat) : Int) = a by omega, show ((b.toNat : Nat) : Int) = b by omega]⟩
theorem vX14_firstWay_l6 (i1 : Int) (i2 : Int) (i3 : Int) (a40 : Int) (a50 : Int) {h0 : AH} {e : CE} {t d : Int → Int} {N : Int} {u k : Nat} (cm : chN h0 e t d N k) (hi : 0 ≤ i1 ∧ i1 < N ∧ t i1 = u) (hk : i2 = (k : Int) + 1 ∧ d i1 + k + 1 ≤ 4) (h4 : a40 = 0 ∧ a50 = 1) : OK (gX14_firstWay_l6 i1 i2 i3 a40 a50 h0) (Sum.elim (fun h' => (∀ j, 1 ≤ j → j ≤ 3 → ¬ gdW e k u j) ∧ (∀ a x, ¬ (a = 828 ∧ 0 ≤ x) → h' a x = h0 a x)) (Sum.elim (fun r => jt3 r fun x y h' => (∃ n : Int, (1 ≤ n ∧ n ≤ 3) ∧ gdW e k u n ∧ (∀ j, 1 ≤ j → j < n → ¬ gdW e k u j) ∧ x = wdN e ((nb u 0 : Nat) : Int) n.toNat ∧ (0 ≤ y ∧ y < N) ∧ t y = tgL e u n ∧ d y ≤ d i1 + 1 ∧ 0 ≤ x) ∧ (∀ a x, ¬ (a = 828 ∧ 0 ≤ x) → h' a x = h0 a x)) (fun h' => (∀ j, 1 ≤ j → j ≤ 3 → ¬ gdW e k u j) ∧ (∀ a x, ¬ (a = 828 ∧ 0 ≤ x) → h' a x = h0 a x)))) := by
  have hv := cm.2.1
  have n8 := hv.1
  have N4 := cm.2.2.1.2.1
  have d0 := (cm.2.2.1.2.2.2.1 i1 hi.1 hi.2.1).1.1
  unfold gX14_firstWay_l6
  refine OK_jit (I := (fun (s : Int × Int × AH) => jt3 s fun a4 a5 h => (1 ≤ a5 ∧ a5 ≤ 4) ∧ (a4 = wdN e ((nb u 0 : Nat) : Int) (a5 - 1).toNat) ∧ (∀ j, 1 ≤ j → j < a5 → ¬ gdW e k u j) ∧ (∀ a x, ¬ (a = 828 ∧ 0 ≤ x) → h a x = h0 a x))) (m := (fun (s : Int × Int × AH) => jt3 s fun a4 a5 h => (4 - a5).toNat)) ?_ ?_
  · intro s hs
    obtain ⟨a4, a5, h⟩ := s
    dsimp only [Sum.elim_inl, Sum.elim_inr, jt2, jt3, jt4, jt5, jt6, jt7, jt8] at hs
    obtain ⟨q0, q1, q2, fr⟩ := hs
    unfold gX14_firstWay_b6
    refine OK_jt3 ?_
    have CM : chN h e t d N k := chN_f cm (fun a x y1 _ _ => fr a x y1) (by omega)
    have HC := CM.1
    have FN := CM.2.2.1
    obtain ⟨u', u1, u2, u3⟩ := FN.1.2.2.1 i1 hi.1 hi.2.1
    have ue : u' = u := by omega
    rw [ue] at u2 u3
    have V0 := (hv.2 0 (Int.le_refl _) (by omega)).2.1
    refine OK_if (fun c1 => ?_) (fun c1 => ?_)
    · skip
      try simp (disch := omega) only [jst_eq, jst_ne, jst_ni, jI_i, jcmp_lt, jcmp_gt, w32_id, jcpy_out, Sum.elim_inl, Sum.elim_inr, jt2, jt3, jt4, jt5, jt6, jt7, jt8] at c1
      refine OK_ir ?_
      try dsimp only [Sum.elim_inl, Sum.elim_inr, jt2, jt3, jt4, jt5, jt6, jt7, jt8]
      refine ⟨?_, ?_⟩
      · exact fun j j1 j2 => q2 j j1 (by omega) -- o1 e1.1
      · (first | assumption | omega | ((try dsimp only [jt2, jt3, jt4]); first | omega | (simp (disch := omega) only [jst_eq, jst_ne, jst_ni, jst_o, jI_i, jcpy_out, w32_id, jdiv_nn, jshr_k, jand_255] <;> first | done | omega | assumption)) | (intros; simp (disch := omega) only [jst_eq, jst_ne, jst_ni, jst_o, jI_i, jcpy_out, w32_id, jdiv_nn, *] <;> first | done | omega) | (intros; simp (disch := omega) only [jst_eq, jst_ne, jst_ni, jst_o, jI_i, jcpy_out, w32_id, jdiv_nn] at * <;> first | done | omega | assumption) | (intros; first | rfl | (exfalso; omega) | ((repeat' apply And.intro) <;> first | assumption | rfl | omega | trivial))) -- o2 e1.2
    · skip
      try simp (disch := omega) only [jst_eq, jst_ne, jst_ni, jI_i, jcmp_lt, jcmp_gt, w32_id, jcpy_out, Sum.elim_inl, Sum.elim_inr, jt2, jt3, jt4, jt5, jt6, jt7, jt8] at c1
      refine OK_jb2 (vX14_says (e := e) (u := u) _ _ (by exact HC) (by (first | assumption | omega | ((try dsimp only [jt2, jt3, jt4]); first | omega | (simp (disch := omega) only [jst_eq, jst_ne, jst_ni, jst_o, jI_i, jcpy_out, w32_id, jdiv_nn, jshr_k, jand_255] <;> first | done | omega | assumption)) | (intros; simp (disch := omega) only [jst_eq, jst_ne, jst_ni, jst_o, jI_i, jcpy_out, w32_id, jdiv_nn, *] <;> first | done | omega) | (intros; simp (disch := omega) only [jst_eq, jst_ne, jst_ni, jst_o, jI_i, jcpy_out, w32_id, jdiv_nn] at * <;> first | done | omega | assumption) | (intros; first | rfl | (exfalso; omega) | ((repeat' apply And.intro) <;> first | assumption | rfl | omega | trivial)))) (by exact u3) (by omega)) (fun v50 h51 r1 => ?_)
      try dsimp only [Sum.elim_inl, Sum.elim_inr, jt2, jt3, jt4, jt5, jt6, jt7, jt8] at r1
      obtain ⟨sa1, fr1⟩ := r1
      try simp (disch := omega) only [jst_eq, jst_ne, jst_ni, jI_i, jcmp_lt, jcmp_gt, w32_id, jcpy_out, Sum.elim_inl, Sum.elim_inr, jt2, jt3, jt4, jt5, jt6, jt7, jt8] at sa1
      try simp (disch := omega) only [jst_eq, jst_ne, jst_ni, jI_i, jcmp_lt, jcmp_gt, w32_id, jcpy_out, Sum.elim_inl, Sum.elim_inr, jt2, jt3, jt4, jt5, jt6, jt7, jt8] at fr1
      have F8 : ∀ a x, ¬ (a = 828 ∧ 0 ≤ x) → h51 a x = h a x := by assumption
      have CE8 : chN h51 e t d N k := chN_f CM (fun a x y1 _ _ => F8 a x y1) (by omega)
      refine OK_if (fun c2 => ?_) (fun c2 => ?_)
      · skip
        try simp (disch := omega) only [jst_eq, jst_ne, jst_ni, jI_i, jcmp_lt, jcmp_gt, w32_id, jcpy_out, Sum.elim_inl, Sum.elim_inr, jt2, jt3, jt4, jt5, jt6, jt7, jt8] at c2
        refine OK_ir ?_
        try dsimp only [Sum.elim_inl, Sum.elim_inr, jt2, jt3, jt4, jt5, jt6, jt7, jt8]
        refine ⟨?_, ?_⟩
        · (have z0 : tgL e u a5 = -1 := (by rcases sa1 with z | z; { have := z.1; omega }; { exact z.2 }); intro j j1 j2 g; by_cases y : j < a5; { exact q2 j j1 y g }; { exact g.1 (tgL_m (by omega) z0) }) -- o7 e2.1
        · exact fun a x y => by rw [F8 a x y]; exact fr a x y -- o8 e2.2
      · skip
        try simp (disch := omega) only [jst_eq, jst_ne, jst_ni, jI_i, jcmp_lt, jcmp_gt, w32_id, jcpy_out, Sum.elim_inl, Sum.elim_inr, jt2, jt3, jt4, jt5, jt6, jt7, jt8] at c2
        obtain ⟨w, w1, w2, w3⟩ : ∃ w : Nat, tgL e u a5 = w ∧ stU e w ∧ rwQ h51 e w := by { rcases sa1 with z | z; { exact z.2 }; { exact absurd z.1 c2 } }
        have NE : tgL e u a5 ≠ -1 := by omega
        have O0 := (tgL_ok NE 0 (by omega)).1
        have W0 : w32 (8 * i1) = 8 * i1 + 0 := by { rw [w32_id (by omega) (by omega)]; omega }
        have B1 : h51 821 (8 * i1 + 0) = ((nb u 0 : Nat) : Int) := by { rw [F8 _ _ (by omega)]; exact u3 0 (Int.le_refl _) (by omega) }
        rw [W0, B1]
        have W1 : w32 (w32 (((nb u 0 : Nat) : Int) + a5) - 1) = 10 * 0 + (((nb u 0 : Nat) : Int) + (a5 - 1)) := by { have O1 : ((nb u 0 : Nat) : Int) + a5 ≤ e.2.2.2.2 0 := O0; rw [w32_id (x := ((nb u 0 : Nat) : Int) + a5) (by omega) (by omega), w32_id (by omega) (by omega)]; omega }
        have O1 : ((nb u 0 : Nat) : Int) + a5 ≤ e.2.2.2.2 0 := O0
        have C1 : h51 820 (10 * 0 + (((nb u 0 : Nat) : Int) + (a5 - 1))) = e.2.2.1 0 (((nb u 0 : Nat) : Int) + (a5 - 1)) := (CE8.1.2 0 (Int.le_refl _) (by omega)).2.2.2 _ (by omega) (by omega)
        rw [W1, C1]
        have L2 := (hv.2 0 (Int.le_refl _) (by omega)).2.2.2 (((nb u 0 : Nat) : Int) + (a5 - 1)) (by omega) (by omega)
        have WB := wdN_b hv (b := ((nb u 0 : Nat) : Int)) (by omega) (a5 - 1).toNat (by omega) (by omega)
        have WB2 : wdN e ((nb u 0 : Nat) : Int) (a5 - 1).toNat ≤ 19682 := Int.le_trans WB.2 (by split <;> (try split) <;> (try split) <;> omega)
        have W2 : w32 (w32 (w32 (a4 * 27) + e.2.2.1 0 (((nb u 0 : Nat) : Int) + (a5 - 1))) + 1) = wdN e ((nb u 0 : Nat) : Int) a5.toNat := by { rw [q1, show a5.toNat = (a5 - 1).toNat + 1 by omega, wdN_s, show (((a5 - 1).toNat : Nat) : Int) = a5 - 1 by omega, w32_id (x := wdN e ((nb u 0 : Nat) : Int) (a5 - 1).toNat * 27) (by omega) (by omega), w32_id (x := wdN e ((nb u 0 : Nat) : Int) (a5 - 1).toNat * 27 + e.2.2.1 0 (((nb u 0 : Nat) : Int) + (a5 - 1))) (by omega) (by omega), w32_id (by omega) (by omega)] }
        rw [W2]
        refine OK_jg (by (first | assumption | omega | ((try dsimp only [jt2, jt3, jt4]); first | omega | (simp (disch := omega) only [jst_eq, jst_ne, jst_ni, jst_o, jI_i, jcpy_out, w32_id, jdiv_nn, jshr_k, jand_255] <;> first | done | omega | assumption)) | (intros; simp (disch := omega) only [jst_eq, jst_ne, jst_ni, jst_o, jI_i, jcpy_out, w32_id, jdiv_nn, *] <;> first | done | omega) | (intros; simp (disch := omega) only [jst_eq, jst_ne, jst_ni, jst_o, jI_i, jcpy_out, w32_id, jdiv_nn] at * <;> first | done | omega | assumption) | (intros; first | rfl | (exfalso; omega) | ((repeat' apply And.intro) <;> first | assumption | rfl | omega | trivial)))) ?_ -- o9
        refine OK_jg (by (first | assumption | omega | ((try dsimp only [jt2, jt3, jt4]); first | omega | (simp (disch := omega) only [jst_eq, jst_ne, jst_ni, jst_o, jI_i, jcpy_out, w32_id, jdiv_nn, jshr_k, jand_255] <;> first | done | omega | assumption)) | (intros; simp (disch := omega) only [jst_eq, jst_ne, jst_ni, jst_o, jI_i, jcpy_out, w32_id, jdiv_nn, *] <;> first | done | omega) | (intros; simp (disch := omega) only [jst_eq, jst_ne, jst_ni, jst_o, jI_i, jcpy_out, w32_id, jdiv_nn] at * <;> first | done | omega | assumption) | (intros; first | rfl | (exfalso; omega) | ((repeat' apply And.intro) <;> first | assumption | rfl | omega | trivial)))) ?_ -- o10
        refine OK_jlx (fun x53 ex53 => ?_)
        try simp (disch := omega) only [jst_eq, jst_ne, jst_ni, jI_i, jcmp_lt, jcmp_gt, w32_id, jcpy_out, Sum.elim_inl, Sum.elim_inr, jt2, jt3, jt4, jt5, jt6, jt7, jt8] at ex53
        refine OK_jb (vX14_at (e := e) (t := t) (N := N) (w := w) _ (by exact ⟨CE8.1.1, by omega, by omega⟩) (by exact w3) (by (first | assumption | omega | ((try dsimp only [jt2, jt3, jt4]); first | omega | (simp (disch := omega) only [jst_eq, jst_ne, jst_ni, jst_o, jI_i, jcpy_out, w32_id, jdiv_nn, jshr_k, jand_255] <;> first | done | omega | assumption)) | (intros; simp (disch := omega) only [jst_eq, jst_ne, jst_ni, jst_o, jI_i, jcpy_out, w32_id, jdiv_nn, *] <;> first | done | omega) | (intros; simp (disch := omega) only [jst_eq, jst_ne, jst_ni, jst_o, jI_i, jcpy_out, w32_id, jdiv_nn] at * <;> first | done | omega | assumption) | (intros; first | rfl | (exfalso; omega) | ((repeat' apply And.intro) <;> first | assumption | rfl | omega | trivial)))) (by exact CE8.2.2.1.1)) (fun v55 r2 => ?_)
        try dsimp only [Sum.elim_inl, Sum.elim_inr, jt2, jt3, jt4, jt5, jt6, jt7, jt8] at r2
        have at2 := r2
        clear r2
        try simp (disch := omega) only [jst_eq, jst_ne, jst_ni, jI_i, jcmp_lt, jcmp_gt, w32_id, jcpy_out, Sum.elim_inl, Sum.elim_inr, jt2, jt3, jt4, jt5, jt6, jt7, jt8] at at2
        have M := mvI_w (e := e) (u := u) (n := a5) (by omega) NE
        refine OK_if (fun c3 => ?_) (fun c3 => ?_)
        · skip
          try simp (disch := omega) only [jst_eq, jst_ne, jst_ni, jI_i, jcmp_lt, jcmp_gt, w32_id, jcpy_out, Sum.elim_inl, Sum.elim_inr, jt2, jt3, jt4, jt5, jt6, jt7, jt8] at c3
          exfalso
          (obtain ⟨j, j0, j1⟩ := chN_j CE8 hi hk.2 M; rcases at2 with z | z; { omega }; { exact z.2 j j0.1 j0.2 (j1.trans w1) })
        · skip
          try simp (disch := omega) only [jst_eq, jst_ne, jst_ni, jI_i, jcmp_lt, jcmp_gt, w32_id, jcpy_out, Sum.elim_inl, Sum.elim_inr, jt2, jt3, jt4, jt5, jt6, jt7, jt8] at c3
          have AT := at2.resolve_right (fun z => by omega)
          have MD := chN_d CE8 hi hk.2 M ⟨AT.1, AT.2.1⟩ (AT.2.2.trans w1.symm)
          have W3 : w32 (i2 - 1) = (k : Int) := by { rw [w32_id (by omega) (by omega)]; omega }
          have D2 : h51 (836 + i2) i1 = chP e (k + 1) u := by { rw [hk.1, CE8.2.2.2.2.2 i1 hi.1 hi.2.1 (by omega), hi.2.2] }
          have CB := chP_b hv k (tgL e u a5)
          have W4 : w32 (w32 (2 * a5) + chP e k (tgL e u a5)) = 2 * a5 + chP e k (tgL e u a5) := by { rw [w32_id (x := 2 * a5) (by omega) (by omega), w32_id (by omega) (by omega)] }
          rw [W3, MD.2, D2, W4]
          refine OK_jg (by (first | assumption | omega | ((try dsimp only [jt2, jt3, jt4]); first | omega | (simp (disch := omega) only [jst_eq, jst_ne, jst_ni, jst_o, jI_i, jcpy_out, w32_id, jdiv_nn, jshr_k, jand_255] <;> first | done | omega | assumption)) | (intros; simp (disch := omega) only [jst_eq, jst_ne, jst_ni, jst_o, jI_i, jcpy_out, w32_id, jdiv_nn, *] <;> first | done | omega) | (intros; simp (disch := omega) only [jst_eq, jst_ne, jst_ni, jst_o, jI_i, jcpy_out, w32_id, jdiv_nn] at * <;> first | done | omega | assumption) | (intros; first | rfl | (exfalso; omega) | ((repeat' apply And.intro) <;> first | assumption | rfl | omega | trivial)))) ?_ -- o15
          refine OK_jg (by (first | assumption | omega | ((try dsimp only [jt2, jt3, jt4]); first | omega | (simp (disch := omega) only [jst_eq, jst_ne, jst_ni, jst_o, jI_i, jcpy_out, w32_id, jdiv_nn, jshr_k, jand_255] <;> first | done | omega | assumption)) | (intros; simp (disch := omega) only [jst_eq, jst_ne, jst_ni, jst_o, jI_i, jcpy_out, w32_id, jdiv_nn, *] <;> first | done | omega) | (intros; simp (disch := omega) only [jst_eq, jst_ne, jst_ni, jst_o, jI_i, jcpy_out, w32_id, jdiv_nn] at * <;> first | done | omega | assumption) | (intros; first | rfl | (exfalso; omega) | ((repeat' apply And.intro) <;> first | assumption | rfl | omega | trivial)))) ?_ -- o16
          refine OK_jg (by (first | assumption | omega | ((try dsimp only [jt2, jt3, jt4]); first | omega | (simp (disch := omega) only [jst_eq, jst_ne, jst_ni, jst_o, jI_i, jcpy_out, w32_id, jdiv_nn, jshr_k, jand_255] <;> first | done | omega | assumption)) | (intros; simp (disch := omega) only [jst_eq, jst_ne, jst_ni, jst_o, jI_i, jcpy_out, w32_id, jdiv_nn, *] <;> first | done | omega) | (intros; simp (disch := omega) only [jst_eq, jst_ne, jst_ni, jst_o, jI_i, jcpy_out, w32_id, jdiv_nn] at * <;> first | done | omega | assumption) | (intros; first | rfl | (exfalso; omega) | ((repeat' apply And.intro) <;> first | assumption | rfl | omega | trivial)))) ?_ -- o17
          refine OK_jg (by (first | assumption | omega | ((try dsimp only [jt2, jt3, jt4]); first | omega | (simp (disch := omega) only [jst_eq, jst_ne, jst_ni, jst_o, jI_i, jcpy_out, w32_id, jdiv_nn, jshr_k, jand_255] <;> first | done | omega | assumption)) | (intros; simp (disch := omega) only [jst_eq, jst_ne, jst_ni, jst_o, jI_i, jcpy_out, w32_id, jdiv_nn, *] <;> first | done | omega) | (intros; simp (disch := omega) only [jst_eq, jst_ne, jst_ni, jst_o, jI_i, jcpy_out, w32_id, jdiv_nn] at * <;> first | done | omega | assumption) | (intros; first | rfl | (exfalso; omega) | ((repeat' apply And.intro) <;> first | assumption | rfl | omega | trivial)))) ?_ -- o18
          refine OK_if (fun c4 => ?_) (fun c4 => ?_)
          · skip
            try simp (disch := omega) only [jst_eq, jst_ne, jst_ni, jI_i, jcmp_lt, jcmp_gt, w32_id, jcpy_out, Sum.elim_inl, Sum.elim_inr, jt2, jt3, jt4, jt5, jt6, jt7, jt8] at c4
            refine OK_ir ?_
            try dsimp only [Sum.elim_inl, Sum.elim_inr, jt2, jt3, jt4, jt5, jt6, jt7, jt8]
            refine ⟨?_, ?_⟩
            · exact ⟨a5, by omega, ⟨NE, by assumption⟩, q2, ex53, ⟨AT.1, AT.2.1⟩, AT.2.2.trans w1.symm, MD.1, by rw [ex53]; exact (wdN_b hv (b := ((nb u 0 : Nat) : Int)) (by omega) a5.toNat (by omega) (by omega)).1⟩ -- o19 e3.1
            · exact fun a x y => by rw [F8 a x y]; exact fr a x y -- o20 e3.2
          · skip
            try simp (disch := omega) only [jst_eq, jst_ne, jst_ni, jI_i, jcmp_lt, jcmp_gt, w32_id, jcpy_out, Sum.elim_inl, Sum.elim_inr, jt2, jt3, jt4, jt5, jt6, jt7, jt8] at c4
            unfold gX14_firstWay_j130_6
            refine OK_jlx (fun x58 ex58 => ?_)
            try simp (disch := omega) only [jst_eq, jst_ne, jst_ni, jI_i, jcmp_lt, jcmp_gt, w32_id, jcpy_out, Sum.elim_inl, Sum.elim_inr, jt2, jt3, jt4, jt5, jt6, jt7, jt8] at ex58
            refine OK_il ?_ ?_
            · try dsimp only [Sum.elim_inl, Sum.elim_inr, jt2, jt3, jt4, jt5, jt6, jt7, jt8]
              refine ⟨?_, ?_, ?_, ?_⟩
              · (first | assumption | omega | ((try dsimp only [jt2, jt3, jt4]); first | omega | (simp (disch := omega) only [jst_eq, jst_ne, jst_ni, jst_o, jI_i, jcpy_out, w32_id, jdiv_nn, jshr_k, jand_255] <;> first | done | omega | assumption)) | (intros; simp (disch := omega) only [jst_eq, jst_ne, jst_ni, jst_o, jI_i, jcpy_out, w32_id, jdiv_nn, *] <;> first | done | omega) | (intros; simp (disch := omega) only [jst_eq, jst_ne, jst_ni, jst_o, jI_i, jcpy_out, w32_id, jdiv_nn] at * <;> first | done | omega | assumption) | (intros; first | rfl | (exfalso; omega) | ((repeat' apply And.intro) <;> first | assumption | rfl | omega | trivial))) -- o21 e4i.1
              · (rw [show (x58 - 1).toNat = a5.toNat by omega]; exact ex53) -- o22 e4i.2
              · (intro j j1 j2; by_cases y : j = a5; { rw [y]; intro z; exact c4 z.2 }; { exact q2 j j1 (by omega) }) -- o23 e4i.3
              · exact fun a x y => by rw [F8 a x y]; exact fr a x y -- o24 e4i.4
            · (first | assumption | omega | ((try dsimp only [jt2, jt3, jt4]); first | omega | (simp (disch := omega) only [jst_eq, jst_ne, jst_ni, jst_o, jI_i, jcpy_out, w32_id, jdiv_nn, jshr_k, jand_255] <;> first | done | omega | assumption)) | (intros; simp (disch := omega) only [jst_eq, jst_ne, jst_ni, jst_o, jI_i, jcpy_out, w32_id, jdiv_nn, *] <;> first | done | omega) | (intros; simp (disch := omega) only [jst_eq, jst_ne, jst_ni, jst_o, jI_i, jcpy_out, w32_id, jdiv_nn] at * <;> first | done | omega | assumption) | (intros; first | rfl | (exfalso; omega) | ((repeat' apply And.intro) <;> first | assumption | rfl | omega | trivial))) -- o25 e4m
  · try dsimp only [Sum.elim_inl, Sum.elim_inr, jt2, jt3, jt4, jt5, jt6, jt7, jt8]
    refine ⟨?_, ?_, ?_, ?_⟩
    · (first | assumption | omega | ((try dsimp only [jt2, jt3, jt4]); first | omega | (simp (disch := omega) only [jst_eq, jst_ne, jst_ni, jst_o, jI_i, jcpy_out, w32_id, jdiv_nn, jshr_k, jand_255] <;> first | done | omega | assumption)) | (intros; simp (disch := omega) only [jst_eq, jst_ne, jst_ni, jst_o, jI_i, jcpy_out, w32_id, jdiv_nn, *] <;> first | done | omega) | (intros; simp (disch := omega) only [jst_eq, jst_ne, jst_ni, jst_o, jI_i, jcpy_out, w32_id, jdiv_nn] at * <;> first | done | omega | assumption) | (intros; first | rfl | (exfalso; omega) | ((repeat' apply And.intro) <;> first | assumption | rfl | omega | trivial))) -- o26 init.1
    · (rw [h4.1, h4.2]; rfl) -- o27 init.2
    · (intro j j1 j2; omega) -- o28 init.3
    · exact fun _ _ _ => rfl -- o29 init.4
theorem vX14_firstWay_l150 (i1 : Int) (i2 : Int) (i3 : Int) (i5 : Int) (a60 : Int) {h0 : AH} {e : CE} {t d : Int → Int} {N : Int} {u k : Nat} (cm : chN h0 e t d N k) (hi : 0 ≤ i1 ∧ i1 < N ∧ t i1 = u) (hk : i2 = (k : Int) + 1 ∧ d i1 + k + 1 ≤ 4) (h5 : 0 ≤ i5 ∧ i5 < 178) (h6 : a60 = 0) : OK (gX14_firstWay_l150 i1 i2 i3 i5 a60 h0) (Sum.elim (fun r => jt3 r fun b y h' => ((0 ≤ b ∧ b < 178) ∧ gdC e k u i5 b ∧ (∀ j, 0 ≤ j → j < b → ¬ gdC e k u i5 j) ∧ (0 ≤ y ∧ y < N) ∧ t y = tgC e u i5 b ∧ d y ≤ d i1 + 1) ∧ (∀ a x, ¬ (a = 828 ∧ 0 ≤ x) → h' a x = h0 a x)) (fun h' => (∀ j, 0 ≤ j → j < 178 → ¬ gdC e k u i5 j) ∧ (∀ a x, ¬ (a = 828 ∧ 0 ≤ x) → h' a x = h0 a x))) := by
  have hv := cm.2.1
  have n8 := hv.1
  have N4 := cm.2.2.1.2.1
  have d0 := (cm.2.2.1.2.2.2.1 i1 hi.1 hi.2.1).1.1
  unfold gX14_firstWay_l150
  refine OK_jit (I := (fun (s : Int × AH) => jt2 s fun a6 h => (0 ≤ a6 ∧ a6 ≤ 178) ∧ (∀ j, 0 ≤ j → j < a6 → ¬ gdC e k u i5 j) ∧ (∀ a x, ¬ (a = 828 ∧ 0 ≤ x) → h a x = h0 a x))) (m := (fun (s : Int × AH) => jt2 s fun a6 h => (178 - a6).toNat)) ?_ ?_
  · intro s hs
    obtain ⟨a6, h⟩ := s
    dsimp only [Sum.elim_inl, Sum.elim_inr, jt2, jt3, jt4, jt5, jt6, jt7, jt8] at hs
    obtain ⟨q0, q1, fr⟩ := hs
    unfold gX14_firstWay_b150
    refine OK_jt2 ?_
    have CM : chN h e t d N k := chN_f cm (fun a x y1 _ _ => fr a x y1) (by omega)
    have HC := CM.1
    have FN := CM.2.2.1
    obtain ⟨u', u1, u2, u3⟩ := FN.1.2.2.1 i1 hi.1 hi.2.1
    have ue : u' = u := by omega
    rw [ue] at u2 u3
    have S5 := CM.2.2.2.1 i5 h5.1 h5.2
    refine OK_if (fun c1 => ?_) (fun c1 => ?_)
    · skip
      try simp (disch := omega) only [jst_eq, jst_ne, jst_ni, jI_i, jcmp_lt, jcmp_gt, w32_id, jcpy_out, Sum.elim_inl, Sum.elim_inr, jt2, jt3, jt4, jt5, jt6, jt7, jt8] at c1
      refine OK_ir ?_
      try dsimp only [Sum.elim_inl, Sum.elim_inr, jt2, jt3, jt4, jt5, jt6, jt7, jt8]
      refine ⟨?_, ?_⟩
      · exact fun j j1 j2 => q1 j j1 (by omega) -- o1 e1.1
      · (first | assumption | omega | ((try dsimp only [jt2, jt3, jt4]); first | omega | (simp (disch := omega) only [jst_eq, jst_ne, jst_ni, jst_o, jI_i, jcpy_out, w32_id, jdiv_nn, jshr_k, jand_255] <;> first | done | omega | assumption)) | (intros; simp (disch := omega) only [jst_eq, jst_ne, jst_ni, jst_o, jI_i, jcpy_out, w32_id, jdiv_nn, *] <;> first | done | omega) | (intros; simp (disch := omega) only [jst_eq, jst_ne, jst_ni, jst_o, jI_i, jcpy_out, w32_id, jdiv_nn] at * <;> first | done | omega | assumption) | (intros; first | rfl | (exfalso; omega) | ((repeat' apply And.intro) <;> first | assumption | rfl | omega | trivial))) -- o2 e1.2
    · skip
      try simp (disch := omega) only [jst_eq, jst_ne, jst_ni, jI_i, jcmp_lt, jcmp_gt, w32_id, jcpy_out, Sum.elim_inl, Sum.elim_inr, jt2, jt3, jt4, jt5, jt6, jt7, jt8] at c1
      have S6 := CM.2.2.2.1 a6 q0.1 (by omega)
      refine OK_jg (by (first | assumption | omega | ((try dsimp only [jt2, jt3, jt4]); first | omega | (simp (disch := omega) only [jst_eq, jst_ne, jst_ni, jst_o, jI_i, jcpy_out, w32_id, jdiv_nn, jshr_k, jand_255] <;> first | done | omega | assumption)) | (intros; simp (disch := omega) only [jst_eq, jst_ne, jst_ni, jst_o, jI_i, jcpy_out, w32_id, jdiv_nn, *] <;> first | done | omega) | (intros; simp (disch := omega) only [jst_eq, jst_ne, jst_ni, jst_o, jI_i, jcpy_out, w32_id, jdiv_nn] at * <;> first | done | omega | assumption) | (intros; first | rfl | (exfalso; omega) | ((repeat' apply And.intro) <;> first | assumption | rfl | omega | trivial)))) ?_ -- o3
      refine OK_if (fun c2 => ?_) (fun c2 => ?_)
      · skip
        try simp (disch := omega) only [jst_eq, jst_ne, jst_ni, jI_i, jcmp_lt, jcmp_gt, w32_id, jcpy_out, Sum.elim_inl, Sum.elim_inr, jt2, jt3, jt4, jt5, jt6, jt7, jt8] at c2
        refine OK_ir ?_
        try dsimp only [Sum.elim_inl, Sum.elim_inr, jt2, jt3, jt4, jt5, jt6, jt7, jt8]
        refine ⟨?_, ?_⟩
        · (intro j j1 j2 z; rcases S5 with y | y; { have := y.1; omega }; { exact y.2 z.1 }) -- o4 e2.1
        · (first | assumption | omega | ((try dsimp only [jt2, jt3, jt4]); first | omega | (simp (disch := omega) only [jst_eq, jst_ne, jst_ni, jst_o, jI_i, jcpy_out, w32_id, jdiv_nn, jshr_k, jand_255] <;> first | done | omega | assumption)) | (intros; simp (disch := omega) only [jst_eq, jst_ne, jst_ni, jst_o, jI_i, jcpy_out, w32_id, jdiv_nn, *] <;> first | done | omega) | (intros; simp (disch := omega) only [jst_eq, jst_ne, jst_ni, jst_o, jI_i, jcpy_out, w32_id, jdiv_nn] at * <;> first | done | omega | assumption) | (intros; first | rfl | (exfalso; omega) | ((repeat' apply And.intro) <;> first | assumption | rfl | omega | trivial))) -- o5 e2.2
      · skip
        try simp (disch := omega) only [jst_eq, jst_ne, jst_ni, jI_i, jcmp_lt, jcmp_gt, w32_id, jcpy_out, Sum.elim_inl, Sum.elim_inr, jt2, jt3, jt4, jt5, jt6, jt7, jt8] at c2
        refine OK_jg (by (first | assumption | omega | ((try dsimp only [jt2, jt3, jt4]); first | omega | (simp (disch := omega) only [jst_eq, jst_ne, jst_ni, jst_o, jI_i, jcpy_out, w32_id, jdiv_nn, jshr_k, jand_255] <;> first | done | omega | assumption)) | (intros; simp (disch := omega) only [jst_eq, jst_ne, jst_ni, jst_o, jI_i, jcpy_out, w32_id, jdiv_nn, *] <;> first | done | omega) | (intros; simp (disch := omega) only [jst_eq, jst_ne, jst_ni, jst_o, jI_i, jcpy_out, w32_id, jdiv_nn] at * <;> first | done | omega | assumption) | (intros; first | rfl | (exfalso; omega) | ((repeat' apply And.intro) <;> first | assumption | rfl | omega | trivial)))) ?_ -- o6
        refine OK_if (fun c3 => ?_) (fun c3 => ?_)
        · skip
          try simp (disch := omega) only [jst_eq, jst_ne, jst_ni, jI_i, jcmp_lt, jcmp_gt, w32_id, jcpy_out, Sum.elim_inl, Sum.elim_inr, jt2, jt3, jt4, jt5, jt6, jt7, jt8] at c3
          unfold gX14_firstWay_j275_150
          refine OK_jlx (fun x47 ex47 => ?_)
          try simp (disch := omega) only [jst_eq, jst_ne, jst_ni, jI_i, jcmp_lt, jcmp_gt, w32_id, jcpy_out, Sum.elim_inl, Sum.elim_inr, jt2, jt3, jt4, jt5, jt6, jt7, jt8] at ex47
          refine OK_il ?_ ?_
          · try dsimp only [Sum.elim_inl, Sum.elim_inr, jt2, jt3, jt4, jt5, jt6, jt7, jt8]
            refine ⟨?_, ?_, ?_⟩
            · (first | assumption | omega | ((try dsimp only [jt2, jt3, jt4]); first | omega | (simp (disch := omega) only [jst_eq, jst_ne, jst_ni, jst_o, jI_i, jcpy_out, w32_id, jdiv_nn, jshr_k, jand_255] <;> first | done | omega | assumption)) | (intros; simp (disch := omega) only [jst_eq, jst_ne, jst_ni, jst_o, jI_i, jcpy_out, w32_id, jdiv_nn, *] <;> first | done | omega) | (intros; simp (disch := omega) only [jst_eq, jst_ne, jst_ni, jst_o, jI_i, jcpy_out, w32_id, jdiv_nn] at * <;> first | done | omega | assumption) | (intros; first | rfl | (exfalso; omega) | ((repeat' apply And.intro) <;> first | assumption | rfl | omega | trivial))) -- o7 e3i.1
            · (intro j j1 j2 z; by_cases y : j = a6; { rw [y] at z; rcases S6 with x | x; { have := x.1; omega }; { exact x.2 z.2.1 } }; { exact q1 j j1 (by omega) z }) -- o8 e3i.2
            · (first | assumption | omega | ((try dsimp only [jt2, jt3, jt4]); first | omega | (simp (disch := omega) only [jst_eq, jst_ne, jst_ni, jst_o, jI_i, jcpy_out, w32_id, jdiv_nn, jshr_k, jand_255] <;> first | done | omega | assumption)) | (intros; simp (disch := omega) only [jst_eq, jst_ne, jst_ni, jst_o, jI_i, jcpy_out, w32_id, jdiv_nn, *] <;> first | done | omega) | (intros; simp (disch := omega) only [jst_eq, jst_ne, jst_ni, jst_o, jI_i, jcpy_out, w32_id, jdiv_nn] at * <;> first | done | omega | assumption) | (intros; first | rfl | (exfalso; omega) | ((repeat' apply And.intro) <;> first | assumption | rfl | omega | trivial))) -- o9 e3i.3
          · (first | assumption | omega | ((try dsimp only [jt2, jt3, jt4]); first | omega | (simp (disch := omega) only [jst_eq, jst_ne, jst_ni, jst_o, jI_i, jcpy_out, w32_id, jdiv_nn, jshr_k, jand_255] <;> first | done | omega | assumption)) | (intros; simp (disch := omega) only [jst_eq, jst_ne, jst_ni, jst_o, jI_i, jcpy_out, w32_id, jdiv_nn, *] <;> first | done | omega) | (intros; simp (disch := omega) only [jst_eq, jst_ne, jst_ni, jst_o, jI_i, jcpy_out, w32_id, jdiv_nn] at * <;> first | done | omega | assumption) | (intros; first | rfl | (exfalso; omega) | ((repeat' apply And.intro) <;> first | assumption | rfl | omega | trivial))) -- o10 e3m
        · skip
          try simp (disch := omega) only [jst_eq, jst_ne, jst_ni, jI_i, jcmp_lt, jcmp_gt, w32_id, jcpy_out, Sum.elim_inl, Sum.elim_inr, jt2, jt3, jt4, jt5, jt6, jt7, jt8] at c3
          have R5 := roQ_s S5 c2
          have R6 := roQ_s S6 c3
          refine OK_jb2 (vX14_cuts (e := e) (u := u) _ _ _ (by exact HC) (by (first | assumption | omega | ((try dsimp only [jt2, jt3, jt4]); first | omega | (simp (disch := omega) only [jst_eq, jst_ne, jst_ni, jst_o, jI_i, jcpy_out, w32_id, jdiv_nn, jshr_k, jand_255] <;> first | done | omega | assumption)) | (intros; simp (disch := omega) only [jst_eq, jst_ne, jst_ni, jst_o, jI_i, jcpy_out, w32_id, jdiv_nn, *] <;> first | done | omega) | (intros; simp (disch := omega) only [jst_eq, jst_ne, jst_ni, jst_o, jI_i, jcpy_out, w32_id, jdiv_nn] at * <;> first | done | omega | assumption) | (intros; first | rfl | (exfalso; omega) | ((repeat' apply And.intro) <;> first | assumption | rfl | omega | trivial)))) (by exact u3) (by omega) (by exact R5) (by exact R6)) (fun v36 h37 r1 => ?_)
          try dsimp only [Sum.elim_inl, Sum.elim_inr, jt2, jt3, jt4, jt5, jt6, jt7, jt8] at r1
          obtain ⟨sa1, fr1⟩ := r1
          try simp (disch := omega) only [jst_eq, jst_ne, jst_ni, jI_i, jcmp_lt, jcmp_gt, w32_id, jcpy_out, Sum.elim_inl, Sum.elim_inr, jt2, jt3, jt4, jt5, jt6, jt7, jt8] at sa1
          try simp (disch := omega) only [jst_eq, jst_ne, jst_ni, jI_i, jcmp_lt, jcmp_gt, w32_id, jcpy_out, Sum.elim_inl, Sum.elim_inr, jt2, jt3, jt4, jt5, jt6, jt7, jt8] at fr1
          have F8 : ∀ a x, ¬ (a = 828 ∧ 0 ≤ x) → h37 a x = h a x := by assumption
          have CE8 : chN h37 e t d N k := chN_f CM (fun a x y1 _ _ => F8 a x y1) (by omega)
          refine OK_if (fun c4 => ?_) (fun c4 => ?_)
          · skip
            try simp (disch := omega) only [jst_eq, jst_ne, jst_ni, jI_i, jcmp_lt, jcmp_gt, w32_id, jcpy_out, Sum.elim_inl, Sum.elim_inr, jt2, jt3, jt4, jt5, jt6, jt7, jt8] at c4
            unfold gX14_firstWay_j275_150
            refine OK_jlx (fun x47 ex47 => ?_)
            try simp (disch := omega) only [jst_eq, jst_ne, jst_ni, jI_i, jcmp_lt, jcmp_gt, w32_id, jcpy_out, Sum.elim_inl, Sum.elim_inr, jt2, jt3, jt4, jt5, jt6, jt7, jt8] at ex47
            refine OK_il ?_ ?_
            · try dsimp only [Sum.elim_inl, Sum.elim_inr, jt2, jt3, jt4, jt5, jt6, jt7, jt8]
              refine ⟨?_, ?_, ?_⟩
              · (first | assumption | omega | ((try dsimp only [jt2, jt3, jt4]); first | omega | (simp (disch := omega) only [jst_eq, jst_ne, jst_ni, jst_o, jI_i, jcpy_out, w32_id, jdiv_nn, jshr_k, jand_255] <;> first | done | omega | assumption)) | (intros; simp (disch := omega) only [jst_eq, jst_ne, jst_ni, jst_o, jI_i, jcpy_out, w32_id, jdiv_nn, *] <;> first | done | omega) | (intros; simp (disch := omega) only [jst_eq, jst_ne, jst_ni, jst_o, jI_i, jcpy_out, w32_id, jdiv_nn] at * <;> first | done | omega | assumption) | (intros; first | rfl | (exfalso; omega) | ((repeat' apply And.intro) <;> first | assumption | rfl | omega | trivial))) -- o17 e4i.1
              · (have z0 : tgC e u i5 a6 = -1 := (by rcases sa1 with z | z; { have := z.1; omega }; { exact z.2 }); intro j j1 j2; by_cases y : j = a6; { rw [y]; intro z; exact z.2.2.1 z0 }; { exact q1 j j1 (by omega) }) -- o18 e4i.2
              · exact fun a x y => by rw [F8 a x y]; exact fr a x y -- o19 e4i.3
            · (first | assumption | omega | ((try dsimp only [jt2, jt3, jt4]); first | omega | (simp (disch := omega) only [jst_eq, jst_ne, jst_ni, jst_o, jI_i, jcpy_out, w32_id, jdiv_nn, jshr_k, jand_255] <;> first | done | omega | assumption)) | (intros; simp (disch := omega) only [jst_eq, jst_ne, jst_ni, jst_o, jI_i, jcpy_out, w32_id, jdiv_nn, *] <;> first | done | omega) | (intros; simp (disch := omega) only [jst_eq, jst_ne, jst_ni, jst_o, jI_i, jcpy_out, w32_id, jdiv_nn] at * <;> first | done | omega | assumption) | (intros; first | rfl | (exfalso; omega) | ((repeat' apply And.intro) <;> first | assumption | rfl | omega | trivial))) -- o20 e4m
          · skip
            try simp (disch := omega) only [jst_eq, jst_ne, jst_ni, jI_i, jcmp_lt, jcmp_gt, w32_id, jcpy_out, Sum.elim_inl, Sum.elim_inr, jt2, jt3, jt4, jt5, jt6, jt7, jt8] at c4
            obtain ⟨w, w1, w2, w3⟩ : ∃ w : Nat, tgC e u i5 a6 = w ∧ stU e w ∧ rwQ h37 e w := by { rcases sa1 with z | z; { exact z.2 }; { exact absurd z.1 c4 } }
            have NE : tgC e u i5 a6 ≠ -1 := by omega
            refine OK_jb (vX14_at (e := e) (t := t) (N := N) (w := w) _ (by exact ⟨CE8.1.1, by omega, by omega⟩) (by exact w3) (by (first | assumption | omega | ((try dsimp only [jt2, jt3, jt4]); first | omega | (simp (disch := omega) only [jst_eq, jst_ne, jst_ni, jst_o, jI_i, jcpy_out, w32_id, jdiv_nn, jshr_k, jand_255] <;> first | done | omega | assumption)) | (intros; simp (disch := omega) only [jst_eq, jst_ne, jst_ni, jst_o, jI_i, jcpy_out, w32_id, jdiv_nn, *] <;> first | done | omega) | (intros; simp (disch := omega) only [jst_eq, jst_ne, jst_ni, jst_o, jI_i, jcpy_out, w32_id, jdiv_nn] at * <;> first | done | omega | assumption) | (intros; first | rfl | (exfalso; omega) | ((repeat' apply And.intro) <;> first | assumption | rfl | omega | trivial)))) (by exact CE8.2.2.1.1)) (fun v40 r2 => ?_)
            try dsimp only [Sum.elim_inl, Sum.elim_inr, jt2, jt3, jt4, jt5, jt6, jt7, jt8] at r2
            have at2 := r2
            clear r2
            try simp (disch := omega) only [jst_eq, jst_ne, jst_ni, jI_i, jcmp_lt, jcmp_gt, w32_id, jcpy_out, Sum.elim_inl, Sum.elim_inr, jt2, jt3, jt4, jt5, jt6, jt7, jt8] at at2
            have M := mvI_c (e := e) (u := u) (a := i5) (b := a6) (by omega) (by omega) R5.1 R6.1 NE
            refine OK_if (fun c5 => ?_) (fun c5 => ?_)
            · skip
              try simp (disch := omega) only [jst_eq, jst_ne, jst_ni, jI_i, jcmp_lt, jcmp_gt, w32_id, jcpy_out, Sum.elim_inl, Sum.elim_inr, jt2, jt3, jt4, jt5, jt6, jt7, jt8] at c5
              exfalso
              (obtain ⟨j, j0, j1⟩ := chN_j CE8 hi hk.2 M; rcases at2 with z | z; { omega }; { exact z.2 j j0.1 j0.2 (j1.trans w1) })
            · skip
              try simp (disch := omega) only [jst_eq, jst_ne, jst_ni, jI_i, jcmp_lt, jcmp_gt, w32_id, jcpy_out, Sum.elim_inl, Sum.elim_inr, jt2, jt3, jt4, jt5, jt6, jt7, jt8] at c5
              have AT := at2.resolve_right (fun z => by omega)
              have MD := chN_d CE8 hi hk.2 M ⟨AT.1, AT.2.1⟩ (AT.2.2.trans w1.symm)
              refine OK_jb (vX14_spotPrice _) (fun v43 r3 => ?_)
              try dsimp only [Sum.elim_inl, Sum.elim_inr, jt2, jt3, jt4, jt5, jt6, jt7, jt8] at r3
              have v3 := r3
              clear r3
              try simp (disch := omega) only [jst_eq, jst_ne, jst_ni, jI_i, jcmp_lt, jcmp_gt, w32_id, jcpy_out, Sum.elim_inl, Sum.elim_inr, jt2, jt3, jt4, jt5, jt6, jt7, jt8] at v3
              refine OK_jb (vX14_spotPrice _) (fun v45 r4 => ?_)
              try dsimp only [Sum.elim_inl, Sum.elim_inr, jt2, jt3, jt4, jt5, jt6, jt7, jt8] at r4
              have v4 := r4
              clear r4
              try simp (disch := omega) only [jst_eq, jst_ne, jst_ni, jI_i, jcmp_lt, jcmp_gt, w32_id, jcpy_out, Sum.elim_inl, Sum.elim_inr, jt2, jt3, jt4, jt5, jt6, jt7, jt8] at v4
              have V43 : v43 = spR i5 := by assumption
              have V45 : v45 = spR a6 := by assumption
              have W3 : w32 (i2 - 1) = (k : Int) := by { rw [w32_id (by omega) (by omega)]; omega }
              have D2 : h37 (836 + i2) i1 = chP e (k + 1) u := by { rw [hk.1, CE8.2.2.2.2.2 i1 hi.1 hi.2.1 (by omega), hi.2.2] }
              have CB := chP_b hv k (tgC e u i5 a6)
              have P5 := spR_b i5
              have P6 := spR_b a6
              have W4 : w32 (w32 (v43 + v45) + chP e k (tgC e u i5 a6)) = spR i5 + spR a6 + chP e k (tgC e u i5 a6) := by { rw [V43, V45, w32_id (x := spR i5 + spR a6) (by omega) (by omega), w32_id (by omega) (by omega)] }
              rw [W3, MD.2, D2, W4]
              refine OK_jg (by (first | assumption | omega | ((try dsimp only [jt2, jt3, jt4]); first | omega | (simp (disch := omega) only [jst_eq, jst_ne, jst_ni, jst_o, jI_i, jcpy_out, w32_id, jdiv_nn, jshr_k, jand_255] <;> first | done | omega | assumption)) | (intros; simp (disch := omega) only [jst_eq, jst_ne, jst_ni, jst_o, jI_i, jcpy_out, w32_id, jdiv_nn, *] <;> first | done | omega) | (intros; simp (disch := omega) only [jst_eq, jst_ne, jst_ni, jst_o, jI_i, jcpy_out, w32_id, jdiv_nn] at * <;> first | done | omega | assumption) | (intros; first | rfl | (exfalso; omega) | ((repeat' apply And.intro) <;> first | assumption | rfl | omega | trivial)))) ?_ -- o25
              refine OK_jg (by (first | assumption | omega | ((try dsimp only [jt2, jt3, jt4]); first | omega | (simp (disch := omega) only [jst_eq, jst_ne, jst_ni, jst_o, jI_i, jcpy_out, w32_id, jdiv_nn, jshr_k, jand_255] <;> first | done | omega | assumption)) | (intros; simp (disch := omega) only [jst_eq, jst_ne, jst_ni, jst_o, jI_i, jcpy_out, w32_id, jdiv_nn, *] <;> first | done | omega) | (intros; simp (disch := omega) only [jst_eq, jst_ne, jst_ni, jst_o, jI_i, jcpy_out, w32_id, jdiv_nn] at * <;> first | done | omega | assumption) | (intros; first | rfl | (exfalso; omega) | ((repeat' apply And.intro) <;> first | assumption | rfl | omega | trivial)))) ?_ -- o26
              refine OK_jg (by (first | assumption | omega | ((try dsimp only [jt2, jt3, jt4]); first | omega | (simp (disch := omega) only [jst_eq, jst_ne, jst_ni, jst_o, jI_i, jcpy_out, w32_id, jdiv_nn, jshr_k, jand_255] <;> first | done | omega | assumption)) | (intros; simp (disch := omega) only [jst_eq, jst_ne, jst_ni, jst_o, jI_i, jcpy_out, w32_id, jdiv_nn, *] <;> first | done | omega) | (intros; simp (disch := omega) only [jst_eq, jst_ne, jst_ni, jst_o, jI_i, jcpy_out, w32_id, jdiv_nn] at * <;> first | done | omega | assumption) | (intros; first | rfl | (exfalso; omega) | ((repeat' apply And.intro) <;> first | assumption | rfl | omega | trivial)))) ?_ -- o27
              refine OK_jg (by (first | assumption | omega | ((try dsimp only [jt2, jt3, jt4]); first | omega | (simp (disch := omega) only [jst_eq, jst_ne, jst_ni, jst_o, jI_i, jcpy_out, w32_id, jdiv_nn, jshr_k, jand_255] <;> first | done | omega | assumption)) | (intros; simp (disch := omega) only [jst_eq, jst_ne, jst_ni, jst_o, jI_i, jcpy_out, w32_id, jdiv_nn, *] <;> first | done | omega) | (intros; simp (disch := omega) only [jst_eq, jst_ne, jst_ni, jst_o, jI_i, jcpy_out, w32_id, jdiv_nn] at * <;> first | done | omega | assumption) | (intros; first | rfl | (exfalso; omega) | ((repeat' apply And.intro) <;> first | assumption | rfl | omega | trivial)))) ?_ -- o28
              refine OK_if (fun c6 => ?_) (fun c6 => ?_)
              · skip
                try simp (disch := omega) only [jst_eq, jst_ne, jst_ni, jI_i, jcmp_lt, jcmp_gt, w32_id, jcpy_out, Sum.elim_inl, Sum.elim_inr, jt2, jt3, jt4, jt5, jt6, jt7, jt8] at c6
                refine OK_ir ?_
                try dsimp only [Sum.elim_inl, Sum.elim_inr, jt2, jt3, jt4, jt5, jt6, jt7, jt8]
                refine ⟨?_, ?_⟩
                · exact ⟨by omega, ⟨R5.1, R6.1, NE, by assumption⟩, q1, ⟨AT.1, AT.2.1⟩, AT.2.2.trans w1.symm, MD.1⟩ -- o29 e5.1
                · exact fun a x y => by rw [F8 a x y]; exact fr a x y -- o30 e5.2
              · skip
                try simp (disch := omega) only [jst_eq, jst_ne, jst_ni, jI_i, jcmp_lt, jcmp_gt, w32_id, jcpy_out, Sum.elim_inl, Sum.elim_inr, jt2, jt3, jt4, jt5, jt6, jt7, jt8] at c6
                unfold gX14_firstWay_j275_150
                refine OK_jlx (fun x47 ex47 => ?_)
                try simp (disch := omega) only [jst_eq, jst_ne, jst_ni, jI_i, jcmp_lt, jcmp_gt, w32_id, jcpy_out, Sum.elim_inl, Sum.elim_inr, jt2, jt3, jt4, jt5, jt6, jt7, jt8] at ex47
                refine OK_il ?_ ?_
                · try dsimp only [Sum.elim_inl, Sum.elim_inr, jt2, jt3, jt4, jt5, jt6, jt7, jt8]
                  refine ⟨?_, ?_, ?_⟩
                  · (first | assumption | omega | ((try dsimp only [jt2, jt3, jt4]); first | omega | (simp (disch := omega) only [jst_eq, jst_ne, jst_ni, jst_o, jI_i, jcpy_out, w32_id, jdiv_nn, jshr_k, jand_255] <;> first | done | omega | assumption)) | (intros; simp (disch := omega) only [jst_eq, jst_ne, jst_ni, jst_o, jI_i, jcpy_out, w32_id, jdiv_nn, *] <;> first | done | omega) | (intros; simp (disch := omega) only [jst_eq, jst_ne, jst_ni, jst_o, jI_i, jcpy_out, w32_id, jdiv_nn] at * <;> first | done | omega | assumption) | (intros; first | rfl | (exfalso; omega) | ((repeat' apply And.intro) <;> first | assumption | rfl | omega | trivial))) -- o31 e6i.1
                  · (intro j j1 j2; by_cases y : j = a6; { rw [y]; intro z; exact c6 z.2.2.2 }; { exact q1 j j1 (by omega) }) -- o32 e6i.2
                  · exact fun a x y => by rw [F8 a x y]; exact fr a x y -- o33 e6i.3
                · (first | assumption | omega | ((try dsimp only [jt2, jt3, jt4]); first | omega | (simp (disch := omega) only [jst_eq, jst_ne, jst_ni, jst_o, jI_i, jcpy_out, w32_id, jdiv_nn, jshr_k, jand_255] <;> first | done | omega | assumption)) | (intros; simp (disch := omega) only [jst_eq, jst_ne, jst_ni, jst_o, jI_i, jcpy_out, w32_id, jdiv_nn, *] <;> first | done | omega) | (intros; simp (disch := omega) only [jst_eq, jst_ne, jst_ni, jst_o, jI_i, jcpy_out, w32_id, jdiv_nn] at * <;> first | done | omega | assumption) | (intros; first | rfl | (exfalso; omega) | ((repeat' apply And.intro) <;> first | assumption | rfl | omega | trivial))) -- o34 e6m
  · try dsimp only [Sum.elim_inl, Sum.elim_inr, jt2, jt3, jt4, jt5, jt6, jt7, jt8]
    refine ⟨?_, ?_, ?_⟩
    · (first | assumption | omega | ((try dsimp only [jt2, jt3, jt4]); first | omega | (simp (disch := omega) only [jst_eq, jst_ne, jst_ni, jst_o, jI_i, jcpy_out, w32_id, jdiv_nn, jshr_k, jand_255] <;> first | done | omega | assumption)) | (intros; simp (disch := omega) only [jst_eq, jst_ne, jst_ni, jst_o, jI_i, jcpy_out, w32_id, jdiv_nn, *] <;> first | done | omega) | (intros; simp (disch := omega) only [jst_eq, jst_ne, jst_ni, jst_o, jI_i, jcpy_out, w32_id, jdiv_nn] at * <;> first | done | omega | assumption) | (intros; first | rfl | (exfalso; omega) | ((repeat' apply And.intro) <;> first | assumption | rfl | omega | trivial))) -- o35 init.1
    · (intro j j1 j2; omega) -- o36 init.2
    · exact fun _ _ _ => rfl -- o37 init.3
theorem vX14_firstWay_l139 (i1 : Int) (i2 : Int) (i3 : Int) (a50 : Int) {h0 : AH} {e : CE} {t d : Int → Int} {N : Int} {u k : Nat} (cm : chN h0 e t d N k) (hi : 0 ≤ i1 ∧ i1 < N ∧ t i1 = u) (hk : i2 = (k : Int) + 1 ∧ d i1 + k + 1 ≤ 4) (h5 : a50 = 0) : OK (gX14_firstWay_l139 i1 i2 i3 a50 h0) (Sum.elim (fun r => jt4 r fun a b y h' => ((0 ≤ a ∧ a < 178) ∧ (0 ≤ b ∧ b < 178) ∧ gdC e k u a b ∧ (∀ i j, 0 ≤ i → 0 ≤ j → j < 178 → (i < a ∨ (i = a ∧ j < b)) → ¬ gdC e k u i j) ∧ (0 ≤ y ∧ y < N) ∧ t y = tgC e u a b ∧ d y ≤ d i1 + 1) ∧ (∀ a x, ¬ (a = 828 ∧ 0 ≤ x) → h' a x = h0 a x)) (fun h' => (∀ i j, 0 ≤ i → 0 ≤ j → i < 178 → j < 178 → ¬ gdC e k u i j) ∧ (∀ a x, ¬ (a = 828 ∧ 0 ≤ x) → h' a x = h0 a x))) := by
  have d0 := (cm.2.2.1.2.2.2.1 i1 hi.1 hi.2.1).1.1
  unfold gX14_firstWay_l139
  refine OK_jit (I := (fun (s : Int × AH) => jt2 s fun a5 h => (0 ≤ a5 ∧ a5 ≤ 178) ∧ (∀ i j, 0 ≤ i → 0 ≤ j → j < 178 → i < a5 → ¬ gdC e k u i j) ∧ (∀ a x, ¬ (a = 828 ∧ 0 ≤ x) → h a x = h0 a x))) (m := (fun (s : Int × AH) => jt2 s fun a5 h => (178 - a5).toNat)) ?_ ?_
  · intro s hs
    obtain ⟨a5, h⟩ := s
    dsimp only [Sum.elim_inl, Sum.elim_inr, jt2, jt3, jt4, jt5, jt6, jt7, jt8] at hs
    obtain ⟨q0, q1, fr⟩ := hs
    unfold gX14_firstWay_b139
    refine OK_jt2 ?_
    refine OK_if (fun c1 => ?_) (fun c1 => ?_)
    · skip
      try simp (disch := omega) only [jst_eq, jst_ne, jst_ni, jI_i, jcmp_lt, jcmp_gt, w32_id, jcpy_out, Sum.elim_inl, Sum.elim_inr, jt2, jt3, jt4, jt5, jt6, jt7, jt8] at c1
      refine OK_ir ?_
      try dsimp only [Sum.elim_inl, Sum.elim_inr, jt2, jt3, jt4, jt5, jt6, jt7, jt8]
      refine ⟨?_, ?_⟩
      · exact fun i j i0 j0 i1 j1 => q1 i j i0 j0 j1 (by omega) -- o1 e1.1
      · (first | assumption | omega | ((try dsimp only [jt2, jt3, jt4]); first | omega | (simp (disch := omega) only [jst_eq, jst_ne, jst_ni, jst_o, jI_i, jcpy_out, w32_id, jdiv_nn, jshr_k, jand_255] <;> first | done | omega | assumption)) | (intros; simp (disch := omega) only [jst_eq, jst_ne, jst_ni, jst_o, jI_i, jcpy_out, w32_id, jdiv_nn, *] <;> first | done | omega) | (intros; simp (disch := omega) only [jst_eq, jst_ne, jst_ni, jst_o, jI_i, jcpy_out, w32_id, jdiv_nn] at * <;> first | done | omega | assumption) | (intros; first | rfl | (exfalso; omega) | ((repeat' apply And.intro) <;> first | assumption | rfl | omega | trivial))) -- o2 e1.2
    · skip
      try simp (disch := omega) only [jst_eq, jst_ne, jst_ni, jI_i, jcmp_lt, jcmp_gt, w32_id, jcpy_out, Sum.elim_inl, Sum.elim_inr, jt2, jt3, jt4, jt5, jt6, jt7, jt8] at c1
      refine OK_jb (vX14_firstWay_l150 (e := e) (t := t) (d := d) (N := N) (k := k) (u := u) _ _ _ _ _ (by exact chN_f cm (fun a x y1 _ _ => fr a x y1) (by omega)) (by (first | assumption | omega | ((try dsimp only [jt2, jt3, jt4]); first | omega | (simp (disch := omega) only [jst_eq, jst_ne, jst_ni, jst_o, jI_i, jcpy_out, w32_id, jdiv_nn, jshr_k, jand_255] <;> first | done | omega | assumption)) | (intros; simp (disch := omega) only [jst_eq, jst_ne, jst_ni, jst_o, jI_i, jcpy_out, w32_id, jdiv_nn, *] <;> first | done | omega) | (intros; simp (disch := omega) only [jst_eq, jst_ne, jst_ni, jst_o, jI_i, jcpy_out, w32_id, jdiv_nn] at * <;> first | done | omega | assumption) | (intros; first | rfl | (exfalso; omega) | ((repeat' apply And.intro) <;> first | assumption | rfl | omega | trivial)))) (by (first | assumption | omega | ((try dsimp only [jt2, jt3, jt4]); first | omega | (simp (disch := omega) only [jst_eq, jst_ne, jst_ni, jst_o, jI_i, jcpy_out, w32_id, jdiv_nn, jshr_k, jand_255] <;> first | done | omega | assumption)) | (intros; simp (disch := omega) only [jst_eq, jst_ne, jst_ni, jst_o, jI_i, jcpy_out, w32_id, jdiv_nn, *] <;> first | done | omega) | (intros; simp (disch := omega) only [jst_eq, jst_ne, jst_ni, jst_o, jI_i, jcpy_out, w32_id, jdiv_nn] at * <;> first | done | omega | assumption) | (intros; first | rfl | (exfalso; omega) | ((repeat' apply And.intro) <;> first | assumption | rfl | omega | trivial)))) (by (first | assumption | omega | ((try dsimp only [jt2, jt3, jt4]); first | omega | (simp (disch := omega) only [jst_eq, jst_ne, jst_ni, jst_o, jI_i, jcpy_out, w32_id, jdiv_nn, jshr_k, jand_255] <;> first | done | omega | assumption)) | (intros; simp (disch := omega) only [jst_eq, jst_ne, jst_ni, jst_o, jI_i, jcpy_out, w32_id, jdiv_nn, *] <;> first | done | omega) | (intros; simp (disch := omega) only [jst_eq, jst_ne, jst_ni, jst_o, jI_i, jcpy_out, w32_id, jdiv_nn] at * <;> first | done | omega | assumption) | (intros; first | rfl | (exfalso; omega) | ((repeat' apply And.intro) <;> first | assumption | rfl | omega | trivial)))) (by (first | assumption | omega | ((try dsimp only [jt2, jt3, jt4]); first | omega | (simp (disch := omega) only [jst_eq, jst_ne, jst_ni, jst_o, jI_i, jcpy_out, w32_id, jdiv_nn, jshr_k, jand_255] <;> first | done | omega | assumption)) | (intros; simp (disch := omega) only [jst_eq, jst_ne, jst_ni, jst_o, jI_i, jcpy_out, w32_id, jdiv_nn, *] <;> first | done | omega) | (intros; simp (disch := omega) only [jst_eq, jst_ne, jst_ni, jst_o, jI_i, jcpy_out, w32_id, jdiv_nn] at * <;> first | done | omega | assumption) | (intros; first | rfl | (exfalso; omega) | ((repeat' apply And.intro) <;> first | assumption | rfl | omega | trivial))))) (fun o24 r1 => ?_)
      rcases o24 with o26 | o27
      · skip
        have r2 := r1; clear r1
        dsimp only [Sum.elim_inl, Sum.elim_inr] at r2
        refine OK_jml ?_
        obtain ⟨y28, y29, h30⟩ := o26
        refine OK_jt3 ?_
        try dsimp only [Sum.elim_inl, Sum.elim_inr, jt2, jt3, jt4, jt5, jt6, jt7, jt8] at r2
        obtain ⟨ye1, f11⟩ := r2
        try simp (disch := omega) only [jst_eq, jst_ne, jst_ni, jI_i, jcmp_lt, jcmp_gt, w32_id, jcpy_out, Sum.elim_inl, Sum.elim_inr, jt2, jt3, jt4, jt5, jt6, jt7, jt8] at ye1
        try simp (disch := omega) only [jst_eq, jst_ne, jst_ni, jI_i, jcmp_lt, jcmp_gt, w32_id, jcpy_out, Sum.elim_inl, Sum.elim_inr, jt2, jt3, jt4, jt5, jt6, jt7, jt8] at f11
        refine OK_ir ?_
        try dsimp only [Sum.elim_inl, Sum.elim_inr, jt2, jt3, jt4, jt5, jt6, jt7, jt8]
        refine ⟨?_, ?_⟩
        · (have z : (0 ≤ y28 ∧ y28 < 178) ∧ gdC e k u a5 y28 ∧ (∀ j, 0 ≤ j → j < y28 → ¬ gdC e k u a5 j) ∧ (0 ≤ y29 ∧ y29 < N) ∧ t y29 = tgC e u a5 y28 ∧ d y29 ≤ d i1 + 1 := (by assumption); refine ⟨by omega, z.1, z.2.1, fun i j i0 j0 j1 o => ?_, z.2.2.2⟩; rcases o with o | o; { exact q1 i j i0 j0 j1 o }; { rw [o.1]; exact z.2.2.1 j j0 o.2 }) -- o8 e2.1
        · (have FE : ∀ a x, ¬ (a = 828 ∧ 0 ≤ x) → h30 a x = h a x := (by assumption); exact fun a x y => by rw [FE a x y]; exact fr a x y) -- o9 e2.2
      · skip
        have r3 := r1; clear r1
        dsimp only [Sum.elim_inl, Sum.elim_inr] at r3
        try dsimp only [Sum.elim_inl, Sum.elim_inr, jt2, jt3, jt4, jt5, jt6, jt7, jt8] at r3
        obtain ⟨n22, f22⟩ := r3
        try simp (disch := omega) only [jst_eq, jst_ne, jst_ni, jI_i, jcmp_lt, jcmp_gt, w32_id, jcpy_out, Sum.elim_inl, Sum.elim_inr, jt2, jt3, jt4, jt5, jt6, jt7, jt8] at n22
        try simp (disch := omega) only [jst_eq, jst_ne, jst_ni, jI_i, jcmp_lt, jcmp_gt, w32_id, jcpy_out, Sum.elim_inl, Sum.elim_inr, jt2, jt3, jt4, jt5, jt6, jt7, jt8] at f22
        refine OK_jmr ?_
        unfold gX14_firstWay_j281_139
        refine OK_jlx (fun x31 ex31 => ?_)
        try simp (disch := omega) only [jst_eq, jst_ne, jst_ni, jI_i, jcmp_lt, jcmp_gt, w32_id, jcpy_out, Sum.elim_inl, Sum.elim_inr, jt2, jt3, jt4, jt5, jt6, jt7, jt8] at ex31
        refine OK_il ?_ ?_
        · try dsimp only [Sum.elim_inl, Sum.elim_inr, jt2, jt3, jt4, jt5, jt6, jt7, jt8]
          refine ⟨?_, ?_, ?_⟩
          · (first | assumption | omega | ((try dsimp only [jt2, jt3, jt4]); first | omega | (simp (disch := omega) only [jst_eq, jst_ne, jst_ni, jst_o, jI_i, jcpy_out, w32_id, jdiv_nn, jshr_k, jand_255] <;> first | done | omega | assumption)) | (intros; simp (disch := omega) only [jst_eq, jst_ne, jst_ni, jst_o, jI_i, jcpy_out, w32_id, jdiv_nn, *] <;> first | done | omega) | (intros; simp (disch := omega) only [jst_eq, jst_ne, jst_ni, jst_o, jI_i, jcpy_out, w32_id, jdiv_nn] at * <;> first | done | omega | assumption) | (intros; first | rfl | (exfalso; omega) | ((repeat' apply And.intro) <;> first | assumption | rfl | omega | trivial))) -- o10 e3i.1
          · (have z : ∀ j, 0 ≤ j → j < 178 → ¬ gdC e k u a5 j := (by assumption); intro i j i0 j0 j1 i2; by_cases y : i = a5; { rw [y]; exact z j j0 j1 }; { exact q1 i j i0 j0 j1 (by omega) }) -- o11 e3i.2
          · (have FE : ∀ a x, ¬ (a = 828 ∧ 0 ≤ x) → o27 a x = h a x := (by assumption); exact fun a x y => by rw [FE a x y]; exact fr a x y) -- o12 e3i.3
        · (first | assumption | omega | ((try dsimp only [jt2, jt3, jt4]); first | omega | (simp (disch := omega) only [jst_eq, jst_ne, jst_ni, jst_o, jI_i, jcpy_out, w32_id, jdiv_nn, jshr_k, jand_255] <;> first | done | omega | assumption)) | (intros; simp (disch := omega) only [jst_eq, jst_ne, jst_ni, jst_o, jI_i, jcpy_out, w32_id, jdiv_nn, *] <;> first | done | omega) | (intros; simp (disch := omega) only [jst_eq, jst_ne, jst_ni, jst_o, jI_i, jcpy_out, w32_id, jdiv_nn] at * <;> first | done | omega | assumption) | (intros; first | rfl | (exfalso; omega) | ((repeat' apply And.intro) <;> first | assumption | rfl | omega | trivial))) -- o13 e3m
  · try dsimp only [Sum.elim_inl, Sum.elim_inr, jt2, jt3, jt4, jt5, jt6, jt7, jt8]
    refine ⟨?_, ?_, ?_⟩
    · (first | assumption | omega | ((try dsimp only [jt2, jt3, jt4]); first | omega | (simp (disch := omega) only [jst_eq, jst_ne, jst_ni, jst_o, jI_i, jcpy_out, w32_id, jdiv_nn, jshr_k, jand_255] <;> first | done | omega | assumption)) | (intros; simp (disch := omega) only [jst_eq, jst_ne, jst_ni, jst_o, jI_i, jcpy_out, w32_id, jdiv_nn, *] <;> first | done | omega) | (intros; simp (disch := omega) only [jst_eq, jst_ne, jst_ni, jst_o, jI_i, jcpy_out, w32_id, jdiv_nn] at * <;> first | done | omega | assumption) | (intros; first | rfl | (exfalso; omega) | ((repeat' apply And.intro) <;> first | assumption | rfl | omega | trivial))) -- o14 init.1
    · (intro i j i0 j0 j1 i2; omega) -- o15 init.2
    · exact fun _ _ _ => rfl -- o16 init.3
/-- a part as m keeps it -/
def itM (h : AH) (i : Int) (it : Int × Int) : Prop := (h 841 i = 0 ∧ 0 ≤ h 842 i ∧ it = (0, h 842 i)) ∨ (1 ≤ h 841 i ∧ it = (h 841 i, 0))
theorem vX14_firstWay_j136 (a1 : Int) (a2 : Int) (a3 : Int) {h : AH} {e : CE} {t d : Int → Int} {N p : Int} {u k : Nat} (cm : chN h e t d N k) (hi : 0 ≤ a1 ∧ a1 < N ∧ t a1 = u) (hk : a2 = (k : Int) + 1 ∧ d a1 + k + 1 ≤ 4) (hp : h 454 125 = p ∧ 0 ≤ p ∧ p ≤ 3) (lt : chP e (k + 1) u < 1000000) (no : ∀ j, 1 ≤ j → j ≤ 3 → ¬ gdW e k u j) : OK (gX14_firstWay_j136 a1 a2 a3 h) (fun r => jt2 r fun v h' => ((0 ≤ v ∧ v < N) ∧ d v ≤ d a1 + 1 ∧ ∃ it, isFw e k u it (t v) ∧ itM h' p it ∧ chP e k (t v) < 1000000) ∧ (h' 454 125 = p + 1) ∧ (∀ a x, ¬ (a = 828 ∧ 0 ≤ x) → ¬ ((a = 841 ∨ a = 842) ∧ x = p) → ¬ (a = 454 ∧ x = 125) → h' a x = h a x)) := by
  unfold gX14_firstWay_j136
  refine OK_jb (vX14_firstWay_l139 (e := e) (t := t) (d := d) (N := N) (k := k) (u := u) _ _ _ _ (by exact cm) (by (first | assumption | omega | ((try dsimp only [jt2, jt3, jt4]); first | omega | (simp (disch := omega) only [jst_eq, jst_ne, jst_ni, jst_o, jI_i, jcpy_out, w32_id, jdiv_nn, jshr_k, jand_255] <;> first | done | omega | assumption)) | (intros; simp (disch := omega) only [jst_eq, jst_ne, jst_ni, jst_o, jI_i, jcpy_out, w32_id, jdiv_nn, *] <;> first | done | omega) | (intros; simp (disch := omega) only [jst_eq, jst_ne, jst_ni, jst_o, jI_i, jcpy_out, w32_id, jdiv_nn] at * <;> first | done | omega | assumption) | (intros; first | rfl | (exfalso; omega) | ((repeat' apply And.intro) <;> first | assumption | rfl | omega | trivial)))) (by (first | assumption | omega | ((try dsimp only [jt2, jt3, jt4]); first | omega | (simp (disch := omega) only [jst_eq, jst_ne, jst_ni, jst_o, jI_i, jcpy_out, w32_id, jdiv_nn, jshr_k, jand_255] <;> first | done | omega | assumption)) | (intros; simp (disch := omega) only [jst_eq, jst_ne, jst_ni, jst_o, jI_i, jcpy_out, w32_id, jdiv_nn, *] <;> first | done | omega) | (intros; simp (disch := omega) only [jst_eq, jst_ne, jst_ni, jst_o, jI_i, jcpy_out, w32_id, jdiv_nn] at * <;> first | done | omega | assumption) | (intros; first | rfl | (exfalso; omega) | ((repeat' apply And.intro) <;> first | assumption | rfl | omega | trivial)))) (by (first | assumption | omega | ((try dsimp only [jt2, jt3, jt4]); first | omega | (simp (disch := omega) only [jst_eq, jst_ne, jst_ni, jst_o, jI_i, jcpy_out, w32_id, jdiv_nn, jshr_k, jand_255] <;> first | done | omega | assumption)) | (intros; simp (disch := omega) only [jst_eq, jst_ne, jst_ni, jst_o, jI_i, jcpy_out, w32_id, jdiv_nn, *] <;> first | done | omega) | (intros; simp (disch := omega) only [jst_eq, jst_ne, jst_ni, jst_o, jI_i, jcpy_out, w32_id, jdiv_nn] at * <;> first | done | omega | assumption) | (intros; first | rfl | (exfalso; omega) | ((repeat' apply And.intro) <;> first | assumption | rfl | omega | trivial))))) (fun o13 r1 => ?_)
  rcases o13 with o15 | o16
  · skip
    have r2 := r1; clear r1
    dsimp only [Sum.elim_inl, Sum.elim_inr] at r2
    refine OK_jml ?_
    obtain ⟨y17, y18, y19, h20⟩ := o15
    refine OK_jt4 ?_
    try dsimp only [Sum.elim_inl, Sum.elim_inr, jt2, jt3, jt4, jt5, jt6, jt7, jt8] at r2
    obtain ⟨ye1, f11⟩ := r2
    try simp (disch := omega) only [jst_eq, jst_ne, jst_ni, jI_i, jcmp_lt, jcmp_gt, w32_id, jcpy_out, Sum.elim_inl, Sum.elim_inr, jt2, jt3, jt4, jt5, jt6, jt7, jt8] at ye1
    try simp (disch := omega) only [jst_eq, jst_ne, jst_ni, jI_i, jcmp_lt, jcmp_gt, w32_id, jcpy_out, Sum.elim_inl, Sum.elim_inr, jt2, jt3, jt4, jt5, jt6, jt7, jt8] at f11
    have FE : ∀ a x, ¬ (a = 828 ∧ 0 ≤ x) → h20 a x = h a x := by assumption
    have P1 : h20 454 125 = p := by { rw [FE _ _ (by omega)]; exact hp.1 }
    have YE : (0 ≤ y17 ∧ y17 < 178) ∧ (0 ≤ y18 ∧ y18 < 178) ∧ gdC e k u y17 y18 ∧ (∀ i j, 0 ≤ i → 0 ≤ j → j < 178 → (i < y17 ∨ (i = y17 ∧ j < y18)) → ¬ gdC e k u i j) ∧ (0 ≤ y19 ∧ y19 < N) ∧ t y19 = tgC e u y17 y18 ∧ d y19 ≤ d a1 + 1 := by assumption
    have W1 : w32 (w32 (1 + w32 (200 * y17)) + y18) = 1 + 200 * y17 + y18 := by { rw [w32_id (x := 200 * y17) (by omega) (by omega), w32_id (x := 1 + 200 * y17) (by omega) (by omega), w32_id (by omega) (by omega)] }
    rw [P1, W1]
    refine OK_jg (by (first | assumption | omega | ((try dsimp only [jt2, jt3, jt4]); first | omega | (simp (disch := omega) only [jst_eq, jst_ne, jst_ni, jst_o, jI_i, jcpy_out, w32_id, jdiv_nn, jshr_k, jand_255] <;> first | done | omega | assumption)) | (intros; simp (disch := omega) only [jst_eq, jst_ne, jst_ni, jst_o, jI_i, jcpy_out, w32_id, jdiv_nn, *] <;> first | done | omega) | (intros; simp (disch := omega) only [jst_eq, jst_ne, jst_ni, jst_o, jI_i, jcpy_out, w32_id, jdiv_nn] at * <;> first | done | omega | assumption) | (intros; first | rfl | (exfalso; omega) | ((repeat' apply And.intro) <;> first | assumption | rfl | omega | trivial)))) ?_ -- o5
    refine OK_jl ?_
    have P2 : jst h20 841 p (1 + 200 * y17 + y18) 454 125 = p := by { rw [jst_ne (by decide)]; exact P1 }
    rw [P2]
    refine OK_jl ?_
    refine OK_some ?_
    try dsimp only [Sum.elim_inl, Sum.elim_inr, jt2, jt3, jt4, jt5, jt6, jt7, jt8]
    try dsimp only [Sum.elim_inl, Sum.elim_inr, jt2, jt3, jt4, jt5, jt6, jt7, jt8]
    refine ⟨?_, ?_, ?_⟩
    · (obtain ⟨z1, z2, z3, z4, z5, z6, z7⟩ := YE; refine ⟨z5, z7, (1 + 200 * y17 + y18, 0), Or.inr ⟨no, y17, y18, z1, z2, z3, z4, rfl, z6⟩, Or.inr ?_, ?_⟩; { have z9 : jst (jst h20 841 p (1 + 200 * y17 + y18)) 454 125 (w32 (p + 1)) 841 p = 1 + 200 * y17 + y18 := (by rw [jst_ne (by decide), jst_eq]); rw [z9]; exact ⟨by omega, rfl⟩ }; { rw [z6]; have := z3.2.2.2; have := spR_b y17; have := spR_b y18; omega }) -- o6 e1.1
    · (rw [jst_eq]; exact w32_id (by omega) (by omega)) -- o7 e1.2
    · exact fun a x y1 y2 y3 => by rw [jst_o (by omega), jst_o (by omega)]; exact FE a x y1 -- o8 e1.3
  · skip
    have r3 := r1; clear r1
    dsimp only [Sum.elim_inl, Sum.elim_inr] at r3
    try dsimp only [Sum.elim_inl, Sum.elim_inr, jt2, jt3, jt4, jt5, jt6, jt7, jt8] at r3
    obtain ⟨n22, f22⟩ := r3
    try simp (disch := omega) only [jst_eq, jst_ne, jst_ni, jI_i, jcmp_lt, jcmp_gt, w32_id, jcpy_out, Sum.elim_inl, Sum.elim_inr, jt2, jt3, jt4, jt5, jt6, jt7, jt8] at n22
    try simp (disch := omega) only [jst_eq, jst_ne, jst_ni, jI_i, jcmp_lt, jcmp_gt, w32_id, jcpy_out, Sum.elim_inl, Sum.elim_inr, jt2, jt3, jt4, jt5, jt6, jt7, jt8] at f22
    refine OK_jmr ?_
    refine OK_some ?_
    try dsimp only [Sum.elim_inl, Sum.elim_inr, jt2, jt3, jt4, jt5, jt6, jt7, jt8]
    try dsimp only [Sum.elim_inl, Sum.elim_inr, jt2, jt3, jt4, jt5, jt6, jt7, jt8]
    refine ⟨?_, ?_, ?_⟩
    · (exfalso; have n2 : ∀ i j, 0 ≤ i → 0 ≤ j → i < 178 → j < 178 → ¬ gdC e k u i j := (by assumption); rcases way_ex lt with ⟨n, n0, g⟩ | ⟨a, b, a1, b1, g⟩; { exact no n n0.1 n0.2 g }; { exact n2 a b a1.1 b1.1 a1.2 b1.2 g }) -- o9 e2.1
    · (exfalso; have n2 : ∀ i j, 0 ≤ i → 0 ≤ j → i < 178 → j < 178 → ¬ gdC e k u i j := (by assumption); rcases way_ex lt with ⟨n, n0, g⟩ | ⟨a, b, a1, b1, g⟩; { exact no n n0.1 n0.2 g }; { exact n2 a b a1.1 b1.1 a1.2 b1.2 g }) -- o10 e2.2
    · (have FE : ∀ a x, ¬ (a = 828 ∧ 0 ≤ x) → o16 a x = h a x := (by assumption); exact fun a x y1 y2 y3 => FE a x y1) -- o11 e2.3
theorem vX14_firstWay (a1 : Int) (a2 : Int) (a3 : Int) {h : AH} {e : CE} {t d : Int → Int} {N p : Int} {u k : Nat} (cm : chN h e t d N k) (hi : 0 ≤ a1 ∧ a1 < N ∧ t a1 = u) (hk : a2 = (k : Int) + 1 ∧ d a1 + k + 1 ≤ 4) (hp : h 454 125 = p ∧ 0 ≤ p ∧ p ≤ 3) (lt : chP e (k + 1) u < 1000000) : OK (gX14_firstWay a1 a2 a3 h) (fun r => jt2 r fun v h' => ((0 ≤ v ∧ v < N) ∧ d v ≤ d a1 + 1 ∧ ∃ it, isFw e k u it (t v) ∧ itM h' p it ∧ chP e k (t v) < 1000000) ∧ (h' 454 125 = p + 1) ∧ (∀ a x, ¬ (a = 828 ∧ 0 ≤ x) → ¬ ((a = 841 ∨ a = 842) ∧ x = p) → ¬ (a = 454 ∧ x = 125) → h' a x = h a x)) := by
  have d0 := (cm.2.2.1.2.2.2.1 a1 hi.1 hi.2.1).1.1
  unfold gX14_firstWay
  refine OK_jb (vX14_firstWay_l6 (e := e) (t := t) (d := d) (N := N) (k := k) (u := u) _ _ _ _ _ (by exact cm) (by (first | assumption | omega | ((try dsimp only [jt2, jt3, jt4]); first | omega | (simp (disch := omega) only [jst_eq, jst_ne, jst_ni, jst_o, jI_i, jcpy_out, w32_id, jdiv_nn, jshr_k, jand_255] <;> first | done | omega | assumption)) | (intros; simp (disch := omega) only [jst_eq, jst_ne, jst_ni, jst_o, jI_i, jcpy_out, w32_id, jdiv_nn, *] <;> first | done | omega) | (intros; simp (disch := omega) only [jst_eq, jst_ne, jst_ni, jst_o, jI_i, jcpy_out, w32_id, jdiv_nn] at * <;> first | done | omega | assumption) | (intros; first | rfl | (exfalso; omega) | ((repeat' apply And.intro) <;> first | assumption | rfl | omega | trivial)))) (by (first | assumption | omega | ((try dsimp only [jt2, jt3, jt4]); first | omega | (simp (disch := omega) only [jst_eq, jst_ne, jst_ni, jst_o, jI_i, jcpy_out, w32_id, jdiv_nn, jshr_k, jand_255] <;> first | done | omega | assumption)) | (intros; simp (disch := omega) only [jst_eq, jst_ne, jst_ni, jst_o, jI_i, jcpy_out, w32_id, jdiv_nn, *] <;> first | done | omega) | (intros; simp (disch := omega) only [jst_eq, jst_ne, jst_ni, jst_o, jI_i, jcpy_out, w32_id, jdiv_nn] at * <;> first | done | omega | assumption) | (intros; first | rfl | (exfalso; omega) | ((repeat' apply And.intro) <;> first | assumption | rfl | omega | trivial)))) (by exact ⟨rfl, rfl⟩)) (fun o1 r1 => ?_)
  rcases o1 with o3 | o4
  · skip
    have r2 := r1; clear r1
    dsimp only [Sum.elim_inl, Sum.elim_inr] at r2
    try dsimp only [Sum.elim_inl, Sum.elim_inr, jt2, jt3, jt4, jt5, jt6, jt7, jt8] at r2
    obtain ⟨n11, f11⟩ := r2
    try simp (disch := omega) only [jst_eq, jst_ne, jst_ni, jI_i, jcmp_lt, jcmp_gt, w32_id, jcpy_out, Sum.elim_inl, Sum.elim_inr, jt2, jt3, jt4, jt5, jt6, jt7, jt8] at n11
    try simp (disch := omega) only [jst_eq, jst_ne, jst_ni, jI_i, jcmp_lt, jcmp_gt, w32_id, jcpy_out, Sum.elim_inl, Sum.elim_inr, jt2, jt3, jt4, jt5, jt6, jt7, jt8] at f11
    refine OK_jml ?_
    have FE : ∀ a x, ¬ (a = 828 ∧ 0 ≤ x) → o3 a x = h a x := by assumption
    refine OK_mono (vX14_firstWay_j136 (e := e) (t := t) (d := d) (N := N) (p := p) (k := k) (u := u) _ _ _ (by exact chN_f cm (fun a x y1 _ _ => FE a x y1) (by omega)) (by exact hi) (by exact hk) (by (rw [FE _ _ (by omega)]; exact hp)) (by exact lt) (by assumption)) (fun r r3 => ?_)
    obtain ⟨y1, y2⟩ := r
    try dsimp only [Sum.elim_inl, Sum.elim_inr, jt2, jt3, jt4, jt5, jt6, jt7, jt8] at r3
    obtain ⟨wy2, pp2, fr2⟩ := r3
    try simp (disch := omega) only [jst_eq, jst_ne, jst_ni, jI_i, jcmp_lt, jcmp_gt, w32_id, jcpy_out, Sum.elim_inl, Sum.elim_inr, jt2, jt3, jt4, jt5, jt6, jt7, jt8] at wy2
    try simp (disch := omega) only [jst_eq, jst_ne, jst_ni, jI_i, jcmp_lt, jcmp_gt, w32_id, jcpy_out, Sum.elim_inl, Sum.elim_inr, jt2, jt3, jt4, jt5, jt6, jt7, jt8] at pp2
    try simp (disch := omega) only [jst_eq, jst_ne, jst_ni, jI_i, jcmp_lt, jcmp_gt, w32_id, jcpy_out, Sum.elim_inl, Sum.elim_inr, jt2, jt3, jt4, jt5, jt6, jt7, jt8] at fr2
    try dsimp only [Sum.elim_inl, Sum.elim_inr, jt2, jt3, jt4, jt5, jt6, jt7, jt8]
    try dsimp only [Sum.elim_inl, Sum.elim_inr, jt2, jt3, jt4, jt5, jt6, jt7, jt8]
    refine ⟨?_, ?_, ?_⟩
    · (first | assumption | omega | ((try dsimp only [jt2, jt3, jt4]); first | omega | (simp (disch := omega) only [jst_eq, jst_ne, jst_ni, jst_o, jI_i, jcpy_out, w32_id, jdiv_nn, jshr_k, jand_255] <;> first | done | omega | assumption)) | (intros; simp (disch := omega) only [jst_eq, jst_ne, jst_ni, jst_o, jI_i, jcpy_out, w32_id, jdiv_nn, *] <;> first | done | omega) | (intros; simp (disch := omega) only [jst_eq, jst_ne, jst_ni, jst_o, jI_i, jcpy_out, w32_id, jdiv_nn] at * <;> first | done | omega | assumption) | (intros; first | rfl | (exfalso; omega) | ((repeat' apply And.intro) <;> first | assumption | rfl | omega | trivial))) -- o11 e1.1
    · (first | assumption | omega | ((try dsimp only [jt2, jt3, jt4]); first | omega | (simp (disch := omega) only [jst_eq, jst_ne, jst_ni, jst_o, jI_i, jcpy_out, w32_id, jdiv_nn, jshr_k, jand_255] <;> first | done | omega | assumption)) | (intros; simp (disch := omega) only [jst_eq, jst_ne, jst_ni, jst_o, jI_i, jcpy_out, w32_id, jdiv_nn, *] <;> first | done | omega) | (intros; simp (disch := omega) only [jst_eq, jst_ne, jst_ni, jst_o, jI_i, jcpy_out, w32_id, jdiv_nn] at * <;> first | done | omega | assumption) | (intros; first | rfl | (exfalso; omega) | ((repeat' apply And.intro) <;> first | assumption | rfl | omega | trivial))) -- o12 e1.2
    · (have F2 : ∀ a x, ¬ (a = 828 ∧ 0 ≤ x) → ¬ ((a = 841 ∨ a = 842) ∧ x = p) → ¬ (a = 454 ∧ x = 125) → y2 a x = o3 a x := (by assumption); exact fun a x y1 y2 y3 => by rw [F2 a x y1 y2 y3]; exact FE a x y1) -- o13 e1.3
  · skip
    have r4 := r1; clear r1
    dsimp only [Sum.elim_inl, Sum.elim_inr] at r4
    refine OK_jmr ?_
    rcases o4 with o5 | o6
    · skip
      have r5 := r4; clear r4
      dsimp only [Sum.elim_inl, Sum.elim_inr] at r5
      refine OK_jml ?_
      obtain ⟨y7, y8, h9⟩ := o5
      refine OK_jt3 ?_
      try dsimp only [Sum.elim_inl, Sum.elim_inr, jt2, jt3, jt4, jt5, jt6, jt7, jt8] at r5
      obtain ⟨ye3, f23⟩ := r5
      try simp (disch := omega) only [jst_eq, jst_ne, jst_ni, jI_i, jcmp_lt, jcmp_gt, w32_id, jcpy_out, Sum.elim_inl, Sum.elim_inr, jt2, jt3, jt4, jt5, jt6, jt7, jt8] at ye3
      try simp (disch := omega) only [jst_eq, jst_ne, jst_ni, jI_i, jcmp_lt, jcmp_gt, w32_id, jcpy_out, Sum.elim_inl, Sum.elim_inr, jt2, jt3, jt4, jt5, jt6, jt7, jt8] at f23
      have FE : ∀ a x, ¬ (a = 828 ∧ 0 ≤ x) → h9 a x = h a x := by assumption
      have P1 : h9 454 125 = p := by { rw [FE _ _ (by omega)]; exact hp.1 }
      rw [P1]
      refine OK_jg (by (first | assumption | omega | ((try dsimp only [jt2, jt3, jt4]); first | omega | (simp (disch := omega) only [jst_eq, jst_ne, jst_ni, jst_o, jI_i, jcpy_out, w32_id, jdiv_nn, jshr_k, jand_255] <;> first | done | omega | assumption)) | (intros; simp (disch := omega) only [jst_eq, jst_ne, jst_ni, jst_o, jI_i, jcpy_out, w32_id, jdiv_nn, *] <;> first | done | omega) | (intros; simp (disch := omega) only [jst_eq, jst_ne, jst_ni, jst_o, jI_i, jcpy_out, w32_id, jdiv_nn] at * <;> first | done | omega | assumption) | (intros; first | rfl | (exfalso; omega) | ((repeat' apply And.intro) <;> first | assumption | rfl | omega | trivial)))) ?_ -- o14
      refine OK_jl ?_
      have P2 : jst h9 841 p 0 454 125 = p := by { rw [jst_ne (by decide)]; exact P1 }
      rw [P2]
      refine OK_jg (by (first | assumption | omega | ((try dsimp only [jt2, jt3, jt4]); first | omega | (simp (disch := omega) only [jst_eq, jst_ne, jst_ni, jst_o, jI_i, jcpy_out, w32_id, jdiv_nn, jshr_k, jand_255] <;> first | done | omega | assumption)) | (intros; simp (disch := omega) only [jst_eq, jst_ne, jst_ni, jst_o, jI_i, jcpy_out, w32_id, jdiv_nn, *] <;> first | done | omega) | (intros; simp (disch := omega) only [jst_eq, jst_ne, jst_ni, jst_o, jI_i, jcpy_out, w32_id, jdiv_nn] at * <;> first | done | omega | assumption) | (intros; first | rfl | (exfalso; omega) | ((repeat' apply And.intro) <;> first | assumption | rfl | omega | trivial)))) ?_ -- o15
      refine OK_jl ?_
      have P3 : jst (jst h9 841 p 0) 842 p y7 454 125 = p := by { rw [jst_ne (by decide)]; exact P2 }
      rw [P3]
      refine OK_jl ?_
      refine OK_some ?_
      try dsimp only [Sum.elim_inl, Sum.elim_inr, jt2, jt3, jt4, jt5, jt6, jt7, jt8]
      try dsimp only [Sum.elim_inl, Sum.elim_inr, jt2, jt3, jt4, jt5, jt6, jt7, jt8]
      refine ⟨?_, ?_, ?_⟩
      · (have YE : ∃ n : Int, (1 ≤ n ∧ n ≤ 3) ∧ gdW e k u n ∧ (∀ j, 1 ≤ j → j < n → ¬ gdW e k u j) ∧ y7 = wdN e ((nb u 0 : Nat) : Int) n.toNat ∧ (0 ≤ y8 ∧ y8 < N) ∧ t y8 = tgL e u n ∧ d y8 ≤ d a1 + 1 ∧ 0 ≤ y7 := (by assumption); obtain ⟨n, z1, z2, z3, z4, z5, z6, z7, z8⟩ := YE; have z9 : jst (jst (jst h9 841 p 0) 842 p y7) 454 125 (w32 (p + 1)) 841 p = 0 := (by rw [jst_ne (by decide), jst_ne (by decide), jst_eq]); have z0 : jst (jst (jst h9 841 p 0) 842 p y7) 454 125 (w32 (p + 1)) 842 p = y7 := (by rw [jst_ne (by decide), jst_eq]); refine ⟨z5, z7, (0, y7), Or.inl ⟨n, z1, z2, z3, by rw [z4], z6⟩, Or.inl ⟨z9, by rw [z0]; exact z8, by rw [z0]⟩, ?_⟩; rw [z6]; have := z2.2; omega) -- o16 e2.1
      · (rw [jst_eq]; exact w32_id (by omega) (by omega)) -- o17 e2.2
      · exact fun a x y1 y2 y3 => by rw [jst_o (by omega), jst_o (by omega), jst_o (by omega)]; exact FE a x y1 -- o18 e2.3
    · skip
      have r6 := r4; clear r4
      dsimp only [Sum.elim_inl, Sum.elim_inr] at r6
      try dsimp only [Sum.elim_inl, Sum.elim_inr, jt2, jt3, jt4, jt5, jt6, jt7, jt8] at r6
      obtain ⟨n34, f34⟩ := r6
      try simp (disch := omega) only [jst_eq, jst_ne, jst_ni, jI_i, jcmp_lt, jcmp_gt, w32_id, jcpy_out, Sum.elim_inl, Sum.elim_inr, jt2, jt3, jt4, jt5, jt6, jt7, jt8] at n34
      try simp (disch := omega) only [jst_eq, jst_ne, jst_ni, jI_i, jcmp_lt, jcmp_gt, w32_id, jcpy_out, Sum.elim_inl, Sum.elim_inr, jt2, jt3, jt4, jt5, jt6, jt7, jt8] at f34
      refine OK_jmr ?_
      have FE : ∀ a x, ¬ (a = 828 ∧ 0 ≤ x) → o6 a x = h a x := by assumption
      refine OK_mono (vX14_firstWay_j136 (e := e) (t := t) (d := d) (N := N) (p := p) (k := k) (u := u) _ _ _ (by exact chN_f cm (fun a x y1 _ _ => FE a x y1) (by omega)) (by exact hi) (by exact hk) (by (rw [FE _ _ (by omega)]; exact hp)) (by exact lt) (by assumption)) (fun r r7 => ?_)
      obtain ⟨y3, y4⟩ := r
      try dsimp only [Sum.elim_inl, Sum.elim_inr, jt2, jt3, jt4, jt5, jt6, jt7, jt8] at r7
      obtain ⟨wy5, pp5, fr5⟩ := r7
      try simp (disch := omega) only [jst_eq, jst_ne, jst_ni, jI_i, jcmp_lt, jcmp_gt, w32_id, jcpy_out, Sum.elim_inl, Sum.elim_inr, jt2, jt3, jt4, jt5, jt6, jt7, jt8] at wy5
      try simp (disch := omega) only [jst_eq, jst_ne, jst_ni, jI_i, jcmp_lt, jcmp_gt, w32_id, jcpy_out, Sum.elim_inl, Sum.elim_inr, jt2, jt3, jt4, jt5, jt6, jt7, jt8] at pp5
      try simp (disch := omega) only [jst_eq, jst_ne, jst_ni, jI_i, jcmp_lt, jcmp_gt, w32_id, jcpy_out, Sum.elim_inl, Sum.elim_inr, jt2, jt3, jt4, jt5, jt6, jt7, jt8] at fr5
      try dsimp only [Sum.elim_inl, Sum.elim_inr, jt2, jt3, jt4, jt5, jt6, jt7, jt8]
      try dsimp only [Sum.elim_inl, Sum.elim_inr, jt2, jt3, jt4, jt5, jt6, jt7, jt8]
      refine ⟨?_, ?_, ?_⟩
      · (first | assumption | omega | ((try dsimp only [jt2, jt3, jt4]); first | omega | (simp (disch := omega) only [jst_eq, jst_ne, jst_ni, jst_o, jI_i, jcpy_out, w32_id, jdiv_nn, jshr_k, jand_255] <;> first | done | omega | assumption)) | (intros; simp (disch := omega) only [jst_eq, jst_ne, jst_ni, jst_o, jI_i, jcpy_out, w32_id, jdiv_nn, *] <;> first | done | omega) | (intros; simp (disch := omega) only [jst_eq, jst_ne, jst_ni, jst_o, jI_i, jcpy_out, w32_id, jdiv_nn] at * <;> first | done | omega | assumption) | (intros; first | rfl | (exfalso; omega) | ((repeat' apply And.intro) <;> first | assumption | rfl | omega | trivial))) -- o25 e3.1
      · (first | assumption | omega | ((try dsimp only [jt2, jt3, jt4]); first | omega | (simp (disch := omega) only [jst_eq, jst_ne, jst_ni, jst_o, jI_i, jcpy_out, w32_id, jdiv_nn, jshr_k, jand_255] <;> first | done | omega | assumption)) | (intros; simp (disch := omega) only [jst_eq, jst_ne, jst_ni, jst_o, jI_i, jcpy_out, w32_id, jdiv_nn, *] <;> first | done | omega) | (intros; simp (disch := omega) only [jst_eq, jst_ne, jst_ni, jst_o, jI_i, jcpy_out, w32_id, jdiv_nn] at * <;> first | done | omega | assumption) | (intros; first | rfl | (exfalso; omega) | ((repeat' apply And.intro) <;> first | assumption | rfl | omega | trivial))) -- o26 e3.2
      · (have F2 : ∀ a x, ¬ (a = 828 ∧ 0 ≤ x) → ¬ ((a = 841 ∨ a = 842) ∧ x = p) → ¬ (a = 454 ∧ x = 125) → y4 a x = o6 a x := (by assumption); exact fun a x y1 y2 y3 => by rw [F2 a x y1 y2 y3]; exact FE a x y1) -- o27 e3.3

