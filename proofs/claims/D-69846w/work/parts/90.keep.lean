/-! loops: a term that keeps, over all runs, at both ends -/
def kpN (W : Int → Int → Int → VW) (L : LE) (T : TR) (n : Nat) : Prop := ∀ i : Nat, i < n → ∃ how met giv, RN W L i how met giv ∧ NF W L T i met (-1)
def KPr (W : Int → Int → Int → VW) (L : LE) (T : TR) (v : Int) : Prop := (v = -1 ∧ kpN W L T (inN L).toNat) ∨ ∃ (i : Nat) (ff : Int), (i : Int) < inN L ∧ kpN W L T i ∧ 0 ≤ ff ∧ (∃ how met giv, RN W L i how met giv ∧ NF W L T i met ff) ∧ v = 10000 * i + ff
theorem KPr_u {W : Int → Int → Int → VW} {L : LE} {T : TR} {v w : Int} (a : KPr W L T v) (b : KPr W L T w) : v = w := by
  have key : ∀ (i : Nat) (ff : Int) (n : Nat), 0 ≤ ff → (∃ how met giv, RN W L i how met giv ∧ NF W L T i met ff) → kpN W L T n → n ≤ i := fun i ff n f0 x k => by
    rcases Nat.lt_or_ge i n with q | q
    · obtain ⟨_, _, _, r1, n1⟩ := x
      obtain ⟨_, _, _, r2, n2⟩ := k i q
      rw [(RN_u r1 r2).2.1] at n1
      have := NF_u n1 n2
      omega
    · exact q
  rcases a with ⟨a1, a2⟩ | ⟨i, ff, a1, a2, a3, a4, a5⟩ <;> rcases b with ⟨b1, b2⟩ | ⟨j, gg, b1, b2, b3, b4, b5⟩
  · omega
  · have := key j gg _ b3 b4 a2; omega
  · have := key i ff _ a3 a4 b2; omega
  · have q1 := key i ff _ a3 a4 b2
    have q2 := key j gg _ b3 b4 a2
    have e : i = j := by omega
    subst e
    obtain ⟨_, _, _, r1, n1⟩ := a4
    obtain ⟨_, _, _, r2, n2⟩ := b4
    rw [(RN_u r1 r2).2.1] at n1
    have := NF_u n1 n2
    omega
theorem NF_b {W : Int → Int → Int → VW} {L : LE} {T : TR} {i met ff : Int} (m : 0 ≤ met ∧ met ≤ 4097) (a : NF W L T i met ff) : -1 ≤ ff ∧ ff ≤ 4097 := by
  rcases a with a | a <;> omega
theorem kpN_s {W : Int → Int → Int → VW} {L : LE} {T : TR} {i how met giv : Int} {n m : Nat} (k : kpN W L T n) (e : m = n + 1) (ei : i = n) (r : RN W L i how met giv) (f : NF W L T i met (-1)) : kpN W L T m := fun j l => by
  by_cases y : j = n
  · subst y; subst ei; exact ⟨_, _, _, r, f⟩
  · exact k j (by omega)
theorem vX1_keeps_l110 (i1 : Int) (a30 : Int) {h0 : AH} {E : EV} {Rf : Int → TR} {W : Int → Int → Int → VW} {hl : Int → Int} {L : LE} {T : TR} (rn : rnX h0 E Rf W hl L) (tm : vwX h0 324 2200 (-1) 0 T i1 0 ∧ capX h0 324 2200 ∧ tmW E L.2.1.1 L.2.1.2 T 1) (mk : ∀ p, 0 ≤ p → p < 4096 → h0 404 p = 0) (h1 : a30 = 0) : OK (gX1_keeps_l110 i1 a30 h0) (Sum.elim (fun r => jt2 r fun y h' => (∃ ff, h' 200 48 = ff ∧ 0 ≤ y ∧ y ≤ 256 ∧ 0 ≤ ff ∧ ff ≤ 4097 ∧ KPr W L T (10000 * y + ff)) ∧ (∀ a s, (a = 405 ∨ (a = h0 200 39 ∧ s = 10) ∨ a = h0 200 39 + 11 ∨ a = h0 200 39 + 12) → h' a s = h0 a s) ∧ (frG h0 h' ∧ bd10 h')) (fun h' => (KPr W L T (-1)) ∧ (∀ a s, (a = 405 ∨ (a = h0 200 39 ∧ s = 10) ∨ a = h0 200 39 + 11 ∨ a = h0 200 39 + 12) → h' a s = h0 a s) ∧ (frG h0 h' ∧ bd10 h'))) := by
  have v := rn.2.2.2
  have n2 := v.1
  have IB := inN_b v
  have AW0 := rnX_a rn
  unfold gX1_keeps_l110
  refine OK_jit (I := (fun (s : Int × AH) => jt2 s fun a3 h => (0 ≤ a3 ∧ a3 ≤ inN L) ∧ (kpN W L T a3.toNat) ∧ (∀ p, 0 ≤ p → p < 4096 → h 404 p ≤ a3) ∧ (∀ a s, (a = 405 ∨ (a = h0 200 39 ∧ s = 10) ∨ a = h0 200 39 + 11 ∨ a = h0 200 39 + 12) → h a s = h0 a s) ∧ (frG h0 h) ∧ (bd10 h))) (m := (fun (s : Int × AH) => jt2 s fun a3 h => (inN L - a3).toNat)) ?_ ?_
  · intro s hs
    obtain ⟨a3, h⟩ := s
    dsimp only [Sum.elim_inl, Sum.elim_inr, jt2, jt3, jt4, jt5, jt6, jt7, jt8] at hs
    obtain ⟨q0, q1, q2, sa, fr, bb⟩ := hs
    unfold gX1_keeps_b110
    refine OK_jt2 ?_
    have RN2 : rnX h E Rf W hl L := rnX_f rn bb fr
    have LX := rnX_x RN2
    have LX0 := rnX_x rn
    have E39 : h 200 39 = h0 200 39 := fr _ _ (by omega) (by omega) (by omega) (by omega)
    have TM2 : vwX h 324 2200 (-1) 0 T i1 0 := vwX_fr (fun a s y => fr a s (by omega) (by omega) (by omega) (by omega)) tm.1
    have CP2 : capX h 324 2200 := capX_fr tm.2.1 (fun a a0 a1 => fr a _ (by omega) (by omega) (by omega) (by omega))
    refine OK_jb (vX8_many (n := L.1.1) (kf := L.1.2) _ (by exact ⟨RN2.2.1.2.1, n2.1, n2.2.1⟩) (by exact fun k k0 k1 => ⟨RN2.2.1.2.2.2.1 k k0 k1, n2.2.2 k k0 k1⟩)) (fun v28 r1 => ?_)
    try dsimp only [Sum.elim_inl, Sum.elim_inr, jt2, jt3, jt4, jt5, jt6, jt7, jt8] at r1
    have v1 := r1
    clear r1
    try simp (disch := omega) only [jst_eq, jst_ne, jst_ni, jI_i, jcmp_lt, jcmp_gt, w32_id, jcpy_out, Sum.elim_inl, Sum.elim_inr, jt2, jt3, jt4, jt5, jt6, jt7, jt8] at v1
    have V28 : v28 = inN L := by assumption
    refine OK_if (fun c1 => ?_) (fun c1 => ?_)
    · skip
      try simp (disch := omega) only [jst_eq, jst_ne, jst_ni, jI_i, jcmp_lt, jcmp_gt, w32_id, jcpy_out, Sum.elim_inl, Sum.elim_inr, jt2, jt3, jt4, jt5, jt6, jt7, jt8] at c1
      refine OK_ir ?_
      try dsimp only [Sum.elim_inl, Sum.elim_inr, jt2, jt3, jt4, jt5, jt6, jt7, jt8]
      refine ⟨?_, ?_, ?_⟩
      · exact Or.inl ⟨rfl, by rw [show (inN L).toNat = a3.toNat by omega]; exact q1⟩ -- o3 e1.1
      · exact sa -- o4 e1.2
      · exact ⟨fr, bb⟩ -- o5 e1.3
    · skip
      try simp (disch := omega) only [jst_eq, jst_ne, jst_ni, jI_i, jcmp_lt, jcmp_gt, w32_id, jcpy_out, Sum.elim_inl, Sum.elim_inr, jt2, jt3, jt4, jt5, jt6, jt7, jt8] at c1
      refine OK_jb (vX1_goThrough (E := E) (Rf := Rf) (W := W) (hl := hl) (L := L) (H := []) (T := T) _ _ _ (by exact RN2) (by omega) (by exact Or.inr ⟨rfl, TM2, CP2, tm.2.2⟩) (by exact fun p p0 p1 e => by have := q2 p p0 p1; omega) (by exact fun z => absurd z (by decide))) (fun h31 r2 => ?_)
      try dsimp only [Sum.elim_inl, Sum.elim_inr, jt2, jt3, jt4, jt5, jt6, jt7, jt8] at r2
      obtain ⟨rr2, md2, mk2, fr2, bb2⟩ := r2
      try simp (disch := omega) only [jst_eq, jst_ne, jst_ni, jI_i, jcmp_lt, jcmp_gt, w32_id, jcpy_out, Sum.elim_inl, Sum.elim_inr, jt2, jt3, jt4, jt5, jt6, jt7, jt8] at rr2
      try simp (disch := omega) only [jst_eq, jst_ne, jst_ni, jI_i, jcmp_lt, jcmp_gt, w32_id, jcpy_out, Sum.elim_inl, Sum.elim_inr, jt2, jt3, jt4, jt5, jt6, jt7, jt8] at md2
      try simp (disch := omega) only [jst_eq, jst_ne, jst_ni, jI_i, jcmp_lt, jcmp_gt, w32_id, jcpy_out, Sum.elim_inl, Sum.elim_inr, jt2, jt3, jt4, jt5, jt6, jt7, jt8] at mk2
      try simp (disch := omega) only [jst_eq, jst_ne, jst_ni, jI_i, jcmp_lt, jcmp_gt, w32_id, jcpy_out, Sum.elim_inl, Sum.elim_inr, jt2, jt3, jt4, jt5, jt6, jt7, jt8] at fr2
      try simp (disch := omega) only [jst_eq, jst_ne, jst_ni, jI_i, jcmp_lt, jcmp_gt, w32_id, jcpy_out, Sum.elim_inl, Sum.elim_inr, jt2, jt3, jt4, jt5, jt6, jt7, jt8] at bb2
      have R31 := rr2.1
      have MB31 := RN_b AW0.1 AW0.2 v q0.1 R31
      have NF31 := (md2.resolve_left (fun z => absurd z.1 (by decide))).2.1
      rw [show ((h31 200 46).toNat : Int) = h31 200 46 by omega] at NF31
      have NB31 := NF_b MB31 NF31
      have SA31 : ∀ a s, (a = 405 ∨ (a = h0 200 39 ∧ s = 10) ∨ a = h0 200 39 + 11 ∨ a = h0 200 39 + 12) → h31 a s = h0 a s := fun a s y => by { rw [(md2.resolve_left (fun z => absurd z.1 (by decide))).2.2 a s (by rw [E39]; exact y)]; exact sa a s y }
      have FR31 := frG_t fr fr2
      refine OK_if (fun c2 => ?_) (fun c2 => ?_)
      · skip
        try simp (disch := omega) only [jst_eq, jst_ne, jst_ni, jI_i, jcmp_lt, jcmp_gt, w32_id, jcpy_out, Sum.elim_inl, Sum.elim_inr, jt2, jt3, jt4, jt5, jt6, jt7, jt8] at c2
        refine OK_jlx (fun x33 ex33 => ?_)
        try simp (disch := omega) only [jst_eq, jst_ne, jst_ni, jI_i, jcmp_lt, jcmp_gt, w32_id, jcpy_out, Sum.elim_inl, Sum.elim_inr, jt2, jt3, jt4, jt5, jt6, jt7, jt8] at ex33
        refine OK_il ?_ ?_
        · try dsimp only [Sum.elim_inl, Sum.elim_inr, jt2, jt3, jt4, jt5, jt6, jt7, jt8]
          refine ⟨?_, ?_, ?_, ?_, ?_, ?_⟩
          · (first | assumption | omega | ((try dsimp only [jt2, jt3, jt4]); first | omega | (simp (disch := omega) only [jst_eq, jst_ne, jst_ni, jst_o, jI_i, jcpy_out, w32_id, jdiv_nn, jshr_k, jand_255] <;> first | done | omega | assumption)) | (intros; simp (disch := omega) only [jst_eq, jst_ne, jst_ni, jst_o, jI_i, jcpy_out, w32_id, jdiv_nn, *] <;> first | done | omega) | (intros; simp (disch := omega) only [jst_eq, jst_ne, jst_ni, jst_o, jI_i, jcpy_out, w32_id, jdiv_nn] at * <;> first | done | omega | assumption) | (intros; first | rfl | (exfalso; omega) | ((repeat' apply And.intro) <;> first | assumption | rfl | omega | trivial))) -- o11 e2i.1
          · (rw [c2] at NF31; exact kpN_s q1 (by omega) (by omega) R31 NF31) -- o12 e2i.2
          · (intro p p0 p1; rcases mk2 p with z | z; { omega }; { have := q2 p p0 p1; omega }) -- o13 e2i.3
          · exact SA31 -- o14 e2i.4
          · exact FR31 -- o15 e2i.5
          · exact bb2 -- o16 e2i.6
        · (first | assumption | omega | ((try dsimp only [jt2, jt3, jt4]); first | omega | (simp (disch := omega) only [jst_eq, jst_ne, jst_ni, jst_o, jI_i, jcpy_out, w32_id, jdiv_nn, jshr_k, jand_255] <;> first | done | omega | assumption)) | (intros; simp (disch := omega) only [jst_eq, jst_ne, jst_ni, jst_o, jI_i, jcpy_out, w32_id, jdiv_nn, *] <;> first | done | omega) | (intros; simp (disch := omega) only [jst_eq, jst_ne, jst_ni, jst_o, jI_i, jcpy_out, w32_id, jdiv_nn] at * <;> first | done | omega | assumption) | (intros; first | rfl | (exfalso; omega) | ((repeat' apply And.intro) <;> first | assumption | rfl | omega | trivial))) -- o17 e2m
      · skip
        try simp (disch := omega) only [jst_eq, jst_ne, jst_ni, jI_i, jcmp_lt, jcmp_gt, w32_id, jcpy_out, Sum.elim_inl, Sum.elim_inr, jt2, jt3, jt4, jt5, jt6, jt7, jt8] at c2
        refine OK_ir ?_
        try dsimp only [Sum.elim_inl, Sum.elim_inr, jt2, jt3, jt4, jt5, jt6, jt7, jt8]
        refine ⟨?_, ?_, ?_⟩
        · exact ⟨_, rfl, by omega, by omega, by omega, by omega, Or.inr ⟨a3.toNat, h31 200 48, by omega, q1, by omega, ⟨_, _, _, by rw [show ((a3.toNat : Nat) : Int) = a3 by omega]; exact R31, by rw [show ((a3.toNat : Nat) : Int) = a3 by omega]; exact NF31⟩, by omega⟩⟩ -- o18 e3.1
        · exact SA31 -- o19 e3.2
        · exact ⟨FR31, bb2⟩ -- o20 e3.3
  · try dsimp only [Sum.elim_inl, Sum.elim_inr, jt2, jt3, jt4, jt5, jt6, jt7, jt8]
    refine ⟨?_, ?_, ?_, ?_, ?_, ?_⟩
    · (first | assumption | omega | ((try dsimp only [jt2, jt3, jt4]); first | omega | (simp (disch := omega) only [jst_eq, jst_ne, jst_ni, jst_o, jI_i, jcpy_out, w32_id, jdiv_nn, jshr_k, jand_255] <;> first | done | omega | assumption)) | (intros; simp (disch := omega) only [jst_eq, jst_ne, jst_ni, jst_o, jI_i, jcpy_out, w32_id, jdiv_nn, *] <;> first | done | omega) | (intros; simp (disch := omega) only [jst_eq, jst_ne, jst_ni, jst_o, jI_i, jcpy_out, w32_id, jdiv_nn] at * <;> first | done | omega | assumption) | (intros; first | rfl | (exfalso; omega) | ((repeat' apply And.intro) <;> first | assumption | rfl | omega | trivial))) -- o21 init.1
    · (rw [h1]; intro i l; exact absurd l (Nat.not_lt_zero i)) -- o22 init.2
    · (intro p p0 p1; rw [mk p p0 p1, h1]; exact Int.le_refl _) -- o23 init.3
    · exact fun _ _ _ => rfl -- o24 init.4
    · exact frG_r -- o25 init.5
    · exact rn.1.2.2.2.2 -- o26 init.6
theorem vX14_keeps_l128 (a20 : Int) {h0 : AH} {E : EV} {Rf : Int → TR} {W : Int → Int → Int → VW} {L : LE} {N : Int} {T : TR} (rn : rnM h0 E Rf W L) (mb : mkB h0 N ∧ N ≤ 900000000) (ak : 0 ≤ h0 454 100 ∧ atM h0 T (h0 454 100) ∧ tmW E L.2.1.1 L.2.1.2 T 1) (se : snM h0 L 0 []) (h1 : a20 = 0) : OK (gX14_keeps_l128 a20 h0) (Sum.elim (fun r => jt2 r fun y h' => (∃ ff, h' 454 101 = ff ∧ 0 ≤ y ∧ y ≤ 256 ∧ 0 ≤ ff ∧ ff ≤ 4097 ∧ KPr W L T (10000 * y + ff)) ∧ ((h' 454 97 ≤ h0 454 97 + 256 ∧ h0 454 97 ≤ h' 454 97) ∧ (∀ p, 0 ≤ p → p < 4096 → h' 815 p ≤ h' 454 97) ∧ ∀ p, 0 ≤ p → p < 4096 → h' 816 p ≤ h' 454 99) ∧ (fPl h0 h' ∧ h' 454 100 = h0 454 100 ∧ h' 454 99 = h0 454 99) ∧ (bd20 h')) (fun h' => (KPr W L T (-1)) ∧ ((h' 454 97 ≤ h0 454 97 + 256 ∧ h0 454 97 ≤ h' 454 97) ∧ (∀ p, 0 ≤ p → p < 4096 → h' 815 p ≤ h' 454 97) ∧ ∀ p, 0 ≤ p → p < 4096 → h' 816 p ≤ h' 454 99) ∧ (fPl h0 h' ∧ h' 454 100 = h0 454 100 ∧ h' 454 99 = h0 454 99) ∧ (bd20 h'))) := by
  have v := rn.2.2
  have IB := inN_b v
  have MB := mb.1.1
  obtain ⟨ac, wt⟩ := rnM_a rn
  unfold gX14_keeps_l128
  refine OK_jit (I := (fun (s : Int × AH) => jt2 s fun a2 h => (0 ≤ a2 ∧ a2 ≤ inN L) ∧ (kpN W L T a2.toNat ∧ ∃ H, HS W L a2.toNat H ∧ snM h L 0 H) ∧ (h 454 97 = h0 454 97 + a2 ∧ ∀ p, 0 ≤ p → p < 4096 → h 815 p ≤ h 454 97) ∧ (fPl h0 h ∧ h 454 100 = h0 454 100 ∧ h 454 99 = h0 454 99) ∧ (bd20 h))) (m := (fun (s : Int × AH) => jt2 s fun a2 h => (inN L - a2).toNat)) ?_ ?_
  · intro s hs
    obtain ⟨a2, h⟩ := s
    dsimp only [Sum.elim_inl, Sum.elim_inr, jt2, jt3, jt4, jt5, jt6, jt7, jt8] at hs
    obtain ⟨q0, q1, q2, fr, bb⟩ := hs
    unfold gX14_keeps_b128
    refine OK_jt2 ?_
    have RN2 : rnM h E Rf W L := rnM_f rn bb fr.1
    obtain ⟨K1, H, H1, H2⟩ := q1
    have HL := HS_len ac wt v H1
    refine OK_jb (vX14_inputs (E := E) (L := L) (by exact RN2.2.1) (by exact v)) (fun v53 r1 => ?_)
    try dsimp only [Sum.elim_inl, Sum.elim_inr, jt2, jt3, jt4, jt5, jt6, jt7, jt8] at r1
    have vi1 := r1
    clear r1
    try simp (disch := omega) only [jst_eq, jst_ne, jst_ni, jI_i, jcmp_lt, jcmp_gt, w32_id, jcpy_out, Sum.elim_inl, Sum.elim_inr, jt2, jt3, jt4, jt5, jt6, jt7, jt8] at vi1
    have V53 : v53 = inN L := by assumption
    refine OK_if (fun c1 => ?_) (fun c1 => ?_)
    · skip
      try simp (disch := omega) only [jst_eq, jst_ne, jst_ni, jI_i, jcmp_lt, jcmp_gt, w32_id, jcpy_out, Sum.elim_inl, Sum.elim_inr, jt2, jt3, jt4, jt5, jt6, jt7, jt8] at c1
      refine OK_ir ?_
      try dsimp only [Sum.elim_inl, Sum.elim_inr, jt2, jt3, jt4, jt5, jt6, jt7, jt8]
      refine ⟨?_, ?_, ?_, ?_⟩
      · exact Or.inl ⟨rfl, by rw [show (inN L).toNat = a2.toNat by omega]; exact K1⟩ -- o3 e1.1
      · exact ⟨by omega, q2.2, snM_9 H2⟩ -- o4 e1.2
      · (first | assumption | omega | ((try dsimp only [jt2, jt3, jt4]); first | omega | (simp (disch := omega) only [jst_eq, jst_ne, jst_ni, jst_o, jI_i, jcpy_out, w32_id, jdiv_nn, jshr_k, jand_255] <;> first | done | omega | assumption)) | (intros; simp (disch := omega) only [jst_eq, jst_ne, jst_ni, jst_o, jI_i, jcpy_out, w32_id, jdiv_nn, *] <;> first | done | omega) | (intros; simp (disch := omega) only [jst_eq, jst_ne, jst_ni, jst_o, jI_i, jcpy_out, w32_id, jdiv_nn] at * <;> first | done | omega | assumption) | (intros; first | rfl | (exfalso; omega) | ((repeat' apply And.intro) <;> first | assumption | rfl | omega | trivial))) -- o5 e1.3
      · (first | assumption | omega | ((try dsimp only [jt2, jt3, jt4]); first | omega | (simp (disch := omega) only [jst_eq, jst_ne, jst_ni, jst_o, jI_i, jcpy_out, w32_id, jdiv_nn, jshr_k, jand_255] <;> first | done | omega | assumption)) | (intros; simp (disch := omega) only [jst_eq, jst_ne, jst_ni, jst_o, jI_i, jcpy_out, w32_id, jdiv_nn, *] <;> first | done | omega) | (intros; simp (disch := omega) only [jst_eq, jst_ne, jst_ni, jst_o, jI_i, jcpy_out, w32_id, jdiv_nn] at * <;> first | done | omega | assumption) | (intros; first | rfl | (exfalso; omega) | ((repeat' apply And.intro) <;> first | assumption | rfl | omega | trivial))) -- o6 e1.4
    · skip
      try simp (disch := omega) only [jst_eq, jst_ne, jst_ni, jI_i, jcmp_lt, jcmp_gt, w32_id, jcpy_out, Sum.elim_inl, Sum.elim_inr, jt2, jt3, jt4, jt5, jt6, jt7, jt8] at c1
      refine OK_jb (vX14_play (E := E) (Rf := Rf) (W := W) (L := L) (H := H) (T := T) (k := 0) _ (by exact RN2) (by omega) (by exact ⟨by omega, q2.2⟩) (by exact Or.inr ⟨by rw [fr.2.1]; exact ak.1, by rw [fr.2.1]; exact atM_f ak.2.1 (fun a s a0 a1 => fr.1 a s (by omega) (by omega)), ak.2.2⟩) (by omega) (by omega) (by exact H2)) (fun h56 r2 => ?_)
      try dsimp only [Sum.elim_inl, Sum.elim_inr, jt2, jt3, jt4, jt5, jt6, jt7, jt8] at r2
      obtain ⟨rr2, md2, mk2, fr2, bb2⟩ := r2
      try simp (disch := omega) only [jst_eq, jst_ne, jst_ni, jI_i, jcmp_lt, jcmp_gt, w32_id, jcpy_out, Sum.elim_inl, Sum.elim_inr, jt2, jt3, jt4, jt5, jt6, jt7, jt8] at rr2
      try simp (disch := omega) only [jst_eq, jst_ne, jst_ni, jI_i, jcmp_lt, jcmp_gt, w32_id, jcpy_out, Sum.elim_inl, Sum.elim_inr, jt2, jt3, jt4, jt5, jt6, jt7, jt8] at md2
      try simp (disch := omega) only [jst_eq, jst_ne, jst_ni, jI_i, jcmp_lt, jcmp_gt, w32_id, jcpy_out, Sum.elim_inl, Sum.elim_inr, jt2, jt3, jt4, jt5, jt6, jt7, jt8] at mk2
      try simp (disch := omega) only [jst_eq, jst_ne, jst_ni, jI_i, jcmp_lt, jcmp_gt, w32_id, jcpy_out, Sum.elim_inl, Sum.elim_inr, jt2, jt3, jt4, jt5, jt6, jt7, jt8] at fr2
      try simp (disch := omega) only [jst_eq, jst_ne, jst_ni, jI_i, jcmp_lt, jcmp_gt, w32_id, jcpy_out, Sum.elim_inl, Sum.elim_inr, jt2, jt3, jt4, jt5, jt6, jt7, jt8] at bb2
      have R56 := rr2.1
      have MB56 := RN_b ac wt v q0.1 R56
      have NF56 := md2.2 (by rw [fr2.2.1, fr.2.1]; omega)
      rw [show ((h56 454 105).toNat : Int) = h56 454 105 by omega] at NF56
      have NB56 := NF_b MB56 NF56
      have FR56 : fPl h0 h56 ∧ h56 454 100 = h0 454 100 ∧ h56 454 99 = h0 454 99 := ⟨fPl_t fr.1 fr2.1, by rw [fr2.2.1]; exact fr.2.1, by rw [fr2.2.2]; exact fr.2.2⟩
      have SN56 : snM h56 L 0 (mtL W L a2 (h56 454 105).toNat ++ H) := md2.1
      refine OK_if (fun c2 => ?_) (fun c2 => ?_)
      · skip
        try simp (disch := omega) only [jst_eq, jst_ne, jst_ni, jI_i, jcmp_lt, jcmp_gt, w32_id, jcpy_out, Sum.elim_inl, Sum.elim_inr, jt2, jt3, jt4, jt5, jt6, jt7, jt8] at c2
        refine OK_jlx (fun x58 ex58 => ?_)
        try simp (disch := omega) only [jst_eq, jst_ne, jst_ni, jI_i, jcmp_lt, jcmp_gt, w32_id, jcpy_out, Sum.elim_inl, Sum.elim_inr, jt2, jt3, jt4, jt5, jt6, jt7, jt8] at ex58
        refine OK_il ?_ ?_
        · try dsimp only [Sum.elim_inl, Sum.elim_inr, jt2, jt3, jt4, jt5, jt6, jt7, jt8]
          refine ⟨?_, ?_, ?_, ?_, ?_⟩
          · (first | assumption | omega | ((try dsimp only [jt2, jt3, jt4]); first | omega | (simp (disch := omega) only [jst_eq, jst_ne, jst_ni, jst_o, jI_i, jcpy_out, w32_id, jdiv_nn, jshr_k, jand_255] <;> first | done | omega | assumption)) | (intros; simp (disch := omega) only [jst_eq, jst_ne, jst_ni, jst_o, jI_i, jcpy_out, w32_id, jdiv_nn, *] <;> first | done | omega) | (intros; simp (disch := omega) only [jst_eq, jst_ne, jst_ni, jst_o, jI_i, jcpy_out, w32_id, jdiv_nn] at * <;> first | done | omega | assumption) | (intros; first | rfl | (exfalso; omega) | ((repeat' apply And.intro) <;> first | assumption | rfl | omega | trivial))) -- o14 e2i.1
          · (have e9 : h56 454 101 = -1 := (by omega); rw [e9] at NF56; refine ⟨kpN_s K1 (by omega) (by omega) R56 NF56, mtL W L a2 (h56 454 105).toNat ++ H, ?_, SN56⟩; rw [show x58.toNat = a2.toNat + 1 by omega]; exact ⟨_, _, _, H, by rw [show ((a2.toNat : Nat) : Int) = a2 by omega]; exact R56, H1, by rw [show ((a2.toNat : Nat) : Int) = a2 by omega]⟩) -- o15 e2i.2
          · exact ⟨by have := mk2.1; omega, mk2.2⟩ -- o16 e2i.3
          · exact FR56 -- o17 e2i.4
          · exact bb2 -- o18 e2i.5
        · (first | assumption | omega | ((try dsimp only [jt2, jt3, jt4]); first | omega | (simp (disch := omega) only [jst_eq, jst_ne, jst_ni, jst_o, jI_i, jcpy_out, w32_id, jdiv_nn, jshr_k, jand_255] <;> first | done | omega | assumption)) | (intros; simp (disch := omega) only [jst_eq, jst_ne, jst_ni, jst_o, jI_i, jcpy_out, w32_id, jdiv_nn, *] <;> first | done | omega) | (intros; simp (disch := omega) only [jst_eq, jst_ne, jst_ni, jst_o, jI_i, jcpy_out, w32_id, jdiv_nn] at * <;> first | done | omega | assumption) | (intros; first | rfl | (exfalso; omega) | ((repeat' apply And.intro) <;> first | assumption | rfl | omega | trivial))) -- o19 e2m
      · skip
        try simp (disch := omega) only [jst_eq, jst_ne, jst_ni, jI_i, jcmp_lt, jcmp_gt, w32_id, jcpy_out, Sum.elim_inl, Sum.elim_inr, jt2, jt3, jt4, jt5, jt6, jt7, jt8] at c2
        refine OK_ir ?_
        try dsimp only [Sum.elim_inl, Sum.elim_inr, jt2, jt3, jt4, jt5, jt6, jt7, jt8]
        refine ⟨?_, ?_, ?_, ?_⟩
        · exact ⟨_, rfl, by omega, by omega, by omega, by omega, Or.inr ⟨a2.toNat, h56 454 101, by omega, K1, by omega, ⟨_, _, _, by rw [show ((a2.toNat : Nat) : Int) = a2 by omega]; exact R56, by rw [show ((a2.toNat : Nat) : Int) = a2 by omega]; exact NF56⟩, by omega⟩⟩ -- o20 e3.1
        · exact ⟨by have := mk2.1; omega, mk2.2, snM_9 SN56⟩ -- o21 e3.2
        · exact FR56 -- o22 e3.3
        · exact bb2 -- o23 e3.4
  · try dsimp only [Sum.elim_inl, Sum.elim_inr, jt2, jt3, jt4, jt5, jt6, jt7, jt8]
    refine ⟨?_, ?_, ?_, ?_, ?_⟩
    · (first | assumption | omega | ((try dsimp only [jt2, jt3, jt4]); first | omega | (simp (disch := omega) only [jst_eq, jst_ne, jst_ni, jst_o, jI_i, jcpy_out, w32_id, jdiv_nn, jshr_k, jand_255] <;> first | done | omega | assumption)) | (intros; simp (disch := omega) only [jst_eq, jst_ne, jst_ni, jst_o, jI_i, jcpy_out, w32_id, jdiv_nn, *] <;> first | done | omega) | (intros; simp (disch := omega) only [jst_eq, jst_ne, jst_ni, jst_o, jI_i, jcpy_out, w32_id, jdiv_nn] at * <;> first | done | omega | assumption) | (intros; first | rfl | (exfalso; omega) | ((repeat' apply And.intro) <;> first | assumption | rfl | omega | trivial))) -- o24 init.1
    · (rw [h1]; exact ⟨fun i l => absurd l (Nat.not_lt_zero i), [], rfl, se⟩) -- o25 init.2
    · (rw [h1]; exact ⟨by omega, mb.1.2.1⟩) -- o26 init.3
    · exact ⟨fPl_r, rfl, rfl⟩ -- o27 init.4
    · exact rn.1.2.2 -- o28 init.5

