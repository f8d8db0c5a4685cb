/-! m: the two terms of a law -/
/-- cells that the reader of an ask may change, but for its kinds -/
def lmC (a b s : Int) : Prop := (b = 454 ∧ (s = 17 ∨ (26 ≤ s ∧ s ≤ 31) ∨ s = 34)) ∨ (b = 472 ∧ (s = 6 ∨ s = 7)) ∨ (460 ≤ b ∧ b ≤ 470 ∧ b ≠ 464 ∧ 0 ≤ s ∧ s < 2200) ∨ (b = 464 ∧ 0 ≤ s ∧ s < 6600) ∨ ((b = 474 ∨ b = 475) ∧ 0 ≤ s ∧ s < 3) ∨ (b = a ∧ (s = 5 ∨ s = 9 ∨ s = 12)) ∨ (a + 2 ≤ b ∧ b ≤ a + 10 ∧ 0 ≤ s)
/-- what m's reader of laws has -/
def lmR (B : Int → Int) (n a : Int) (ks : List Int) (la i m : Int) (E : EV) (Rf : Int → TR) (h : AH) : Prop := rdR B n a ks la i h ∧ (h a 12 = m ∧ 0 ≤ m ∧ m ≤ 5000) ∧ actM h E ∧ ewO E ∧ ownM h E.1.1 E.1.2.2.2.1 Rf ∧ (0 ≤ h 454 35 ∧ h 454 35 ≤ 2000)
theorem lmR_f {B : Int → Int} {n a : Int} {ks : List Int} {la i i' m m' : Int} {E : EV} {Rf : Int → TR} {h h' : AH} (x : lmR B n a ks la i m E Rf h) (f : ∀ b s, ¬ lmC a b s → h' b s = h b s) (mi : MI h') (m9 : h' a 9 = i' ∧ 0 ≤ i' ∧ i' ≤ 5000) (m12 : h' a 12 = m' ∧ 0 ≤ m' ∧ m' ≤ 5000) (e : 0 ≤ h' 454 17 ∧ h' 454 17 < 8800) : lmR B n a ks la i' m' E Rf h' := by
  obtain ⟨⟨x1, x2, x3, ⟨x4, x5, x6, x7⟩, x8, x9, x10⟩, y1, y2, y3, y4, y5⟩ := x
  have LA : a = 476 ∨ a = 615 := x3
  refine ⟨⟨TM_fr x1 (f _ _ (by unfold lmC; omega)) (fun s => f _ _ (by unfold lmC; omega)), mi, x3, ⟨by rw [f _ _ (by unfold lmC; omega)]; exact x4, x5, x6, fun k k0 k1 => by rw [f _ _ (by unfold lmC; omega)]; exact x7 k k0 k1⟩, by rw [f _ _ (by unfold lmC; omega)]; exact x8, m9, e⟩, m12, actM_fr y2 (f _ _ (by unfold lmC; omega)) (fun b s b0 b1 => f _ _ (by unfold lmC; omega)), y3, ownM_fr y4 ⟨fun b s b0 b1 b2 s0 s1 => f _ _ (by unfold lmC; omega), fun s s0 s1 => f _ _ (by unfold lmC; omega)⟩ (fun b b0 b1 => f _ _ (by unfold lmC; omega)), by rw [f _ _ (by unfold lmC; omega)]; exact y5⟩
theorem ewO_A {B : Int → Int} {n la : Int} {E : EV} {ks : List Int} {ns : List (Int × Int)} (w : ewO E) : ewO (EVA B n E ks la ns) := by
  obtain ⟨w1, w2, w3⟩ := w
  refine ⟨fun u => ?_, w2, w3⟩
  have e : eW (EVA B n E ks la ns) = eW E := rfl
  rw [e]
  by_cases g : u = 6
  · have : eRs (EVA B n E ks la ns) u = -2 := if_pos ⟨rfl, g⟩
    rw [this]
    unfold eW
    rw [if_pos (by decide)]
    decide
  · have : eRs (EVA B n E ks la ns) u = eRs E u := by
      show (if (1 : Int) = 1 ∧ u = 6 then -2 else fA E.1.2.1 u E.1.1.toNat 0) = if E.2.2.1 = 1 ∧ u = 6 then -2 else fA E.1.2.1 u E.1.1.toNat 0
      rw [if_neg (fun z => g z.2), if_neg (fun z => g z.2)]
    rw [this]
    exact w1 u
theorem evM_A {B : Int → Int} {n a la i m : Int} {ks : List Int} {E : EV} {Rf : Int → TR} {ns : List (Int × Int)} {h : AH} (x : lmR B n a ks la i m E Rf h) (nm : nmM B n ns h) : evM h a (EVA B n E ks la ns) := by
  obtain ⟨⟨x1, x2, x3, ⟨x4, x5, x6, x7⟩, x8, x9, x10⟩, y1, y2, y3, y4, y5⟩ := x
  exact ⟨y2, nmM_p nm, Or.inr ⟨x3, rfl, x4, x8.1, by show 1 ≤ (ks.length : Int); omega, by show (ks.length : Int) ≤ 3; omega, x8.2.1, x8.2.2, x7⟩⟩
/-- a term is weighed, whatever there is of names and of an ask -/
theorem wgE {h : AH} {E : EV} {Rf : Int → TR} {T : TR} (a1 a2 : Int) (mi : MI h) (hc : 0 ≤ h 454 35 ∧ h 454 35 ≤ 2000) (ev : evM h a2 E) (ew : ewO E) (ow : ownM h E.1.1 E.1.2.2.2.1 Rf) (t : toW h T a1) (rg : a1 + sz T ≤ 5500) : OK (gX14_weighed a1 a2 h) (fun r => jt2 r fun v h' => (v = kch (kdE E T) ∧ -1 ≤ kdE E T ∧ kdE E T ≤ 2) ∧ MI h' ∧ MK h' = min (MK h) (keyE E (-1) T) ∧ dnM h' E T a1 ∧ h' 468 a1 = plT T ∧ (∀ a s, ¬ (a = 454 ∧ (s = 30 ∨ s = 31)) → ¬ (461 ≤ a ∧ a ≤ 463 ∧ a1 ≤ s ∧ s < a1 + sz T) → h' a s = h a s)) := by
  have KD := kdE_r ev t.1.2.1
  have pl := toW_p t
  have hl := t.2.1
  have st := sz_pos T
  refine OK_mono (vX14_weighed a1 a2 (E := E) (T := T) (Rf := Rf) ev t.1 mi (by rw [hl]; omega) ew ow ⟨t.2.2, rg⟩) (fun r p => ?_)
  obtain ⟨v, h'⟩ := r
  have p : posW E T a1 h v h' := p
  obtain ⟨q1, q2, q3, q4, q5, q6, q7⟩ := p
  have c := (okN_C (E := E) (by decide : (30 : Int) ≤ 50) t.2.2 t.1 q7 q5).1
  rw [fkE_h0 hl] at q3 q6
  have e35 : h' 454 35 = h 454 35 := by omega
  have F : ∀ a s, ¬ (a = 454 ∧ (s = 30 ∨ s = 31)) → ¬ (461 ≤ a ∧ a ≤ 463 ∧ a1 ≤ s ∧ s < a1 + sz T) → h' a s = h a s := fun a s y1 y2 => by
    by_cases q : a = 454 ∧ s = 35
    · rw [q.1, q.2]; exact e35
    · exact q7 a s (by omega) (by omega)
  have mr := MK_r mi
  refine ⟨⟨q1, KD⟩, q2, ?_, fun z hh g => ?_, (F 468 a1 (by omega) (by omega)).trans pl.1, F⟩
  · rw [q3]
    unfold keyE toE
    rw [if_neg (show ¬ ((-1 : Int) ≠ -1 ∧ kdE E T ≠ -1 ∧ kdE E T ≠ -1) from fun z => z.1 rfl)]
    omega
  · have m := q6 z
    rw [rsE_h0 hl t.1.2.1] at m
    exact resM_ag (h := h') g (Int.le_refl _) (Int.le_refl _) (by omega) (by omega) (by omega) c m
theorem vX14_law_j370 (a1 : Int) {h : AH} {m : Int} (m9 : h a1 12 = m ∧ 0 ≤ m ∧ m ≤ 5000) : OK (gX14_law_j370 a1 h) (fun r => jt2 r fun t h' => (t = 0) ∧ (h' a1 12 = m + 1) ∧ (∀ b s, ¬ (b = a1 ∧ s = 12) → h' b s = h b s)) := by
  unfold gX14_law_j370
  refine OK_jl ?_
  refine OK_some ?_
  try dsimp only [Sum.elim_inl, Sum.elim_inr, jt2, jt3, jt4, jt5, jt6, jt7, jt8]
  try dsimp only [Sum.elim_inl, Sum.elim_inr, jt2, jt3, jt4, jt5, jt6, jt7, jt8]
  refine ⟨?_, ?_, ?_⟩
  · (first | assumption | omega | ((try dsimp only [jt2, jt3, jt4]); first | omega | (simp (disch := omega) only [jst_eq, jst_ne, jst_ni, jst_o, jI_i, jcpy_out, w32_id, jdiv_nn, jshr_k, jand_255] <;> first | done | omega | assumption)) | (intros; simp (disch := omega) only [jst_eq, jst_ne, jst_ni, jst_o, jI_i, jcpy_out, w32_id, jdiv_nn, *] <;> first | done | omega) | (intros; simp (disch := omega) only [jst_eq, jst_ne, jst_ni, jst_o, jI_i, jcpy_out, w32_id, jdiv_nn] at * <;> first | done | omega | assumption) | (intros; first | rfl | (exfalso; omega) | ((repeat' apply And.intro) <;> first | assumption | rfl | omega | trivial))) -- o1 e1.1
  · (rw [jst_eq, m9.1]; exact w32_id (by omega) (by omega)) -- o2 e1.2
  · (first | assumption | omega | ((try dsimp only [jt2, jt3, jt4]); first | omega | (simp (disch := omega) only [jst_eq, jst_ne, jst_ni, jst_o, jI_i, jcpy_out, w32_id, jdiv_nn, jshr_k, jand_255] <;> first | done | omega | assumption)) | (intros; simp (disch := omega) only [jst_eq, jst_ne, jst_ni, jst_o, jI_i, jcpy_out, w32_id, jdiv_nn, *] <;> first | done | omega) | (intros; simp (disch := omega) only [jst_eq, jst_ne, jst_ni, jst_o, jI_i, jcpy_out, w32_id, jdiv_nn] at * <;> first | done | omega | assumption) | (intros; first | rfl | (exfalso; omega) | ((repeat' apply And.intro) <;> first | assumption | rfl | omega | trivial))) -- o3 e1.3
/-- a law's end -/
def l3M (B : Int → Int) (n a m room v w : Int) (ns : List (Int × Int)) (h : AH) (W : Int ⊕ Int) (t : Int) (h' : AH) : Prop := match W with
  | .inl z => t = 472 ∧ MF z h'
  | .inr q => t = 0 ∧ MS B n q h' ∧ h' a 12 = m + 1 ∧ (room = 1 → h' (a + 7) m = (ns.length : Int) ∧ h' (a + 8) (2 * m) = h 475 0 ∧ h' (a + 8) (2 * m + 1) = h 475 1 ∧ h' (a + 9) m = v ∧ h' (a + 10) m = w)
def frL3 (a m : Int) (h h' : AH) : Prop := ∀ b s, ¬ (b = 454 ∧ 26 ≤ s ∧ s ≤ 29) → ¬ (b = 472 ∧ (s = 6 ∨ s = 7)) → ¬ (b = a ∧ s = 12) → ¬ ((b = a + 7 ∨ b = a + 9 ∨ b = a + 10) ∧ s = m) → ¬ (b = a + 8 ∧ 2 * m ≤ s ∧ s ≤ 2 * m + 1) → h' b s = h b s
theorem vX14_law_j303 (a1 : Int) (a3 : Int) (a4 : Int) (a5 : Int) (a6 : Int) {h : AH} {B : Int → Int} {n q m : Int} {ns : List (Int × Int)} (hB : ∀ i, 0 ≤ i → i < n → 0 ≤ B i ∧ B i < 256) (t : TM B n h) (ms : MS B n q h) (lo : isX16 a1 ∧ h a1 12 = m ∧ 0 ≤ m ∧ m ≤ 4000) (rm : (a4 = 0 ∨ a4 = 1) ∧ (a4 = 1 → m < 4 ∧ a3 = m)) (nm : nmM B n ns h) : OK (gX14_law_j303 a1 a3 a4 a5 a6 h) (fun r => jt2 r fun t h' => (l3M B n a1 m a4 a5 a6 ns h (pW B n 59 q) t h') ∧ (frL3 a1 m h h')) := by
  have LA : a1 = 476 ∨ a1 = 615 := lo.1
  unfold gX14_law_j303
  refine OK_jb2 (vX14_passSign (B := B) (n := n) (q := q) _ (by exact t) (by exact hB) (by exact ms)) (fun t57 h59 r1 => ?_)
  try dsimp only [Sum.elim_inl, Sum.elim_inr, jt2, jt3, jt4, jt5, jt6, jt7, jt8] at r1
  obtain ⟨r1, fr1⟩ := r1
  try simp (disch := omega) only [jst_eq, jst_ne, jst_ni, jI_i, jcmp_lt, jcmp_gt, w32_id, jcpy_out, Sum.elim_inl, Sum.elim_inr, jt2, jt3, jt4, jt5, jt6, jt7, jt8] at r1
  try simp (disch := omega) only [jst_eq, jst_ne, jst_ni, jI_i, jcmp_lt, jcmp_gt, w32_id, jcpy_out, Sum.elim_inl, Sum.elim_inr, jt2, jt3, jt4, jt5, jt6, jt7, jt8] at fr1
  refine OK_jq (fun c1 => ?_) (fun c1 => ?_)
  · skip
    refine OK_some ?_
    try dsimp only [Sum.elim_inl, Sum.elim_inr, jt2, jt3, jt4, jt5, jt6, jt7, jt8]
    try dsimp only [Sum.elim_inl, Sum.elim_inr, jt2, jt3, jt4, jt5, jt6, jt7, jt8]
    refine ⟨?_, ?_⟩
    · (obtain ⟨z, e, t1, mf⟩ := rM_l r1 c1; rw [e]; exact ⟨t1, mf⟩) -- o4 e1.1
    · exact fun b s y1 y2 _ _ _ => fr1 b s y1 y2 -- o5 e1.2
  · skip
    obtain ⟨w, ew, ms2⟩ := rM_r r1 c1
    have M12 : h59 a1 12 = m := (fr1 _ _ (by omega) (by omega)).trans lo.2.1
    have N34 : h59 454 34 = (ns.length : Int) := (fr1 _ _ (by omega) (by omega)).trans nm.1
    have A0 : h59 475 0 = h 475 0 := fr1 _ _ (by omega) (by omega)
    have A1 : h59 475 1 = h 475 1 := fr1 _ _ (by omega) (by omega)
    refine OK_if (fun c2 => ?_) (fun c2 => ?_)
    · skip
      try simp (disch := omega) only [jst_eq, jst_ne, jst_ni, jI_i, jcmp_lt, jcmp_gt, w32_id, jcpy_out, Sum.elim_inl, Sum.elim_inr, jt2, jt3, jt4, jt5, jt6, jt7, jt8] at c2
      refine OK_mono (vX14_law_j370 (m := m) _ (by exact ⟨M12, lo.2.2.1, by omega⟩)) (fun r r2 => ?_)
      obtain ⟨y1, y2⟩ := r
      try dsimp only [Sum.elim_inl, Sum.elim_inr, jt2, jt3, jt4, jt5, jt6, jt7, jt8] at r2
      obtain ⟨t02, v2, fr2⟩ := r2
      try simp (disch := omega) only [jst_eq, jst_ne, jst_ni, jI_i, jcmp_lt, jcmp_gt, w32_id, jcpy_out, Sum.elim_inl, Sum.elim_inr, jt2, jt3, jt4, jt5, jt6, jt7, jt8] at t02
      try simp (disch := omega) only [jst_eq, jst_ne, jst_ni, jI_i, jcmp_lt, jcmp_gt, w32_id, jcpy_out, Sum.elim_inl, Sum.elim_inr, jt2, jt3, jt4, jt5, jt6, jt7, jt8] at v2
      try simp (disch := omega) only [jst_eq, jst_ne, jst_ni, jI_i, jcmp_lt, jcmp_gt, w32_id, jcpy_out, Sum.elim_inl, Sum.elim_inr, jt2, jt3, jt4, jt5, jt6, jt7, jt8] at fr2
      try dsimp only [Sum.elim_inl, Sum.elim_inr, jt2, jt3, jt4, jt5, jt6, jt7, jt8]
      try dsimp only [Sum.elim_inl, Sum.elim_inr, jt2, jt3, jt4, jt5, jt6, jt7, jt8]
      refine ⟨?_, ?_⟩
      · (rw [ew]; exact ⟨t02, MS_fr ms2 (fun s s0 s1 => fr2 _ _ (by omega)), v2, fun z => by omega⟩) -- o7 e2.1
      · exact fun b s y1 y2 y3 _ _ => (fr2 b s y3).trans (fr1 b s y1 y2) -- o8 e2.2
    · skip
      try simp (disch := omega) only [jst_eq, jst_ne, jst_ni, jI_i, jcmp_lt, jcmp_gt, w32_id, jcpy_out, Sum.elim_inl, Sum.elim_inr, jt2, jt3, jt4, jt5, jt6, jt7, jt8] at c2
      obtain ⟨m4, e3⟩ := rm.2 (by omega)
      have W2 : w32 (2 * m) = 2 * m := w32_id (by omega) (by omega)
      have W3 : w32 (2 * m + 1) = 2 * m + 1 := w32_id (by omega) (by omega)
      rw [e3, W2, W3]
      refine OK_jg (by (first | assumption | omega | ((try dsimp only [jt2, jt3, jt4]); first | omega | (simp (disch := omega) only [jst_eq, jst_ne, jst_ni, jst_o, jI_i, jcpy_out, w32_id, jdiv_nn, jshr_k, jand_255] <;> first | done | omega | assumption)) | (intros; simp (disch := omega) only [jst_eq, jst_ne, jst_ni, jst_o, jI_i, jcpy_out, w32_id, jdiv_nn, *] <;> first | done | omega) | (intros; simp (disch := omega) only [jst_eq, jst_ne, jst_ni, jst_o, jI_i, jcpy_out, w32_id, jdiv_nn] at * <;> first | done | omega | assumption) | (intros; first | rfl | (exfalso; omega) | ((repeat' apply And.intro) <;> first | assumption | rfl | omega | trivial)))) ?_ -- o9
      refine OK_jl ?_
      have F62 : ∀ b s, ¬ (b = a1 + 7 ∧ s = m) → jst h59 (a1 + 7) m (h59 454 34) b s = h59 b s := fun b s y => jst_o y
      have V62 : jst h59 (a1 + 7) m (h59 454 34) (a1 + 7) m = (ns.length : Int) := jst_eq.trans N34
      generalize jst h59 (a1 + 7) m (h59 454 34) = g62 at *
      refine OK_jg (by (first | assumption | omega | ((try dsimp only [jt2, jt3, jt4]); first | omega | (simp (disch := omega) only [jst_eq, jst_ne, jst_ni, jst_o, jI_i, jcpy_out, w32_id, jdiv_nn, jshr_k, jand_255] <;> first | done | omega | assumption)) | (intros; simp (disch := omega) only [jst_eq, jst_ne, jst_ni, jst_o, jI_i, jcpy_out, w32_id, jdiv_nn, *] <;> first | done | omega) | (intros; simp (disch := omega) only [jst_eq, jst_ne, jst_ni, jst_o, jI_i, jcpy_out, w32_id, jdiv_nn] at * <;> first | done | omega | assumption) | (intros; first | rfl | (exfalso; omega) | ((repeat' apply And.intro) <;> first | assumption | rfl | omega | trivial)))) ?_ -- o10
      refine OK_jl ?_
      have F63 : ∀ b s, ¬ (b = a1 + 8 ∧ s = 2 * m) → jst g62 (a1 + 8) (2 * m) (g62 475 0) b s = g62 b s := fun b s y => jst_o y
      have V63 : jst g62 (a1 + 8) (2 * m) (g62 475 0) (a1 + 8) (2 * m) = h 475 0 := jst_eq.trans ((F62 _ _ (by omega)).trans A0)
      generalize jst g62 (a1 + 8) (2 * m) (g62 475 0) = g63 at *
      refine OK_jg (by (first | assumption | omega | ((try dsimp only [jt2, jt3, jt4]); first | omega | (simp (disch := omega) only [jst_eq, jst_ne, jst_ni, jst_o, jI_i, jcpy_out, w32_id, jdiv_nn, jshr_k, jand_255] <;> first | done | omega | assumption)) | (intros; simp (disch := omega) only [jst_eq, jst_ne, jst_ni, jst_o, jI_i, jcpy_out, w32_id, jdiv_nn, *] <;> first | done | omega) | (intros; simp (disch := omega) only [jst_eq, jst_ne, jst_ni, jst_o, jI_i, jcpy_out, w32_id, jdiv_nn] at * <;> first | done | omega | assumption) | (intros; first | rfl | (exfalso; omega) | ((repeat' apply And.intro) <;> first | assumption | rfl | omega | trivial)))) ?_ -- o11
      refine OK_jl ?_
      have F64 : ∀ b s, ¬ (b = a1 + 8 ∧ s = 2 * m + 1) → jst g63 (a1 + 8) (2 * m + 1) (g63 475 1) b s = g63 b s := fun b s y => jst_o y
      have V64 : jst g63 (a1 + 8) (2 * m + 1) (g63 475 1) (a1 + 8) (2 * m + 1) = h 475 1 := jst_eq.trans ((F63 _ _ (by omega)).trans ((F62 _ _ (by omega)).trans A1))
      generalize jst g63 (a1 + 8) (2 * m + 1) (g63 475 1) = g64 at *
      refine OK_jl ?_
      have F65 : ∀ b s, ¬ (b = a1 + 9 ∧ s = m) → jst g64 (a1 + 9) m a5 b s = g64 b s := fun b s y => jst_o y
      have V65 : jst g64 (a1 + 9) m a5 (a1 + 9) m = a5 := jst_eq
      generalize jst g64 (a1 + 9) m a5 = g65 at *
      refine OK_jl ?_
      have F66 : ∀ b s, ¬ (b = a1 + 10 ∧ s = m) → jst g65 (a1 + 10) m a6 b s = g65 b s := fun b s y => jst_o y
      have V66 : jst g65 (a1 + 10) m a6 (a1 + 10) m = a6 := jst_eq
      generalize jst g65 (a1 + 10) m a6 = g66 at *
      have FA : ∀ b s, ¬ ((b = a1 + 7 ∨ b = a1 + 9 ∨ b = a1 + 10) ∧ s = m) → ¬ (b = a1 + 8 ∧ 2 * m ≤ s ∧ s ≤ 2 * m + 1) → g66 b s = h59 b s := fun b s y1 y2 => (F66 b s (by omega)).trans ((F65 b s (by omega)).trans ((F64 b s (by omega)).trans ((F63 b s (by omega)).trans (F62 b s (by omega)))))
      refine OK_mono (vX14_law_j370 (m := m) _ (by exact ⟨(FA _ _ (by omega) (by omega)).trans M12, lo.2.2.1, by omega⟩)) (fun r r3 => ?_)
      obtain ⟨y3, y4⟩ := r
      try dsimp only [Sum.elim_inl, Sum.elim_inr, jt2, jt3, jt4, jt5, jt6, jt7, jt8] at r3
      obtain ⟨t03, v3, fr3⟩ := r3
      try simp (disch := omega) only [jst_eq, jst_ne, jst_ni, jI_i, jcmp_lt, jcmp_gt, w32_id, jcpy_out, Sum.elim_inl, Sum.elim_inr, jt2, jt3, jt4, jt5, jt6, jt7, jt8] at t03
      try simp (disch := omega) only [jst_eq, jst_ne, jst_ni, jI_i, jcmp_lt, jcmp_gt, w32_id, jcpy_out, Sum.elim_inl, Sum.elim_inr, jt2, jt3, jt4, jt5, jt6, jt7, jt8] at v3
      try simp (disch := omega) only [jst_eq, jst_ne, jst_ni, jI_i, jcmp_lt, jcmp_gt, w32_id, jcpy_out, Sum.elim_inl, Sum.elim_inr, jt2, jt3, jt4, jt5, jt6, jt7, jt8] at fr3
      try dsimp only [Sum.elim_inl, Sum.elim_inr, jt2, jt3, jt4, jt5, jt6, jt7, jt8]
      try dsimp only [Sum.elim_inl, Sum.elim_inr, jt2, jt3, jt4, jt5, jt6, jt7, jt8]
      refine ⟨?_, ?_⟩
      · (rw [ew]; refine ⟨t03, MS_fr ms2 (fun s s0 s1 => (fr3 _ _ (by omega)).trans (FA _ _ (by omega) (by omega))), v3, fun _ => ⟨?_, ?_, ?_, ?_, ?_⟩⟩; { rw [fr3 _ _ (by omega), F66 _ _ (by omega), F65 _ _ (by omega), F64 _ _ (by omega), F63 _ _ (by omega)]; exact V62 }; { rw [fr3 _ _ (by omega), F66 _ _ (by omega), F65 _ _ (by omega), F64 _ _ (by omega)]; exact V63 }; { rw [fr3 _ _ (by omega), F66 _ _ (by omega), F65 _ _ (by omega)]; exact V64 }; { rw [fr3 _ _ (by omega), F66 _ _ (by omega)]; exact V65 }; { rw [fr3 _ _ (by omega)]; exact V66 }) -- o13 e3.1
      · exact fun b s y1 y2 y3 y4 y5 => (fr3 b s y3).trans ((FA b s y4 y5).trans (fr1 b s y1 y2)) -- o14 e3.2
/-- a law that m has -/
def lwkM (B : Int → Int) (n a N : Int) (E : EV) (ks : List Int) (la m : Int) (r : LWt) (h : AH) : Prop := (h (a + 7) m = (r.1.length : Int) ∧ r.1.length ≤ 2) ∧ (∀ k, 0 ≤ k → k < (r.1.length : Int) → h (a + 8) (2 * m + k) = kch (nmN r.1 k).2 ∧ 0 ≤ (nmN r.1 k).2 ∧ (nmN r.1 k).2 ≤ 2) ∧ (N ≤ h (a + 9) m ∧ h (a + 9) m + sz r.2.1 ≤ h 454 17 ∧ dnM h (EVA B n E ks la r.1) r.2.1 (h (a + 9) m)) ∧ (N ≤ h (a + 10) m ∧ h (a + 10) m + sz r.2.2 ≤ h 454 17 ∧ dnM h (EVA B n E ks la r.1) r.2.2 (h (a + 10) m))
def lmG (B : Int → Int) (n a : Int) (ks : List Int) (la i m : Int) (E : EV) (Rf : Int → TR) (room N D : Int) (K : LWt → Int) (W : Int ⊕ (LWt × Int)) (t : Int) (h' : AH) : Prop := match W with
  | .inl z => t = 472 ∧ MF z h'
  | .inr (r, q) => t = 0 ∧ MS B n q h' ∧ lmR B n a ks la i (m + 1) E Rf h' ∧ MK h' = K r ∧ (room = 1 → lwkM B n a N E ks la m r h') ∧ N ≤ h' 454 17 ∧ 2 * (h' 454 17 - D) ≤ q
def frLW (a m N D : Int) (h h' : AH) : Prop := ∀ b s, ¬ (b = 454 ∧ (s = 17 ∨ (26 ≤ s ∧ s ≤ 31) ∨ s = 34)) → ¬ (b = 472 ∧ (s = 6 ∨ s = 7)) → ¬ (460 ≤ b ∧ b ≤ 470 ∧ b ≠ 464 ∧ N ≤ s ∧ s < D + 1100) → ¬ (b = 464 ∧ 3 * N ≤ s ∧ s < 3 * D + 3300) → ¬ ((b = 474 ∨ b = 475) ∧ 0 ≤ s ∧ s < 3) → ¬ (b = a ∧ s = 12) → ¬ ((b = a + 7 ∨ b = a + 9 ∨ b = a + 10) ∧ s = m) → ¬ (b = a + 8 ∧ 2 * m ≤ s ∧ s ≤ 2 * m + 1) → h' b s = h b s
theorem frLW_t {a m N D : Int} {h h1 h2 : AH} (x : frLW a m N D h h1) (y : frLW a m N D h1 h2) : frLW a m N D h h2 := fun b s y1 y2 y3 y4 y5 y6 y7 y8 => (y b s y1 y2 y3 y4 y5 y6 y7 y8).trans (x b s y1 y2 y3 y4 y5 y6 y7 y8)
theorem frLW_c {a m N D : Int} {h h' : AH} (D0 : 0 ≤ N ∧ D ≤ 1100 ∧ 0 ≤ m) (f : frLW a m N D h h') : ∀ b s, ¬ lmC a b s → h' b s = h b s := fun b s y => by
  unfold lmC at y
  exact f b s (by omega) (by omega) (by omega) (by omega) (by omega) (by omega) (by omega) (by omega)
theorem lw_finM {B : Int → Int} {n a la i m a4 N D q6 t : Int} {ks : List Int} {E : EV} {Rf : Int → TR} {ns : List (Int × Int)} {T1 T2 : TR} {K : LWt → Int} {h h50 hx h' : AH} (lr : lmR B n a ks la i m E Rf h) (D0 : 0 ≤ D ∧ D ≤ 1100 ∧ D ≤ N ∧ m ≤ 4000) (F50 : frLW a m N D h h50) (X50 : h50 454 17 = N + sz T1 + sz T2) (tb : N + sz T1 + sz T2 ≤ D + 1100) (q7b : ∀ q7, pW B n 59 q6 = .inr q7 → 2 * (N + sz T1 + sz T2 - D) ≤ q7) (d1 : dnM h50 (EVA B n E ks la ns) T1 N) (d2 : dnM h50 (EVA B n E ks la ns) T2 (N + sz T1)) (nm : nmM B n ns h50) (fx : ∀ b s, ¬ (b = 454 ∧ (s = 30 ∨ s = 31)) → hx b s = h50 b s) (mi : MI hx) (mk : MK hx = K (ns, T1, T2)) (ok : l3M B n a m a4 N (N + sz T1) ns hx (pW B n 59 q6) t h') (f : frL3 a m hx h') : lmG B n a ks la i m E Rf a4 N D K (bS (pW B n 59 q6) fun q7 => .inr ((ns, T1, T2), q7)) t h' ∧ frLW a m N D h h' := by
  have LA : a = 476 ∨ a = 615 := lr.1.2.2.1
  have m0 := lr.2.1
  have s1 := sz_pos T1
  have s2 := sz_pos T2
  have F : frLW a m N D h h' := fun b s y1 y2 y3 y4 y5 y6 y7 y8 => (f b s (by omega) y2 y6 y7 y8).trans ((fx b s (by omega)).trans (F50 b s y1 y2 y3 y4 y5 y6 y7 y8))
  refine ⟨?_, F⟩
  cases e : pW B n 59 q6 with
  | inl z => rw [e] at ok; exact ok
  | inr q7 =>
    rw [e] at ok
    obtain ⟨o1, o2, o3, o4⟩ := ok
    have E17 : h' 454 17 = N + sz T1 + sz T2 := by rw [f _ _ (by omega) (by omega) (by omega) (by omega) (by omega), fx _ _ (by omega)]; exact X50
    have I : MI h' := MI_fr (f _ _ (by omega) (by omega) (by omega) (by omega) (by omega)) (f _ _ (by omega) (by omega) (by omega) (by omega) (by omega)) mi
    have G : ∀ lo hi, agR lo hi h50 h' := fun lo hi => ⟨fun b s b0 b1 b2 _ _ => (f b s (by omega) (by omega) (by omega) (by omega) (by omega)).trans (fx b s (by omega)), fun s _ _ => (f _ s (by omega) (by omega) (by omega) (by omega) (by omega)).trans (fx _ s (by omega))⟩
    refine ⟨o1, o2, lmR_f lr (frLW_c ⟨by omega, by omega, m0.2.1⟩ F) I ⟨(F _ _ (by omega) (by omega) (by omega) (by omega) (by omega) (by omega) (by omega) (by omega)).trans lr.1.2.2.2.2.2.1.1, lr.1.2.2.2.2.2.1.2⟩ ⟨o3, by omega, by omega⟩ (by omega), ?_, fun z => ?_, by omega, ?_⟩
    · rw [MK_fr (f _ _ (by omega) (by omega) (by omega) (by omega) (by omega)) (f _ _ (by omega) (by omega) (by omega) (by omega) (by omega))]; exact mk
    · obtain ⟨w1, w2, w3, w4, w5⟩ := o4 z
      obtain ⟨n1, n2, n3⟩ := nm
      refine ⟨⟨w1, n2⟩, fun k k0 k1 => ?_, ⟨by show N ≤ h' (a + 9) m; omega, by show h' (a + 9) m + sz T1 ≤ _; omega, ?_⟩, ⟨by show N ≤ h' (a + 10) m; omega, by show h' (a + 10) m + sz T2 ≤ _; omega, ?_⟩⟩
      · have k1' : k < (ns.length : Int) := k1
        have y := n3 k.toNat (nmN ns k) (nmN_g k0 k1')
        rw [show ((k.toNat : Nat) : Int) = k by omega, ← fx 475 k (by omega)] at y
        refine ⟨?_, y.2.2⟩
        rcases (by omega : k = 0 ∨ k = 1) with z | z
        · rw [z] at y ⊢
          rw [Int.add_zero, w2]; exact y.2.1
        · rw [z] at y ⊢
          rw [w3]; exact y.2.1
      · show dnM h' _ T1 (h' (a + 9) m)
        rw [w4]; exact dnM_f d1 (G _ _)
      · show dnM h' _ T2 (h' (a + 10) m)
        rw [w5]; exact dnM_f d2 (G _ _)
    · rw [E17]; exact q7b q7 e

