/-! m: what meets -/
theorem vX14_pointOf_l16 (i1 : Int) (a20 : Int) (a30 : Int) {h : AH} {n : Int} {kf vf : Int → Int} (x : isX16 (h 454 38) ∧ h (h 454 38) 3 = n ∧ 0 ≤ n ∧ n ≤ 3 ∧ 0 ≤ i1 ∧ i1 < 12) (cc : ∀ k, 0 ≤ k → k < n → h (h 454 38 + 1) k = kch (kf k) ∧ h (h 454 38 + 5) (3 * i1 + k) = vf k ∧ 0 ≤ vf k ∧ vf k < bsK (kf k)) (z : a20 = 0 ∧ a30 = 0) : OK (gX14_pointOf_l16 i1 a20 a30 h) (fun v => v = ptf kf vf n.toNat) := by
  unfold gX14_pointOf_l16
  refine OK_jit (I := (fun (s : Int × Int) => jt2 s fun a2 a3 => (0 ≤ a3 ∧ a3 ≤ n) ∧ (a2 = ptf kf vf a3.toNat))) (m := (fun (s : Int × Int) => jt2 s fun a2 a3 => (n - a3).toNat)) ?_ ?_
  · intro s hs
    obtain ⟨a2, a3⟩ := s
    dsimp only [Sum.elim_inl, Sum.elim_inr, jt2, jt3, jt4, jt5, jt6, jt7, jt8] at hs
    obtain ⟨q0, q1⟩ := hs
    unfold gX14_pointOf_b16
    refine OK_jt2 ?_
    obtain ⟨x1, x2, x3, x4, x5, x6⟩ := x
    have pr := ptf_r (kf := kf) (vf := vf) a3.toNat (fun k k0 k1 => (cc k k0 (by omega)).2.2)
    have p3 := p16_3 (m := a3.toNat) (by omega)
    refine OK_jg (by (first | assumption | omega | ((try dsimp only [jt2, jt3, jt4]); first | omega | (simp (disch := omega) only [jst_eq, jst_ne, jst_ni, jst_o, jI_i, jcpy_out, w32_id, jdiv_nn, jshr_k, jand_255] <;> first | done | omega | assumption)) | (intros; simp (disch := omega) only [jst_eq, jst_ne, jst_ni, jst_o, jI_i, jcpy_out, w32_id, jdiv_nn, *] <;> first | done | omega) | (intros; simp (disch := omega) only [jst_eq, jst_ne, jst_ni, jst_o, jI_i, jcpy_out, w32_id, jdiv_nn] at * <;> first | done | omega | assumption) | (intros; first | rfl | (exfalso; omega) | ((repeat' apply And.intro) <;> first | assumption | rfl | omega | trivial)))) ?_ -- o1
    refine OK_if (fun c1 => ?_) (fun c1 => ?_)
    · skip
      try simp (disch := omega) only [jst_eq, jst_ne, jst_ni, jI_i, jcmp_lt, jcmp_gt, w32_id, jcpy_out, Sum.elim_inl, Sum.elim_inr, jt2, jt3, jt4, jt5, jt6, jt7, jt8] at c1
      refine OK_ir ?_
      (rw [q1, show a3 = n by omega]) -- o2 e1
    · skip
      try simp (disch := omega) only [jst_eq, jst_ne, jst_ni, jI_i, jcmp_lt, jcmp_gt, w32_id, jcpy_out, Sum.elim_inl, Sum.elim_inr, jt2, jt3, jt4, jt5, jt6, jt7, jt8] at c1
      have ck := cc a3 (by omega) (by omega)
      have bk := bsK_r (kf a3)
      have mm : 0 ≤ ptf kf vf a3.toNat * bsK (kf a3) ∧ ptf kf vf a3.toNat * bsK (kf a3) ≤ 65536 := ⟨Int.mul_nonneg pr.1 (by omega), by { have := Int.mul_le_mul (show ptf kf vf a3.toNat ≤ 4096 by omega) bk.2 (by omega) (show (0 : Int) ≤ 4096 by decide); omega }⟩
      have st : ptf kf vf (a3 + 1).toNat = ptf kf vf a3.toNat * bsK (kf a3) + vf a3 := by { rw [show (a3 + 1).toNat = a3.toNat + 1 by omega]; show _ * bsK (kf ((a3.toNat : Nat) : Int)) + vf ((a3.toNat : Nat) : Int) = _; rw [show ((a3.toNat : Nat) : Int) = a3 by omega] }
      have iw : w32 (w32 (3 * i1) + a3) = 3 * i1 + a3 := by { rw [w32_id (x := 3 * i1) (by omega) (by omega), w32_id (by omega) (by omega)] }
      refine OK_jg (by (first | assumption | omega | ((try dsimp only [jt2, jt3, jt4]); first | omega | (simp (disch := omega) only [jst_eq, jst_ne, jst_ni, jst_o, jI_i, jcpy_out, w32_id, jdiv_nn, jshr_k, jand_255] <;> first | done | omega | assumption)) | (intros; simp (disch := omega) only [jst_eq, jst_ne, jst_ni, jst_o, jI_i, jcpy_out, w32_id, jdiv_nn, *] <;> first | done | omega) | (intros; simp (disch := omega) only [jst_eq, jst_ne, jst_ni, jst_o, jI_i, jcpy_out, w32_id, jdiv_nn] at * <;> first | done | omega | assumption) | (intros; first | rfl | (exfalso; omega) | ((repeat' apply And.intro) <;> first | assumption | rfl | omega | trivial)))) ?_ -- o3
      refine OK_jb (vX14_base (k := kf a3) _ (by (first | assumption | omega | ((try dsimp only [jt2, jt3, jt4]); first | omega | (simp (disch := omega) only [jst_eq, jst_ne, jst_ni, jst_o, jI_i, jcpy_out, w32_id, jdiv_nn, jshr_k, jand_255] <;> first | done | omega | assumption)) | (intros; simp (disch := omega) only [jst_eq, jst_ne, jst_ni, jst_o, jI_i, jcpy_out, w32_id, jdiv_nn, *] <;> first | done | omega) | (intros; simp (disch := omega) only [jst_eq, jst_ne, jst_ni, jst_o, jI_i, jcpy_out, w32_id, jdiv_nn] at * <;> first | done | omega | assumption) | (intros; first | rfl | (exfalso; omega) | ((repeat' apply And.intro) <;> first | assumption | rfl | omega | trivial))))) (fun v6 r1 => ?_)
      try dsimp only [Sum.elim_inl, Sum.elim_inr, jt2, jt3, jt4, jt5, jt6, jt7, jt8] at r1
      have bv1 := r1
      clear r1
      try simp (disch := omega) only [jst_eq, jst_ne, jst_ni, jI_i, jcmp_lt, jcmp_gt, w32_id, jcpy_out, Sum.elim_inl, Sum.elim_inr, jt2, jt3, jt4, jt5, jt6, jt7, jt8] at bv1
      refine OK_jg (by (first | assumption | omega | ((try dsimp only [jt2, jt3, jt4]); first | omega | (simp (disch := omega) only [jst_eq, jst_ne, jst_ni, jst_o, jI_i, jcpy_out, w32_id, jdiv_nn, jshr_k, jand_255] <;> first | done | omega | assumption)) | (intros; simp (disch := omega) only [jst_eq, jst_ne, jst_ni, jst_o, jI_i, jcpy_out, w32_id, jdiv_nn, *] <;> first | done | omega) | (intros; simp (disch := omega) only [jst_eq, jst_ne, jst_ni, jst_o, jI_i, jcpy_out, w32_id, jdiv_nn] at * <;> first | done | omega | assumption) | (intros; first | rfl | (exfalso; omega) | ((repeat' apply And.intro) <;> first | assumption | rfl | omega | trivial)))) ?_ -- o5
      refine OK_jlx (fun x7 ex7 => ?_)
      try simp (disch := omega) only [jst_eq, jst_ne, jst_ni, jI_i, jcmp_lt, jcmp_gt, w32_id, jcpy_out, Sum.elim_inl, Sum.elim_inr, jt2, jt3, jt4, jt5, jt6, jt7, jt8] at ex7
      refine OK_jlx (fun x8 ex8 => ?_)
      try simp (disch := omega) only [jst_eq, jst_ne, jst_ni, jI_i, jcmp_lt, jcmp_gt, w32_id, jcpy_out, Sum.elim_inl, Sum.elim_inr, jt2, jt3, jt4, jt5, jt6, jt7, jt8] at ex8
      refine OK_il ?_ ?_
      · try dsimp only [Sum.elim_inl, Sum.elim_inr, jt2, jt3, jt4, jt5, jt6, jt7, jt8]
        refine ⟨?_, ?_⟩
        · (first | assumption | omega | ((try dsimp only [jt2, jt3, jt4]); first | omega | (simp (disch := omega) only [jst_eq, jst_ne, jst_ni, jst_o, jI_i, jcpy_out, w32_id, jdiv_nn, jshr_k, jand_255] <;> first | done | omega | assumption)) | (intros; simp (disch := omega) only [jst_eq, jst_ne, jst_ni, jst_o, jI_i, jcpy_out, w32_id, jdiv_nn, *] <;> first | done | omega) | (intros; simp (disch := omega) only [jst_eq, jst_ne, jst_ni, jst_o, jI_i, jcpy_out, w32_id, jdiv_nn] at * <;> first | done | omega | assumption) | (intros; first | rfl | (exfalso; omega) | ((repeat' apply And.intro) <;> first | assumption | rfl | omega | trivial))) -- o6 e2i.1
        · (rw [show x8 = a3 + 1 by omega, st, ex7, bv1, q1]; (first | rw [iw] | skip); rw [ck.2.1, w32_id (x := _ * _) (by omega) (by omega), w32_id (by omega) (by omega)]) -- o7 e2i.2
      · (first | assumption | omega | ((try dsimp only [jt2, jt3, jt4]); first | omega | (simp (disch := omega) only [jst_eq, jst_ne, jst_ni, jst_o, jI_i, jcpy_out, w32_id, jdiv_nn, jshr_k, jand_255] <;> first | done | omega | assumption)) | (intros; simp (disch := omega) only [jst_eq, jst_ne, jst_ni, jst_o, jI_i, jcpy_out, w32_id, jdiv_nn, *] <;> first | done | omega) | (intros; simp (disch := omega) only [jst_eq, jst_ne, jst_ni, jst_o, jI_i, jcpy_out, w32_id, jdiv_nn] at * <;> first | done | omega | assumption) | (intros; first | rfl | (exfalso; omega) | ((repeat' apply And.intro) <;> first | assumption | rfl | omega | trivial))) -- o8 e2m
  · try dsimp only [Sum.elim_inl, Sum.elim_inr, jt2, jt3, jt4, jt5, jt6, jt7, jt8]
    refine ⟨?_, ?_⟩
    · (first | assumption | omega | ((try dsimp only [jt2, jt3, jt4]); first | omega | (simp (disch := omega) only [jst_eq, jst_ne, jst_ni, jst_o, jI_i, jcpy_out, w32_id, jdiv_nn, jshr_k, jand_255] <;> first | done | omega | assumption)) | (intros; simp (disch := omega) only [jst_eq, jst_ne, jst_ni, jst_o, jI_i, jcpy_out, w32_id, jdiv_nn, *] <;> first | done | omega) | (intros; simp (disch := omega) only [jst_eq, jst_ne, jst_ni, jst_o, jI_i, jcpy_out, w32_id, jdiv_nn] at * <;> first | done | omega | assumption) | (intros; first | rfl | (exfalso; omega) | ((repeat' apply And.intro) <;> first | assumption | rfl | omega | trivial))) -- o9 init.1
    · (rw [z.1, z.2]; rfl) -- o10 init.2
theorem vX14_pointOf (a1 : Int) {h : AH} {n wh : Int} {kf rv : Int → Int} (x : isX16 (h 454 38) ∧ h (h 454 38) 3 = n ∧ 0 ≤ n ∧ n ≤ 3 ∧ 0 ≤ a1 ∧ a1 < 12 ∧ h (h 454 38) 17 = wh) (cc : ∀ k, 0 ≤ k → k < n → h (h 454 38 + 1) k = kch (kf k)) (w : wh ≠ 0 → ∀ k, 0 ≤ k → k < n → h (h 454 38 + 5) (3 * a1 + k) = rv (3 * a1 + k) ∧ 0 ≤ rv (3 * a1 + k) ∧ rv (3 * a1 + k) < bsK (kf k)) : OK (gX14_pointOf a1 h) (fun v => v = rpA n kf wh rv a1) := by
  unfold gX14_pointOf
  refine OK_jg (by (first | assumption | omega | ((try dsimp only [jt2, jt3, jt4]); first | omega | (simp (disch := omega) only [jst_eq, jst_ne, jst_ni, jst_o, jI_i, jcpy_out, w32_id, jdiv_nn, jshr_k, jand_255] <;> first | done | omega | assumption)) | (intros; simp (disch := omega) only [jst_eq, jst_ne, jst_ni, jst_o, jI_i, jcpy_out, w32_id, jdiv_nn, *] <;> first | done | omega) | (intros; simp (disch := omega) only [jst_eq, jst_ne, jst_ni, jst_o, jI_i, jcpy_out, w32_id, jdiv_nn] at * <;> first | done | omega | assumption) | (intros; first | rfl | (exfalso; omega) | ((repeat' apply And.intro) <;> first | assumption | rfl | omega | trivial)))) ?_ -- o1
  refine OK_if (fun c1 => ?_) (fun c1 => ?_)
  · skip
    try simp (disch := omega) only [jst_eq, jst_ne, jst_ni, jI_i, jcmp_lt, jcmp_gt, w32_id, jcpy_out, Sum.elim_inl, Sum.elim_inr, jt2, jt3, jt4, jt5, jt6, jt7, jt8] at c1
    refine OK_some ?_
    try dsimp only [Sum.elim_inl, Sum.elim_inr, jt2, jt3, jt4, jt5, jt6, jt7, jt8]
    (unfold rpA; rw [if_pos (by omega)]) -- o2 e1
  · skip
    try simp (disch := omega) only [jst_eq, jst_ne, jst_ni, jI_i, jcmp_lt, jcmp_gt, w32_id, jcpy_out, Sum.elim_inl, Sum.elim_inr, jt2, jt3, jt4, jt5, jt6, jt7, jt8] at c1
    refine OK_jb (vX14_pointOf_l16 (n := n) (kf := kf) (vf := fun k => rv (3 * a1 + k)) _ _ _ (by exact ⟨x.1, x.2.1, x.2.2.1, x.2.2.2.1, x.2.2.2.2.1, x.2.2.2.2.2.1⟩) (by exact fun k k0 k1 => ⟨cc k k0 k1, w (by omega) k k0 k1⟩) (by (first | assumption | omega | ((try dsimp only [jt2, jt3, jt4]); first | omega | (simp (disch := omega) only [jst_eq, jst_ne, jst_ni, jst_o, jI_i, jcpy_out, w32_id, jdiv_nn, jshr_k, jand_255] <;> first | done | omega | assumption)) | (intros; simp (disch := omega) only [jst_eq, jst_ne, jst_ni, jst_o, jI_i, jcpy_out, w32_id, jdiv_nn, *] <;> first | done | omega) | (intros; simp (disch := omega) only [jst_eq, jst_ne, jst_ni, jst_o, jI_i, jcpy_out, w32_id, jdiv_nn] at * <;> first | done | omega | assumption) | (intros; first | rfl | (exfalso; omega) | ((repeat' apply And.intro) <;> first | assumption | rfl | omega | trivial))))) (fun o2 r1 => ?_)
    try dsimp only [Sum.elim_inl, Sum.elim_inr, jt2, jt3, jt4, jt5, jt6, jt7, jt8] at r1
    have pv1 := r1
    clear r1
    try simp (disch := omega) only [jst_eq, jst_ne, jst_ni, jI_i, jcmp_lt, jcmp_gt, w32_id, jcpy_out, Sum.elim_inl, Sum.elim_inr, jt2, jt3, jt4, jt5, jt6, jt7, jt8] at pv1
    refine OK_some ?_
    try dsimp only [Sum.elim_inl, Sum.elim_inr, jt2, jt3, jt4, jt5, jt6, jt7, jt8]
    (unfold rpA; rw [if_neg (by omega)]; exact pv1) -- o6 e2
def f2021 (h h' : AH) : Prop := ∀ a s, ¬ (a = 454 ∧ (s = 20 ∨ s = 21)) → h' a s = h a s
def sdM (h : AH) (E : EV) (np : Int) (kp : Int → Int) (R : TR) (d : Int) : Prop := (∀ z, vwM h (-1) z R d 0) ∧ tyT E np kp R 0 ∧ dpE E.1.2.2.2.1 R ≤ 99
def lwM (h : AH) (E : EV) (nn : Int → Int) (lk : Int → Int → Int) (LL LR : Int → TR) (l : Int) : Prop := 1 ≤ nn l ∧ nn l ≤ 2 ∧ h (h 454 38 + 7) l = nn l ∧ (∀ k, 0 ≤ k → k < nn l → h (h 454 38 + 8) (2 * l + k) = kch (lk l k) ∧ 0 ≤ lk l k ∧ lk l k ≤ 1) ∧ sdM h E (nn l) (lk l) (LL l) (h (h 454 38 + 9) l) ∧ sdM h E (nn l) (lk l) (LR l) (h (h 454 38 + 10) l)
/-- what asking whether answers meet needs: m -/
def mtM (h : AH) (E : EV) (Rf : Int → TR) (W : Int → Int → Int → VW) (hl : Int → Int) (n : Int) (kf : Int → Int) (wh : Int) (rv : Int → Int) (pts rn : Int) (ra : Int → Int) (ln : Int) (nn : Int → Int) (lk : Int → Int → Int) (LL LR : Int → TR) : Prop := (isX16 (h 454 38) ∧ (∀ f, fTy E f → enuM h E Rf W f (-1)) ∧ (∀ c, 0 ≤ c → c ≤ 2 → 0 ≤ hl c ∧ hl c ≤ 15)) ∧ (h (h 454 38) 3 = n ∧ 1 ≤ n ∧ n ≤ 3 ∧ (∀ k, 0 ≤ k → k < n → h (h 454 38 + 1) k = kch (kf k)) ∧ h (h 454 38) 17 = wh ∧ (wh ≠ 0 → ∀ r k, 0 ≤ r → r < rn → 0 ≤ k → k < n → h (h 454 38 + 5) (3 * r + k) = rv (3 * r + k) ∧ 0 ≤ rv (3 * r + k) ∧ rv (3 * r + k) < bsK (kf k))) ∧ (h (h 454 38) 9 = rn ∧ 0 ≤ rn ∧ rn ≤ 12 ∧ (∀ r, 0 ≤ r → r < rn → h (h 454 38 + 6) r = ra r ∧ 0 ≤ rpA n kf wh rv r ∧ rpA n kf wh rv r < pts) ∧ pts ≤ 256) ∧ (h (h 454 38) 12 = ln ∧ 0 ≤ ln ∧ ln ≤ 4 ∧ h (h 454 38 + 8) (-2) = 101 ∧ h (h 454 38 + 8) (-1) = 8 ∧ (∀ l, 0 ≤ l → l < ln → lwM h E nn lk LL LR l)) ∧ (0 < ln → E.2.2.1 = 1 ∧ (∀ k, 0 ≤ k → k < eO E (-2) → h (h 454 38 + 1) k = kch (eK E (-2) k) ∧ eK E (-2) k ≤ 1) ∧ ∀ x y z, vlR (eK E (-2) 0) x → (2 ≤ eO E (-2) → vlR (eK E (-2) 1) y) → (3 ≤ eO E (-2) → vlR (eK E (-2) 2) z) → ptE E x y z < pts)
theorem mtM_fr {h h' : AH} {E : EV} {Rf : Int → TR} {W : Int → Int → Int → VW} {hl ra : Int → Int} {n wh pts rn ln : Int} {kf rv nn : Int → Int} {lk : Int → Int → Int} {LL LR : Int → TR} (m : mtM h E Rf W hl n kf wh rv pts rn ra ln nn lk LL LR) (g : f2021 h h') : mtM h' E Rf W hl n kf wh rv pts rn ra ln nn lk LL LR := by
  obtain ⟨⟨a1, a2, a3⟩, ⟨b1, b2, b3, b4, b5, b6⟩, ⟨c1, c2, c3, c4, c5⟩, ⟨d1, d2, d3, d5, d6, d4⟩, e1⟩ := m
  have x : h 454 38 = 476 ∨ h 454 38 = 615 := a1
  have e : h' 454 38 = h 454 38 := g _ _ (by omega)
  have G : ∀ a s, a ≠ 454 → h' a s = h a s := fun a s y => g _ _ (by omega)
  unfold mtM
  rw [e]
  refine ⟨⟨a1, fun f y => enuM_f2 (a2 f y) (g _ _ (by omega)) (fun a s y1 y2 => G _ _ (by omega)), a3⟩, ⟨by rw [G _ _ (by omega)]; exact b1, b2, b3, fun k k0 k1 => by rw [G _ _ (by omega)]; exact b4 k k0 k1, by rw [G _ _ (by omega)]; exact b5, fun y r k r0 r1 k0 k1 => by rw [G _ _ (by omega)]; exact b6 y r k r0 r1 k0 k1⟩, ⟨by rw [G _ _ (by omega)]; exact c1, c2, c3, fun r r0 r1 => by rw [G _ _ (by omega)]; exact c4 r r0 r1, c5⟩, ⟨by rw [G _ _ (by omega)]; exact d1, d2, d3, by rw [G _ _ (by omega)]; exact d5, by rw [G _ _ (by omega)]; exact d6, fun l l0 l1 => ?_⟩, fun y => ⟨(e1 y).1, fun k k0 k1 => by rw [G _ _ (by omega)]; exact (e1 y).2.1 k k0 k1, (e1 y).2.2⟩⟩
  have S : ∀ {np d : Int} {kp : Int → Int} {R : TR}, sdM h E np kp R d → sdM h' E np kp R d := fun {np d kp R} s => ⟨fun z => vwM_fr (fun a s y1 y2 => G _ _ (by omega)) (s.1 z), s.2⟩
  obtain ⟨w1, w2, w3, w4, w5, w6⟩ := d4 l l0 l1
  unfold lwM
  rw [e, G _ l (by omega), G (h 454 38 + 9) l (by omega), G (h 454 38 + 10) l (by omega)]
  exact ⟨w1, w2, w3, fun k k0 k1 => by rw [G _ _ (by omega)]; exact w4 k k0 k1, S w5, S w6⟩
/-- a table of what is looked for -/
def tbM (h : AH) (pts : Int) (g : Int → Int) (a : Int) : Prop := h a (-2) = 101 ∧ a ≠ 454 ∧ pts ≤ h a (-1) ∧ ∀ p, 0 ≤ p → p < pts → h a p = g p
theorem tbM_fr {h h' : AH} {pts a : Int} {g : Int → Int} (t : tbM h pts g a) (f : f2021 h h') : tbM h' pts g a := by
  obtain ⟨t1, t2, t3, t4⟩ := t
  exact ⟨by rw [f _ _ (by omega)]; exact t1, t2, by rw [f _ _ (by omega)]; exact t3, fun p p0 p1 => by rw [f _ _ (by omega)]; exact t4 p p0 p1⟩
theorem mtM_sg {h : AH} {E : EV} {Rf : Int → TR} {W : Int → Int → Int → VW} {hl ra : Int → Int} {n wh pts rn ln : Int} {kf rv nn : Int → Int} {lk : Int → Int → Int} {LL LR : Int → TR} {g : Int → Int} {a : Int} (m : mtM h E Rf W hl n kf wh rv pts rn ra ln nn lk LL LR) (t : tbM h pts g a) (lp : 0 < ln) : sgM h E (fPt E g) a := by
  obtain ⟨⟨a1, -, -⟩, -, -, -, e⟩ := m
  obtain ⟨-, e1, e2⟩ := e lp
  exact ⟨a1, e1, t.1, t.2.1, fun x y z u v w => by have := e2 x y z u v w; have := t.2.2.1; exact ⟨by omega, t.2.2.2 _ (ptE_nn u v w) (e2 x y z u v w)⟩⟩
theorem mtM_fT {h : AH} {E : EV} {Rf : Int → TR} {W : Int → Int → Int → VW} {hl ra : Int → Int} {n wh pts rn ln : Int} {kf rv nn : Int → Int} {lk : Int → Int → Int} {LL LR : Int → TR} {g : Int → Int} (m : mtM h E Rf W hl n kf wh rv pts rn ra ln nn lk LL LR) (o : ∀ p, 0 ≤ p → p < pts → okV (eK E (-2) (eO E (-2))) (g p)) (lp : 0 < ln) : fTy E (fPt E g) := fun _ x y z u v w => o _ (ptE_nn u v w) ((m.2.2.2.2 lp).2.2 x y z u v w)
theorem mtM_pv {h : AH} {E : EV} {Rf : Int → TR} {W : Int → Int → Int → VW} {hl ra : Int → Int} {n wh pts rn ln : Int} {kf rv nn : Int → Int} {lk : Int → Int → Int} {LL LR : Int → TR} {g : Int → Int} {a np x y d : Int} {kp : Int → Int} {R : TR} (m : mtM h E Rf W hl n kf wh rv pts rn ra ln nn lk LL LR) (t : tbM h pts g a) (o : ∀ p, 0 ≤ p → p < pts → okV (eK E (-2) (eO E (-2))) (g p)) (w : h 454 21 = -1) (b : -9223372036854775808 ≤ h 454 20 ∧ h 454 20 < 9223372036854775808) (s : sdM h E np kp R d) (n0 : 1 ≤ np ∧ np ≤ 2) (k0 : vlR (kp 0) x) (k1 : np = 2 → vlR (kp 1) y) (lp : 0 < ln) : preV h E Rf W (fPt E g) (-1) 0 np kp x y 0 a R d := by
  refine ⟨m.1.2.1 _ (mtM_fT m o lp), s.1 0, s.2.1, w, Or.inl rfl, fun c c0 c1 => ?_, by omega, by omega, Or.inr (mtM_sg m t lp), b⟩
  unfold p3
  rcases (show c = 0 ∨ c = 1 by omega) with rfl | rfl
  · rw [if_pos rfl]; exact k0
  · rw [if_neg (by decide), if_pos rfl]; exact k1 (by omega)
theorem vX14_meets_2_l15 (i2 : Int) (a30 : Int) {h : AH} {E : EV} {Rf : Int → TR} {W : Int → Int → Int → VW} {hl ra : Int → Int} {n wh pts rn ln : Int} {kf rv nn : Int → Int} {lk : Int → Int → Int} {LL LR : Int → TR} {g : Int → Int} (m : mtM h E Rf W hl n kf wh rv pts rn ra ln nn lk LL LR) (t : tbM h pts g i2) (z : a30 = 0) : OK (gX14_meets_2_l15 i2 a30 h) (Sum.elim (fun _ => ¬ mtR g rn (rpA n kf wh rv) ra) (fun _ => mtR g rn (rpA n kf wh rv) ra)) := by
  unfold gX14_meets_2_l15
  refine OK_jit (I := (fun (a3 : Int) => (0 ≤ a3 ∧ a3 ≤ rn) ∧ (∀ r, 0 ≤ r → r < a3 → g (rpA n kf wh rv r) = ra r))) (m := (fun (a3 : Int) => (rn - a3).toNat)) ?_ ?_
  · intro a3 hs
    try dsimp only at hs
    obtain ⟨q0, q1⟩ := hs
    unfold gX14_meets_2_b15
    obtain ⟨⟨m1, m2, m3⟩, ⟨n1, n2, n3, n4, n5, n6⟩, ⟨k1, k2, k3, k4, k5⟩, ⟨l1, l2, l3, l4⟩, s1⟩ := m
    obtain ⟨t1, t2, t3, t4⟩ := t
    refine OK_jg (by (first | assumption | omega | ((try dsimp only [jt2, jt3, jt4]); first | omega | (simp (disch := omega) only [jst_eq, jst_ne, jst_ni, jst_o, jI_i, jcpy_out, w32_id, jdiv_nn, jshr_k, jand_255] <;> first | done | omega | assumption)) | (intros; simp (disch := omega) only [jst_eq, jst_ne, jst_ni, jst_o, jI_i, jcpy_out, w32_id, jdiv_nn, *] <;> first | done | omega) | (intros; simp (disch := omega) only [jst_eq, jst_ne, jst_ni, jst_o, jI_i, jcpy_out, w32_id, jdiv_nn] at * <;> first | done | omega | assumption) | (intros; first | rfl | (exfalso; omega) | ((repeat' apply And.intro) <;> first | assumption | rfl | omega | trivial)))) ?_ -- o1
    refine OK_if (fun c1 => ?_) (fun c1 => ?_)
    · skip
      try simp (disch := omega) only [jst_eq, jst_ne, jst_ni, jI_i, jcmp_lt, jcmp_gt, w32_id, jcpy_out, Sum.elim_inl, Sum.elim_inr, jt2, jt3, jt4, jt5, jt6, jt7, jt8] at c1
      refine OK_ir ?_
      (intro r r0 r1; exact q1 r r0 (by omega)) -- o2 e1
    · skip
      try simp (disch := omega) only [jst_eq, jst_ne, jst_ni, jI_i, jcmp_lt, jcmp_gt, w32_id, jcpy_out, Sum.elim_inl, Sum.elim_inr, jt2, jt3, jt4, jt5, jt6, jt7, jt8] at c1
      have R3 := k4 a3 q0.1 (by omega)
      refine OK_jb (vX14_pointOf (n := n) (wh := wh) (kf := kf) (rv := rv) _ (by exact ⟨m1, n1, by omega, n3, q0.1, by omega, n5⟩) (by exact n4) (by exact fun y k k0 k1 => n6 y a3 k q0.1 (by omega) k0 k1)) (fun v13 r1 => ?_)
      try dsimp only [Sum.elim_inl, Sum.elim_inr, jt2, jt3, jt4, jt5, jt6, jt7, jt8] at r1
      have pr1 := r1
      clear r1
      try simp (disch := omega) only [jst_eq, jst_ne, jst_ni, jI_i, jcmp_lt, jcmp_gt, w32_id, jcpy_out, Sum.elim_inl, Sum.elim_inr, jt2, jt3, jt4, jt5, jt6, jt7, jt8] at pr1
      have gv : h i2 v13 = g (rpA n kf wh rv a3) := by { rw [pr1]; exact t4 _ R3.2.1 R3.2.2 }
      refine OK_jg (by (first | assumption | omega | ((try dsimp only [jt2, jt3, jt4]); first | omega | (simp (disch := omega) only [jst_eq, jst_ne, jst_ni, jst_o, jI_i, jcpy_out, w32_id, jdiv_nn, jshr_k, jand_255] <;> first | done | omega | assumption)) | (intros; simp (disch := omega) only [jst_eq, jst_ne, jst_ni, jst_o, jI_i, jcpy_out, w32_id, jdiv_nn, *] <;> first | done | omega) | (intros; simp (disch := omega) only [jst_eq, jst_ne, jst_ni, jst_o, jI_i, jcpy_out, w32_id, jdiv_nn] at * <;> first | done | omega | assumption) | (intros; first | rfl | (exfalso; omega) | ((repeat' apply And.intro) <;> first | assumption | rfl | omega | trivial)))) ?_ -- o6
      refine OK_jg (by (first | assumption | omega | ((try dsimp only [jt2, jt3, jt4]); first | omega | (simp (disch := omega) only [jst_eq, jst_ne, jst_ni, jst_o, jI_i, jcpy_out, w32_id, jdiv_nn, jshr_k, jand_255] <;> first | done | omega | assumption)) | (intros; simp (disch := omega) only [jst_eq, jst_ne, jst_ni, jst_o, jI_i, jcpy_out, w32_id, jdiv_nn, *] <;> first | done | omega) | (intros; simp (disch := omega) only [jst_eq, jst_ne, jst_ni, jst_o, jI_i, jcpy_out, w32_id, jdiv_nn] at * <;> first | done | omega | assumption) | (intros; first | rfl | (exfalso; omega) | ((repeat' apply And.intro) <;> first | assumption | rfl | omega | trivial)))) ?_ -- o7
      refine OK_if (fun c2 => ?_) (fun c2 => ?_)
      · skip
        try simp (disch := omega) only [jst_eq, jst_ne, jst_ni, jI_i, jcmp_lt, jcmp_gt, w32_id, jcpy_out, Sum.elim_inl, Sum.elim_inr, jt2, jt3, jt4, jt5, jt6, jt7, jt8] at c2
        refine OK_jlx (fun x15 ex15 => ?_)
        try simp (disch := omega) only [jst_eq, jst_ne, jst_ni, jI_i, jcmp_lt, jcmp_gt, w32_id, jcpy_out, Sum.elim_inl, Sum.elim_inr, jt2, jt3, jt4, jt5, jt6, jt7, jt8] at ex15
        refine OK_il ?_ ?_
        · try dsimp only [Sum.elim_inl, Sum.elim_inr, jt2, jt3, jt4, jt5, jt6, jt7, jt8]
          refine ⟨?_, ?_⟩
          · (first | assumption | omega | ((try dsimp only [jt2, jt3, jt4]); first | omega | (simp (disch := omega) only [jst_eq, jst_ne, jst_ni, jst_o, jI_i, jcpy_out, w32_id, jdiv_nn, jshr_k, jand_255] <;> first | done | omega | assumption)) | (intros; simp (disch := omega) only [jst_eq, jst_ne, jst_ni, jst_o, jI_i, jcpy_out, w32_id, jdiv_nn, *] <;> first | done | omega) | (intros; simp (disch := omega) only [jst_eq, jst_ne, jst_ni, jst_o, jI_i, jcpy_out, w32_id, jdiv_nn] at * <;> first | done | omega | assumption) | (intros; first | rfl | (exfalso; omega) | ((repeat' apply And.intro) <;> first | assumption | rfl | omega | trivial))) -- o8 e2i.1
          · (intro r r0 r1; by_cases y : r = a3; { rw [y, ← gv, ← R3.1]; assumption }; { exact q1 r r0 (by omega) }) -- o9 e2i.2
        · (first | assumption | omega | ((try dsimp only [jt2, jt3, jt4]); first | omega | (simp (disch := omega) only [jst_eq, jst_ne, jst_ni, jst_o, jI_i, jcpy_out, w32_id, jdiv_nn, jshr_k, jand_255] <;> first | done | omega | assumption)) | (intros; simp (disch := omega) only [jst_eq, jst_ne, jst_ni, jst_o, jI_i, jcpy_out, w32_id, jdiv_nn, *] <;> first | done | omega) | (intros; simp (disch := omega) only [jst_eq, jst_ne, jst_ni, jst_o, jI_i, jcpy_out, w32_id, jdiv_nn] at * <;> first | done | omega | assumption) | (intros; first | rfl | (exfalso; omega) | ((repeat' apply And.intro) <;> first | assumption | rfl | omega | trivial))) -- o10 e2m
      · skip
        try simp (disch := omega) only [jst_eq, jst_ne, jst_ni, jI_i, jcmp_lt, jcmp_gt, w32_id, jcpy_out, Sum.elim_inl, Sum.elim_inr, jt2, jt3, jt4, jt5, jt6, jt7, jt8] at c2
        refine OK_ir ?_
        (intro y; have z := y a3 q0.1 (by omega); rw [← gv, ← R3.1] at z; contradiction) -- o11 e3
  · try dsimp only [Sum.elim_inl, Sum.elim_inr, jt2, jt3, jt4, jt5, jt6, jt7, jt8]
    refine ⟨?_, ?_⟩
    · (have := m.2.2.1.2.1; omega) -- o12 init.1
    · (first | assumption | omega | ((try dsimp only [jt2, jt3, jt4]); first | omega | (simp (disch := omega) only [jst_eq, jst_ne, jst_ni, jst_o, jI_i, jcpy_out, w32_id, jdiv_nn, jshr_k, jand_255] <;> first | done | omega | assumption)) | (intros; simp (disch := omega) only [jst_eq, jst_ne, jst_ni, jst_o, jI_i, jcpy_out, w32_id, jdiv_nn, *] <;> first | done | omega) | (intros; simp (disch := omega) only [jst_eq, jst_ne, jst_ni, jst_o, jI_i, jcpy_out, w32_id, jdiv_nn] at * <;> first | done | omega | assumption) | (intros; first | rfl | (exfalso; omega) | ((repeat' apply And.intro) <;> first | assumption | rfl | omega | trivial))) -- o13 init.2

