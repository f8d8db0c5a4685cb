/-! m: a sketch -/
/-- m: whether answers at all points meet -/
theorem vMT2 {h : AH} {E : EV} {Rf : Int → TR} {W : Int → Int → Int → VW} {K : AK} {tp : Int} {g : Int → Int} (ak : akM h E Rf W K tp) (l : h 754 (-2) = 101 ∧ h 754 (-1) = 256) (a : ∀ p, 0 ≤ p → p < kP K → h 754 p = g p) (o : ∀ p, 0 ≤ p → p < kP K → okV (kR K) (g p)) : OK (gX14_meets_2 (h (h 454 38) 4) 754 h) (fun r => jt2 r fun v h' => ((v = 1 ∧ MKa E W K (kR K) g) ∨ (v = 0 ∧ ¬ MKa E W K (kR K) g)) ∧ f2021 h h' ∧ akM h' E Rf W K tp) := by
  have c := akM_0 ak
  have ek := evF_k E K
  have p256 := c.2.1.1.2.2.2.2.2.2.1
  refine OK_mono (vX14_meets_2 (E := evF E K) (Rf := Rf) (W := W) (hl := K.2.2.2.2) (n := (kA K).1) (kf := (kA K).2.1) (wh := K.1.2.2.1) (rv := K.1.2.2.2) (pts := kP K) (rn := K.2.1.1) (ra := K.2.1.2) (ln := K.2.2.1.1) (nn := K.2.2.1.2.1) (lk := K.2.2.1.2.2.1) (LL := K.2.2.1.2.2.2.1) (LR := K.2.2.1.2.2.2.2) (g := g) (h (h 454 38) 4) 754 c.2.2.2.1 (fun _ => ⟨⟨l.1, by decide, by rw [l.2]; exact p256, a⟩, fun p p0 p1 => by rw [ek.2]; exact o p p0 p1⟩) ak.2.2) (fun r => ?_)
  obtain ⟨v, h'⟩ := r
  intro z
  obtain ⟨z1, z2, z3⟩ := z
  refine ⟨?_, z2.1, akM_n ak (f2021_A z2.1) ⟨?_, z2.2⟩⟩
  · rcases z1 with z | z
    · exact .inl ⟨z.1, rfl, z.2.2⟩
    · exact .inr ⟨z.1, fun y => z.2 ⟨rfl, y.2⟩⟩
  · rcases z3 with z | z
    · rw [z]; exact ak.2.1
    · exact z
theorem evN_fl {W : Int → Int → Int → VW} {f : Int → Int → Int → Int} {p hl hl' : Int → Int} {i : NI} {l : List VW} : evN W f p hl i l = evN W f p hl' (flI hl i) l := by
  unfold flI
  by_cases y : i.1 = 3
  · rw [if_pos y]
    unfold evN
    rw [if_neg (by omega), if_neg (by omega), if_pos y, if_neg (show ¬ (1 : Int) = 0 by decide), if_pos (show (1 : Int) = 1 from rfl)]
  · rw [if_neg y]
    unfold evN evS
    by_cases a : i.1 = 0
    · rw [if_pos a, if_pos (show (i.1, i.2.1, i.2.2.1, (0 : Int)).1 = 0 from a)]
    · rw [if_neg a, if_neg (show ¬ (i.1, i.2.1, i.2.2.1, (0 : Int)).1 = 0 from a)]
      by_cases b : i.1 = 1
      · rw [if_pos b, if_pos (show (i.1, i.2.1, i.2.2.1, (0 : Int)).1 = 1 from b)]
      · rw [if_neg b, if_neg (show ¬ (i.1, i.2.1, i.2.2.1, (0 : Int)).1 = 1 from b), if_neg y, if_neg (show ¬ (i.1, i.2.1, i.2.2.1, (0 : Int)).1 = 3 from y)]
/-- a term with its holes filled answers as with their values -/
theorem evK_fl {W : Int → Int → Int → VW} {f : Int → Int → Int → Int} {p hl hl' : Int → Int} : ∀ R : TR, evK W f p hl R = evK W f p hl' (flT hl R)
  | .leaf _ => rfl
  | .branch b s r => by
    have a := evK_fl (W := W) (f := f) (p := p) (hl := hl) (hl' := hl') s
    have d := evK_fl (W := W) (f := f) (p := p) (hl := hl) (hl' := hl') r
    show evN W f p hl (inf s) (evK W f p hl s) :: evK W f p hl r = evN W f p hl' (inf (flT hl s)) (evK W f p hl' (flT hl s)) :: evK W f p hl' (flT hl r)
    rw [a, d, fl_inf, evN_fl]
theorem evT_fl {W : Int → Int → Int → VW} {f : Int → Int → Int → Int} {p hl hl' : Int → Int} (R : TR) : evT W f p hl R = evT W f p hl' (flT hl R) := by
  unfold evT
  rw [evK_fl (hl' := hl') R, fl_inf, evN_fl]
theorem evQ_fl (W : Int → Int → Int → VW) (K : AK) (R : TR) (hl : Int → Int) (p : Int) : evQ W K hl R p = evQ W K (fun _ => 0) (flT hl R) p := by
  unfold evQ
  rw [evT_fl (hl' := fun _ => 0) R]
/-- what trying values for holes changes: m -/
def fSm (h h' : AH) : Prop := ∀ a s, ¬ (a = 454 ∧ (s = 20 ∨ s = 21 ∨ s = 22 ∨ s = 35)) → ¬ (a = 462 ∧ 4400 ≤ s ∧ s < 5500) → ¬ (a = 754 ∧ 0 ≤ s) → h' a s = h a s
theorem fSm_t {h h1 h2 : AH} (x : fSm h h1) (y : fSm h1 h2) : fSm h h2 := fun a s z1 z2 z3 => (y a s z1 z2 z3).trans (x a s z1 z2 z3)
theorem fSm_A {h h' : AH} (f : fSm h h') : agN h h' ∧ agT h h' := ⟨fun a s y => by unfold mA at y; exact f a s (by omega) (by omega) (by omega), fun a s y => by unfold tA at y; exact f a s (by omega) (by omega) (by omega)⟩
theorem vX14_sketch_l156 (i1 : Int) (i2 : Int) (i3 : Int) (a40 : Int) {h0 : AH} {E : EV} {Rf : Int → TR} {W : Int → Int → Int → VW} {K : AK} {tp : Int} {R : TR} (ak : akM h0 E Rf W K tp) (tr : cG lfS h0 R i1 0 (i1 + 1)) (rg : i1 = 4400 ∧ sz R ≤ 1000) (hq : hqT 0 R ∧ hcT i2 R ∧ hlT R = i2 ∧ 1 ≤ i2 ∧ i2 ≤ 3) (ty : tyT E (kA K).1 (kA K).2.1 R 0) (kd : (inf R).2.2.1 = kR K) (dk : dpE E.1.2.2.2.1 R ≤ 40 ∧ dpT R ≤ 39) (ln : h0 754 (-2) = 101 ∧ h0 754 (-1) = 256) (al : 0 ≤ i3 ∧ i3 ≤ 4096) (z : a40 = 0) : OK (gX14_sketch_l156 i1 i2 i3 a40 h0) (Sum.elim (fun r => jt2 r fun y h' => (0 ≤ y ∧ y < i3 ∧ skQ E W K R i2 y ∧ ∀ u, 0 ≤ u → u < y → ¬ skQ E W K R i2 u) ∧ (akM h' E Rf W K tp ∧ cG (lfF i2 y) h' R i1 0 (i1 + 1)) ∧ (fSm h0 h')) (fun h' => (∀ u, 0 ≤ u → u < i3 → ¬ skQ E W K R i2 u) ∧ (akM h' E Rf W K tp) ∧ (fSm h0 h'))) := by
  unfold gX14_sketch_l156
  refine OK_jit (I := (fun (s : Int × AH) => jt2 s fun a4 h => (0 ≤ a4 ∧ a4 ≤ i3) ∧ (∀ u, 0 ≤ u → u < a4 → ¬ skQ E W K R i2 u) ∧ (akM h E Rf W K tp ∧ cG lfS h R i1 0 (i1 + 1)) ∧ (fSm h0 h))) (m := (fun (s : Int × AH) => jt2 s fun a4 h => (i3 - a4).toNat)) ?_ ?_
  · intro s hs
    obtain ⟨a4, h⟩ := s
    dsimp only [Sum.elim_inl, Sum.elim_inr, jt2, jt3, jt4, jt5, jt6, jt7, jt8] at hs
    obtain ⟨q0, q1, q2, q3⟩ := hs
    unfold gX14_sketch_b156
    refine OK_jt2 ?_
    have KK3 := q3
    obtain ⟨AK, TR⟩ := q2
    have C0 := akM_0 AK
    have sp := sz_pos R
    refine OK_if (fun c1 => ?_) (fun c1 => ?_)
    · skip
      try simp (disch := omega) only [jst_eq, jst_ne, jst_ni, jI_i, jcmp_lt, jcmp_gt, w32_id, jcpy_out, Sum.elim_inl, Sum.elim_inr, jt2, jt3, jt4, jt5, jt6, jt7, jt8] at c1
      refine OK_ir ?_
      try dsimp only [Sum.elim_inl, Sum.elim_inr, jt2, jt3, jt4, jt5, jt6, jt7, jt8]
      refine ⟨?_, ?_, ?_⟩
      · exact fun u u0 u1 => q1 u u0 (by omega) -- o1 e1.1
      · exact AK -- o2 e1.2
      · exact KK3 -- o3 e1.3
    · skip
      try simp (disch := omega) only [jst_eq, jst_ne, jst_ni, jI_i, jcmp_lt, jcmp_gt, w32_id, jcpy_out, Sum.elim_inl, Sum.elim_inr, jt2, jt3, jt4, jt5, jt6, jt7, jt8] at c1
      refine OK_jl ?_
      have F50 : ∀ a s, ¬ (a = 454 ∧ s = 35) → jst h 454 35 0 a s = h a s := fun a s y => jst_o y
      have K50 : jst h 454 35 0 454 35 = 0 := jst_eq
      generalize e50 : jst h 454 35 0 = g50 at *
      refine OK_jb (vX14_fillMarked (R := R) _ _ _ (by exact ⟨q0.1, by omega, hq.2.2.2.2⟩) (by exact cG_fr (lo := 4400) (hi := 5500) (fun dd j i d0 d1 l => lfS_f (fun a a0 a1 a2 a3 => F50 a dd (by omega)) (fun _ => F50 462 dd (by omega)) l) (fun s _ _ => F50 _ _ (by omega)) (by omega) (by omega) (by omega) (by omega) TR) (by (rw [K50]; exact ⟨hq.1, Int.le_refl _, by have := hq.2.2.1; omega⟩)) (by omega) (by omega)) (fun h52 r1 => ?_)
      try dsimp only [Sum.elim_inl, Sum.elim_inr, jt2, jt3, jt4, jt5, jt6, jt7, jt8] at r1
      obtain ⟨cs1, hc1, fr1⟩ := r1
      try simp (disch := omega) only [jst_eq, jst_ne, jst_ni, jI_i, jcmp_lt, jcmp_gt, w32_id, jcpy_out, Sum.elim_inl, Sum.elim_inr, jt2, jt3, jt4, jt5, jt6, jt7, jt8] at cs1
      try simp (disch := omega) only [jst_eq, jst_ne, jst_ni, jI_i, jcmp_lt, jcmp_gt, w32_id, jcpy_out, Sum.elim_inl, Sum.elim_inr, jt2, jt3, jt4, jt5, jt6, jt7, jt8] at hc1
      try simp (disch := omega) only [jst_eq, jst_ne, jst_ni, jI_i, jcmp_lt, jcmp_gt, w32_id, jcpy_out, Sum.elim_inl, Sum.elim_inr, jt2, jt3, jt4, jt5, jt6, jt7, jt8] at fr1
      have F52 : ∀ a s, ¬ (a = 454 ∧ s = 35) → ¬ (a = 462 ∧ 4400 ≤ s ∧ s < 5500) → h52 a s = h a s := fun a s y1 y2 => by { rw [fr1 a s y1 (by omega)]; exact F50 a s y1 }
      have AK52 : akM h52 E Rf W K tp := akM_n AK (fun a s y => by unfold mA at y; exact F52 a s (by omega) (by omega)) (by have z := AK.2; unfold b20 at z ⊢; rw [F52 _ _ (by omega) (by omega), F52 _ _ (by omega) (by omega)]; exact z)
      have TF := cGF_M cs1
      have HR : ∀ c, 0 ≤ c → c ≤ 2 → 0 ≤ hlS i2 a4 c ∧ hlS i2 a4 c ≤ 15 := fun c _ _ => hlS_r _ _ _
      have TYF : tyT E (kA K).1 (kA K).2.1 (flT (hlS i2 a4) R) 0 := ty_fl HR (Int.le_refl _) ty
      have szF := fl_sz (hl := hlS i2 a4) R
      have RQ52 : resQ h52 (rgN 4400 1100) (flT (hlS i2 a4) R) i1 0 := cG_Q (by omega) (by omega) (by omega) (by omega) TF
      refine OK_jb (vFN i1 AK52 (resQ_M RQ52) TYF (fl_nh R) (by rw [fl_dE]; omega)) (fun h54 r2 => ?_)
      obtain ⟨ev54, fr54, ak54⟩ := r2
      have C54 := akM_0 ak54
      have X54 : isX16 (h54 454 38) := C54.1.1
      have L54 : h54 754 (-2) = 101 ∧ h54 754 (-1) = 256 := by { rw [fr54 _ _ (by omega) (by omega), fr54 _ _ (by omega) (by omega), F52 _ _ (by omega) (by omega), F52 _ _ (by omega) (by omega), KK3 _ _ (by omega) (by omega) (by omega), KK3 _ _ (by omega) (by omega) (by omega)]; exact ln }
      have VK := C54.2.2.2.2.2.2.1
      have EV54 : ∀ p, 0 ≤ p → p < kP K → h54 754 p = evQ W K (hlS i2 a4) R p := fun p p0 p1 => by { rw [ev54 p p0 p1]; exact (evQ_fl W K R (hlS i2 a4) p).symm }
      have OV54 : ∀ p, 0 ≤ p → p < kP K → okV (kR K) (evQ W K (hlS i2 a4) R p) := fun p p0 p1 => by { have q := evT_ty (f := fun _ _ _ => 0) (hl := hlS i2 a4) (p := (kA K).2.2.1 p) C54.1.2.1.2.1 (wOK_ty C54.1.2.2.1) (fun z => by rw [C54.1.2.2.2] at z; exact absurd z (by decide)) (fun c c0 c1 => VK.2.1 p c p0 p1 c0 c1) HR ty; rw [kd] at q; exact q }
      refine OK_jg (by (first | assumption | omega | ((try dsimp only [jt2, jt3, jt4]); first | omega | (simp (disch := omega) only [jst_eq, jst_ne, jst_ni, jst_o, jI_i, jcpy_out, w32_id, jdiv_nn, jshr_k, jand_255] <;> first | done | omega | assumption)) | (intros; simp (disch := omega) only [jst_eq, jst_ne, jst_ni, jst_o, jI_i, jcpy_out, w32_id, jdiv_nn, *] <;> first | done | omega) | (intros; simp (disch := omega) only [jst_eq, jst_ne, jst_ni, jst_o, jI_i, jcpy_out, w32_id, jdiv_nn] at * <;> first | done | omega | assumption) | (intros; first | rfl | (exfalso; omega) | ((repeat' apply And.intro) <;> first | assumption | rfl | omega | trivial)))) ?_ -- o9
      refine OK_jb2 (vMT2 ak54 L54 EV54 OV54) (fun v56 h57 r3 => ?_)
      obtain ⟨im57, fr57, ak57⟩ := r3
      try dsimp only at im57 fr57 ak57
      have F57 : fSm h h57 := fun a s y1 y2 y3 => by { rw [fr57 a s (by omega), fr54 a s (by omega) (by omega)]; exact F52 a s (by omega) y2 }
      have F057 : fSm h0 h57 := fSm_t KK3 F57
      have CF57 : cG (lfF i2 a4) h57 R i1 0 (i1 + 1) := cG_fr (lo := 4400) (hi := 5500) (fun dd j i d0 d1 l => lfF_f (fun a a0 a1 a3 => by rw [fr57 _ _ (by omega)]; exact fr54 _ _ (by omega) (by omega)) l) (fun s _ _ => by rw [fr57 _ _ (by omega)]; exact fr54 _ _ (by omega) (by omega)) (by omega) (by omega) (by omega) (by omega) cs1
      refine OK_if (fun c2 => ?_) (fun c2 => ?_)
      · skip
        try simp (disch := omega) only [jst_eq, jst_ne, jst_ni, jI_i, jcmp_lt, jcmp_gt, w32_id, jcpy_out, Sum.elim_inl, Sum.elim_inr, jt2, jt3, jt4, jt5, jt6, jt7, jt8] at c2
        refine OK_jlx (fun x59 ex59 => ?_)
        try simp (disch := omega) only [jst_eq, jst_ne, jst_ni, jI_i, jcmp_lt, jcmp_gt, w32_id, jcpy_out, Sum.elim_inl, Sum.elim_inr, jt2, jt3, jt4, jt5, jt6, jt7, jt8] at ex59
        refine OK_il ?_ ?_
        · try dsimp only [Sum.elim_inl, Sum.elim_inr, jt2, jt3, jt4, jt5, jt6, jt7, jt8]
          refine ⟨?_, ?_, ?_, ?_⟩
          · (first | assumption | omega | ((try dsimp only [jt2, jt3, jt4]); first | omega | (simp (disch := omega) only [jst_eq, jst_ne, jst_ni, jst_o, jI_i, jcpy_out, w32_id, jdiv_nn, jshr_k, jand_255] <;> first | done | omega | assumption)) | (intros; simp (disch := omega) only [jst_eq, jst_ne, jst_ni, jst_o, jI_i, jcpy_out, w32_id, jdiv_nn, *] <;> first | done | omega) | (intros; simp (disch := omega) only [jst_eq, jst_ne, jst_ni, jst_o, jI_i, jcpy_out, w32_id, jdiv_nn] at * <;> first | done | omega | assumption) | (intros; first | rfl | (exfalso; omega) | ((repeat' apply And.intro) <;> first | assumption | rfl | omega | trivial))) -- o10 e2i.1
          · (intro u u0 u1; rw [ex59] at u1; (try rw [w32_id (by omega) (by omega)] at u1); by_cases y : u = a4; { rw [y]; intro q; rcases im57 with w | w; { omega }; { exact w.2 q } }; { exact q1 u u0 (by omega) }) -- o11 e2i.2
          · exact ⟨ak57, cG_imp (fun _ _ _ l => l.1) CF57⟩ -- o12 e2i.3
          · exact F057 -- o13 e2i.4
        · (first | assumption | omega | ((try dsimp only [jt2, jt3, jt4]); first | omega | (simp (disch := omega) only [jst_eq, jst_ne, jst_ni, jst_o, jI_i, jcpy_out, w32_id, jdiv_nn, jshr_k, jand_255] <;> first | done | omega | assumption)) | (intros; simp (disch := omega) only [jst_eq, jst_ne, jst_ni, jst_o, jI_i, jcpy_out, w32_id, jdiv_nn, *] <;> first | done | omega) | (intros; simp (disch := omega) only [jst_eq, jst_ne, jst_ni, jst_o, jI_i, jcpy_out, w32_id, jdiv_nn] at * <;> first | done | omega | assumption) | (intros; first | rfl | (exfalso; omega) | ((repeat' apply And.intro) <;> first | assumption | rfl | omega | trivial))) -- o14 e2m
      · skip
        try simp (disch := omega) only [jst_eq, jst_ne, jst_ni, jI_i, jcmp_lt, jcmp_gt, w32_id, jcpy_out, Sum.elim_inl, Sum.elim_inr, jt2, jt3, jt4, jt5, jt6, jt7, jt8] at c2
        refine OK_ir ?_
        try dsimp only [Sum.elim_inl, Sum.elim_inr, jt2, jt3, jt4, jt5, jt6, jt7, jt8]
        refine ⟨?_, ?_, ?_⟩
        · exact ⟨q0.1, by omega, (by rcases im57 with w | w; { exact w.2 }; { exact absurd w.1 c2 }), q1⟩ -- o15 e3.1
        · exact ⟨ak57, CF57⟩ -- o16 e3.2
        · exact F057 -- o17 e3.3
  · try dsimp only [Sum.elim_inl, Sum.elim_inr, jt2, jt3, jt4, jt5, jt6, jt7, jt8]
    refine ⟨?_, ?_, ?_, ?_⟩
    · (first | assumption | omega | ((try dsimp only [jt2, jt3, jt4]); first | omega | (simp (disch := omega) only [jst_eq, jst_ne, jst_ni, jst_o, jI_i, jcpy_out, w32_id, jdiv_nn, jshr_k, jand_255] <;> first | done | omega | assumption)) | (intros; simp (disch := omega) only [jst_eq, jst_ne, jst_ni, jst_o, jI_i, jcpy_out, w32_id, jdiv_nn, *] <;> first | done | omega) | (intros; simp (disch := omega) only [jst_eq, jst_ne, jst_ni, jst_o, jI_i, jcpy_out, w32_id, jdiv_nn] at * <;> first | done | omega | assumption) | (intros; first | rfl | (exfalso; omega) | ((repeat' apply And.intro) <;> first | assumption | rfl | omega | trivial))) -- o18 init.1
    · (first | assumption | omega | ((try dsimp only [jt2, jt3, jt4]); first | omega | (simp (disch := omega) only [jst_eq, jst_ne, jst_ni, jst_o, jI_i, jcpy_out, w32_id, jdiv_nn, jshr_k, jand_255] <;> first | done | omega | assumption)) | (intros; simp (disch := omega) only [jst_eq, jst_ne, jst_ni, jst_o, jI_i, jcpy_out, w32_id, jdiv_nn, *] <;> first | done | omega) | (intros; simp (disch := omega) only [jst_eq, jst_ne, jst_ni, jst_o, jI_i, jcpy_out, w32_id, jdiv_nn] at * <;> first | done | omega | assumption) | (intros; first | rfl | (exfalso; omega) | ((repeat' apply And.intro) <;> first | assumption | rfl | omega | trivial))) -- o19 init.2
    · exact ⟨ak, tr⟩ -- o20 init.3
    · exact fun _ _ _ _ _ => rfl -- o21 init.4

