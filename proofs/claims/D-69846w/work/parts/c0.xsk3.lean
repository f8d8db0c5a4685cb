/-! x: a sketch, whole -/
theorem ty_fl {E : EV} {np : Int} {kp hl : Int → Int} (hr : ∀ c, 0 ≤ c → c ≤ 2 → 0 ≤ hl c ∧ hl c ≤ 15) : ∀ {R : TR} {j : Int}, 0 ≤ j → tyT E np kp R j → tyT E np kp (flT hl R) j
  | .leaf i, j, j0, t => by
    have t : tyI E np kp i j := t
    show tyI E np kp (flI hl i) j
    obtain ⟨t1, t2, t3⟩ := t
    by_cases y : i.1 = 3
    · have e : flI hl i = (1, hl i.2.1, i.2.2.1, 0) := if_pos y
      rw [e]
      rcases t3 with t | t | t | t | t
      · omega
      · omega
      · have q := hr i.2.1 t.2.2.1 t.2.2.2.1
        exact ⟨t1, t2, .inr (.inl ⟨rfl, t.2.1, .inr ⟨q.1, fun _ => q.2, fun z => by have z' : i.2.2.1 = 1 := z; have := t.2.2.2.2; omega, fun z => by have z' : i.2.2.1 = 2 := z; have := t.2.2.2.2; omega⟩⟩)⟩
      · omega
      · omega
    · have e : flI hl i = (i.1, i.2.1, i.2.2.1, 0) := if_neg y
      rw [e]
      exact ⟨t1, t2, t3⟩
  | .branch b s r, j, j0, t => by
    have a := ty_fl hr (Int.le_refl _) t.1
    have c := ty_fl hr (by omega) t.2.2
    have n := tyT_nd t.2.2
    have r0 := nk_0 r
    have y : (inf r).1 ≠ 3 := fun z => by
      obtain ⟨n1, n2, n3⟩ := n
      omega
    refine ⟨a, ?_, c⟩
    have e1 : (inf (flT hl s)).2.2.1 = (inf s).2.2.1 := by
      rw [fl_inf]; unfold flI
      by_cases z : (inf s).1 = 3
      · rw [if_pos z]
      · rw [if_neg z]
    have e2 : acI (inf (flT hl r)) = acI (inf r) := by
      rw [fl_inf]; unfold flI
      rw [if_neg y]; rfl
    show (inf (flT hl s)).2.2.1 = eK E (acI (inf (flT hl r))) j
    rw [e1, e2]; exact t.2.1
theorem fl_nv {hl : Int → Int} {n : Int} (hr : ∀ c, 0 ≤ c → c < n → 0 ≤ hl c) : ∀ {R : TR}, hcT n R → nvT R → nvT (flT hl R)
  | .leaf i, c, v => by
    have c : i.1 = 3 → 0 ≤ i.2.1 ∧ i.2.1 < n := c
    show (flI hl i).1 = 1 → (flI hl i).2.1 ≠ -1
    unfold flI
    by_cases y : i.1 = 3
    · rw [if_pos y]
      have q := c y
      have := hr _ q.1 q.2
      exact fun _ => by show hl i.2.1 ≠ -1; omega
    · rw [if_neg y]; exact v
  | .branch _ s r, c, v => ⟨fl_nv hr c.1 v.1, fl_nv hr c.2 v.2⟩
theorem fl_nh {hl : Int → Int} : ∀ R : TR, nhT (flT hl R)
  | .leaf i => by
    show (flI hl i).1 ≠ 3
    unfold flI
    by_cases y : i.1 = 3
    · rw [if_pos y]; exact (show (1 : Int) ≠ 3 by decide)
    · rw [if_neg y]; exact y
  | .branch _ s r => ⟨fl_nh s, fl_nh r⟩
theorem fl_kn {hl : Int → Int} (R : TR) : (inf (flT hl R)).2.2.1 = (inf R).2.2.1 := by
  rw [fl_inf]; unfold flI
  by_cases z : (inf R).1 = 3
  · rw [if_pos z]
  · rw [if_neg z]
theorem fl_lw {wA hl : Int → Int} (i : NI) : lwI wA (flI hl i) = lwI wA i := by
  unfold flI
  by_cases y : i.1 = 3
  · rw [if_pos y]
    unfold lwI
    rw [if_neg (show ¬ (1 : Int) = 2 by decide), if_neg (show ¬ (1 : Int) = 4 by decide), if_neg (by omega), if_neg (by omega)]
  · rw [if_neg y]; rfl
theorem fl_dE {wA hl : Int → Int} : ∀ R : TR, dpE wA (flT hl R) = dpE wA R
  | .leaf i => fl_lw i
  | .branch _ s r => by show max (dpE wA (flT hl s) + 1) (dpE wA (flT hl r)) = max (dpE wA s + 1) (dpE wA r); rw [fl_dE s, fl_dE r]
theorem f1415_A {h h' : AH} (f : f1415 h h') : agX h h' := fun a s y => by
  unfold nA at y
  exact f a s (by omega) (by omega)
/-- with v for its holes a term meets -/
def skQ (E : EV) (W : Int → Int → Int → VW) (K : AK) (R : TR) (n v : Int) : Prop := MKa E W K (kR K) (evQ W K (hlS n v) R)
def fSk (h h' : AH) : Prop := ∀ a s, ¬ (a = 200 ∧ (s = 9 ∨ s = 10 ∨ s = 14 ∨ s = 15)) → ¬ ((a = 269 ∨ a = 270 ∨ a = 323) ∧ 0 ≤ s) → h' a s = h a s
theorem fSk_t {h h1 h2 : AH} (x : fSk h h1) (y : fSk h1 h2) : fSk h h2 := fun a s z1 z2 => (y a s z1 z2).trans (x a s z1 z2)
theorem vX1_sketch_l93 (i1 : Int) (i2 : Int) (a30 : Int) {h0 : AH} {E : EV} {Rf : Int → TR} {W : Int → Int → Int → VW} {K : AK} {n : Int} {R : TR} (ak : ∃ hl, akX h0 E Rf W (hlK K hl)) (nq : nhK K) (nn : h0 441 16 = n ∧ 1 ≤ n ∧ n ≤ 3) (tr : trX h0 324 0 2200 R i1 0) (ty : tyT E (kA K).1 (kA K).2.1 R 0) (hc : hcT n R) (kd : (inf R).2.2.1 = kR K) (dk : dpE E.1.2.2.2.1 R ≤ 40 ∧ dpT R ≤ 39) (al : 0 ≤ i2 ∧ i2 ≤ 4096) (z : a30 = 0) : OK (gX1_sketch_l93 i1 i2 a30 h0) (Sum.elim (fun r => jt2 r fun y h' => (0 ≤ y ∧ y < i2 ∧ skQ E W K R n y ∧ ∀ u, 0 ≤ u → u < y → ¬ skQ E W K R n u) ∧ (∃ hl, akX h' E Rf W (hlK K hl) ∧ ∀ c, 0 ≤ c → c < n → hl c = hlS n y c) ∧ (fSk h0 h')) (fun h' => (∀ u, 0 ≤ u → u < i2 → ¬ skQ E W K R n u) ∧ (∃ hl, akX h' E Rf W (hlK K hl)) ∧ (fSk h0 h'))) := by
  unfold gX1_sketch_l93
  refine OK_jit (I := (fun (s : Int × AH) => jt2 s fun a3 h => (0 ≤ a3 ∧ a3 ≤ i2) ∧ (∀ u, 0 ≤ u → u < a3 → ¬ skQ E W K R n u) ∧ (∃ hl, akX h E Rf W (hlK K hl)) ∧ (fSk h0 h))) (m := (fun (s : Int × AH) => jt2 s fun a3 h => (i2 - a3).toNat)) ?_ ?_
  · intro s hs
    obtain ⟨a3, h⟩ := s
    dsimp only [Sum.elim_inl, Sum.elim_inr, jt2, jt3, jt4, jt5, jt6, jt7, jt8] at hs
    obtain ⟨q0, q1, q2, q3⟩ := hs
    unfold gX1_sketch_b93
    refine OK_jt2 ?_
    have KK3 := q3
    obtain ⟨hl0, AK⟩ := q2
    have n16 : h 441 16 = n := by { rw [KK3 _ _ (by omega) (by omega)]; exact nn.1 }
    have LN := AK.2.2.2.2.2.2.2.2.2.1
    have HR := AK.2.1.1.2.2.2.1
    have L270 : h 270 (-2) = 101 ∧ h 270 (-1) = 3 := ⟨(LN 270 (by decide) (by decide)).1.trans (by decide), (LN 270 (by decide) (by decide)).2.trans (by decide)⟩
    refine OK_if (fun c1 => ?_) (fun c1 => ?_)
    · skip
      try simp (disch := omega) only [jst_eq, jst_ne, jst_ni, jI_i, jcmp_lt, jcmp_gt, w32_id, jcpy_out, Sum.elim_inl, Sum.elim_inr, jt2, jt3, jt4, jt5, jt6, jt7, jt8] at c1
      refine OK_ir ?_
      try dsimp only [Sum.elim_inl, Sum.elim_inr, jt2, jt3, jt4, jt5, jt6, jt7, jt8]
      refine ⟨?_, ?_, ?_⟩
      · exact fun u u0 u1 => q1 u u0 (by omega) -- o1 e1.1
      · exact ⟨hl0, AK⟩ -- o2 e1.2
      · exact KK3 -- o3 e1.3
    · skip
      try simp (disch := omega) only [jst_eq, jst_ne, jst_ni, jI_i, jcmp_lt, jcmp_gt, w32_id, jcpy_out, Sum.elim_inl, Sum.elim_inr, jt2, jt3, jt4, jt5, jt6, jt7, jt8] at c1
      refine OK_jb (vX1_sketch_l101 (n := n) _ _ _ _ (by exact ⟨n16, by omega, by omega, by omega, by omega⟩) (by exact L270) (by rfl)) (fun o25 r1 => ?_)
      try dsimp only [Sum.elim_inl, Sum.elim_inr, jt2, jt3, jt4, jt5, jt6, jt7, jt8] at r1
      obtain ⟨hv1, fr1⟩ := r1
      try simp (disch := omega) only [jst_eq, jst_ne, jst_ni, jI_i, jcmp_lt, jcmp_gt, w32_id, jcpy_out, Sum.elim_inl, Sum.elim_inr, jt2, jt3, jt4, jt5, jt6, jt7, jt8] at hv1
      try simp (disch := omega) only [jst_eq, jst_ne, jst_ni, jI_i, jcmp_lt, jcmp_gt, w32_id, jcpy_out, Sum.elim_inl, Sum.elim_inr, jt2, jt3, jt4, jt5, jt6, jt7, jt8] at fr1
      have HV : ∀ c, 0 ≤ c → c ≤ 2 → o25 270 c = o25 270 c ∧ 0 ≤ o25 270 c ∧ o25 270 c ≤ 15 := fun c c0 c1 => by { refine ⟨rfl, ?_⟩; by_cases y : c < n; { rw [hv1 c c0 y]; exact hlS_r _ _ _ }; { rw [fr1 _ _ (by omega)]; have z := HR c c0 c1; omega } }
      have AK25 : akX o25 E Rf W (hlK K (fun c => o25 270 c)) := akX_h (K := hlK K hl0) (hl := fun c => o25 270 c) AK (fun a s y => fr1 a s (by omega)) HV (fun s s0 => fr1 _ _ (by omega))
      have TR25 : trX o25 324 0 2200 R i1 0 := trX_fr (fun a s x0 x1 _ _ => by rw [fr1 _ _ (by omega)]; exact KK3 _ _ (by omega) (by omega)) (fun s _ _ => by rw [fr1 _ _ (by omega)]; exact KK3 _ _ (by omega) (by omega)) tr (Int.le_refl 0)
      have LN25 := AK25.2.2.2.2.2.2.2.2.2.1
      have C25 : capT o25 324 2200 := ⟨(LN25 325 (by decide) (by decide)).2.trans (by decide), (LN25 326 (by decide) (by decide)).2.trans (by decide), (LN25 327 (by decide) (by decide)).2.trans (by decide), (LN25 328 (by decide) (by decide)).2.trans (by decide), (LN25 329 (by decide) (by decide)).2.trans (by decide), by decide, by decide, by decide⟩
      refine OK_jb (vX1_answer (E := E) (Rf := Rf) (W := W) (f := fun _ _ _ => 0) (N := 2200) (n := (kA K).1) (wh := K.1.2.2.1) (pts := kP K) (kf := (kA K).2.1) (rv := K.1.2.2.2) (hl := fun c => o25 270 c) (R := R) _ _ (by exact ⟨akX_pk (K := hlK K (fun c => o25 270 c)) AK25, AK25.1.1.2.1, AK25.1.1.2.2.1, ⟨by unfold isX3; omega, C25⟩, trX_vw TR25, ty, AK25.2.1.1.2.2.1, by omega, fun c c0 c1 => (HV c c0 c1).2, AK25.1.1.2.2.2.2.1, AK25.1.1.2.2.2.2.2, by decide⟩) (by exact fun _ => rfl)) (fun h28 r2 => ?_)
      try dsimp only [Sum.elim_inl, Sum.elim_inr, jt2, jt3, jt4, jt5, jt6, jt7, jt8] at r2
      obtain ⟨an2, fs2, z92⟩ := r2
      try simp (disch := omega) only [jst_eq, jst_ne, jst_ni, jI_i, jcmp_lt, jcmp_gt, w32_id, jcpy_out, Sum.elim_inl, Sum.elim_inr, jt2, jt3, jt4, jt5, jt6, jt7, jt8] at an2
      try simp (disch := omega) only [jst_eq, jst_ne, jst_ni, jI_i, jcmp_lt, jcmp_gt, w32_id, jcpy_out, Sum.elim_inl, Sum.elim_inr, jt2, jt3, jt4, jt5, jt6, jt7, jt8] at fs2
      try simp (disch := omega) only [jst_eq, jst_ne, jst_ni, jI_i, jcmp_lt, jcmp_gt, w32_id, jcpy_out, Sum.elim_inl, Sum.elim_inr, jt2, jt3, jt4, jt5, jt6, jt7, jt8] at z92
      have PZ := AK25.2.2.2.2.2.1
      have F28 : ∀ a s, ¬ (a = 200 ∧ (s = 9 ∨ s = 10)) → ¬ (a = 269 ∧ 0 ≤ s) → ¬ (a = 323 ∧ 0 ≤ s) → h28 a s = o25 a s := f323_A fs2 PZ.2
      have FB28 : fB o25 h28 := fun a s y1 y2 y3 y4 => F28 a s (by omega) y2 y3
      have AK28 := akX_n AK25 (fB_A FB28) z92.2
      have EV28 : ∀ p, 0 ≤ p → p < kP K → h28 323 p = evQ W K (hlS n a3) R p := fun p p0 p1 => by { rw [an2 p p0 p1]; unfold evQ; rw [evT_hc (n := n) (hl' := hlS n a3) (fun c c0 c1 => hv1 c c0 c1) hc]; congr 2; funext kk; exact (AK25.1.2.2.2.2 p kk).symm }
      have VK := AK25.2.2.2.2.2.2.1
      have LN28 := AK28.2.2.2.2.2.2.2.2.2.1
      have L323 : h28 323 (-2) = 101 ∧ h28 323 (-1) = 256 := ⟨(LN28 323 (by decide) (by decide)).1.trans (by decide), (LN28 323 (by decide) (by decide)).2.trans (by decide)⟩
      have p256 : kP K ≤ 256 := AK25.1.2.2.1.2.2
      refine OK_jb2 (vX1_meet (E := evF E K) (Rf := Rf) (W := W) (hl := fun c => o25 270 c) (n := (kA K).1) (kf := (kA K).2.1) (wh := K.1.2.2.1) (rv := K.1.2.2.2) (pts := kP K) (rn := K.2.1.1) (ra := K.2.1.2) (ln := K.2.2.1.1) (nn := K.2.2.1.2.1) (lk := K.2.2.1.2.2.1) (LL := K.2.2.1.2.2.2.1) (LR := K.2.2.1.2.2.2.2) (g := evQ W K (hlS n a3) R) _ _ (by exact AK28.2.1) (by exact ⟨L323.1, by decide, by decide, by decide, by decide, by (rw [L323.2]; omega), fun p p0 p1 => by (rw [Int.zero_add]; exact EV28 p p0 p1)⟩) (by exact fun _ p p0 p1 => (by (have q := evT_ty (f := fun _ _ _ => 0) (hl := hlS n a3) (p := (kA K).2.2.1 p) AK25.1.1.2.1.2.1 (wOK_ty AK25.1.1.2.1.2.2.1) AK25.1.1.2.1.2.2.2.1 (fun c c0 c1 => VK.2.1 p c p0 p1 c0 c1) (fun c _ _ => hlS_r n a3 c) ty; rw [kd] at q; have ek : eK (evF E K) (-2) (eO (evF E K) (-2)) = kR K := (evF_k E K).2; rw [ek]; exact q)))) (fun v30 h31 r3 => ?_)
      try dsimp only [Sum.elim_inl, Sum.elim_inr, jt2, jt3, jt4, jt5, jt6, jt7, jt8] at r3
      obtain ⟨hv3, fs3⟩ := r3
      try simp (disch := omega) only [jst_eq, jst_ne, jst_ni, jI_i, jcmp_lt, jcmp_gt, w32_id, jcpy_out, Sum.elim_inl, Sum.elim_inr, jt2, jt3, jt4, jt5, jt6, jt7, jt8] at hv3
      try simp (disch := omega) only [jst_eq, jst_ne, jst_ni, jI_i, jcmp_lt, jcmp_gt, w32_id, jcpy_out, Sum.elim_inl, Sum.elim_inr, jt2, jt3, jt4, jt5, jt6, jt7, jt8] at fs3
      have AK31 := akX_n AK28 (f1415_A fs3.1) fs3.2
      have F31 : fSk h h31 := fun a s y1 y2 => by { rw [fs3.1 a s (by omega) (by omega), F28 a s (by omega) (by omega) (by omega)]; exact fr1 a s (by omega) }
      have F031 : fSk h0 h31 := fSk_t KK3 F31
      have MQ : ∀ (x : mtA (evF E K) W (fun c => o25 270 c) K.2.1.1 (rpA (kA K).1 (kA K).2.1 K.1.2.2.1 K.1.2.2.2) K.2.1.2 K.2.2.1.1 K.2.2.1.2.1 K.2.2.1.2.2.1 K.2.2.1.2.2.2.1 K.2.2.1.2.2.2.2 (evQ W K (hlS n a3) R)), skQ E W K R n a3 := fun x => by { have e := MKa_hl (E := E) (W := W) nq (fun c => o25 270 c); show MKa E W K (kR K) (evQ W K (hlS n a3) R); rw [← e]; exact ⟨rfl, x⟩ }
      have MN : skQ E W K R n a3 → mtA (evF E K) W (fun c => o25 270 c) K.2.1.1 (rpA (kA K).1 (kA K).2.1 K.1.2.2.1 K.1.2.2.2) K.2.1.2 K.2.2.1.1 K.2.2.1.2.1 K.2.2.1.2.2.1 K.2.2.1.2.2.2.1 K.2.2.1.2.2.2.2 (evQ W K (hlS n a3) R) := fun x => by { have e := MKa_hl (E := E) (W := W) nq (fun c => o25 270 c); have x : MKa E W K (kR K) (evQ W K (hlS n a3) R) := x; rw [← e] at x; exact x.2 }
      refine OK_if (fun c2 => ?_) (fun c2 => ?_)
      · skip
        try simp (disch := omega) only [jst_eq, jst_ne, jst_ni, jI_i, jcmp_lt, jcmp_gt, w32_id, jcpy_out, Sum.elim_inl, Sum.elim_inr, jt2, jt3, jt4, jt5, jt6, jt7, jt8] at c2
        refine OK_jlx (fun x33 ex33 => ?_)
        try simp (disch := omega) only [jst_eq, jst_ne, jst_ni, jI_i, jcmp_lt, jcmp_gt, w32_id, jcpy_out, Sum.elim_inl, Sum.elim_inr, jt2, jt3, jt4, jt5, jt6, jt7, jt8] at ex33
        refine OK_il ?_ ?_
        · try dsimp only [Sum.elim_inl, Sum.elim_inr, jt2, jt3, jt4, jt5, jt6, jt7, jt8]
          refine ⟨?_, ?_, ?_, ?_⟩
          · (first | assumption | omega | ((try dsimp only [jt2, jt3, jt4]); first | omega | (simp (disch := omega) only [jst_eq, jst_ne, jst_ni, jst_o, jI_i, jcpy_out, w32_id, jdiv_nn, jshr_k, jand_255] <;> first | done | omega | assumption)) | (intros; simp (disch := omega) only [jst_eq, jst_ne, jst_ni, jst_o, jI_i, jcpy_out, w32_id, jdiv_nn, *] <;> first | done | omega) | (intros; simp (disch := omega) only [jst_eq, jst_ne, jst_ni, jst_o, jI_i, jcpy_out, w32_id, jdiv_nn] at * <;> first | done | omega | assumption) | (intros; first | rfl | (exfalso; omega) | ((repeat' apply And.intro) <;> first | assumption | rfl | omega | trivial))) -- o12 e2i.1
          · (intro u u0 u1; rw [ex33] at u1; (try rw [w32_id (by omega) (by omega)] at u1); by_cases y : u = a3; { rw [y]; intro q; rcases hv3 with w | w; { omega }; { exact w.2 (MN q) } }; { exact q1 u u0 (by omega) }) -- o13 e2i.2
          · exact ⟨_, AK31⟩ -- o14 e2i.3
          · exact F031 -- o15 e2i.4
        · (first | assumption | omega | ((try dsimp only [jt2, jt3, jt4]); first | omega | (simp (disch := omega) only [jst_eq, jst_ne, jst_ni, jst_o, jI_i, jcpy_out, w32_id, jdiv_nn, jshr_k, jand_255] <;> first | done | omega | assumption)) | (intros; simp (disch := omega) only [jst_eq, jst_ne, jst_ni, jst_o, jI_i, jcpy_out, w32_id, jdiv_nn, *] <;> first | done | omega) | (intros; simp (disch := omega) only [jst_eq, jst_ne, jst_ni, jst_o, jI_i, jcpy_out, w32_id, jdiv_nn] at * <;> first | done | omega | assumption) | (intros; first | rfl | (exfalso; omega) | ((repeat' apply And.intro) <;> first | assumption | rfl | omega | trivial))) -- o16 e2m
      · skip
        try simp (disch := omega) only [jst_eq, jst_ne, jst_ni, jI_i, jcmp_lt, jcmp_gt, w32_id, jcpy_out, Sum.elim_inl, Sum.elim_inr, jt2, jt3, jt4, jt5, jt6, jt7, jt8] at c2
        refine OK_ir ?_
        try dsimp only [Sum.elim_inl, Sum.elim_inr, jt2, jt3, jt4, jt5, jt6, jt7, jt8]
        refine ⟨?_, ?_, ?_⟩
        · exact ⟨q0.1, by omega, MQ (by rcases hv3 with w | w; { exact w.2 }; { exact absurd w.1 c2 }), q1⟩ -- o17 e3.1
        · exact ⟨_, AK31, fun c c0 c1 => hv1 c c0 c1⟩ -- o18 e3.2
        · exact F031 -- o19 e3.3
  · try dsimp only [Sum.elim_inl, Sum.elim_inr, jt2, jt3, jt4, jt5, jt6, jt7, jt8]
    refine ⟨?_, ?_, ?_, ?_⟩
    · (first | assumption | omega | ((try dsimp only [jt2, jt3, jt4]); first | omega | (simp (disch := omega) only [jst_eq, jst_ne, jst_ni, jst_o, jI_i, jcpy_out, w32_id, jdiv_nn, jshr_k, jand_255] <;> first | done | omega | assumption)) | (intros; simp (disch := omega) only [jst_eq, jst_ne, jst_ni, jst_o, jI_i, jcpy_out, w32_id, jdiv_nn, *] <;> first | done | omega) | (intros; simp (disch := omega) only [jst_eq, jst_ne, jst_ni, jst_o, jI_i, jcpy_out, w32_id, jdiv_nn] at * <;> first | done | omega | assumption) | (intros; first | rfl | (exfalso; omega) | ((repeat' apply And.intro) <;> first | assumption | rfl | omega | trivial))) -- o20 init.1
    · (first | assumption | omega | ((try dsimp only [jt2, jt3, jt4]); first | omega | (simp (disch := omega) only [jst_eq, jst_ne, jst_ni, jst_o, jI_i, jcpy_out, w32_id, jdiv_nn, jshr_k, jand_255] <;> first | done | omega | assumption)) | (intros; simp (disch := omega) only [jst_eq, jst_ne, jst_ni, jst_o, jI_i, jcpy_out, w32_id, jdiv_nn, *] <;> first | done | omega) | (intros; simp (disch := omega) only [jst_eq, jst_ne, jst_ni, jst_o, jI_i, jcpy_out, w32_id, jdiv_nn] at * <;> first | done | omega | assumption) | (intros; first | rfl | (exfalso; omega) | ((repeat' apply And.intro) <;> first | assumption | rfl | omega | trivial))) -- o21 init.2
    · exact ak -- o22 init.3
    · exact fun _ _ _ _ => rfl -- o23 init.4

