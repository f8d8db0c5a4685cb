/-! x: the i-th term that meets becomes what is found -/
def fIr (h h' : AH) : Prop := ∀ a s, ¬ (a = 200 ∧ (s = 9 ∨ s = 10 ∨ s = 14 ∨ s = 15)) → ¬ (a = 269 ∧ 0 ≤ s) → ¬ (a = 315 ∧ 0 ≤ s) → ¬ (a = 322 ∧ 0 ≤ s) → h' a s = h a s
theorem fIr_t {h h1 h2 : AH} (x : fIr h h1) (y : fIr h1 h2) : fIr h h2 := fun a s z1 z2 z3 z4 => (y a s z1 z2 z3 z4).trans (x a s z1 z2 z3 z4)
theorem fI_Ir {h h' : AH} (f : fI h h') : fIr h h' := fun a s z1 z2 z3 _ => f a s z1 z2 z3
theorem XT_w {h h' : AH} {E : EV} {W : Int → Int → Int → VW} {K : AK} {p : Nat} {T : TB} (f : ∀ a s, 0 ≤ s → ((a = 200 ∧ s = 16) ∨ a = 271 ∨ a = 289 ∨ (a = 307 ∧ s = 0) ∨ (308 ≤ a ∧ a ≤ 317)) → h' a s = h a s) (x : XT h E W K p T) : XT h' E W K p T := ⟨XI_w (fun a s s0 y => f a s s0 (by omega)) x.1, x.2.1, by rw [f 314 _ (by omega) (by omega)]; exact x.2.2.1, x.2.2.2⟩
/-- what the i-th that meets changes -/
def fMi (h h' : AH) : Prop := ∀ a s, ¬ (a = 200 ∧ (s = 9 ∨ s = 10 ∨ s = 14 ∨ s = 15)) → ¬ (a = 269 ∧ 0 ≤ s) → ¬ (a = 307 ∧ (s = 0 ∨ (19 ≤ s ∧ s ≤ 21))) → ¬ (308 ≤ a ∧ a ≤ 320 ∧ a ≠ 314 ∧ a ≠ 318 ∧ a ≠ 319 ∧ 0 ≤ s) → ¬ (a = 322 ∧ 0 ≤ s) → ¬ (324 ≤ a ∧ a ≤ 329 ∧ 0 ≤ s) → h' a s = h a s
theorem fMi_t {h h1 h2 : AH} (x : fMi h h1) (y : fMi h1 h2) : fMi h h2 := fun a s z1 z2 z3 z4 z5 z6 => (y a s z1 z2 z3 z4 z5 z6).trans (x a s z1 z2 z3 z4 z5 z6)
theorem fIr_M {h h' : AH} (f : fIr h h') : fMi h h' := fun a s z1 z2 z3 z4 z5 z6 => f a s z1 z2 (by omega) z5
theorem fI_M {h h' : AH} (f : fI h h') : fMi h h' := fIr_M (fI_Ir f)
theorem fJ_M {h h' : AH} (f : fJx 0 h h') : fMi h h' := fun a s z1 z2 z3 z4 z5 z6 => f a s (by omega) z2 z3 z4 (by omega) z6
theorem fMi_A {h h' : AH} (f : fMi h h') : agX h h' := fun a s y => by
  unfold nA at y
  exact f a s (by omega) (by omega) (by omega) (by omega) (by omega) (by omega)
theorem mi_st {h h1 : AH} {E : EV} {Rf : Int → TR} {W : Int → Int → Int → VW} {K : AK} {p : Nat} {T : TB} {a v : Int} (q1 : ∀ f, 0 ≤ f → f < 120 → h 322 f = if f < a then wMt E W K p f else 0) (xt : XT h1 E W K p T) (fr : fI h h1) (ak : akX h1 E Rf W K) (a0 : 0 ≤ a) (hv : v = wMt E W K p a) : (∀ f, 0 ≤ f → f < 120 → jst h1 322 a v 322 f = if f < a + 1 then wMt E W K p f else 0) ∧ XT (jst h1 322 a v) E W K p T ∧ akX (jst h1 322 a v) E Rf W K ∧ fIr h (jst h1 322 a v) := by
  have F : ∀ x s, ¬ (x = 322 ∧ s = a) → jst h1 322 a v x s = h1 x s := fun x s y => jst_o y
  refine ⟨fun f f0 f1 => ?_, XT_w (fun x s s0 y => F x s (by omega)) xt, akX_n ak (fun x s y => F x s (by unfold nA at y; omega)) (by unfold b10; rw [F _ _ (by omega)]; exact ak.1.1.2.2.2.2), fun x s z1 z2 z3 z4 => (F x s (by omega)).trans (fr x s z1 z2 z3)⟩
  by_cases y : f = a
  · rw [y, if_pos (by omega)]
    exact jst_eq.trans hv
  · rw [F _ _ (by omega), fr _ _ (by omega) (by omega) (by omega), q1 f f0 f1]
    by_cases u : f < a
    · rw [if_pos u, if_pos (by omega)]
    · rw [if_neg u, if_neg (by omega)]
theorem vX5_ithMeeting_l32 (i1 : Int) (i2 : Int) (i5 : Int) (a60 : Int) {h0 : AH} {E : EV} {Rf : Int → TR} {W : Int → Int → Int → VW} {K : AK} {p : Nat} {T : TB} (ak : akX h0 E Rf W K) (xt : XT h0 E W K p T) (ip : i1 = p ∧ p ≤ 12) (zr : i5 = 0 ∧ ∀ f, 0 ≤ f → f < 120 → h0 322 f = 0) (z : a60 = 0) : OK (gX5_ithMeeting_l32 i1 i2 i5 a60 h0) (fun h' => (∀ f, 0 ≤ f → f < 120 → h' 322 f = wMt E W K p f) ∧ (XT h' E W K p T ∧ akX h' E Rf W K ∧ fIr h0 h')) := by
  unfold gX5_ithMeeting_l32
  refine OK_jit (I := (fun (s : Int × AH) => jt2 s fun a6 h => (0 ≤ a6 ∧ a6 ≤ (LV E W (kP K) (kA K) p).1) ∧ (∀ f, 0 ≤ f → f < 120 → h 322 f = if f < a6 then wMt E W K p f else 0) ∧ (XT h E W K p T) ∧ (akX h E Rf W K) ∧ (fIr h0 h))) (m := (fun (s : Int × AH) => jt2 s fun a6 h => ((LV E W (kP K) (kA K) p).1 - a6).toNat)) ?_ ?_
  · intro s hs
    obtain ⟨a6, h⟩ := s
    dsimp only [Sum.elim_inl, Sum.elim_inr, jt2, jt3, jt4, jt5, jt6, jt7, jt8] at hs
    obtain ⟨q0, q1, xh, kh, fr⟩ := hs
    unfold gX5_ithMeeting_b32
    refine OK_jt2 ?_
    have n3 : h 314 i1 = (LV E W (kP K) (kA K) p).1 := by { rw [ip.1]; exact xh.2.2.1 }
    have n120 := xh.2.2.2.1
    have w21 : w32 (a6 + 1) = a6 + 1 := w32_id (by omega) (by omega)
    have w5 : w32 (i5 + a6) = a6 := by { rw [w32_id (by omega) (by omega)]; omega }
    refine OK_jg (by (first | assumption | omega | ((try dsimp only [jt2, jt3, jt4]); first | omega | (simp (disch := omega) only [jst_eq, jst_ne, jst_ni, jst_o, jI_i, jcpy_out, w32_id, jdiv_nn, jshr_k, jand_255] <;> first | done | omega | assumption)) | (intros; simp (disch := omega) only [jst_eq, jst_ne, jst_ni, jst_o, jI_i, jcpy_out, w32_id, jdiv_nn, *] <;> first | done | omega) | (intros; simp (disch := omega) only [jst_eq, jst_ne, jst_ni, jst_o, jI_i, jcpy_out, w32_id, jdiv_nn] at * <;> first | done | omega | assumption) | (intros; first | rfl | (exfalso; omega) | ((repeat' apply And.intro) <;> first | assumption | rfl | omega | trivial)))) ?_ -- o1
    refine OK_if (fun c1 => ?_) (fun c1 => ?_)
    · skip
      try simp (disch := omega) only [jst_eq, jst_ne, jst_ni, jI_i, jcmp_lt, jcmp_gt, w32_id, jcpy_out, Sum.elim_inl, Sum.elim_inr, jt2, jt3, jt4, jt5, jt6, jt7, jt8] at c1
      refine OK_ir ?_
      try dsimp only [Sum.elim_inl, Sum.elim_inr, jt2, jt3, jt4, jt5, jt6, jt7, jt8]
      refine ⟨?_, ?_⟩
      · (intro f f0 f1; rw [q1 f f0 f1]; by_cases y : f < a6; { exact if_pos y }; { rw [if_neg y]; symm; exact cif_n (fun z => by (have := z.1; omega)) }) -- o2 e1.1
      · exact ⟨xh, kh, fr⟩ -- o3 e1.2
    · skip
      try simp (disch := omega) only [jst_eq, jst_ne, jst_ni, jI_i, jcmp_lt, jcmp_gt, w32_id, jcpy_out, Sum.elim_inl, Sum.elim_inr, jt2, jt3, jt4, jt5, jt6, jt7, jt8] at c1
      refine OK_jb2 (vIM (E := E) (Rf := Rf) (W := W) (K := K) (p := p) (T := T) _ (by exact kh) (by exact xh) (by (first | assumption | omega | ((try dsimp only [jt2, jt3, jt4]); first | omega | (simp (disch := omega) only [jst_eq, jst_ne, jst_ni, jst_o, jI_i, jcpy_out, w32_id, jdiv_nn, jshr_k, jand_255] <;> first | done | omega | assumption)) | (intros; simp (disch := omega) only [jst_eq, jst_ne, jst_ni, jst_o, jI_i, jcpy_out, w32_id, jdiv_nn, *] <;> first | done | omega) | (intros; simp (disch := omega) only [jst_eq, jst_ne, jst_ni, jst_o, jI_i, jcpy_out, w32_id, jdiv_nn] at * <;> first | done | omega | assumption) | (intros; first | rfl | (exfalso; omega) | ((repeat' apply And.intro) <;> first | assumption | rfl | omega | trivial))))) (fun v17 h18 r1 => ?_)
      try dsimp only [Sum.elim_inl, Sum.elim_inr, jt2, jt3, jt4, jt5, jt6, jt7, jt8] at r1
      obtain ⟨im1, xt1, fr1, ak1⟩ := r1
      try simp (disch := omega) only [jst_eq, jst_ne, jst_ni, jI_i, jcmp_lt, jcmp_gt, w32_id, jcpy_out, Sum.elim_inl, Sum.elim_inr, jt2, jt3, jt4, jt5, jt6, jt7, jt8] at im1
      try simp (disch := omega) only [jst_eq, jst_ne, jst_ni, jI_i, jcmp_lt, jcmp_gt, w32_id, jcpy_out, Sum.elim_inl, Sum.elim_inr, jt2, jt3, jt4, jt5, jt6, jt7, jt8] at xt1
      try simp (disch := omega) only [jst_eq, jst_ne, jst_ni, jI_i, jcmp_lt, jcmp_gt, w32_id, jcpy_out, Sum.elim_inl, Sum.elim_inr, jt2, jt3, jt4, jt5, jt6, jt7, jt8] at fr1
      try simp (disch := omega) only [jst_eq, jst_ne, jst_ni, jI_i, jcmp_lt, jcmp_gt, w32_id, jcpy_out, Sum.elim_inl, Sum.elim_inr, jt2, jt3, jt4, jt5, jt6, jt7, jt8] at ak1
      refine OK_if (fun c2 => ?_) (fun c2 => ?_)
      · skip
        try simp (disch := omega) only [jst_eq, jst_ne, jst_ni, jI_i, jcmp_lt, jcmp_gt, w32_id, jcpy_out, Sum.elim_inl, Sum.elim_inr, jt2, jt3, jt4, jt5, jt6, jt7, jt8] at c2
        have MI := mi_st (v := 0) q1 xt1 fr1 ak1 q0.1 (by symm; exact cif_n (fun y => by rcases im1 with u | u; { omega }; { exact u.2 y.2 }))
        try rw [w5]
        unfold gX5_ithMeeting_j66_32
        refine OK_jg (by (first | assumption | omega | ((try dsimp only [jt2, jt3, jt4]); first | omega | (simp (disch := omega) only [jst_eq, jst_ne, jst_ni, jst_o, jI_i, jcpy_out, w32_id, jdiv_nn, jshr_k, jand_255] <;> first | done | omega | assumption)) | (intros; simp (disch := omega) only [jst_eq, jst_ne, jst_ni, jst_o, jI_i, jcpy_out, w32_id, jdiv_nn, *] <;> first | done | omega) | (intros; simp (disch := omega) only [jst_eq, jst_ne, jst_ni, jst_o, jI_i, jcpy_out, w32_id, jdiv_nn] at * <;> first | done | omega | assumption) | (intros; first | rfl | (exfalso; omega) | ((repeat' apply And.intro) <;> first | assumption | rfl | omega | trivial)))) ?_ -- o7
        refine OK_jl ?_
        refine OK_jlx (fun x21 ex21 => ?_)
        try simp (disch := omega) only [jst_eq, jst_ne, jst_ni, jI_i, jcmp_lt, jcmp_gt, w32_id, jcpy_out, Sum.elim_inl, Sum.elim_inr, jt2, jt3, jt4, jt5, jt6, jt7, jt8] at ex21
        refine OK_il ?_ ?_
        · try dsimp only [Sum.elim_inl, Sum.elim_inr, jt2, jt3, jt4, jt5, jt6, jt7, jt8]
          refine ⟨?_, ?_, ?_, ?_, ?_⟩
          · (first | assumption | omega | ((try dsimp only [jt2, jt3, jt4]); first | omega | (simp (disch := omega) only [jst_eq, jst_ne, jst_ni, jst_o, jI_i, jcpy_out, w32_id, jdiv_nn, jshr_k, jand_255] <;> first | done | omega | assumption)) | (intros; simp (disch := omega) only [jst_eq, jst_ne, jst_ni, jst_o, jI_i, jcpy_out, w32_id, jdiv_nn, *] <;> first | done | omega) | (intros; simp (disch := omega) only [jst_eq, jst_ne, jst_ni, jst_o, jI_i, jcpy_out, w32_id, jdiv_nn] at * <;> first | done | omega | assumption) | (intros; first | rfl | (exfalso; omega) | ((repeat' apply And.intro) <;> first | assumption | rfl | omega | trivial))) -- o8 e2i.1
          · (rw [show x21 = a6 + 1 by omega]; exact MI.1) -- o9 e2i.2
          · exact MI.2.1 -- o10 e2i.3
          · exact MI.2.2.1 -- o11 e2i.4
          · exact fIr_t fr MI.2.2.2 -- o12 e2i.5
        · (first | assumption | omega | ((try dsimp only [jt2, jt3, jt4]); first | omega | (simp (disch := omega) only [jst_eq, jst_ne, jst_ni, jst_o, jI_i, jcpy_out, w32_id, jdiv_nn, jshr_k, jand_255] <;> first | done | omega | assumption)) | (intros; simp (disch := omega) only [jst_eq, jst_ne, jst_ni, jst_o, jI_i, jcpy_out, w32_id, jdiv_nn, *] <;> first | done | omega) | (intros; simp (disch := omega) only [jst_eq, jst_ne, jst_ni, jst_o, jI_i, jcpy_out, w32_id, jdiv_nn] at * <;> first | done | omega | assumption) | (intros; first | rfl | (exfalso; omega) | ((repeat' apply And.intro) <;> first | assumption | rfl | omega | trivial))) -- o13 e2m
      · skip
        try simp (disch := omega) only [jst_eq, jst_ne, jst_ni, jI_i, jcmp_lt, jcmp_gt, w32_id, jcpy_out, Sum.elim_inl, Sum.elim_inr, jt2, jt3, jt4, jt5, jt6, jt7, jt8] at c2
        have MI := mi_st (v := 1) q1 xt1 fr1 ak1 q0.1 (by symm; exact cif_y ⟨by omega, by rcases im1 with u | u; { exact u.2 }; { omega }⟩)
        try rw [w5]
        unfold gX5_ithMeeting_j66_32
        refine OK_jg (by (first | assumption | omega | ((try dsimp only [jt2, jt3, jt4]); first | omega | (simp (disch := omega) only [jst_eq, jst_ne, jst_ni, jst_o, jI_i, jcpy_out, w32_id, jdiv_nn, jshr_k, jand_255] <;> first | done | omega | assumption)) | (intros; simp (disch := omega) only [jst_eq, jst_ne, jst_ni, jst_o, jI_i, jcpy_out, w32_id, jdiv_nn, *] <;> first | done | omega) | (intros; simp (disch := omega) only [jst_eq, jst_ne, jst_ni, jst_o, jI_i, jcpy_out, w32_id, jdiv_nn] at * <;> first | done | omega | assumption) | (intros; first | rfl | (exfalso; omega) | ((repeat' apply And.intro) <;> first | assumption | rfl | omega | trivial)))) ?_ -- o14
        refine OK_jl ?_
        refine OK_jlx (fun x21 ex21 => ?_)
        try simp (disch := omega) only [jst_eq, jst_ne, jst_ni, jI_i, jcmp_lt, jcmp_gt, w32_id, jcpy_out, Sum.elim_inl, Sum.elim_inr, jt2, jt3, jt4, jt5, jt6, jt7, jt8] at ex21
        refine OK_il ?_ ?_
        · try dsimp only [Sum.elim_inl, Sum.elim_inr, jt2, jt3, jt4, jt5, jt6, jt7, jt8]
          refine ⟨?_, ?_, ?_, ?_, ?_⟩
          · (first | assumption | omega | ((try dsimp only [jt2, jt3, jt4]); first | omega | (simp (disch := omega) only [jst_eq, jst_ne, jst_ni, jst_o, jI_i, jcpy_out, w32_id, jdiv_nn, jshr_k, jand_255] <;> first | done | omega | assumption)) | (intros; simp (disch := omega) only [jst_eq, jst_ne, jst_ni, jst_o, jI_i, jcpy_out, w32_id, jdiv_nn, *] <;> first | done | omega) | (intros; simp (disch := omega) only [jst_eq, jst_ne, jst_ni, jst_o, jI_i, jcpy_out, w32_id, jdiv_nn] at * <;> first | done | omega | assumption) | (intros; first | rfl | (exfalso; omega) | ((repeat' apply And.intro) <;> first | assumption | rfl | omega | trivial))) -- o15 e3i.1
          · (rw [show x21 = a6 + 1 by omega]; exact MI.1) -- o16 e3i.2
          · exact MI.2.1 -- o17 e3i.3
          · exact MI.2.2.1 -- o18 e3i.4
          · exact fIr_t fr MI.2.2.2 -- o19 e3i.5
        · (first | assumption | omega | ((try dsimp only [jt2, jt3, jt4]); first | omega | (simp (disch := omega) only [jst_eq, jst_ne, jst_ni, jst_o, jI_i, jcpy_out, w32_id, jdiv_nn, jshr_k, jand_255] <;> first | done | omega | assumption)) | (intros; simp (disch := omega) only [jst_eq, jst_ne, jst_ni, jst_o, jI_i, jcpy_out, w32_id, jdiv_nn, *] <;> first | done | omega) | (intros; simp (disch := omega) only [jst_eq, jst_ne, jst_ni, jst_o, jI_i, jcpy_out, w32_id, jdiv_nn] at * <;> first | done | omega | assumption) | (intros; first | rfl | (exfalso; omega) | ((repeat' apply And.intro) <;> first | assumption | rfl | omega | trivial))) -- o20 e3m
  · try dsimp only [Sum.elim_inl, Sum.elim_inr, jt2, jt3, jt4, jt5, jt6, jt7, jt8]
    refine ⟨?_, ?_, ?_, ?_, ?_⟩
    · (have l := LV_0 (E := E) (W := W) (pts := kP K) (A := kA K) p; omega) -- o21 init.1
    · (intro f f0 f1; rw [z, if_neg (by omega)]; exact zr.2 f f0 f1) -- o22 init.2
    · exact xt -- o23 init.3
    · exact ak -- o24 init.4
    · exact fun _ _ _ _ _ _ => rfl -- o25 init.5
theorem vX5_ithMeeting (a1 : Int) (a2 : Int) {h : AH} {E : EV} {Rf : Int → TR} {W : Int → Int → Int → VW} {K : AK} {p : Nat} {T : TB} (ak : akX h E Rf W K) (xt : XT h E W K p T) (tq : TQ E W (kP K) (kA K) p T) (cc : ∀ (i f : Int), 0 ≤ i → i ≤ (p : Int) → 0 ≤ f → f < 120 → h 321 (120 * i + f) = ct E W (kP K) (kA K) i f) (ip : a1 = p ∧ a2 < 9223372036854775808) (cp : capT h 324 2200 ∧ h 324 0 = 0) : OK (gX5_ithMeeting a1 a2 h) (fun r => jt2 r fun v h' => ((v = -1 ∧ ¬ (0 ≤ a2 ∧ a2 < mtC E W K p) ∧ pj h' = pj h) ∨ (0 ≤ v ∧ (0 ≤ a2 ∧ a2 < mtC E W K p) ∧ ∃ R, itF E W K p a2 R ∧ itG E W (kP K) (kA K) T p (wMt E W K p) p R (h' 307 21) (h' 307 20) ∧ poC 324 R (pj h) v (pj h'))) ∧ (akX h' E Rf W K ∧ JXq h' E Rf W (kA K) (kP K) K.1.2.2.1 K.1.2.2.2 (MKa E W K) T p ∧ fMi h h')) := by
  have n12 := tq.1.1
  have T120 := xt.1.1
  have mb := mtC_b (K := K) tq.1
  unfold gX5_ithMeeting
  refine OK_if (fun c1 => ?_) (fun c1 => ?_)
  · skip
    try simp (disch := omega) only [jst_eq, jst_ne, jst_ni, jI_i, jcmp_lt, jcmp_gt, w32_id, jcpy_out, Sum.elim_inl, Sum.elim_inr, jt2, jt3, jt4, jt5, jt6, jt7, jt8] at c1
    have c1w : a2 < 0 := by first | exact c1 | exact jcmp_lt.1 c1
    refine OK_some ?_
    try dsimp only [Sum.elim_inl, Sum.elim_inr, jt2, jt3, jt4, jt5, jt6, jt7, jt8]
    try dsimp only [Sum.elim_inl, Sum.elim_inr, jt2, jt3, jt4, jt5, jt6, jt7, jt8]
    refine ⟨?_, ?_⟩
    · exact Or.inl ⟨rfl, fun y => by omega, rfl⟩ -- o1 e1.1
    · exact ⟨ak, ⟨ak.1, xt.1, cc⟩, fun _ _ _ _ _ _ _ _ => rfl⟩ -- o2 e1.2
  · skip
    try simp (disch := omega) only [jst_eq, jst_ne, jst_ni, jI_i, jcmp_lt, jcmp_gt, w32_id, jcpy_out, Sum.elim_inl, Sum.elim_inr, jt2, jt3, jt4, jt5, jt6, jt7, jt8] at c1
    have c1w : ¬ a2 < 0 := by first | exact c1 | exact fun y => c1 (jcmp_lt.2 y)
    have A0 : 0 ≤ a2 := by omega
    refine OK_jb2 (vX5_meeting (E := E) (Rf := Rf) (W := W) (K := K) (p := p) (T := T) _ (by exact ak) (by exact xt) (by exact fun f f0 f1 => cc p f (by omega) (by omega) f0 f1) (by omega)) (fun v3 h4 r1 => ?_)
    try dsimp only [Sum.elim_inl, Sum.elim_inr, jt2, jt3, jt4, jt5, jt6, jt7, jt8] at r1
    obtain ⟨mc1, fs1⟩ := r1
    try simp (disch := omega) only [jst_eq, jst_ne, jst_ni, jI_i, jcmp_lt, jcmp_gt, w32_id, jcpy_out, Sum.elim_inl, Sum.elim_inr, jt2, jt3, jt4, jt5, jt6, jt7, jt8] at mc1
    try simp (disch := omega) only [jst_eq, jst_ne, jst_ni, jI_i, jcmp_lt, jcmp_gt, w32_id, jcpy_out, Sum.elim_inl, Sum.elim_inr, jt2, jt3, jt4, jt5, jt6, jt7, jt8] at fs1
    obtain ⟨x4, f4, k4⟩ := fs1
    have MC : v3 = mtC E W K p := by { rw [← w64_id (x := mtC E W K p) (by omega) (by omega)]; first | exact mc1 | assumption }
    have CC4 : ∀ (i f : Int), 0 ≤ i → i ≤ (p : Int) → 0 ≤ f → f < 120 → h4 321 (120 * i + f) = ct E W (kP K) (kA K) i f := fun i f a b c d => by { rw [f4 _ _ (by omega) (by omega) (by omega)]; exact cc i f a b c d }
    have PJ4 : pj h4 = pj h := pj_f (fun a s a0 a1 => f4 a s (by omega) (by omega) (by omega))
    refine OK_if (fun c2 => ?_) (fun c2 => ?_)
    · skip
      try simp (disch := omega) only [jst_eq, jst_ne, jst_ni, jI_i, jcmp_lt, jcmp_gt, w32_id, jcpy_out, Sum.elim_inl, Sum.elim_inr, jt2, jt3, jt4, jt5, jt6, jt7, jt8] at c2
      have c2w : a2 < v3 := by first | exact c2 | exact jcmp_lt.1 c2
      refine OK_jl ?_
      have F6 : ∀ a s, ¬ (a = 307 ∧ s = 19) → jst h4 307 19 0 a s = h4 a s := fun a s y => jst_o y
      have K6 : jst h4 307 19 0 307 19 = 0 := jst_eq
      generalize eg6 : jst h4 307 19 0 = g6 at *
      refine OK_jb2 (vX5_newRow (by omega)) (fun v8 h9 r2 => ?_)
      try dsimp only [Sum.elim_inl, Sum.elim_inr, jt2, jt3, jt4, jt5, jt6, jt7, jt8] at r2
      obtain ⟨vn2, zr2, fs2⟩ := r2
      try simp (disch := omega) only [jst_eq, jst_ne, jst_ni, jI_i, jcmp_lt, jcmp_gt, w32_id, jcpy_out, Sum.elim_inl, Sum.elim_inr, jt2, jt3, jt4, jt5, jt6, jt7, jt8] at vn2
      try simp (disch := omega) only [jst_eq, jst_ne, jst_ni, jI_i, jcmp_lt, jcmp_gt, w32_id, jcpy_out, Sum.elim_inl, Sum.elim_inr, jt2, jt3, jt4, jt5, jt6, jt7, jt8] at zr2
      try simp (disch := omega) only [jst_eq, jst_ne, jst_ni, jI_i, jcmp_lt, jcmp_gt, w32_id, jcpy_out, Sum.elim_inl, Sum.elim_inr, jt2, jt3, jt4, jt5, jt6, jt7, jt8] at fs2
      have V8 : v8 = 0 := by omega
      have F9 : ∀ a s, ¬ (a = 307 ∧ s = 19) → ¬ (a = 322 ∧ 0 ≤ s) → h9 a s = h4 a s := fun a s y1 y2 => by { rw [fs2 a s y1 (by omega)]; exact F6 a s y1 }
      have xt9 := XT_w (h' := h9) (fun a s s0 y => F9 a s (by omega) (by omega)) x4
      have ak9 := akX_n k4 (h' := h9) (fun a s y => by unfold nA at y; exact F9 a s (by omega) (by omega)) (by unfold b10; rw [F9 _ _ (by omega) (by omega)]; exact k4.1.1.2.2.2.2)
      have F9M : fMi h4 h9 := fun a s y1 y2 y3 y4 y5 y6 => F9 a s (by omega) y5
      refine OK_jb (vX5_ithMeeting_l32 (E := E) (Rf := Rf) (W := W) (K := K) (p := p) (T := T) _ _ _ _ (by exact ak9) (by exact xt9) (by omega) (by exact ⟨V8, fun f f0 f1 => by (have q := zr2 f f0 f1; rw [K6, Int.zero_add] at q; exact q)⟩) (by rfl)) (fun o10 r3 => ?_)
      try dsimp only [Sum.elim_inl, Sum.elim_inr, jt2, jt3, jt4, jt5, jt6, jt7, jt8] at r3
      obtain ⟨rw3, fs3⟩ := r3
      try simp (disch := omega) only [jst_eq, jst_ne, jst_ni, jI_i, jcmp_lt, jcmp_gt, w32_id, jcpy_out, Sum.elim_inl, Sum.elim_inr, jt2, jt3, jt4, jt5, jt6, jt7, jt8] at rw3
      try simp (disch := omega) only [jst_eq, jst_ne, jst_ni, jI_i, jcmp_lt, jcmp_gt, w32_id, jcpy_out, Sum.elim_inl, Sum.elim_inr, jt2, jt3, jt4, jt5, jt6, jt7, jt8] at fs3
      obtain ⟨x10, k10, f10⟩ := fs3
      have FM10 : fMi h o10 := fMi_t (fI_M f4) (fMi_t F9M (fIr_M f10))
      have PJ10 : pj o10 = pj h := (pj_f (fun a s a0 a1 => (f10 a s (by omega) (by omega) (by omega) (by omega)).trans (F9 a s (by omega) (by omega)))).trans PJ4
      have N10 : o10 324 0 = 0 := by { rw [f10 _ _ (by omega) (by omega) (by omega) (by omega), F9 _ _ (by omega) (by omega), f4 _ _ (by omega) (by omega) (by omega)]; exact cp.2 }
      have U10 : o10 307 19 = 120 := by { rw [f10 _ _ (by omega) (by omega) (by omega) (by omega)]; omega }
      have C10 : capT o10 324 2200 := capT_fr cp.1 (fun a a0 a1 => FM10 a (-1) (by omega) (by omega) (by omega) (by omega) (by omega) (by omega))
      have J10 : JXq o10 E Rf W (kA K) (kP K) K.1.2.2.1 K.1.2.2.2 (MKa E W K) T p := ⟨k10.1, x10.1, fun i f a b c d => by (rw [FM10 _ _ (by omega) (by omega) (by omega) (by omega) (by omega) (by omega)]; exact cc i f a b c d)⟩
      have TW := tw_mt (E := E) (W := W) (K := K) (p := p) (T := T) tq.2.1.1
      refine OK_jb2 (vX5_ith (E := E) (Rf := Rf) (W := W) (A := kA K) (pts := kP K) (wh := K.1.2.2.1) (rv := K.1.2.2.2) (M := MKa E W K) (T := T) (n := p) (w := wMt E W K p) (U := 120) _ _ _ (by exact J10) (by exact tq) (by omega) (by exact ⟨by omega, fun f f0 f1 => by (rw [V8, Int.zero_add]; exact rw3 f f0 (by omega)), wM_0⟩) (by omega) (by exact ⟨⟨U10, by omega⟩, C10, by omega, by omega⟩) (by (rw [ip.1, TW]; omega))) (fun v13 h14 r4 => ?_)
      try dsimp only [Sum.elim_inl, Sum.elim_inr, jt2, jt3, jt4, jt5, jt6, jt7, jt8] at r4
      obtain ⟨ia4, jj4, fs4⟩ := r4
      try simp (disch := omega) only [jst_eq, jst_ne, jst_ni, jI_i, jcmp_lt, jcmp_gt, w32_id, jcpy_out, Sum.elim_inl, Sum.elim_inr, jt2, jt3, jt4, jt5, jt6, jt7, jt8] at ia4
      try simp (disch := omega) only [jst_eq, jst_ne, jst_ni, jI_i, jcmp_lt, jcmp_gt, w32_id, jcpy_out, Sum.elim_inl, Sum.elim_inr, jt2, jt3, jt4, jt5, jt6, jt7, jt8] at jj4
      try simp (disch := omega) only [jst_eq, jst_ne, jst_ni, jI_i, jcmp_lt, jcmp_gt, w32_id, jcpy_out, Sum.elim_inl, Sum.elim_inr, jt2, jt3, jt4, jt5, jt6, jt7, jt8] at fs4
      refine OK_some ?_
      try dsimp only [Sum.elim_inl, Sum.elim_inr, jt2, jt3, jt4, jt5, jt6, jt7, jt8]
      try dsimp only [Sum.elim_inl, Sum.elim_inr, jt2, jt3, jt4, jt5, jt6, jt7, jt8]
      refine ⟨?_, ?_⟩
      · (obtain ⟨v0, R, f, r, z1, z2, z3, z4⟩ := ia4; rw [ip.1] at z1; have IG := itR_ok tq x10.1.2.2.2.2 41 p (wMt E W K p) a2 R f r (by omega) (Int.le_refl _) wM_0 A0 z1; refine Or.inr ⟨v0, ⟨A0, by omega⟩, R, ⟨f, r, itR_L tq x10.1.2.2.2.2 41 p _ _ a2 R f r (by omega) (Int.le_refl _) wM_0 A0 (fun _ _ _ => rfl) z1⟩, ?_, by (rw [← PJ10]; exact z2)⟩; rw [z3, z4]; exact IG) -- o20 e2.1
      · exact ⟨akX_n k10 (fMi_A (fJ_M (fJ_le fs4.1 (by omega)))) (JX_b jj4), jj4, fMi_t FM10 (fJ_M (fJ_le fs4.1 (by omega)))⟩ -- o21 e2.2
    · skip
      try simp (disch := omega) only [jst_eq, jst_ne, jst_ni, jI_i, jcmp_lt, jcmp_gt, w32_id, jcpy_out, Sum.elim_inl, Sum.elim_inr, jt2, jt3, jt4, jt5, jt6, jt7, jt8] at c2
      have c2w : ¬ a2 < v3 := by first | exact c2 | exact fun y => c2 (jcmp_lt.2 y)
      refine OK_some ?_
      try dsimp only [Sum.elim_inl, Sum.elim_inr, jt2, jt3, jt4, jt5, jt6, jt7, jt8]
      try dsimp only [Sum.elim_inl, Sum.elim_inr, jt2, jt3, jt4, jt5, jt6, jt7, jt8]
      refine ⟨?_, ?_⟩
      · exact Or.inl ⟨rfl, fun y => by omega, PJ4⟩ -- o22 e3.1
      · exact ⟨k4, ⟨k4.1, x4.1, CC4⟩, fI_M f4⟩ -- o23 e3.2
/-- what looking for a term changes, when none is found -/
def fU9 (h h' : AH) : Prop := ∀ a s, ¬ (a = 200 ∧ (s = 9 ∨ s = 10 ∨ s = 14 ∨ s = 15)) → ¬ (a = 269 ∧ 0 ≤ s) → ¬ (307 ≤ a ∧ a ≤ 329 ∧ 0 ≤ s) → h' a s = h a s
theorem fU_9 {h h' : AH} (f : fU h h') : fU9 h h' := fun a s y1 y2 y3 => f a s y1 y2 (by omega)
theorem fU9_t {h h1 h2 : AH} (x : fU9 h h1) (y : fU9 h1 h2) : fU9 h h2 := fun a s z1 z2 z3 => (y a s z1 z2 z3).trans (x a s z1 z2 z3)
theorem fMi_9 {h h' : AH} (f : fMi h h') : fU9 h h' := fun a s y1 y2 y3 => f a s y1 y2 (by omega) (by omega) (by omega) (by omega)
theorem fU9_B {h h1 h2 : AH} (x : fU9 h h1) (y : fB h1 h2) : fUB h h2 := fun a s z1 z2 z3 => (y a s (by omega) z2 (by omega) (by omega)).trans (x a s (by omega) z2 (by omega))
theorem vX1_ith (a1 : Int) (a2 : Int) {h : AH} {E : EV} {Rf : Int → TR} {W : Int → Int → Int → VW} {K : AK} (x4 : isX4 (h 200 16)) (cA : ∀ a, 0 ≤ a → a < E.1.1 → E.1.2.1 a < 282429536481) (ak : ¬ h (h 200 16) 19 = 0 → asX h E Rf W K (ct E W (kP K) (kA K))) (i0 : a2 < 9223372036854775808) : OK (gX1_ith a1 a2 h) (fun r => jt2 r fun v h' => (∃ r, rfs (¬ h 200 53 = 0) a1 (¬ h (h 200 16) 19 = 0) (lvK E W (kP K) (kA K) a1.toNat) r ∧ ((r ≠ 0 ∧ v = r ∧ fU h h') ∨ (r = 0 ∧ ¬ (0 ≤ a2 ∧ a2 < mtC E W K a1.toNat) ∧ v = -1 ∧ fU9 h h') ∨ (r = 0 ∧ (0 ≤ a2 ∧ a2 < mtC E W K a1.toNat) ∧ ∃ R, itF E W K a1.toNat a2 R ∧ fdK h' E W K R ∧ v = (((txT E.1.2.1 (fun _ => 0) R).length : Nat) : Int) ∧ fUB h h'))) ∧ (¬ h (h 200 16) 19 = 0 → asX h' E Rf W K (ct E W (kP K) (kA K)))) := by
  unfold gX1_ith
  refine OK_jb2 (vX1_known2 (E := E) (Rf := Rf) (W := W) (K := K) (cn := ct E W (kP K) (kA K)) _ (by exact x4) (by exact ak)) (fun v2 h3 r1 => ?_)
  try dsimp only [Sum.elim_inl, Sum.elim_inr, jt2, jt3, jt4, jt5, jt6, jt7, jt8] at r1
  obtain ⟨rf1, st1⟩ := r1
  try simp (disch := omega) only [jst_eq, jst_ne, jst_ni, jI_i, jcmp_lt, jcmp_gt, w32_id, jcpy_out, Sum.elim_inl, Sum.elim_inr, jt2, jt3, jt4, jt5, jt6, jt7, jt8] at rf1
  try simp (disch := omega) only [jst_eq, jst_ne, jst_ni, jI_i, jcmp_lt, jcmp_gt, w32_id, jcpy_out, Sum.elim_inl, Sum.elim_inr, jt2, jt3, jt4, jt5, jt6, jt7, jt8] at st1
  obtain ⟨s1, s2, s3⟩ := st1
  refine OK_if (fun c1 => ?_) (fun c1 => ?_)
  · skip
    try simp (disch := omega) only [jst_eq, jst_ne, jst_ni, jI_i, jcmp_lt, jcmp_gt, w32_id, jcpy_out, Sum.elim_inl, Sum.elim_inr, jt2, jt3, jt4, jt5, jt6, jt7, jt8] at c1
    have v0 : v2 = 0 := by { unfold rfs at rf1; omega }
    obtain ⟨AK3, e, f1, e1, gs⟩ := s3 v0
    have rr : ¬ ¬ h 200 53 = 0 ∧ (1 ≤ a1 ∧ a1 ≤ 12) ∧ (¬ h (h 200 16) 19 = 0) ∧ lvK E W (kP K) (kA K) a1.toNat := by { rcases rf1 with r | r | r | r | r; { omega }; { omega }; { omega }; { omega }; { exact ⟨r.1, r.2.1, r.2.2.1, r.2.2.2.1⟩ } }
    obtain ⟨T, t1, t2, t3, t4, t5, t6⟩ := GSx_TQ AK3 gs (by omega)
    have ep : ((a1.toNat : Nat) : Int) = a1 := by omega
    have TQp := TQ_le t6 ⟨AK3.1.1.2.1.2.1, wOK_ty AK3.1.1.2.1.2.2.1⟩ (m := a1.toNat) (by omega) (by omega)
    have g4 := gs.2.2.2.1
    refine OK_jb (vX5_count (E := E) (Rf := Rf) (W := W) (A := kA K) (pts := kP K) (wh := K.1.2.2.1) (rv := K.1.2.2.2) (M := MKa E W K) (T := T) (p := a1.toNat) (n0 := (h3 307 17).toNat) _ (by exact ⟨AK3.1, t1, by omega, t5⟩) (by exact TQp) (by exact fun m l => t4 m (by omega)) (by exact ep.symm)) (fun h6 r2 => ?_)
    try dsimp only [Sum.elim_inl, Sum.elim_inr, jt2, jt3, jt4, jt5, jt6, jt7, jt8] at r2
    obtain ⟨ct2, fs2⟩ := r2
    try simp (disch := omega) only [jst_eq, jst_ne, jst_ni, jI_i, jcmp_lt, jcmp_gt, w32_id, jcpy_out, Sum.elim_inl, Sum.elim_inr, jt2, jt3, jt4, jt5, jt6, jt7, jt8] at ct2
    try simp (disch := omega) only [jst_eq, jst_ne, jst_ni, jI_i, jcmp_lt, jcmp_gt, w32_id, jcpy_out, Sum.elim_inl, Sum.elim_inr, jt2, jt3, jt4, jt5, jt6, jt7, jt8] at fs2
    obtain ⟨n, CTn, n1, n2⟩ := ct2
    have F6 := f17_S fs2.1
    have AK6 := akX_n AK3 (fS_A F6) fs2.2
    have GS6 : GSx h6 E W (kA K) (kP K) (MKa E W K) (ct E W (kP K) (kA K)) e f1 := ⟨gs.1, by rw [fs2.1 _ _ (by omega) (by omega) (by omega) (by omega)]; exact gs.2.1, by rw [fs2.1 _ _ (by omega) (by omega) (by omega) (by omega)]; exact gs.2.2.1, by (rw [CTn.2.2.1]; omega), Or.inr ⟨T, CTn.2.1, t2, t3, fun m l => by (rw [fs2.1 _ _ (by omega) (by omega) (by omega) (by omega)]; exact t4 m l), CTn.2.2.2⟩⟩
    have N120 := TQp.1.2.2.1 a1.toNat (Nat.le_refl _)
    have xt6 : XT h6 E W K a1.toNat T := ⟨CTn.2.1, TQp.2.1, by (rw [fs2.1 _ _ (by omega) (by omega) (by omega) (by omega)]; exact t4 a1.toNat (by omega)), N120, TQp.2.2.1⟩
    refine OK_jl ?_
    have F7 : ∀ a s, ¬ (a = 324 ∧ s = 0) → jst h6 324 0 0 a s = h6 a s := fun a s y => jst_o y
    have K7 : jst h6 324 0 0 324 0 = 0 := jst_eq
    generalize eg7 : jst h6 324 0 0 = g7 at *
    have F7M : fMi h6 g7 := fun a s y1 y2 y3 y4 y5 y6 => F7 a s (by omega)
    have ak7 := akX_n AK6 (fMi_A F7M) (by unfold b10; rw [F7 _ _ (by omega)]; exact AK6.1.1.2.2.2.2)
    have LN := ak7.2.2.2.2.2.2.2.2.2.1
    have C7 : capT g7 324 2200 := ⟨(LN 325 (by decide) (by decide)).2.trans (by decide), (LN 326 (by decide) (by decide)).2.trans (by decide), (LN 327 (by decide) (by decide)).2.trans (by decide), (LN 328 (by decide) (by decide)).2.trans (by decide), (LN 329 (by decide) (by decide)).2.trans (by decide), by decide, by decide, by decide⟩
    refine OK_jb2 (vX5_ithMeeting (E := E) (Rf := Rf) (W := W) (K := K) (p := a1.toNat) (T := T) _ _ (by exact ak7) (by exact XT_w (fun a s s0 y => F7 a s (by omega)) xt6) (by exact TQp) (by (intro i f i0 i1 f0 f1'; rw [F7 _ _ (by omega), CTn.2.2.2 i f i0 (by omega) f0 f1', CTn.2.2.1]; by_cases y : 1 ≤ i; { exact if_pos (by omega) }; { rw [if_neg (by omega), ct_n (by omega)] })) (by exact ⟨ep.symm, i0⟩) (by exact ⟨C7, K7⟩)) (fun v9 h10 r3 => ?_)
    try dsimp only [Sum.elim_inl, Sum.elim_inr, jt2, jt3, jt4, jt5, jt6, jt7, jt8] at r3
    obtain ⟨ir3, st3⟩ := r3
    try simp (disch := omega) only [jst_eq, jst_ne, jst_ni, jI_i, jcmp_lt, jcmp_gt, w32_id, jcpy_out, Sum.elim_inl, Sum.elim_inr, jt2, jt3, jt4, jt5, jt6, jt7, jt8] at ir3
    try simp (disch := omega) only [jst_eq, jst_ne, jst_ni, jI_i, jcmp_lt, jcmp_gt, w32_id, jcpy_out, Sum.elim_inl, Sum.elim_inr, jt2, jt3, jt4, jt5, jt6, jt7, jt8] at st3
    obtain ⟨ak10, jx10, fm10⟩ := st3
    have FM10 : fMi h6 h10 := fMi_t F7M fm10
    have GS10 : GSx h10 E W (kA K) (kP K) (MKa E W K) (ct E W (kP K) (kA K)) e f1 := ⟨gs.1, by rw [FM10 _ _ (by omega) (by omega) (by omega) (by omega) (by omega) (by omega)]; exact GS6.2.1, by rw [FM10 _ _ (by omega) (by omega) (by omega) (by omega) (by omega) (by omega)]; exact GS6.2.2.1, by (rw [FM10 _ _ (by omega) (by omega) (by omega) (by omega) (by omega) (by omega)]; exact GS6.2.2.2.1), Or.inr ⟨T, jx10.2.1, t2, t3, fun m l => by (rw [FM10 _ _ (by omega) (by omega) (by omega) (by omega) (by omega) (by omega), fs2.1 _ _ (by omega) (by omega) (by omega) (by omega)]; exact t4 m l), fun q f a b c d => by (rw [FM10 _ _ (by omega) (by omega) (by omega) (by omega) (by omega) (by omega), FM10 307 _ (by omega) (by omega) (by omega) (by omega) (by omega) (by omega)]; exact CTn.2.2.2 q f a b c d)⟩⟩
    have U10 : fU9 h h10 := fU9_t (fU_9 s1) (fU9_t (fU_9 (fS_U F6)) (fMi_9 FM10))
    refine OK_if (fun c2 => ?_) (fun c2 => ?_)
    · skip
      try simp (disch := omega) only [jst_eq, jst_ne, jst_ni, jI_i, jcmp_lt, jcmp_gt, w32_id, jcpy_out, Sum.elim_inl, Sum.elim_inr, jt2, jt3, jt4, jt5, jt6, jt7, jt8] at c2
      have IL := ir3.resolve_right (fun y => by (have := y.1; omega))
      refine OK_some ?_
      try dsimp only [Sum.elim_inl, Sum.elim_inr, jt2, jt3, jt4, jt5, jt6, jt7, jt8]
      try dsimp only [Sum.elim_inl, Sum.elim_inr, jt2, jt3, jt4, jt5, jt6, jt7, jt8]
      refine ⟨?_, ?_⟩
      · exact ⟨v2, rf1, Or.inr (Or.inl ⟨v0, IL.2.1, rfl, U10⟩)⟩ -- o13 e1.1
      · exact fun _ => ⟨ak10, e, f1, GS10⟩ -- o14 e1.2
    · skip
      try simp (disch := omega) only [jst_eq, jst_ne, jst_ni, jI_i, jcmp_lt, jcmp_gt, w32_id, jcpy_out, Sum.elim_inl, Sum.elim_inr, jt2, jt3, jt4, jt5, jt6, jt7, jt8] at c2
      have IR := ir3.resolve_left (fun y => c2 y.1)
      obtain ⟨v9p, ai, R, itf, IG, po⟩ := IR
      have DS := dpT_sz R
      have DE := dpE_sz (wA40 ak10.1.1.2.1.2.2.2.2.1) IG.2.2.2.1
      have fl := IG.2.2.2.2.2.2.1 K.2.2.2.2
      have SZ := IG.2.1
      have p0 : pj g7 324 0 = 0 := (pj_i (by decide)).trans K7
      have v9e : v9 = 0 := po.1.trans p0
      refine OK_jb (vX1_become (E := E) (Rf := Rf) (W := W) (K := K) (R := R) _ (by exact ak10) (by exact cA) (by exact cX_trX (pj_cX po.2.2.1 (Int.le_refl _)) v9p (by omega)) (by exact nh_nr IG.2.2.2.2.1) (by (rw [fl]; exact IG.2.2.1.1)) (by (rw [fl]; exact ⟨IG.2.2.2.1, IG.2.2.2.2.1⟩)) (by (rw [fl]; omega))) (fun h13 r4 => ?_)
      try dsimp only [Sum.elim_inl, Sum.elim_inr, jt2, jt3, jt4, jt5, jt6, jt7, jt8] at r4
      obtain ⟨fd4, fs4, kk4⟩ := r4
      try simp (disch := omega) only [jst_eq, jst_ne, jst_ni, jI_i, jcmp_lt, jcmp_gt, w32_id, jcpy_out, Sum.elim_inl, Sum.elim_inr, jt2, jt3, jt4, jt5, jt6, jt7, jt8] at fd4
      try simp (disch := omega) only [jst_eq, jst_ne, jst_ni, jI_i, jcmp_lt, jcmp_gt, w32_id, jcpy_out, Sum.elim_inl, Sum.elim_inr, jt2, jt3, jt4, jt5, jt6, jt7, jt8] at fs4
      try simp (disch := omega) only [jst_eq, jst_ne, jst_ni, jI_i, jcmp_lt, jcmp_gt, w32_id, jcpy_out, Sum.elim_inl, Sum.elim_inr, jt2, jt3, jt4, jt5, jt6, jt7, jt8] at kk4
      rw [fl] at fd4
      have LE : h13 336 1 = (((txT E.1.2.1 (fun _ => 0) R).length : Nat) : Int) := by { obtain ⟨hl, q⟩ := fd4; exact q.2.2.1.1 }
      refine OK_some ?_
      try dsimp only [Sum.elim_inl, Sum.elim_inr, jt2, jt3, jt4, jt5, jt6, jt7, jt8]
      try dsimp only [Sum.elim_inl, Sum.elim_inr, jt2, jt3, jt4, jt5, jt6, jt7, jt8]
      refine ⟨?_, ?_⟩
      · exact ⟨v2, rf1, Or.inr (Or.inr ⟨v0, ai, R, itf, fd4, LE, fU9_B U10 fs4⟩)⟩ -- o22 e2.1
      · exact fun _ => ⟨kk4, e, f1, GSx_g (fBF_S (fB_F fs4)) GS10⟩ -- o23 e2.2
  · skip
    try simp (disch := omega) only [jst_eq, jst_ne, jst_ni, jI_i, jcmp_lt, jcmp_gt, w32_id, jcpy_out, Sum.elim_inl, Sum.elim_inr, jt2, jt3, jt4, jt5, jt6, jt7, jt8] at c1
    refine OK_some ?_
    try dsimp only [Sum.elim_inl, Sum.elim_inr, jt2, jt3, jt4, jt5, jt6, jt7, jt8]
    try dsimp only [Sum.elim_inl, Sum.elim_inr, jt2, jt3, jt4, jt5, jt6, jt7, jt8]
    refine ⟨?_, ?_⟩
    · exact ⟨v2, rf1, Or.inl ⟨by omega, rfl, s1⟩⟩ -- o24 e3.1
    · exact s2 -- o25 e3.2

