/-! x: a term is mended -/
theorem vX1_meetsWith_b (a1 : Int) (a2 : Int) (a3 : Int) {h : AH} {E : EV} {Rf : Int → TR} {W : Int → Int → Int → VW} {f : Int → Int → Int → Int} {hl ra : Int → Int} {n wh pts rn ln : Int} {kf rv nn : Int → Int} {lk : Int → Int → Int} {LL LR : Int → TR} {N : Int} {rw : Int → Int} {Rk : Int → TR} {E1 : EV} {Rf1 : Int → TR} {W1 : Int → Int → Int → VW} {g : Int → Int} (m : mtX h E1 Rf1 W1 hl n kf wh rv pts rn ra ln nn lk LL LR) (a : pkX h n kf wh rv pts) (e : enX0 h E Rf W ∧ E.2.2.1 = 0) (c : capX h 324 N) (vw : ∀ k, 0 ≤ k → k < pts → vwX h 324 N a2 (rw k) (Rk k) a1 0 ∧ tyT E n kf (Rk k) 0 ∧ dpE E.1.2.2.2.1 (Rk k) ≤ 100) (rw1 : 0 ≤ a3 ∧ a3 < 121 ∧ ∀ k, 0 ≤ k → k < pts → h 312 (256 * a3 + k) = rw k) (g1 : ∀ k, 0 ≤ k → k < pts → g k = (evT W f (pvA n kf wh rv k) hl (Rk k)).1) (o : E1.2.2.1 = 1 → ∀ p, 0 ≤ p → p < pts → okV (eK E1 (-2) (eO E1 (-2))) (g p)) (l3 : h 323 (-2) = 101 ∧ h 323 (-1) = 256) : OK (gX1_meetsWith a1 a2 a3 h) (fun r => jt2 r fun v h' => ((v = 1 ∧ mtA E1 W1 hl rn (rpA n kf wh rv) ra ln nn lk LL LR g) ∨ (v = 0 ∧ ¬ mtA E1 W1 hl rn (rpA n kf wh rv) ra ln nn lk LL LR g)) ∧ (f912 h h' ∧ -2147483648 ≤ h' 200 10 ∧ h' 200 10 < 2147483648) ∧ (h' 200 11 = -1)) := by
  unfold gX1_meetsWith
  refine OK_jb (vX1_meetsWith_l3 (E := E) (Rf := Rf) (W := W) (f := f) (N := N) (n := n) (wh := wh) (pts := pts) (kf := kf) (rv := rv) (hl := hl) (rw := rw) (Rk := Rk) _ _ _ _ (by (first | assumption | omega | ((try dsimp only [jt2, jt3, jt4]); first | omega | (simp (disch := omega) only [jst_eq, jst_ne, jst_ni, jst_o, jI_i, jcpy_out, w32_id, jdiv_nn, jshr_k, jand_255] <;> first | done | omega | assumption)) | (intros; simp (disch := omega) only [jst_eq, jst_ne, jst_ni, jst_o, jI_i, jcpy_out, w32_id, jdiv_nn, *] <;> first | done | omega) | (intros; simp (disch := omega) only [jst_eq, jst_ne, jst_ni, jst_o, jI_i, jcpy_out, w32_id, jdiv_nn] at * <;> first | done | omega | assumption) | (intros; first | rfl | (exfalso; omega) | ((repeat' apply And.intro) <;> first | assumption | rfl | omega | trivial)))) (by (first | assumption | omega | ((try dsimp only [jt2, jt3, jt4]); first | omega | (simp (disch := omega) only [jst_eq, jst_ne, jst_ni, jst_o, jI_i, jcpy_out, w32_id, jdiv_nn, jshr_k, jand_255] <;> first | done | omega | assumption)) | (intros; simp (disch := omega) only [jst_eq, jst_ne, jst_ni, jst_o, jI_i, jcpy_out, w32_id, jdiv_nn, *] <;> first | done | omega) | (intros; simp (disch := omega) only [jst_eq, jst_ne, jst_ni, jst_o, jI_i, jcpy_out, w32_id, jdiv_nn] at * <;> first | done | omega | assumption) | (intros; first | rfl | (exfalso; omega) | ((repeat' apply And.intro) <;> first | assumption | rfl | omega | trivial)))) (by (first | assumption | omega | ((try dsimp only [jt2, jt3, jt4]); first | omega | (simp (disch := omega) only [jst_eq, jst_ne, jst_ni, jst_o, jI_i, jcpy_out, w32_id, jdiv_nn, jshr_k, jand_255] <;> first | done | omega | assumption)) | (intros; simp (disch := omega) only [jst_eq, jst_ne, jst_ni, jst_o, jI_i, jcpy_out, w32_id, jdiv_nn, *] <;> first | done | omega) | (intros; simp (disch := omega) only [jst_eq, jst_ne, jst_ni, jst_o, jI_i, jcpy_out, w32_id, jdiv_nn] at * <;> first | done | omega | assumption) | (intros; first | rfl | (exfalso; omega) | ((repeat' apply And.intro) <;> first | assumption | rfl | omega | trivial)))) (by (first | assumption | omega | ((try dsimp only [jt2, jt3, jt4]); first | omega | (simp (disch := omega) only [jst_eq, jst_ne, jst_ni, jst_o, jI_i, jcpy_out, w32_id, jdiv_nn, jshr_k, jand_255] <;> first | done | omega | assumption)) | (intros; simp (disch := omega) only [jst_eq, jst_ne, jst_ni, jst_o, jI_i, jcpy_out, w32_id, jdiv_nn, *] <;> first | done | omega) | (intros; simp (disch := omega) only [jst_eq, jst_ne, jst_ni, jst_o, jI_i, jcpy_out, w32_id, jdiv_nn] at * <;> first | done | omega | assumption) | (intros; first | rfl | (exfalso; omega) | ((repeat' apply And.intro) <;> first | assumption | rfl | omega | trivial)))) (by (first | assumption | omega | ((try dsimp only [jt2, jt3, jt4]); first | omega | (simp (disch := omega) only [jst_eq, jst_ne, jst_ni, jst_o, jI_i, jcpy_out, w32_id, jdiv_nn, jshr_k, jand_255] <;> first | done | omega | assumption)) | (intros; simp (disch := omega) only [jst_eq, jst_ne, jst_ni, jst_o, jI_i, jcpy_out, w32_id, jdiv_nn, *] <;> first | done | omega) | (intros; simp (disch := omega) only [jst_eq, jst_ne, jst_ni, jst_o, jI_i, jcpy_out, w32_id, jdiv_nn] at * <;> first | done | omega | assumption) | (intros; first | rfl | (exfalso; omega) | ((repeat' apply And.intro) <;> first | assumption | rfl | omega | trivial)))) (by exact m.1.2.2.2.1) (by exact m.1.2.2.2.2) (by (first | assumption | omega | ((try dsimp only [jt2, jt3, jt4]); first | omega | (simp (disch := omega) only [jst_eq, jst_ne, jst_ni, jst_o, jI_i, jcpy_out, w32_id, jdiv_nn, jshr_k, jand_255] <;> first | done | omega | assumption)) | (intros; simp (disch := omega) only [jst_eq, jst_ne, jst_ni, jst_o, jI_i, jcpy_out, w32_id, jdiv_nn, *] <;> first | done | omega) | (intros; simp (disch := omega) only [jst_eq, jst_ne, jst_ni, jst_o, jI_i, jcpy_out, w32_id, jdiv_nn] at * <;> first | done | omega | assumption) | (intros; first | rfl | (exfalso; omega) | ((repeat' apply And.intro) <;> first | assumption | rfl | omega | trivial))))) (fun o1 r1 => ?_)
  try dsimp only [Sum.elim_inl, Sum.elim_inr, jt2, jt3, jt4, jt5, jt6, jt7, jt8] at r1
  obtain ⟨an1, fs1, bs1⟩ := r1
  try simp (disch := omega) only [jst_eq, jst_ne, jst_ni, jI_i, jcmp_lt, jcmp_gt, w32_id, jcpy_out, Sum.elim_inl, Sum.elim_inr, jt2, jt3, jt4, jt5, jt6, jt7, jt8] at an1
  try simp (disch := omega) only [jst_eq, jst_ne, jst_ni, jI_i, jcmp_lt, jcmp_gt, w32_id, jcpy_out, Sum.elim_inl, Sum.elim_inr, jt2, jt3, jt4, jt5, jt6, jt7, jt8] at fs1
  try simp (disch := omega) only [jst_eq, jst_ne, jst_ni, jI_i, jcmp_lt, jcmp_gt, w32_id, jcpy_out, Sum.elim_inl, Sum.elim_inr, jt2, jt3, jt4, jt5, jt6, jt7, jt8] at bs1
  refine OK_jl ?_
  refine OK_jl ?_
  have F4 : f912 h (jst (jst o1 200 11 (-1)) 200 9 0) := fun a s y1 y2 y3 => by { rw [jst_o (by omega), jst_o (by omega)]; exact fs1 a s y1 y2 y3 }
  have C11 : jst (jst o1 200 11 (-1)) 200 9 0 200 11 = -1 := by { rw [jst_o (by omega)]; exact jst_eq }
  have C10 : jst (jst o1 200 11 (-1)) 200 9 0 200 10 = o1 200 10 := by rw [jst_o (by omega), jst_o (by omega)]
  have C323 : ∀ k, jst (jst o1 200 11 (-1)) 200 9 0 323 k = o1 323 k := fun k => by rw [jst_o (by omega), jst_o (by omega)]
  generalize e4 : jst (jst o1 200 11 (-1)) 200 9 0 = hq at *
  refine OK_jb2 (vX1_meet (E := E1) (Rf := Rf1) (W := W1) (hl := hl) (n := n) (kf := kf) (wh := wh) (rv := rv) (pts := pts) (rn := rn) (ra := ra) (ln := ln) (nn := nn) (lk := lk) (LL := LL) (LR := LR) (g := g) _ _ (by exact mtX_f9 m F4 C11 (by rw [C10]; exact bs1)) (by exact ⟨by rw [F4 _ _ (by omega) (by omega) (by omega)]; exact l3.1, by decide, by decide, by decide, by decide, by rw [F4 _ _ (by omega) (by omega) (by omega), l3.2]; have := a.2.2.2.2.2.2.2.2.2.1; omega, fun p p0 p1 => by rw [Int.zero_add, C323, an1 p p0 p1, g1 p p0 p1]⟩) (by exact o)) (fun v6 h7 r2 => ?_)
  try dsimp only [Sum.elim_inl, Sum.elim_inr, jt2, jt3, jt4, jt5, jt6, jt7, jt8] at r2
  obtain ⟨hv2, fs2⟩ := r2
  try simp (disch := omega) only [jst_eq, jst_ne, jst_ni, jI_i, jcmp_lt, jcmp_gt, w32_id, jcpy_out, Sum.elim_inl, Sum.elim_inr, jt2, jt3, jt4, jt5, jt6, jt7, jt8] at hv2
  try simp (disch := omega) only [jst_eq, jst_ne, jst_ni, jI_i, jcmp_lt, jcmp_gt, w32_id, jcpy_out, Sum.elim_inl, Sum.elim_inr, jt2, jt3, jt4, jt5, jt6, jt7, jt8] at fs2
  refine OK_jg (by (unfold jZ; rcases hv2 with z | z; { exact Or.inr z.1 }; { exact Or.inl z.1 })) ?_ -- o12
  refine OK_some ?_
  try dsimp only [Sum.elim_inl, Sum.elim_inr, jt2, jt3, jt4, jt5, jt6, jt7, jt8]
  try dsimp only [Sum.elim_inl, Sum.elim_inr, jt2, jt3, jt4, jt5, jt6, jt7, jt8]
  refine ⟨?_, ?_, ?_⟩
  · (first | assumption | omega | ((try dsimp only [jt2, jt3, jt4]); first | omega | (simp (disch := omega) only [jst_eq, jst_ne, jst_ni, jst_o, jI_i, jcpy_out, w32_id, jdiv_nn, jshr_k, jand_255] <;> first | done | omega | assumption)) | (intros; simp (disch := omega) only [jst_eq, jst_ne, jst_ni, jst_o, jI_i, jcpy_out, w32_id, jdiv_nn, *] <;> first | done | omega) | (intros; simp (disch := omega) only [jst_eq, jst_ne, jst_ni, jst_o, jI_i, jcpy_out, w32_id, jdiv_nn] at * <;> first | done | omega | assumption) | (intros; first | rfl | (exfalso; omega) | ((repeat' apply And.intro) <;> first | assumption | rfl | omega | trivial))) -- o13 e1.1
  · exact ⟨f912_tr F4 (fun a s y1 y2 y3 => fs2.1 a s (by omega) y2), fs2.2⟩ -- o14 e1.2
  · (rw [fs2.1 _ _ (by omega) (by omega)]; exact C11) -- o15 e1.3
/-- what a function answers at a point -/
noncomputable def mdV (E : EV) (W : Int → Int → Int → VW) (K : AK) (p : Nat) (R : TR) (m f pt : Int) : Int := (evT W (fun _ _ _ => 0) ((kA K).2.2.1 pt) (fun _ => 0) (rpT R m (.leaf (1, QP E W K p f pt, (LV E W (kP K) (kA K) p).2.1 f, 0)))).1
/-- with a function's answers in the place of a node a term meets -/
def mdQ (E : EV) (W : Int → Int → Int → VW) (K : AK) (p : Nat) (R : TR) (m f : Int) : Prop := (LV E W (kP K) (kA K) p).2.1 f = (inf (sbT R m)).2.2.1 ∧ MKa E W K (kR K) (mdV E W K p R m f)
theorem md_ty {E : EV} {W : Int → Int → Int → VW} {K : AK} {p : Nat} {R : TR} {m f pt : Int} (ty : tyT E (kA K).1 (kA K).2.1 R 0) (m0 : 0 ≤ m) (m1 : m < sz R) (k2 : 0 ≤ (LV E W (kP K) (kA K) p).2.1 f ∧ (LV E W (kP K) (kA K) p).2.1 f ≤ 2) (ok : okV ((LV E W (kP K) (kA K) p).2.1 f) (QP E W K p f pt)) (k : (LV E W (kP K) (kA K) p).2.1 f = (inf (sbT R m)).2.2.1) : tyT E (kA K).1 (kA K).2.1 (rpT R m (.leaf (1, QP E W K p f pt, (LV E W (kP K) (kA K) p).2.1 f, 0))) 0 ∧ (inf (rpT R m (.leaf (1, QP E W K p f pt, (LV E W (kP K) (kA K) p).2.1 f, 0)))).2.2.1 = (inf R).2.2.1 := rpT_ty ⟨k2.1, k2.2, .inr (.inl ⟨rfl, rfl, ok⟩)⟩ m0 m1 ty k
theorem md_dE {wA : Int → Int} (W : ∀ a, 26 ≤ a → 0 ≤ wA a) {R : TR} {m v k : Int} : dpE wA (rpT R m (.leaf (1, v, k, 0))) ≤ dpE wA R := by
  have q := rpT_dE W (R := R) (S := .leaf (1, v, k, 0)) (m := m)
  have e : dpE wA (.leaf (1, v, k, 0)) = 0 := by show lwI wA (1, v, k, 0) = 0; unfold lwI; rw [if_neg (show ¬ (1 : Int) = 2 by decide), if_neg (show ¬ (1 : Int) = 4 by decide)]
  omega
def fMw (h h' : AH) : Prop := ∀ a s, ¬ (a = 200 ∧ (s = 9 ∨ s = 10 ∨ s = 11 ∨ s = 12 ∨ s = 14 ∨ s = 15)) → ¬ ((a = 269 ∨ a = 323) ∧ 0 ≤ s) → h' a s = h a s
theorem fMw_r (h : AH) : fMw h h := fun _ _ _ _ => rfl
theorem fMw_t {h h1 h2 : AH} (x : fMw h h1) (y : fMw h1 h2) : fMw h h2 := fun a s z1 z2 => (y a s z1 z2).trans (x a s z1 z2)
theorem fMw_ak {h h' : AH} {E : EV} {Rf : Int → TR} {W : Int → Int → Int → VW} {K : AK} (ak : akX h E Rf W K) (f : fMw h h') (z : h' 200 11 = -1) (b : b10 h') : akX h' E Rf W K := akX_n ak (fun a s y => by
  unfold nA at y
  by_cases q : a = 200 ∧ s = 11
  · rw [q.1, q.2, z]; exact ak.2.1.1.2.2.1.symm
  · exact f a s (by omega) (by omega)) b
/-- x: does it meet with a function in the place of a node? -/
theorem vMW (m f : Int) {h : AH} {E : EV} {Rf : Int → TR} {W : Int → Int → Int → VW} {K : AK} {p : Nat} {T : TB} {R : TR} (ak : akX h E Rf W K) (xt : XT h E W K p T) (c : cX h 324 R 0 0 1) (s : sz R ≤ 1000) (ty : tyT E (kA K).1 (kA K).2.1 R 0) (nh : nhT R) (dk : dpE E.1.2.2.2.1 R ≤ 40) (kd : (inf R).2.2.1 = kR K) (m0 : 0 ≤ m ∧ m < sz R) (f0 : 0 ≤ f ∧ f < (LV E W (kP K) (kA K) p).1) (k : (LV E W (kP K) (kA K) p).2.1 f = (inf (sbT R m)).2.2.1) (k2 : 0 ≤ (LV E W (kP K) (kA K) p).2.1 f ∧ (LV E W (kP K) (kA K) p).2.1 f ≤ 2) : OK (gX1_meetsWith 0 m f h) (fun r => jt2 r fun v h' => ((v = 1 ∧ mdQ E W K p R m f) ∨ (v = 0 ∧ ¬ mdQ E W K p R m f)) ∧ fMw h h' ∧ akX h' E Rf W K ∧ XT h' E W K p T) := by
  have LN := ak.2.2.2.2.2.2.2.2.2.1
  have C4 : capT h 324 2200 := ⟨(LN 325 (by decide) (by decide)).2.trans (by decide), (LN 326 (by decide) (by decide)).2.trans (by decide), (LN 327 (by decide) (by decide)).2.trans (by decide), (LN 328 (by decide) (by decide)).2.trans (by decide), (LN 329 (by decide) (by decide)).2.trans (by decide), by decide, by decide, by decide⟩
  have L323 : h 323 (-2) = 101 ∧ h 323 (-1) = 256 := ⟨(LN 323 (by decide) (by decide)).1.trans (by decide), (LN 323 (by decide) (by decide)).2.trans (by decide)⟩
  have sp := sz_pos R
  have VK := ak.2.2.2.2.2.2.1
  have ew := ak.1.1.2.1.2.2.2.2.2.2.2
  have EX := xt.2.1
  have IE := EX.2 f f0.1 f0.2
  have TXX := xt.1.2.1
  have ek := evF_k E K
  have n120 := xt.2.2.2.1
  have OV : ∀ q, 0 ≤ q → q < kP K → okV ((LV E W (kP K) (kA K) p).2.1 f) (QP E W K p f q) := fun q q0 q1 => xt.2.2.2.2 f q f0.1 f0.2 q0 q1
  have TY : ∀ q, 0 ≤ q → q < kP K → tyT E (kA K).1 (kA K).2.1 (rpT R m (.leaf (1, QP E W K p f q, (LV E W (kP K) (kA K) p).2.1 f, 0))) 0 ∧ (inf (rpT R m (.leaf (1, QP E W K p f q, (LV E W (kP K) (kA K) p).2.1 f, 0)))).2.2.1 = (inf R).2.2.1 := fun q q0 q1 => md_ty ty m0.1 m0.2 k2 (OV q q0 q1) k
  have NH : ∀ q, nhT (rpT R m (.leaf (1, QP E W K p f q, (LV E W (kP K) (kA K) p).2.1 f, 0))) := fun q => rpT_nh (show (1 : Int) ≠ 3 by decide) nh
  have l0 : E.2.2.1 ≠ 1 := by rw [ak.1.1.2.2.1]; decide
  refine OK_mono (vX1_meetsWith_b 0 m f (E := E) (Rf := Rf) (W := W) (f := fun _ _ _ => 0) (hl := K.2.2.2.2) (ra := K.2.1.2) (n := (kA K).1) (wh := K.1.2.2.1) (pts := kP K) (rn := K.2.1.1) (ln := K.2.2.1.1) (kf := (kA K).2.1) (rv := K.1.2.2.2) (nn := K.2.2.1.2.1) (lk := K.2.2.1.2.2.1) (LL := K.2.2.1.2.2.2.1) (LR := K.2.2.1.2.2.2.2) (N := 2200) (rw := fun q => QP E W K p f q) (Rk := fun q => rpT R m (.leaf (1, QP E W K p f q, (LV E W (kP K) (kA K) p).2.1 f, 0))) (E1 := evF E K) (Rf1 := Rf) (W1 := W) (g := mdV E W K p R m f) ak.2.1 (akX_pk ak) ⟨⟨ak.1.1.2.1.1, ak.1.1.2.1.2.1, ak.1.1.2.1.2.2.1, ak.1.1.2.1.2.2.2.2.1, ak.1.1.2.1.2.2.2.2.2.2.1, ew⟩, ak.1.1.2.2.1⟩ ⟨by unfold isX3; omega, C4⟩ (fun q q0 q1 => ⟨?_, (TY q q0 q1).1, ?_⟩) ⟨f0.1, by omega, fun q q0 q1 => ?_⟩ (fun q q0 q1 => ?_) (fun _ q q0 q1 => ?_) L323) (fun r => ?_)
  · have v := cX_vr (N := 2200) (wv := QP E W K p f q) (kd := (LV E W (kP K) (kA K) p).2.1 f) (m := m) c m0.1 m0.2 (Int.le_refl _) (by omega)
    rw [Int.zero_add] at v; exact v
  · have := md_dE (wA := E.1.2.2.2.1) ew (R := R) (m := m) (v := QP E W K p f q) (k := (LV E W (kP K) (kA K) p).2.1 f); omega
  · have e := (TXX.2.2.2.2.2.2.2 f f0.1 (by have := EX.1; omega)).2.2.2.2.1 q q0 q1
    rw [e, IE.2.2.2.2]; rfl
  · unfold mdV
    rw [evT_cg (np := (kA K).1) (N := E.1.1) (W' := W) (f' := fun _ _ _ => 0) (p' := pvA (kA K).1 (kA K).2.1 K.1.2.2.1 K.1.2.2.2 q) (hl' := K.2.2.2.2) (fun _ _ _ _ _ => rfl) (fun c c0 c1 => ak.1.2.2.2.2 q c) (ty_cg l0 (TY q q0 q1).1 (NH q))]
  · rw [ek.2]
    have z := evT_ty (f := fun _ _ _ => 0) (hl := fun _ => 0) (p := (kA K).2.2.1 q) ak.1.1.2.1.2.1 (wOK_ty ak.1.1.2.1.2.2.1) ak.1.1.2.1.2.2.2.1 (fun c c0 c1 => VK.2.1 q c q0 q1 c0 c1) (fun c _ _ => by decide) (TY q q0 q1).1
    rw [(TY q q0 q1).2, kd] at z
    exact z
  · obtain ⟨v, h'⟩ := r
    intro z
    obtain ⟨z1, z2, z3⟩ := z
    have F : fMw h h' := fun a s y1 y2 => z2.1 a s (by omega) (by omega) (by omega)
    refine ⟨?_, F, fMw_ak ak F z3 z2.2, XT_w (fun a s s0 y => F a s (by omega) (by omega)) xt⟩
    rcases z1 with y | y
    · exact .inl ⟨y.1, k, rfl, y.2⟩
    · exact .inr ⟨y.1, fun x => y.2 x.2.2⟩
/-- kinds of the table -/
def kdL (E : EV) (W : Int → Int → Int → VW) (K : AK) (p : Nat) : Prop := ∀ f, 0 ≤ f → f < (LV E W (kP K) (kA K) p).1 → 0 ≤ (LV E W (kP K) (kA K) p).2.1 f ∧ (LV E W (kP K) (kA K) p).2.1 f ≤ 2
/-- x: what mending stands on -/
def mnX (h : AH) (E : EV) (Rf : Int → TR) (W : Int → Int → Int → VW) (K : AK) (p : Nat) (T : TB) (R : TR) : Prop := akX h E Rf W K ∧ XT h E W K p T ∧ (cX h 324 R 0 0 1 ∧ sz R ≤ 400) ∧ tyT E (kA K).1 (kA K).2.1 R 0 ∧ nhT R ∧ dpE E.1.2.2.2.1 R ≤ 40 ∧ (inf R).2.2.1 = kR K ∧ kdL E W K p ∧ ∀ j, 0 ≤ j → j < sz R → h 340 j = j
theorem mnX_w {h h' : AH} {E : EV} {Rf : Int → TR} {W : Int → Int → Int → VW} {K : AK} {p : Nat} {T : TB} {R : TR} (m : mnX h E Rf W K p T R) (f : fMw h h') (a : akX h' E Rf W K) (x : XT h' E W K p T) : mnX h' E Rf W K p T R := by
  obtain ⟨m1, m2, m3, m4, m5, m6, m7, m8, m9⟩ := m
  have sp := sz_pos R
  exact ⟨a, x, ⟨cX_fr (h := h) (lo := 0) (hi := 2200) (fun a s _ _ _ _ => f _ _ (by omega) (by omega)) (fun s _ _ => f _ _ (by omega) (by omega)) m3.1 (Int.le_refl _) (by decide) (by decide) (by decide) (by omega), m3.2⟩, m4, m5, m6, m7, m8, fun j j0 j1 => by rw [f _ _ (by omega) (by omega)]; exact m9 j j0 j1⟩
theorem vX1_mendBy_l116 (i1 : Int) (i2 : Int) (i3 : Int) (i4 : Int) (i5 : Int) (i6 : Int) (a70 : Int) {h0 : AH} {E : EV} {Rf : Int → TR} {W : Int → Int → Int → VW} {K : AK} {p : Nat} {T : TB} {R : TR} (md : mnX h0 E Rf W K p T R) (i : i1 = 0 ∧ 0 ≤ i6 ∧ i6 < sz R ∧ 0 ≤ i4 ∧ i4 ≤ i5 ∧ i5 ≤ (LV E W (kP K) (kA K) p).1) (z : a70 = i4) : OK (gX1_mendBy_l116 i1 i2 i3 i4 i5 i6 a70 h0) (Sum.elim (fun r => jt2 r fun y h' => (i4 ≤ y ∧ y < i5 ∧ mdQ E W K p R i6 y ∧ ∀ f, i4 ≤ f → f < y → ¬ mdQ E W K p R i6 f) ∧ (mnX h' E Rf W K p T R ∧ fMw h0 h')) (fun h' => (∀ f, i4 ≤ f → f < i5 → ¬ mdQ E W K p R i6 f) ∧ (mnX h' E Rf W K p T R ∧ fMw h0 h'))) := by
  unfold gX1_mendBy_l116
  refine OK_jit (I := (fun (s : Int × AH) => jt2 s fun a7 h => (i4 ≤ a7 ∧ a7 ≤ i5) ∧ (∀ f, i4 ≤ f → f < a7 → ¬ mdQ E W K p R i6 f) ∧ (mnX h E Rf W K p T R ∧ fMw h0 h))) (m := (fun (s : Int × AH) => jt2 s fun a7 h => (i5 - a7).toNat)) ?_ ?_
  · intro s hs
    obtain ⟨a7, h⟩ := s
    dsimp only [Sum.elim_inl, Sum.elim_inr, jt2, jt3, jt4, jt5, jt6, jt7, jt8] at hs
    obtain ⟨q0, q1, q2⟩ := hs
    unfold gX1_mendBy_b116
    refine OK_jt2 ?_
    have MM := q2
    obtain ⟨⟨m1, m2, m3, m4, m5, m6, m7, m8, m9⟩, mf⟩ := q2
    have n120 := m2.2.2.2.1
    have o6 : h 340 i6 = i6 := m9 i6 i.2.1 i.2.2.1
    refine OK_if (fun c1 => ?_) (fun c1 => ?_)
    · skip
      try simp (disch := omega) only [jst_eq, jst_ne, jst_ni, jI_i, jcmp_lt, jcmp_gt, w32_id, jcpy_out, Sum.elim_inl, Sum.elim_inr, jt2, jt3, jt4, jt5, jt6, jt7, jt8] at c1
      refine OK_ir ?_
      try dsimp only [Sum.elim_inl, Sum.elim_inr, jt2, jt3, jt4, jt5, jt6, jt7, jt8]
      refine ⟨?_, ?_⟩
      · exact fun f f0 f1 => q1 f f0 (by omega) -- o1 e1.1
      · exact MM -- o2 e1.2
    · skip
      try simp (disch := omega) only [jst_eq, jst_ne, jst_ni, jI_i, jcmp_lt, jcmp_gt, w32_id, jcpy_out, Sum.elim_inl, Sum.elim_inr, jt2, jt3, jt4, jt5, jt6, jt7, jt8] at c1
      have EX := m2.2.1
      have IE := EX.2 a7 (by omega) (by omega)
      have EXL := EX.1
      have k308 : h 308 a7 = (LV E W (kP K) (kA K) p).2.1 a7 := by { rw [(m2.1.2.1.2.2.2.2.2.2.2 a7 (by omega) (by omega)).1]; exact IE.1 }
      have k327 : h 327 i6 = (inf (sbT R i6)).2.2.1 := by { have q := (cX_nd (cX_sbT (m := i6) m3.1 i.2.1 i.2.2.1)).2.2; rw [Int.zero_add] at q; exact q }
      rw [o6]
      refine OK_jg (by (first | assumption | omega | ((try dsimp only [jt2, jt3, jt4]); first | omega | (simp (disch := omega) only [jst_eq, jst_ne, jst_ni, jst_o, jI_i, jcpy_out, w32_id, jdiv_nn, jshr_k, jand_255] <;> first | done | omega | assumption)) | (intros; simp (disch := omega) only [jst_eq, jst_ne, jst_ni, jst_o, jI_i, jcpy_out, w32_id, jdiv_nn, *] <;> first | done | omega) | (intros; simp (disch := omega) only [jst_eq, jst_ne, jst_ni, jst_o, jI_i, jcpy_out, w32_id, jdiv_nn] at * <;> first | done | omega | assumption) | (intros; first | rfl | (exfalso; omega) | ((repeat' apply And.intro) <;> first | assumption | rfl | omega | trivial)))) ?_ -- o3
      refine OK_jg (by (first | assumption | omega | ((try dsimp only [jt2, jt3, jt4]); first | omega | (simp (disch := omega) only [jst_eq, jst_ne, jst_ni, jst_o, jI_i, jcpy_out, w32_id, jdiv_nn, jshr_k, jand_255] <;> first | done | omega | assumption)) | (intros; simp (disch := omega) only [jst_eq, jst_ne, jst_ni, jst_o, jI_i, jcpy_out, w32_id, jdiv_nn, *] <;> first | done | omega) | (intros; simp (disch := omega) only [jst_eq, jst_ne, jst_ni, jst_o, jI_i, jcpy_out, w32_id, jdiv_nn] at * <;> first | done | omega | assumption) | (intros; first | rfl | (exfalso; omega) | ((repeat' apply And.intro) <;> first | assumption | rfl | omega | trivial)))) ?_ -- o4
      refine OK_jg (by (first | assumption | omega | ((try dsimp only [jt2, jt3, jt4]); first | omega | (simp (disch := omega) only [jst_eq, jst_ne, jst_ni, jst_o, jI_i, jcpy_out, w32_id, jdiv_nn, jshr_k, jand_255] <;> first | done | omega | assumption)) | (intros; simp (disch := omega) only [jst_eq, jst_ne, jst_ni, jst_o, jI_i, jcpy_out, w32_id, jdiv_nn, *] <;> first | done | omega) | (intros; simp (disch := omega) only [jst_eq, jst_ne, jst_ni, jst_o, jI_i, jcpy_out, w32_id, jdiv_nn] at * <;> first | done | omega | assumption) | (intros; first | rfl | (exfalso; omega) | ((repeat' apply And.intro) <;> first | assumption | rfl | omega | trivial)))) ?_ -- o5
      refine OK_if (fun c2 => ?_) (fun c2 => ?_)
      · skip
        try simp (disch := omega) only [jst_eq, jst_ne, jst_ni, jI_i, jcmp_lt, jcmp_gt, w32_id, jcpy_out, Sum.elim_inl, Sum.elim_inr, jt2, jt3, jt4, jt5, jt6, jt7, jt8] at c2
        have KK : (LV E W (kP K) (kA K) p).2.1 a7 = (inf (sbT R i6)).2.2.1 := by { rw [k308, k327] at c2; exact c2 }
        rw [i.1]
        refine OK_jb2 (vMW i6 a7 m1 m2 m3.1 (by omega) m4 m5 m6 m7 ⟨i.2.1, i.2.2.1⟩ ⟨by omega, by omega⟩ KK (m8 a7 (by omega) (by omega))) (fun v49 h50 r1 => ?_)
        obtain ⟨mq50, fr50, ak50, xt50⟩ := r1
        try dsimp only at mq50 fr50 ak50 xt50
        have MD50 := mnX_w MM.1 fr50 ak50 xt50
        have MF50 := fMw_t mf fr50
        refine OK_if (fun c3 => ?_) (fun c3 => ?_)
        · skip
          try simp (disch := omega) only [jst_eq, jst_ne, jst_ni, jI_i, jcmp_lt, jcmp_gt, w32_id, jcpy_out, Sum.elim_inl, Sum.elim_inr, jt2, jt3, jt4, jt5, jt6, jt7, jt8] at c3
          have NQ : ¬ mdQ E W K p R i6 a7 := fun y => by { rcases mq50 with w | w; { omega }; { exact w.2 y } }
          unfold gX1_mendBy_j221_116
          refine OK_jlx (fun x52 ex52 => ?_)
          try simp (disch := omega) only [jst_eq, jst_ne, jst_ni, jI_i, jcmp_lt, jcmp_gt, w32_id, jcpy_out, Sum.elim_inl, Sum.elim_inr, jt2, jt3, jt4, jt5, jt6, jt7, jt8] at ex52
          refine OK_il ?_ ?_
          · try dsimp only [Sum.elim_inl, Sum.elim_inr, jt2, jt3, jt4, jt5, jt6, jt7, jt8]
            refine ⟨?_, ?_, ?_⟩
            · (first | assumption | omega | ((try dsimp only [jt2, jt3, jt4]); first | omega | (simp (disch := omega) only [jst_eq, jst_ne, jst_ni, jst_o, jI_i, jcpy_out, w32_id, jdiv_nn, jshr_k, jand_255] <;> first | done | omega | assumption)) | (intros; simp (disch := omega) only [jst_eq, jst_ne, jst_ni, jst_o, jI_i, jcpy_out, w32_id, jdiv_nn, *] <;> first | done | omega) | (intros; simp (disch := omega) only [jst_eq, jst_ne, jst_ni, jst_o, jI_i, jcpy_out, w32_id, jdiv_nn] at * <;> first | done | omega | assumption) | (intros; first | rfl | (exfalso; omega) | ((repeat' apply And.intro) <;> first | assumption | rfl | omega | trivial))) -- o6 e2i.1
            · (intro f f0 f1; rw [ex52] at f1; (try rw [w32_id (by omega) (by omega)] at f1); by_cases y : f = a7; { rw [y]; exact NQ }; { exact q1 f f0 (by omega) }) -- o7 e2i.2
            · exact ⟨MD50, MF50⟩ -- o8 e2i.3
          · (first | assumption | omega | ((try dsimp only [jt2, jt3, jt4]); first | omega | (simp (disch := omega) only [jst_eq, jst_ne, jst_ni, jst_o, jI_i, jcpy_out, w32_id, jdiv_nn, jshr_k, jand_255] <;> first | done | omega | assumption)) | (intros; simp (disch := omega) only [jst_eq, jst_ne, jst_ni, jst_o, jI_i, jcpy_out, w32_id, jdiv_nn, *] <;> first | done | omega) | (intros; simp (disch := omega) only [jst_eq, jst_ne, jst_ni, jst_o, jI_i, jcpy_out, w32_id, jdiv_nn] at * <;> first | done | omega | assumption) | (intros; first | rfl | (exfalso; omega) | ((repeat' apply And.intro) <;> first | assumption | rfl | omega | trivial))) -- o9 e2m
        · skip
          try simp (disch := omega) only [jst_eq, jst_ne, jst_ni, jI_i, jcmp_lt, jcmp_gt, w32_id, jcpy_out, Sum.elim_inl, Sum.elim_inr, jt2, jt3, jt4, jt5, jt6, jt7, jt8] at c3
          refine OK_ir ?_
          try dsimp only [Sum.elim_inl, Sum.elim_inr, jt2, jt3, jt4, jt5, jt6, jt7, jt8]
          refine ⟨?_, ?_⟩
          · exact ⟨q0.1, by omega, (by rcases mq50 with w | w; { exact w.2 }; { exact absurd w.1 c3 }), fun f f0 f1 => q1 f f0 f1⟩ -- o10 e3.1
          · exact ⟨MD50, MF50⟩ -- o11 e3.2
      · skip
        try simp (disch := omega) only [jst_eq, jst_ne, jst_ni, jI_i, jcmp_lt, jcmp_gt, w32_id, jcpy_out, Sum.elim_inl, Sum.elim_inr, jt2, jt3, jt4, jt5, jt6, jt7, jt8] at c2
        have KN : ¬ mdQ E W K p R i6 a7 := fun y => by { apply c2; rw [k308, k327]; exact y.1 }
        unfold gX1_mendBy_j221_116
        refine OK_jlx (fun x52 ex52 => ?_)
        try simp (disch := omega) only [jst_eq, jst_ne, jst_ni, jI_i, jcmp_lt, jcmp_gt, w32_id, jcpy_out, Sum.elim_inl, Sum.elim_inr, jt2, jt3, jt4, jt5, jt6, jt7, jt8] at ex52
        refine OK_il ?_ ?_
        · try dsimp only [Sum.elim_inl, Sum.elim_inr, jt2, jt3, jt4, jt5, jt6, jt7, jt8]
          refine ⟨?_, ?_, ?_⟩
          · (first | assumption | omega | ((try dsimp only [jt2, jt3, jt4]); first | omega | (simp (disch := omega) only [jst_eq, jst_ne, jst_ni, jst_o, jI_i, jcpy_out, w32_id, jdiv_nn, jshr_k, jand_255] <;> first | done | omega | assumption)) | (intros; simp (disch := omega) only [jst_eq, jst_ne, jst_ni, jst_o, jI_i, jcpy_out, w32_id, jdiv_nn, *] <;> first | done | omega) | (intros; simp (disch := omega) only [jst_eq, jst_ne, jst_ni, jst_o, jI_i, jcpy_out, w32_id, jdiv_nn] at * <;> first | done | omega | assumption) | (intros; first | rfl | (exfalso; omega) | ((repeat' apply And.intro) <;> first | assumption | rfl | omega | trivial))) -- o12 e4i.1
          · (intro f f0 f1; rw [ex52] at f1; (try rw [w32_id (by omega) (by omega)] at f1); by_cases y : f = a7; { rw [y]; exact KN }; { exact q1 f f0 (by omega) }) -- o13 e4i.2
          · exact MM -- o14 e4i.3
        · (first | assumption | omega | ((try dsimp only [jt2, jt3, jt4]); first | omega | (simp (disch := omega) only [jst_eq, jst_ne, jst_ni, jst_o, jI_i, jcpy_out, w32_id, jdiv_nn, jshr_k, jand_255] <;> first | done | omega | assumption)) | (intros; simp (disch := omega) only [jst_eq, jst_ne, jst_ni, jst_o, jI_i, jcpy_out, w32_id, jdiv_nn, *] <;> first | done | omega) | (intros; simp (disch := omega) only [jst_eq, jst_ne, jst_ni, jst_o, jI_i, jcpy_out, w32_id, jdiv_nn] at * <;> first | done | omega | assumption) | (intros; first | rfl | (exfalso; omega) | ((repeat' apply And.intro) <;> first | assumption | rfl | omega | trivial))) -- o15 e4m
  · try dsimp only [Sum.elim_inl, Sum.elim_inr, jt2, jt3, jt4, jt5, jt6, jt7, jt8]
    refine ⟨?_, ?_, ?_⟩
    · (first | assumption | omega | ((try dsimp only [jt2, jt3, jt4]); first | omega | (simp (disch := omega) only [jst_eq, jst_ne, jst_ni, jst_o, jI_i, jcpy_out, w32_id, jdiv_nn, jshr_k, jand_255] <;> first | done | omega | assumption)) | (intros; simp (disch := omega) only [jst_eq, jst_ne, jst_ni, jst_o, jI_i, jcpy_out, w32_id, jdiv_nn, *] <;> first | done | omega) | (intros; simp (disch := omega) only [jst_eq, jst_ne, jst_ni, jst_o, jI_i, jcpy_out, w32_id, jdiv_nn] at * <;> first | done | omega | assumption) | (intros; first | rfl | (exfalso; omega) | ((repeat' apply And.intro) <;> first | assumption | rfl | omega | trivial))) -- o16 init.1
    · (intro f f0 f1; omega) -- o17 init.2
    · exact ⟨md, fMw_r _⟩ -- o18 init.3
theorem vX1_mendBy_l106 (i1 : Int) (i2 : Int) (i3 : Int) (i4 : Int) (i5 : Int) (a60 : Int) {h0 : AH} {E : EV} {Rf : Int → TR} {W : Int → Int → Int → VW} {K : AK} {p : Nat} {T : TB} {R : TR} (md : mnX h0 E Rf W K p T R) (i : i1 = 0 ∧ i3 = sz R ∧ 0 ≤ i4 ∧ i4 ≤ i5 ∧ i5 ≤ (LV E W (kP K) (kA K) p).1) (z : a60 = 0) : OK (gX1_mendBy_l106 i1 i2 i3 i4 i5 a60 h0) (Sum.elim (fun r => jt3 r fun x y h' => ((0 ≤ x ∧ x < sz R) ∧ i4 ≤ y ∧ y < i5 ∧ mdQ E W K p R x y ∧ (∀ f, i4 ≤ f → f < y → ¬ mdQ E W K p R x f) ∧ ∀ m f, 0 ≤ m → m < x → i4 ≤ f → f < i5 → ¬ mdQ E W K p R m f) ∧ (mnX h' E Rf W K p T R ∧ fMw h0 h')) (fun h' => (∀ m f, 0 ≤ m → m < sz R → i4 ≤ f → f < i5 → ¬ mdQ E W K p R m f) ∧ (mnX h' E Rf W K p T R ∧ fMw h0 h'))) := by
  unfold gX1_mendBy_l106
  refine OK_jit (I := (fun (s : Int × AH) => jt2 s fun a6 h => (0 ≤ a6 ∧ a6 ≤ sz R) ∧ (∀ m f, 0 ≤ m → m < a6 → i4 ≤ f → f < i5 → ¬ mdQ E W K p R m f) ∧ (mnX h E Rf W K p T R ∧ fMw h0 h))) (m := (fun (s : Int × AH) => jt2 s fun a6 h => (sz R - a6).toNat)) ?_ ?_
  · intro s hs
    obtain ⟨a6, h⟩ := s
    dsimp only [Sum.elim_inl, Sum.elim_inr, jt2, jt3, jt4, jt5, jt6, jt7, jt8] at hs
    obtain ⟨q0, q1, q2⟩ := hs
    unfold gX1_mendBy_b106
    refine OK_jt2 ?_
    have MM := q2
    have s400 := MM.1.2.2.1.2
    refine OK_if (fun c1 => ?_) (fun c1 => ?_)
    · skip
      try simp (disch := omega) only [jst_eq, jst_ne, jst_ni, jI_i, jcmp_lt, jcmp_gt, w32_id, jcpy_out, Sum.elim_inl, Sum.elim_inr, jt2, jt3, jt4, jt5, jt6, jt7, jt8] at c1
      refine OK_ir ?_
      try dsimp only [Sum.elim_inl, Sum.elim_inr, jt2, jt3, jt4, jt5, jt6, jt7, jt8]
      refine ⟨?_, ?_⟩
      · exact fun m f m0 m1 f0 f1 => q1 m f m0 (by omega) f0 f1 -- o1 e1.1
      · exact MM -- o2 e1.2
    · skip
      try simp (disch := omega) only [jst_eq, jst_ne, jst_ni, jI_i, jcmp_lt, jcmp_gt, w32_id, jcpy_out, Sum.elim_inl, Sum.elim_inr, jt2, jt3, jt4, jt5, jt6, jt7, jt8] at c1
      refine OK_jb (vX1_mendBy_l116 (E := E) (Rf := Rf) (W := W) (K := K) (p := p) (T := T) (R := R) _ _ _ _ _ _ _ (by exact MM.1) (by exact ⟨i.1, q0.1, by omega, i.2.2⟩) (by rfl)) (fun o39 r1 => ?_)
      rcases o39 with o41 | o42
      · skip
        have r2 := r1; clear r1
        dsimp only [Sum.elim_inl, Sum.elim_inr] at r2
        refine OK_jml ?_
        obtain ⟨y43, h44⟩ := o41
        refine OK_jt2 ?_
        try dsimp only [Sum.elim_inl, Sum.elim_inr, jt2, jt3, jt4, jt5, jt6, jt7, jt8] at r2
        obtain ⟨fo1, md1⟩ := r2
        try simp (disch := omega) only [jst_eq, jst_ne, jst_ni, jI_i, jcmp_lt, jcmp_gt, w32_id, jcpy_out, Sum.elim_inl, Sum.elim_inr, jt2, jt3, jt4, jt5, jt6, jt7, jt8] at fo1
        try simp (disch := omega) only [jst_eq, jst_ne, jst_ni, jI_i, jcmp_lt, jcmp_gt, w32_id, jcpy_out, Sum.elim_inl, Sum.elim_inr, jt2, jt3, jt4, jt5, jt6, jt7, jt8] at md1
        refine OK_ir ?_
        try dsimp only [Sum.elim_inl, Sum.elim_inr, jt2, jt3, jt4, jt5, jt6, jt7, jt8]
        refine ⟨?_, ?_⟩
        · exact ⟨⟨q0.1, by omega⟩, fo1.1, fo1.2.1, fo1.2.2.1, fo1.2.2.2, q1⟩ -- o6 e2.1
        · exact ⟨md1.1, fMw_t MM.2 md1.2⟩ -- o7 e2.2
      · skip
        have r3 := r1; clear r1
        dsimp only [Sum.elim_inl, Sum.elim_inr] at r3
        try dsimp only [Sum.elim_inl, Sum.elim_inr, jt2, jt3, jt4, jt5, jt6, jt7, jt8] at r3
        obtain ⟨no2, md2⟩ := r3
        try simp (disch := omega) only [jst_eq, jst_ne, jst_ni, jI_i, jcmp_lt, jcmp_gt, w32_id, jcpy_out, Sum.elim_inl, Sum.elim_inr, jt2, jt3, jt4, jt5, jt6, jt7, jt8] at no2
        try simp (disch := omega) only [jst_eq, jst_ne, jst_ni, jI_i, jcmp_lt, jcmp_gt, w32_id, jcpy_out, Sum.elim_inl, Sum.elim_inr, jt2, jt3, jt4, jt5, jt6, jt7, jt8] at md2
        refine OK_jmr ?_
        refine OK_jlx (fun x45 ex45 => ?_)
        try simp (disch := omega) only [jst_eq, jst_ne, jst_ni, jI_i, jcmp_lt, jcmp_gt, w32_id, jcpy_out, Sum.elim_inl, Sum.elim_inr, jt2, jt3, jt4, jt5, jt6, jt7, jt8] at ex45
        refine OK_il ?_ ?_
        · try dsimp only [Sum.elim_inl, Sum.elim_inr, jt2, jt3, jt4, jt5, jt6, jt7, jt8]
          refine ⟨?_, ?_, ?_⟩
          · (first | assumption | omega | ((try dsimp only [jt2, jt3, jt4]); first | omega | (simp (disch := omega) only [jst_eq, jst_ne, jst_ni, jst_o, jI_i, jcpy_out, w32_id, jdiv_nn, jshr_k, jand_255] <;> first | done | omega | assumption)) | (intros; simp (disch := omega) only [jst_eq, jst_ne, jst_ni, jst_o, jI_i, jcpy_out, w32_id, jdiv_nn, *] <;> first | done | omega) | (intros; simp (disch := omega) only [jst_eq, jst_ne, jst_ni, jst_o, jI_i, jcpy_out, w32_id, jdiv_nn] at * <;> first | done | omega | assumption) | (intros; first | rfl | (exfalso; omega) | ((repeat' apply And.intro) <;> first | assumption | rfl | omega | trivial))) -- o8 e3i.1
          · (intro m f m0 m1 f0 f1; rw [ex45] at m1; (try rw [w32_id (by omega) (by omega)] at m1); by_cases y : m = a6; { rw [y]; exact no2 f f0 f1 }; { exact q1 m f m0 (by omega) f0 f1 }) -- o9 e3i.2
          · exact ⟨md2.1, fMw_t MM.2 md2.2⟩ -- o10 e3i.3
        · (first | assumption | omega | ((try dsimp only [jt2, jt3, jt4]); first | omega | (simp (disch := omega) only [jst_eq, jst_ne, jst_ni, jst_o, jI_i, jcpy_out, w32_id, jdiv_nn, jshr_k, jand_255] <;> first | done | omega | assumption)) | (intros; simp (disch := omega) only [jst_eq, jst_ne, jst_ni, jst_o, jI_i, jcpy_out, w32_id, jdiv_nn, *] <;> first | done | omega) | (intros; simp (disch := omega) only [jst_eq, jst_ne, jst_ni, jst_o, jI_i, jcpy_out, w32_id, jdiv_nn] at * <;> first | done | omega | assumption) | (intros; first | rfl | (exfalso; omega) | ((repeat' apply And.intro) <;> first | assumption | rfl | omega | trivial))) -- o11 e3m
  · try dsimp only [Sum.elim_inl, Sum.elim_inr, jt2, jt3, jt4, jt5, jt6, jt7, jt8]
    refine ⟨?_, ?_, ?_⟩
    · (have := sz_pos R; omega) -- o12 init.1
    · (intro m f m0 m1; omega) -- o13 init.2
    · exact ⟨md, fMw_r _⟩ -- o14 init.3
theorem vX1_mendBy_l60 (i1 : Int) (i2 : Int) (i3 : Int) (i4 : Int) (a50 : Int) {h : AH} {N : Int} {wt : Int → Int} (i : 0 ≤ i2 ∧ i2 ≤ 12 ∧ h 314 i2 = N ∧ 0 ≤ i4 ∧ i4 < N ∧ N ≤ 120) (w : ∀ a, 0 ≤ a → a < N → h 309 a = wt a) (z : a50 = i4) : OK (gX1_mendBy_l60 i1 i2 i3 i4 a50 h) (fun o => (i4 < o ∧ o ≤ N) ∧ (∀ f, i4 ≤ f → f < o → wt f = wt i4) ∧ (o < N → wt o ≠ wt i4)) := by
  unfold gX1_mendBy_l60
  refine OK_jit (I := (fun (a5 : Int) => (i4 ≤ a5 ∧ a5 ≤ N) ∧ (∀ f, i4 ≤ f → f < a5 → wt f = wt i4))) (m := (fun (a5 : Int) => (N - a5).toNat)) ?_ ?_
  · intro a5 hs
    try dsimp only at hs
    obtain ⟨q0, q1⟩ := hs
    unfold gX1_mendBy_b60
    have w4 := w i4 i.2.2.2.1 i.2.2.2.2.1
    refine OK_jg (by (first | assumption | omega | ((try dsimp only [jt2, jt3, jt4]); first | omega | (simp (disch := omega) only [jst_eq, jst_ne, jst_ni, jst_o, jI_i, jcpy_out, w32_id, jdiv_nn, jshr_k, jand_255] <;> first | done | omega | assumption)) | (intros; simp (disch := omega) only [jst_eq, jst_ne, jst_ni, jst_o, jI_i, jcpy_out, w32_id, jdiv_nn, *] <;> first | done | omega) | (intros; simp (disch := omega) only [jst_eq, jst_ne, jst_ni, jst_o, jI_i, jcpy_out, w32_id, jdiv_nn] at * <;> first | done | omega | assumption) | (intros; first | rfl | (exfalso; omega) | ((repeat' apply And.intro) <;> first | assumption | rfl | omega | trivial)))) ?_ -- o1
    refine OK_if (fun c1 => ?_) (fun c1 => ?_)
    · skip
      try simp (disch := omega) only [jst_eq, jst_ne, jst_ni, jI_i, jcmp_lt, jcmp_gt, w32_id, jcpy_out, Sum.elim_inl, Sum.elim_inr, jt2, jt3, jt4, jt5, jt6, jt7, jt8] at c1
      refine OK_ir ?_
      exact ⟨⟨by omega, by omega⟩, fun f f0 f1 => q1 f f0 (by omega), fun y => by omega⟩ -- o2 e1
    · skip
      try simp (disch := omega) only [jst_eq, jst_ne, jst_ni, jI_i, jcmp_lt, jcmp_gt, w32_id, jcpy_out, Sum.elim_inl, Sum.elim_inr, jt2, jt3, jt4, jt5, jt6, jt7, jt8] at c1
      have w5 := w a5 (by omega) (by omega)
      refine OK_jg (by (first | assumption | omega | ((try dsimp only [jt2, jt3, jt4]); first | omega | (simp (disch := omega) only [jst_eq, jst_ne, jst_ni, jst_o, jI_i, jcpy_out, w32_id, jdiv_nn, jshr_k, jand_255] <;> first | done | omega | assumption)) | (intros; simp (disch := omega) only [jst_eq, jst_ne, jst_ni, jst_o, jI_i, jcpy_out, w32_id, jdiv_nn, *] <;> first | done | omega) | (intros; simp (disch := omega) only [jst_eq, jst_ne, jst_ni, jst_o, jI_i, jcpy_out, w32_id, jdiv_nn] at * <;> first | done | omega | assumption) | (intros; first | rfl | (exfalso; omega) | ((repeat' apply And.intro) <;> first | assumption | rfl | omega | trivial)))) ?_ -- o3
      refine OK_jg (by (first | assumption | omega | ((try dsimp only [jt2, jt3, jt4]); first | omega | (simp (disch := omega) only [jst_eq, jst_ne, jst_ni, jst_o, jI_i, jcpy_out, w32_id, jdiv_nn, jshr_k, jand_255] <;> first | done | omega | assumption)) | (intros; simp (disch := omega) only [jst_eq, jst_ne, jst_ni, jst_o, jI_i, jcpy_out, w32_id, jdiv_nn, *] <;> first | done | omega) | (intros; simp (disch := omega) only [jst_eq, jst_ne, jst_ni, jst_o, jI_i, jcpy_out, w32_id, jdiv_nn] at * <;> first | done | omega | assumption) | (intros; first | rfl | (exfalso; omega) | ((repeat' apply And.intro) <;> first | assumption | rfl | omega | trivial)))) ?_ -- o4
      refine OK_if (fun c2 => ?_) (fun c2 => ?_)
      · skip
        try simp (disch := omega) only [jst_eq, jst_ne, jst_ni, jI_i, jcmp_lt, jcmp_gt, w32_id, jcpy_out, Sum.elim_inl, Sum.elim_inr, jt2, jt3, jt4, jt5, jt6, jt7, jt8] at c2
        refine OK_jlx (fun x55 ex55 => ?_)
        try simp (disch := omega) only [jst_eq, jst_ne, jst_ni, jI_i, jcmp_lt, jcmp_gt, w32_id, jcpy_out, Sum.elim_inl, Sum.elim_inr, jt2, jt3, jt4, jt5, jt6, jt7, jt8] at ex55
        refine OK_il ?_ ?_
        · try dsimp only [Sum.elim_inl, Sum.elim_inr, jt2, jt3, jt4, jt5, jt6, jt7, jt8]
          refine ⟨?_, ?_⟩
          · (first | assumption | omega | ((try dsimp only [jt2, jt3, jt4]); first | omega | (simp (disch := omega) only [jst_eq, jst_ne, jst_ni, jst_o, jI_i, jcpy_out, w32_id, jdiv_nn, jshr_k, jand_255] <;> first | done | omega | assumption)) | (intros; simp (disch := omega) only [jst_eq, jst_ne, jst_ni, jst_o, jI_i, jcpy_out, w32_id, jdiv_nn, *] <;> first | done | omega) | (intros; simp (disch := omega) only [jst_eq, jst_ne, jst_ni, jst_o, jI_i, jcpy_out, w32_id, jdiv_nn] at * <;> first | done | omega | assumption) | (intros; first | rfl | (exfalso; omega) | ((repeat' apply And.intro) <;> first | assumption | rfl | omega | trivial))) -- o5 e2i.1
          · (intro f f0 f1; rw [ex55] at f1; (try rw [w32_id (by omega) (by omega)] at f1); by_cases y : f = a5; { rw [y, ← w5, ← w4]; exact c2 }; { exact q1 f f0 (by omega) }) -- o6 e2i.2
        · (first | assumption | omega | ((try dsimp only [jt2, jt3, jt4]); first | omega | (simp (disch := omega) only [jst_eq, jst_ne, jst_ni, jst_o, jI_i, jcpy_out, w32_id, jdiv_nn, jshr_k, jand_255] <;> first | done | omega | assumption)) | (intros; simp (disch := omega) only [jst_eq, jst_ne, jst_ni, jst_o, jI_i, jcpy_out, w32_id, jdiv_nn, *] <;> first | done | omega) | (intros; simp (disch := omega) only [jst_eq, jst_ne, jst_ni, jst_o, jI_i, jcpy_out, w32_id, jdiv_nn] at * <;> first | done | omega | assumption) | (intros; first | rfl | (exfalso; omega) | ((repeat' apply And.intro) <;> first | assumption | rfl | omega | trivial))) -- o7 e2m
      · skip
        try simp (disch := omega) only [jst_eq, jst_ne, jst_ni, jI_i, jcmp_lt, jcmp_gt, w32_id, jcpy_out, Sum.elim_inl, Sum.elim_inr, jt2, jt3, jt4, jt5, jt6, jt7, jt8] at c2
        refine OK_ir ?_
        exact ⟨⟨by (by_cases y : a5 = i4; { exact absurd (by rw [y]) c2 }; { omega }), by omega⟩, q1, fun _ => by (rw [← w5, ← w4]; exact c2)⟩ -- o8 e3
  · try dsimp only [Sum.elim_inl, Sum.elim_inr, jt2, jt3, jt4, jt5, jt6, jt7, jt8]
    refine ⟨?_, ?_⟩
    · (first | assumption | omega | ((try dsimp only [jt2, jt3, jt4]); first | omega | (simp (disch := omega) only [jst_eq, jst_ne, jst_ni, jst_o, jI_i, jcpy_out, w32_id, jdiv_nn, jshr_k, jand_255] <;> first | done | omega | assumption)) | (intros; simp (disch := omega) only [jst_eq, jst_ne, jst_ni, jst_o, jI_i, jcpy_out, w32_id, jdiv_nn, *] <;> first | done | omega) | (intros; simp (disch := omega) only [jst_eq, jst_ne, jst_ni, jst_o, jI_i, jcpy_out, w32_id, jdiv_nn] at * <;> first | done | omega | assumption) | (intros; first | rfl | (exfalso; omega) | ((repeat' apply And.intro) <;> first | assumption | rfl | omega | trivial))) -- o9 init.1
    · (intro f f0 f1; omega) -- o10 init.2
/-- the least hit: by price, by place, by number -/
def mdR (E : EV) (W : Int → Int → Int → VW) (K : AK) (p : Nat) (R : TR) (x y : Int) : Prop := (0 ≤ x ∧ x < sz R) ∧ (0 ≤ y ∧ y < (LV E W (kP K) (kA K) p).1) ∧ mdQ E W K p R x y ∧ ∀ m f, 0 ≤ m → m < sz R → 0 ≤ f → f < (LV E W (kP K) (kA K) p).1 → mdQ E W K p R m f → (LV E W (kP K) (kA K) p).2.2.1 y < (LV E W (kP K) (kA K) p).2.2.1 f ∨ ((LV E W (kP K) (kA K) p).2.2.1 y = (LV E W (kP K) (kA K) p).2.2.1 f ∧ (x < m ∨ (x = m ∧ y ≤ f)))
theorem mdR_u {E : EV} {W : Int → Int → Int → VW} {K : AK} {p : Nat} {R : TR} {x y x' y' : Int} (a : mdR E W K p R x y) (b : mdR E W K p R x' y') : x = x' ∧ y = y' := by
  have c := a.2.2.2 x' y' b.1.1 b.1.2 b.2.1.1 b.2.1.2 b.2.2.1
  have d := b.2.2.2 x y a.1.1 a.1.2 a.2.1.1 a.2.1.2 a.2.2.1
  omega
theorem soT_le {T : TB} (g : soT T) {a b : Int} (a0 : 0 ≤ a) (l : a ≤ b) (b1 : b < T.1) : T.2.2.1 a ≤ T.2.2.1 b := by
  by_cases y : a = b
  · rw [y]; exact Int.le_refl _
  · have q := g a b a0 (by omega) b1; omega
theorem vX1_mendBy_l42 (i1 : Int) (i2 : Int) (i3 : Int) (a40 : Int) {h0 : AH} {E : EV} {Rf : Int → TR} {W : Int → Int → Int → VW} {K : AK} {p : Nat} {T : TB} {R : TR} (md : mnX h0 E Rf W K p T R) (so : soT (LV E W (kP K) (kA K) p)) (i : i1 = 0 ∧ i3 = sz R ∧ i2 = p ∧ p ≤ 12) (z : a40 = 0) : OK (gX1_mendBy_l42 i1 i2 i3 a40 h0) (Sum.elim (fun r => jt3 r fun x y h' => (mdR E W K p R x y) ∧ (mnX h' E Rf W K p T R ∧ fMw h0 h')) (fun h' => (∀ m f, 0 ≤ m → m < sz R → 0 ≤ f → f < (LV E W (kP K) (kA K) p).1 → ¬ mdQ E W K p R m f) ∧ (mnX h' E Rf W K p T R ∧ fMw h0 h'))) := by
  unfold gX1_mendBy_l42
  refine OK_jit (I := (fun (s : Int × AH) => jt2 s fun a4 h => (0 ≤ a4 ∧ a4 ≤ (LV E W (kP K) (kA K) p).1) ∧ (∀ m f, 0 ≤ m → m < sz R → 0 ≤ f → f < a4 → ¬ mdQ E W K p R m f) ∧ (mnX h E Rf W K p T R ∧ fMw h0 h))) (m := (fun (s : Int × AH) => jt2 s fun a4 h => ((LV E W (kP K) (kA K) p).1 - a4).toNat)) ?_ ?_
  · intro s hs
    obtain ⟨a4, h⟩ := s
    dsimp only [Sum.elim_inl, Sum.elim_inr, jt2, jt3, jt4, jt5, jt6, jt7, jt8] at hs
    obtain ⟨q0, q1, q2⟩ := hs
    unfold gX1_mendBy_b42
    refine OK_jt2 ?_
    have MM := q2
    have XT1 := MM.1.2.1
    have N314 := XT1.2.2.1
    have n120 := XT1.2.2.2.1
    have e314 : h 314 i2 = (LV E W (kP K) (kA K) p).1 := by { rw [i.2.2.1]; exact N314 }
    refine OK_jg (by (first | assumption | omega | ((try dsimp only [jt2, jt3, jt4]); first | omega | (simp (disch := omega) only [jst_eq, jst_ne, jst_ni, jst_o, jI_i, jcpy_out, w32_id, jdiv_nn, jshr_k, jand_255] <;> first | done | omega | assumption)) | (intros; simp (disch := omega) only [jst_eq, jst_ne, jst_ni, jst_o, jI_i, jcpy_out, w32_id, jdiv_nn, *] <;> first | done | omega) | (intros; simp (disch := omega) only [jst_eq, jst_ne, jst_ni, jst_o, jI_i, jcpy_out, w32_id, jdiv_nn] at * <;> first | done | omega | assumption) | (intros; first | rfl | (exfalso; omega) | ((repeat' apply And.intro) <;> first | assumption | rfl | omega | trivial)))) ?_ -- o1
    refine OK_if (fun c1 => ?_) (fun c1 => ?_)
    · skip
      try simp (disch := omega) only [jst_eq, jst_ne, jst_ni, jI_i, jcmp_lt, jcmp_gt, w32_id, jcpy_out, Sum.elim_inl, Sum.elim_inr, jt2, jt3, jt4, jt5, jt6, jt7, jt8] at c1
      refine OK_ir ?_
      try dsimp only [Sum.elim_inl, Sum.elim_inr, jt2, jt3, jt4, jt5, jt6, jt7, jt8]
      refine ⟨?_, ?_⟩
      · exact fun m f m0 m1 f0 f1 => q1 m f m0 m1 f0 (by omega) -- o2 e1.1
      · exact MM -- o3 e1.2
    · skip
      try simp (disch := omega) only [jst_eq, jst_ne, jst_ni, jI_i, jcmp_lt, jcmp_gt, w32_id, jcpy_out, Sum.elim_inl, Sum.elim_inr, jt2, jt3, jt4, jt5, jt6, jt7, jt8] at c1
      refine OK_jb (vX1_mendBy_l60 (N := (LV E W (kP K) (kA K) p).1) (wt := (LV E W (kP K) (kA K) p).2.2.1) _ _ _ _ _ (by exact ⟨by omega, by omega, e314, q0.1, by omega, n120⟩) (by (intro a a0 a1; have EX := XT1.2.1; have IE := EX.2 a a0 a1; rw [(XT1.1.2.1.2.2.2.2.2.2.2 a a0 (by have := EX.1; omega)).2.1]; exact IE.2.1)) (by rfl)) (fun o29 r1 => ?_)
      try dsimp only [Sum.elim_inl, Sum.elim_inr, jt2, jt3, jt4, jt5, jt6, jt7, jt8] at r1
      have fo1 := r1
      clear r1
      try simp (disch := omega) only [jst_eq, jst_ne, jst_ni, jI_i, jcmp_lt, jcmp_gt, w32_id, jcpy_out, Sum.elim_inl, Sum.elim_inr, jt2, jt3, jt4, jt5, jt6, jt7, jt8] at fo1
      unfold gX1_mendBy_j103_42
      refine OK_jb (vX1_mendBy_l106 (E := E) (Rf := Rf) (W := W) (K := K) (p := p) (T := T) (R := R) _ _ _ _ _ _ (by exact MM.1) (by exact ⟨i.1, i.2.1, q0.1, by omega, fo1.1.2⟩) (by rfl)) (fun o31 r2 => ?_)
      rcases o31 with o33 | o34
      · skip
        have r3 := r2; clear r2
        dsimp only [Sum.elim_inl, Sum.elim_inr] at r3
        refine OK_jml ?_
        obtain ⟨y35, y36, h37⟩ := o33
        refine OK_jt3 ?_
        try dsimp only [Sum.elim_inl, Sum.elim_inr, jt2, jt3, jt4, jt5, jt6, jt7, jt8] at r3
        obtain ⟨fo2, md2⟩ := r3
        try simp (disch := omega) only [jst_eq, jst_ne, jst_ni, jI_i, jcmp_lt, jcmp_gt, w32_id, jcpy_out, Sum.elim_inl, Sum.elim_inr, jt2, jt3, jt4, jt5, jt6, jt7, jt8] at fo2
        try simp (disch := omega) only [jst_eq, jst_ne, jst_ni, jI_i, jcmp_lt, jcmp_gt, w32_id, jcpy_out, Sum.elim_inl, Sum.elim_inr, jt2, jt3, jt4, jt5, jt6, jt7, jt8] at md2
        refine OK_ir ?_
        try dsimp only [Sum.elim_inl, Sum.elim_inr, jt2, jt3, jt4, jt5, jt6, jt7, jt8]
        refine ⟨?_, ?_⟩
        · (obtain ⟨u1, u2, u3, u4, u5, u6⟩ := fo2; refine ⟨u1, ⟨by omega, by omega⟩, u4, fun m f m0 m1 f0 f1 hit => ?_⟩; have fa : ¬ f < a4 := (fun y => q1 m f m0 m1 f0 y hit); have ey := fo1.2.1 y36 u2 u3; by_cases g : f < o29; { have ef := fo1.2.1 f (by omega) g; refine .inr ⟨by omega, ?_⟩; by_cases w : m < y35; { exact absurd hit (u6 m f m0 w (by omega) g) }; { by_cases w2 : m = y35; { refine .inr ⟨w2.symm, ?_⟩; exact Int.not_lt.mp (fun w3 => u5 f (by omega) w3 (by rw [← w2]; exact hit)) }; { exact .inl (by omega) } } }; { have l1 := soT_le so (a := o29) (b := f) (by omega) (by omega) f1; have l2 := soT_le so (a := a4) (b := o29) q0.1 (by omega) (by omega); have ne := fo1.2.2 (by omega); exact .inl (by omega) }) -- o10 e2.1
        · exact ⟨md2.1, fMw_t MM.2 md2.2⟩ -- o11 e2.2
      · skip
        have r4 := r2; clear r2
        dsimp only [Sum.elim_inl, Sum.elim_inr] at r4
        try dsimp only [Sum.elim_inl, Sum.elim_inr, jt2, jt3, jt4, jt5, jt6, jt7, jt8] at r4
        obtain ⟨no3, md3⟩ := r4
        try simp (disch := omega) only [jst_eq, jst_ne, jst_ni, jI_i, jcmp_lt, jcmp_gt, w32_id, jcpy_out, Sum.elim_inl, Sum.elim_inr, jt2, jt3, jt4, jt5, jt6, jt7, jt8] at no3
        try simp (disch := omega) only [jst_eq, jst_ne, jst_ni, jI_i, jcmp_lt, jcmp_gt, w32_id, jcpy_out, Sum.elim_inl, Sum.elim_inr, jt2, jt3, jt4, jt5, jt6, jt7, jt8] at md3
        refine OK_jmr ?_
        have GT4 : a4 < o29 := fo1.1.1
        refine OK_il ?_ ?_
        · try dsimp only [Sum.elim_inl, Sum.elim_inr, jt2, jt3, jt4, jt5, jt6, jt7, jt8]
          refine ⟨?_, ?_, ?_⟩
          · (first | assumption | omega | ((try dsimp only [jt2, jt3, jt4]); first | omega | (simp (disch := omega) only [jst_eq, jst_ne, jst_ni, jst_o, jI_i, jcpy_out, w32_id, jdiv_nn, jshr_k, jand_255] <;> first | done | omega | assumption)) | (intros; simp (disch := omega) only [jst_eq, jst_ne, jst_ni, jst_o, jI_i, jcpy_out, w32_id, jdiv_nn, *] <;> first | done | omega) | (intros; simp (disch := omega) only [jst_eq, jst_ne, jst_ni, jst_o, jI_i, jcpy_out, w32_id, jdiv_nn] at * <;> first | done | omega | assumption) | (intros; first | rfl | (exfalso; omega) | ((repeat' apply And.intro) <;> first | assumption | rfl | omega | trivial))) -- o12 e3i.1
          · (intro m f m0 m1 f0 f1; by_cases y : f < a4; { exact q1 m f m0 m1 f0 y }; { exact no3 m f m0 m1 (by omega) f1 }) -- o13 e3i.2
          · exact ⟨md3.1, fMw_t MM.2 md3.2⟩ -- o14 e3i.3
        · (first | assumption | omega | ((try dsimp only [jt2, jt3, jt4]); first | omega | (simp (disch := omega) only [jst_eq, jst_ne, jst_ni, jst_o, jI_i, jcpy_out, w32_id, jdiv_nn, jshr_k, jand_255] <;> first | done | omega | assumption)) | (intros; simp (disch := omega) only [jst_eq, jst_ne, jst_ni, jst_o, jI_i, jcpy_out, w32_id, jdiv_nn, *] <;> first | done | omega) | (intros; simp (disch := omega) only [jst_eq, jst_ne, jst_ni, jst_o, jI_i, jcpy_out, w32_id, jdiv_nn] at * <;> first | done | omega | assumption) | (intros; first | rfl | (exfalso; omega) | ((repeat' apply And.intro) <;> first | assumption | rfl | omega | trivial))) -- o15 e3m
  · try dsimp only [Sum.elim_inl, Sum.elim_inr, jt2, jt3, jt4, jt5, jt6, jt7, jt8]
    refine ⟨?_, ?_, ?_⟩
    · (have l := LV_0 (E := E) (W := W) (pts := kP K) (A := kA K) p; omega) -- o16 init.1
    · (intro m f m0 m1 f0 f1; omega) -- o17 init.2
    · exact ⟨md, fMw_r _⟩ -- o18 init.3
theorem tl_nv {N : Int} : ∀ {R : TR}, tlT N R → nvT R
  | .leaf i, o => fun y => by
    rcases o with z | z | z | z
    · omega
    · have := z.2.1.1; omega
    · omega
    · omega
  | .branch _ s r, o => ⟨tl_nv o.2.1, tl_nv o.2.2⟩
/-- what mending comes to -/
noncomputable def mdT (E : EV) (W : Int → Int → Int → VW) (K : AK) (p : Nat) (R : TR) (x y : Int) : TR := flT (fun _ => 0) (rpT R x (tm (kA K) (LV E W (kP K) (kA K) p) y))
theorem vX1_mendBy (a1 : Int) (a2 : Int) {h : AH} {E : EV} {Rf : Int → TR} {W : Int → Int → Int → VW} {K : AK} {p : Nat} {T : TB} {R : TR} (ak : akX h E Rf W K) (cA : ∀ a, 0 ≤ a → a < E.1.1 → E.1.2.1 a < 282429536481) (xt : XT h E W K p T) (c : cX h 324 R 0 0 1 ∧ sz R ≤ 121 ∧ h 324 0 = sz R) (ty : tyT E (kA K).1 (kA K).2.1 R 0) (nh : nhT R ∧ nvT R) (dk : dpE E.1.2.2.2.1 R ≤ 40 ∧ dpT R ≤ 12) (kd : (inf R).2.2.1 = kR K) (i : a1 = 0 ∧ a2 = p ∧ p ≤ 12 ∧ lvK E W (kP K) (kA K) p) : OK (gX1_mendBy a1 a2 h) (fun r => jt2 r fun v h' => ((MKa E W K (kR K) (evQ W K (fun _ => 0) R) ∧ v = 0 ∧ fdK h' E W K (flT (fun _ => 0) R) ∧ fRf h h' ∧ h' 200 31 = h 200 31) ∨ (¬ MKa E W K (kR K) (evQ W K (fun _ => 0) R) ∧ ((∃ x y, mdR E W K p R x y ∧ v = (LV E W (kP K) (kA K) p).2.2.1 y ∧ fdK h' E W K (mdT E W K p R x y) ∧ fRf h h' ∧ h' 200 31 = x) ∨ ((∀ m f, 0 ≤ m → m < sz R → 0 ≤ f → f < (LV E W (kP K) (kA K) p).1 → ¬ mdQ E W K p R m f) ∧ v = 100 ∧ fRd h h' ∧ h' 200 31 = h 200 31)))) ∧ (agS h h' ∧ akX h' E Rf W K ∧ h' 200 56 = h 200 56 ∧ h' 200 58 = h 200 58)) := by
  have sp := sz_pos R
  have LN := ak.2.2.2.2.2.2.2.2.2.1
  have C4 : capT h 324 2200 := ⟨(LN 325 (by decide) (by decide)).2.trans (by decide), (LN 326 (by decide) (by decide)).2.trans (by decide), (LN 327 (by decide) (by decide)).2.trans (by decide), (LN 328 (by decide) (by decide)).2.trans (by decide), (LN 329 (by decide) (by decide)).2.trans (by decide), by decide, by decide, by decide⟩
  have TR0 : trX h 324 0 2200 R 0 0 := cX_tr c.1 (by decide) (by decide) (by decide) (by omega)
  have l0 : E.2.2.1 ≠ 1 := by { rw [ak.1.1.2.2.1]; decide }
  have VK := ak.2.2.2.2.2.2.1
  have HR := ak.2.1.1.2.2.2.1
  have A3 := ak.1.2.1.2.2.1
  have ew := ak.1.1.2.1.2.2.2.2.2.2.2
  have GTp := ak_GT ak i.2.2.2
  have n120 := xt.2.2.2.1
  have GK := LV_gk VK GTp i.2.2.1 n120
  rw [i.1]
  unfold gX1_mendBy
  refine OK_jb (vX1_answer (E := E) (Rf := Rf) (W := W) (f := fun _ _ _ => 0) (N := 2200) (n := (kA K).1) (wh := K.1.2.2.1) (pts := kP K) (kf := (kA K).2.1) (rv := K.1.2.2.2) (hl := h 270) (R := R) _ _ (by exact ⟨akX_pk ak, ak.1.1.2.1, ak.1.1.2.2.1, ⟨by unfold isX3; omega, C4⟩, trX_vw TR0, ty, ak.2.1.1.2.2.1, by omega, fun c c0 c1 => by (have z := HR c c0 c1; omega), ak.1.1.2.2.2.2.1, ak.1.1.2.2.2.2.2, by decide⟩) (by exact fun _ => rfl)) (fun h2 r1 => ?_)
  try dsimp only [Sum.elim_inl, Sum.elim_inr, jt2, jt3, jt4, jt5, jt6, jt7, jt8] at r1
  obtain ⟨an1, fs1, z91⟩ := r1
  try simp (disch := omega) only [jst_eq, jst_ne, jst_ni, jI_i, jcmp_lt, jcmp_gt, w32_id, jcpy_out, Sum.elim_inl, Sum.elim_inr, jt2, jt3, jt4, jt5, jt6, jt7, jt8] at an1
  try simp (disch := omega) only [jst_eq, jst_ne, jst_ni, jI_i, jcmp_lt, jcmp_gt, w32_id, jcpy_out, Sum.elim_inl, Sum.elim_inr, jt2, jt3, jt4, jt5, jt6, jt7, jt8] at fs1
  try simp (disch := omega) only [jst_eq, jst_ne, jst_ni, jI_i, jcmp_lt, jcmp_gt, w32_id, jcpy_out, Sum.elim_inl, Sum.elim_inr, jt2, jt3, jt4, jt5, jt6, jt7, jt8] at z91
  have PZ := ak.2.2.2.2.2.1
  have F2 : ∀ a s, ¬ (a = 200 ∧ (s = 9 ∨ s = 10)) → ¬ (a = 269 ∧ 0 ≤ s) → ¬ (a = 323 ∧ 0 ≤ s) → h2 a s = h a s := f323_A fs1 PZ.2
  have M2 : fMw h h2 := fun a s y1 y2 => F2 a s (by omega) (by omega) (by omega)
  have AK2 := fMw_ak ak M2 (by rw [F2 _ _ (by omega) (by omega) (by omega)]; exact ak.2.1.1.2.2.1) z91.2
  have EV2 : ∀ q, 0 ≤ q → q < kP K → h2 323 q = evQ W K (fun _ => 0) R q := fun q q0 q1 => by { rw [an1 q q0 q1, ← evQ_hl (hl := h 270) l0 ty nh.1]; unfold evQ; congr 2; funext kk; exact (ak.1.2.2.2.2 q kk).symm }
  have LN2 := AK2.2.2.2.2.2.2.2.2.2.1
  have L323 : h2 323 (-2) = 101 ∧ h2 323 (-1) = 256 := ⟨(LN2 323 (by decide) (by decide)).1.trans (by decide), (LN2 323 (by decide) (by decide)).2.trans (by decide)⟩
  have p256 := ak.1.2.2.1.2.2
  refine OK_jb2 (vX1_meet (E := evF E K) (Rf := Rf) (W := W) (hl := K.2.2.2.2) (n := (kA K).1) (kf := (kA K).2.1) (wh := K.1.2.2.1) (rv := K.1.2.2.2) (pts := kP K) (rn := K.2.1.1) (ra := K.2.1.2) (ln := K.2.2.1.1) (nn := K.2.2.1.2.1) (lk := K.2.2.1.2.2.1) (LL := K.2.2.1.2.2.2.1) (LR := K.2.2.1.2.2.2.2) (g := evQ W K (fun _ => 0) R) _ _ (by exact AK2.2.1) (by exact ⟨L323.1, by decide, by decide, by decide, by decide, by (rw [L323.2]; omega), fun p p0 p1 => by (rw [Int.zero_add]; exact EV2 p p0 p1)⟩) (by exact fun _ p p0 p1 => (by (have q := evT_ty (f := fun _ _ _ => 0) (hl := fun _ => 0) (p := (kA K).2.2.1 p) ak.1.1.2.1.2.1 (wOK_ty ak.1.1.2.1.2.2.1) ak.1.1.2.1.2.2.2.1 (fun c c0 c1 => VK.2.1 p c p0 p1 c0 c1) (fun c _ _ => by decide) ty; rw [kd] at q; have ek : eK (evF E K) (-2) (eO (evF E K) (-2)) = kR K := (evF_k E K).2; rw [ek]; exact q)))) (fun v4 h5 r2 => ?_)
  try dsimp only [Sum.elim_inl, Sum.elim_inr, jt2, jt3, jt4, jt5, jt6, jt7, jt8] at r2
  obtain ⟨hv2, fs2⟩ := r2
  try simp (disch := omega) only [jst_eq, jst_ne, jst_ni, jI_i, jcmp_lt, jcmp_gt, w32_id, jcpy_out, Sum.elim_inl, Sum.elim_inr, jt2, jt3, jt4, jt5, jt6, jt7, jt8] at hv2
  try simp (disch := omega) only [jst_eq, jst_ne, jst_ni, jI_i, jcmp_lt, jcmp_gt, w32_id, jcpy_out, Sum.elim_inl, Sum.elim_inr, jt2, jt3, jt4, jt5, jt6, jt7, jt8] at fs2
  have M5 : fMw h h5 := fun a s y1 y2 => by { rw [fs2.1 a s (by omega) (by omega)]; exact M2 a s y1 y2 }
  have AK5 := fMw_ak ak M5 (by rw [fs2.1 _ _ (by omega) (by omega), F2 _ _ (by omega) (by omega) (by omega)]; exact ak.2.1.1.2.2.1) fs2.2
  have XT5 : XT h5 E W K p T := XT_w (fun a s s0 y => M5 a s (by omega) (by omega)) xt
  have C5 : cX h5 324 R 0 0 1 := cX_fr (h := h) (lo := 0) (hi := 2200) (fun a s _ _ _ _ => M5 _ _ (by omega) (by omega)) (fun s _ _ => M5 _ _ (by omega) (by omega)) c.1 (Int.le_refl _) (by decide) (by decide) (by decide) (by omega)
  refine OK_if (fun c1 => ?_) (fun c1 => ?_)
  · skip
    try simp (disch := omega) only [jst_eq, jst_ne, jst_ni, jI_i, jcmp_lt, jcmp_gt, w32_id, jcpy_out, Sum.elim_inl, Sum.elim_inr, jt2, jt3, jt4, jt5, jt6, jt7, jt8] at c1
    have MN : ¬ MKa E W K (kR K) (evQ W K (fun _ => 0) R) := fun y => by { rcases hv2 with w | w; { omega }; { exact w.2 y.2 } }
    refine OK_jb2 (vX1_number (R := R) _ _ (by exact capT_fr C4 (fun a a0 a1 => M5 _ _ (by omega) (by omega))) (by exact C5) (by omega) (by omega) (by omega)) (fun v8 h9 r3 => ?_)
    try dsimp only [Sum.elim_inl, Sum.elim_inr, jt2, jt3, jt4, jt5, jt6, jt7, jt8] at r3
    obtain ⟨nv3, nh3⟩ := r3
    try simp (disch := omega) only [jst_eq, jst_ne, jst_ni, jI_i, jcmp_lt, jcmp_gt, w32_id, jcpy_out, Sum.elim_inl, Sum.elim_inr, jt2, jt3, jt4, jt5, jt6, jt7, jt8] at nv3
    try simp (disch := omega) only [jst_eq, jst_ne, jst_ni, jI_i, jcmp_lt, jcmp_gt, w32_id, jcpy_out, Sum.elim_inl, Sum.elim_inr, jt2, jt3, jt4, jt5, jt6, jt7, jt8] at nh3
    have F9 : ∀ a s, a ≠ 340 → h9 a s = h5 a s := fun a s y => by { rw [nh3]; exact if_neg (by omega) }
    have N9 : ∀ j, 0 ≤ j → j < sz R → h9 340 j = j := fun j j0 j1 => by { rw [nh3]; unfold plN; rw [if_pos (by omega)]; omega }
    have NN9 : ∀ s, s < 0 → h9 340 s = h5 340 s := fun s s0 => by { rw [nh3]; exact if_neg (by omega) }
    have AK9 : akX h9 E Rf W K := akX_n AK5 (fun a s y => by unfold nA at y; by_cases q : a = 340; { rw [q]; exact NN9 s (by omega) }; { exact F9 a s q }) (by unfold b10; rw [F9 _ _ (by omega)]; exact AK5.1.1.2.2.2.2)
    have XT9 : XT h9 E W K p T := XT_w (fun a s s0 y => F9 a s (by omega)) XT5
    have C9 : cX h9 324 R 0 0 1 := cX_fr (h := h5) (lo := 0) (hi := 2200) (fun a s _ _ _ _ => F9 _ _ (by omega)) (fun s _ _ => F9 _ _ (by omega)) C5 (Int.le_refl _) (by decide) (by decide) (by decide) (by omega)
    have KL : kdL E W K p := fun f f0 f1 => by { have o := tm_okR ak.1.1.2.1.2.1 VK GK A3 f f0 f1; rw [← o.1.2]; exact ⟨(tyT_nd o.1.1).1, (tyT_nd o.1.1).2.1⟩ }
    refine OK_jb (vX1_mendBy_l42 (E := E) (Rf := Rf) (W := W) (K := K) (p := p) (T := T) (R := R) _ _ _ _ (by exact ⟨AK9, XT9, ⟨C9, by omega⟩, ty, nh.1, dk.1, kd, KL, N9⟩) (by exact GTp.2.2.1) (by exact ⟨rfl, by omega, i.2.1, i.2.2.1⟩) (by rfl)) (fun o10 r4 => ?_)
    rcases o10 with o12 | o13
    · skip
      have r5 := r4; clear r4
      dsimp only [Sum.elim_inl, Sum.elim_inr] at r5
      refine OK_jml ?_
      obtain ⟨y14, y15, h16⟩ := o12
      refine OK_jt3 ?_
      try dsimp only [Sum.elim_inl, Sum.elim_inr, jt2, jt3, jt4, jt5, jt6, jt7, jt8] at r5
      obtain ⟨fo4, md4⟩ := r5
      try simp (disch := omega) only [jst_eq, jst_ne, jst_ni, jI_i, jcmp_lt, jcmp_gt, w32_id, jcpy_out, Sum.elim_inl, Sum.elim_inr, jt2, jt3, jt4, jt5, jt6, jt7, jt8] at fo4
      try simp (disch := omega) only [jst_eq, jst_ne, jst_ni, jI_i, jcmp_lt, jcmp_gt, w32_id, jcpy_out, Sum.elim_inl, Sum.elim_inr, jt2, jt3, jt4, jt5, jt6, jt7, jt8] at md4
      obtain ⟨MD16, MF16⟩ := md4
      obtain ⟨⟨x0, x1⟩, ⟨y0, y1⟩, hit, lst⟩ := fo4
      have OK1 := tm_okR ak.1.1.2.1.2.1 VK GK A3 y15 y0 y1
      have SZ := tm_sz GK y15 y0 y1
      have W12 := (GK y15 y0 y1).1.2
      have DS := dpT_sz (tm (kA K) (LV E W (kP K) (kA K) p) y15)
      have DE := dpE_sz (wA40 ak.1.1.2.1.2.2.2.2.1) OK1.2.1
      refine OK_jl ?_
      have F17 : ∀ a s, ¬ (a = 200 ∧ s = 31) → jst h16 200 31 y14 a s = h16 a s := fun a s y => jst_o y
      have V17 : jst h16 200 31 y14 200 31 = y14 := jst_eq
      generalize eg17 : jst h16 200 31 y14 = g17 at *
      have N17 : g17 324 0 = sz R := by { rw [F17 _ _ (by omega), MF16 _ _ (by omega) (by omega), F9 _ _ (by omega), M5 _ _ (by omega) (by omega)]; exact c.2.2 }
      have AK17 : akX g17 E Rf W K := akX_n MD16.1 (fun a s y => by unfold nA at y; exact F17 a s (by omega)) (by unfold b10; rw [F17 _ _ (by omega)]; exact MD16.1.1.1.2.2.2.2)
      have XT17 : XT g17 E W K p T := XT_w (fun a s s0 y => F17 a s (by omega)) MD16.2.1
      refine OK_jb2 (vX5_term (E := E) (A := kA K) (T := LV E W (kP K) (kA K) p) _ (by exact GK) (by exact XT_tq AK17 XT17) (by exact capT_fr C4 (fun a a0 a1 => by rw [F17 _ _ (by omega), MF16 _ _ (by omega) (by omega), F9 _ _ (by omega)]; exact M5 _ _ (by omega) (by omega))) (by exact ⟨y0, y1⟩) (by omega)) (fun v19 h20 r6 => ?_)
      try dsimp only [Sum.elim_inl, Sum.elim_inr, jt2, jt3, jt4, jt5, jt6, jt7, jt8] at r6
      have po5 := r6
      clear r6
      try simp (disch := omega) only [jst_eq, jst_ne, jst_ni, jI_i, jcmp_lt, jcmp_gt, w32_id, jcpy_out, Sum.elim_inl, Sum.elim_inr, jt2, jt3, jt4, jt5, jt6, jt7, jt8] at po5
      obtain ⟨q1, q2, q3, q4⟩ := po5
      rw [N17] at q1 q2 q4
      rw [q1] at q3
      have F20 : ∀ a s, ¬ (324 ≤ a ∧ a ≤ 329 ∧ 0 ≤ s) → h20 a s = g17 a s := fun a s y => q4 a s (by omega) (by omega) (by omega)
      have o20 : h20 340 y14 = y14 := by { rw [F20 _ _ (by omega), F17 _ _ (by omega)]; exact MD16.2.2.2.2.2.2.2.2 y14 x0 x1 }
      have C20 : cX h20 324 R 0 0 1 := cX_fr (h := h16) (lo := 0) (hi := sz R) (fun a s a0 a1 s0 s1 => by rw [q4 a s (by omega) (by omega) (by omega)]; exact F17 _ _ (by omega)) (fun s s0 s1 => by rw [q4 _ _ (by omega) (by omega) (by omega)]; exact F17 _ _ (by omega)) MD16.2.2.1.1 (Int.le_refl _) (Int.le_refl _) (by omega) (by omega) (by omega)
      have CP20 : capT h20 324 2200 := capT_fr C4 (fun a a0 a1 => by rw [F20 _ _ (by omega), F17 _ _ (by omega), MF16 _ _ (by omega) (by omega), F9 _ _ (by omega)]; exact M5 _ _ (by omega) (by omega))
      rw [o20, q1]
      refine OK_jg (by (first | assumption | omega | ((try dsimp only [jt2, jt3, jt4]); first | omega | (simp (disch := omega) only [jst_eq, jst_ne, jst_ni, jst_o, jI_i, jcpy_out, w32_id, jdiv_nn, jshr_k, jand_255] <;> first | done | omega | assumption)) | (intros; simp (disch := omega) only [jst_eq, jst_ne, jst_ni, jst_o, jI_i, jcpy_out, w32_id, jdiv_nn, *] <;> first | done | omega) | (intros; simp (disch := omega) only [jst_eq, jst_ne, jst_ni, jst_o, jI_i, jcpy_out, w32_id, jdiv_nn] at * <;> first | done | omega | assumption) | (intros; first | rfl | (exfalso; omega) | ((repeat' apply And.intro) <;> first | assumption | rfl | omega | trivial)))) ?_ -- o20
      refine OK_jb2 (vX1_replaced (R := R) _ _ _ (by exact CP20) (by exact C20) (by omega) (by omega)) (fun v22 h23 r7 => ?_)
      try dsimp only [Sum.elim_inl, Sum.elim_inr, jt2, jt3, jt4, jt5, jt6, jt7, jt8] at r7
      have rp6 := r7
      clear r7
      try simp (disch := omega) only [jst_eq, jst_ne, jst_ni, jI_i, jcmp_lt, jcmp_gt, w32_id, jcpy_out, Sum.elim_inl, Sum.elim_inr, jt2, jt3, jt4, jt5, jt6, jt7, jt8] at rp6
      obtain ⟨f23, t23⟩ := rp6.2 ⟨x0, by omega⟩
      have TR23 := t23 (tm (kA K) (LV E W (kP K) (kA K) p) y15) (fun hh f => cX_tr (cX_fr (h := h20) (lo := sz R) (hi := sz R + sz (tm (kA K) (LV E W (kP K) (kA K) p) y15)) (fun a s a0 a1 s0 s1 => f _ _ (by omega)) (fun s s0 s1 => f _ _ (by omega)) q3 (Int.le_refl _) (Int.le_refl _) (by have := sz_pos (tm (kA K) (LV E W (kP K) (kA K) p) y15); omega) (by omega) (by omega)) (by omega) (by omega) (by omega) (by omega))
      rw [show y14 - 0 = y14 by omega] at TR23
      have AK23 : akX h23 E Rf W K := akX_n AK17 (fun a s y => by unfold nA at y; rw [f23 a s (by omega)]; exact F20 a s (by omega)) (by unfold b10; rw [f23 _ _ (by omega), F20 _ _ (by omega)]; exact AK17.1.1.2.2.2.2)
      have XT23 : XT h23 E W K p T := XT_w (fun a s s0 y => by rw [f23 a s (by omega)]; exact F20 a s (by omega)) XT17
      have TYR := rpT_ty OK1.1.1 x0 x1 ty (by rw [OK1.1.2]; exact hit.1)
      have NHR : nhT (rpT R y14 (tm (kA K) (LV E W (kP K) (kA K) p) y15)) := rpT_nh OK1.2.2.1 nh.1
      have NVR : nvT (rpT R y14 (tm (kA K) (LV E W (kP K) (kA K) p) y15)) := rpT_nv (tl_nv OK1.2.1) nh.2
      have FLE : flT K.2.2.2.2 (rpT R y14 (tm (kA K) (LV E W (kP K) (kA K) p) y15)) = mdT E W K p R y14 y15 := fl_hc (n := 0) (fun c c0 c1 => by omega) (nh_hc NHR)
      have TYF := ty_fl (fun c c0 c1 => (HR c c0 c1).2) (Int.le_refl _) TYR.1
      have szR := rpT_sz (R := R) (S := tm (kA K) (LV E W (kP K) (kA K) p) y15) (m := y14)
      have dpR := rpT_dp (R := R) (S := tm (kA K) (LV E W (kP K) (kA K) p) y15) (m := y14)
      have dER := rpT_dE ew (R := R) (S := tm (kA K) (LV E W (kP K) (kA K) p) y15) (m := y14)
      have G23 : ∀ a s, ¬ (a = 200 ∧ (s = 9 ∨ s = 10 ∨ s = 11 ∨ s = 12 ∨ s = 14 ∨ s = 15 ∨ s = 31)) → ¬ ((a = 269 ∨ a = 323 ∨ a = 340) ∧ 0 ≤ s) → ¬ (324 ≤ a ∧ a ≤ 329 ∧ 0 ≤ s) → h23 a s = h a s := fun a s y1 y2 y3 => by { rw [f23 a s (by omega), F20 a s y3, F17 a s (by omega), MF16 a s (by omega) (by omega)]; by_cases q : a = 340; { rw [q, NN9 s (by omega)]; exact M5 _ _ (by omega) (by omega) }; { rw [F9 a s q]; exact M5 a s (by omega) (by omega) } }
      refine OK_jb (vX1_become (E := E) (Rf := Rf) (W := W) (K := K) (R := rpT R y14 (tm (kA K) (LV E W (kP K) (kA K) p) y15)) _ (by exact AK23) (by exact cA) (by exact TR23) (by exact nh_nr NHR) (by exact TYF) (by exact ⟨ty_ok ak.1.1.2.1.2.1 A3 l0 (Int.le_refl _) TYF (fl_nv (n := 0) (fun c c0 c1 => by omega) (nh_hc NHR) NVR), fl_nh _⟩) (by exact ⟨by rw [fl_dE]; omega, by omega, by omega⟩)) (fun h25 r8 => ?_)
      try dsimp only [Sum.elim_inl, Sum.elim_inr, jt2, jt3, jt4, jt5, jt6, jt7, jt8] at r8
      obtain ⟨fd7, fs7, kk7⟩ := r8
      try simp (disch := omega) only [jst_eq, jst_ne, jst_ni, jI_i, jcmp_lt, jcmp_gt, w32_id, jcpy_out, Sum.elim_inl, Sum.elim_inr, jt2, jt3, jt4, jt5, jt6, jt7, jt8] at fd7
      try simp (disch := omega) only [jst_eq, jst_ne, jst_ni, jI_i, jcmp_lt, jcmp_gt, w32_id, jcpy_out, Sum.elim_inl, Sum.elim_inr, jt2, jt3, jt4, jt5, jt6, jt7, jt8] at fs7
      try simp (disch := omega) only [jst_eq, jst_ne, jst_ni, jI_i, jcmp_lt, jcmp_gt, w32_id, jcpy_out, Sum.elim_inl, Sum.elim_inr, jt2, jt3, jt4, jt5, jt6, jt7, jt8] at kk7
      rw [FLE] at fd7
      have RD25 : fRf h h25 := fun a s z1 z2 z3 z4 z5 z6 => by { rw [fs7 a s (by omega) (by omega) (by omega) (by omega)]; exact G23 a s (by omega) (by omega) (by omega) }
      have EX := XT23.2.1
      have w25 : h25 309 y15 = (LV E W (kP K) (kA K) p).2.2.1 y15 := by { rw [fs7 _ _ (by omega) (by omega) (by omega) (by omega), (XT23.1.2.1.2.2.2.2.2.2.2 y15 y0 (by have := EX.1; omega)).2.1]; exact (EX.2 y15 y0 y1).2.1 }
      have AG25 : agS h h25 := fun a s y => by { unfold sA at y; rw [fs7 a s (by omega) (by omega) (by omega) (by omega)]; exact G23 a s (by omega) (by omega) (by omega) }
      have Z25 : h25 200 31 = y14 := by { rw [fs7 _ _ (by omega) (by omega) (by omega) (by omega), f23 _ _ (by omega), F20 _ _ (by omega)]; exact V17 }
      refine OK_jg (by (first | assumption | omega | ((try dsimp only [jt2, jt3, jt4]); first | omega | (simp (disch := omega) only [jst_eq, jst_ne, jst_ni, jst_o, jI_i, jcpy_out, w32_id, jdiv_nn, jshr_k, jand_255] <;> first | done | omega | assumption)) | (intros; simp (disch := omega) only [jst_eq, jst_ne, jst_ni, jst_o, jI_i, jcpy_out, w32_id, jdiv_nn, *] <;> first | done | omega) | (intros; simp (disch := omega) only [jst_eq, jst_ne, jst_ni, jst_o, jI_i, jcpy_out, w32_id, jdiv_nn] at * <;> first | done | omega | assumption) | (intros; first | rfl | (exfalso; omega) | ((repeat' apply And.intro) <;> first | assumption | rfl | omega | trivial)))) ?_ -- o32
      refine OK_some ?_
      try dsimp only [Sum.elim_inl, Sum.elim_inr, jt2, jt3, jt4, jt5, jt6, jt7, jt8]
      try dsimp only [Sum.elim_inl, Sum.elim_inr, jt2, jt3, jt4, jt5, jt6, jt7, jt8]
      refine ⟨?_, ?_⟩
      · (rw [w25]; exact .inr ⟨MN, .inl ⟨y14, y15, ⟨⟨x0, x1⟩, ⟨y0, y1⟩, hit, lst⟩, rfl, fd7, RD25, Z25⟩⟩) -- o33 e1.1
      · exact ⟨AG25, kk7, by (rw [fs7 _ _ (by omega) (by omega) (by omega) (by omega)]; exact G23 _ _ (by omega) (by omega) (by omega)), by (rw [fs7 _ _ (by omega) (by omega) (by omega) (by omega)]; exact G23 _ _ (by omega) (by omega) (by omega))⟩ -- o34 e1.2
    · skip
      have r9 := r4; clear r4
      dsimp only [Sum.elim_inl, Sum.elim_inr] at r9
      try dsimp only [Sum.elim_inl, Sum.elim_inr, jt2, jt3, jt4, jt5, jt6, jt7, jt8] at r9
      obtain ⟨no8, md8⟩ := r9
      try simp (disch := omega) only [jst_eq, jst_ne, jst_ni, jI_i, jcmp_lt, jcmp_gt, w32_id, jcpy_out, Sum.elim_inl, Sum.elim_inr, jt2, jt3, jt4, jt5, jt6, jt7, jt8] at no8
      try simp (disch := omega) only [jst_eq, jst_ne, jst_ni, jI_i, jcmp_lt, jcmp_gt, w32_id, jcpy_out, Sum.elim_inl, Sum.elim_inr, jt2, jt3, jt4, jt5, jt6, jt7, jt8] at md8
      refine OK_jmr ?_
      obtain ⟨MD13, MF13⟩ := md8
      have G13 : ∀ a s, ¬ (a = 200 ∧ (s = 9 ∨ s = 10 ∨ s = 11 ∨ s = 12 ∨ s = 14 ∨ s = 15)) → ¬ ((a = 269 ∨ a = 323 ∨ a = 340) ∧ 0 ≤ s) → o13 a s = h a s := fun a s y1 y2 => by { rw [MF13 a s (by omega) (by omega)]; by_cases q : a = 340; { rw [q, NN9 s (by omega)]; exact M5 _ _ (by omega) (by omega) }; { rw [F9 a s q]; exact M5 a s (by omega) (by omega) } }
      refine OK_some ?_
      try dsimp only [Sum.elim_inl, Sum.elim_inr, jt2, jt3, jt4, jt5, jt6, jt7, jt8]
      try dsimp only [Sum.elim_inl, Sum.elim_inr, jt2, jt3, jt4, jt5, jt6, jt7, jt8]
      refine ⟨?_, ?_⟩
      · exact .inr ⟨MN, .inr ⟨no8, rfl, fun a s z1 z2 z3 z4 z5 z6 => G13 a s (by omega) (by omega), G13 _ _ (by omega) (by omega)⟩⟩ -- o35 e2.1
      · exact ⟨fun a s y => by (unfold sA at y; exact G13 a s (by omega) (by omega)), MD13.1, G13 _ _ (by omega) (by omega), G13 _ _ (by omega) (by omega)⟩ -- o36 e2.2
  · skip
    try simp (disch := omega) only [jst_eq, jst_ne, jst_ni, jI_i, jcmp_lt, jcmp_gt, w32_id, jcpy_out, Sum.elim_inl, Sum.elim_inr, jt2, jt3, jt4, jt5, jt6, jt7, jt8] at c1
    have MY : MKa E W K (kR K) (evQ W K (fun _ => 0) R) := ⟨rfl, by rcases hv2 with w | w; { exact w.2 }; { exact absurd w.1 c1 }⟩
    have FL0 : flT K.2.2.2.2 R = flT (fun _ => 0) R := fl_hc (n := 0) (fun c c0 c1 => by omega) (nh_hc nh.1)
    have TYF := ty_fl (fun c c0 c1 => (HR c c0 c1).2) (Int.le_refl _) ty
    refine OK_jb (vX1_become (E := E) (Rf := Rf) (W := W) (K := K) (R := R) _ (by exact AK5) (by exact cA) (by exact cX_tr C5 (by decide) (by decide) (by decide) (by omega)) (by exact nh_nr nh.1) (by exact TYF) (by exact ⟨ty_ok ak.1.1.2.1.2.1 A3 l0 (Int.le_refl _) TYF (fl_nv (n := 0) (fun c c0 c1 => by omega) (nh_hc nh.1) nh.2), fl_nh _⟩) (by exact ⟨by rw [fl_dE]; omega, by omega, by omega⟩)) (fun h27 r10 => ?_)
    try dsimp only [Sum.elim_inl, Sum.elim_inr, jt2, jt3, jt4, jt5, jt6, jt7, jt8] at r10
    obtain ⟨fd9, fs9, kk9⟩ := r10
    try simp (disch := omega) only [jst_eq, jst_ne, jst_ni, jI_i, jcmp_lt, jcmp_gt, w32_id, jcpy_out, Sum.elim_inl, Sum.elim_inr, jt2, jt3, jt4, jt5, jt6, jt7, jt8] at fd9
    try simp (disch := omega) only [jst_eq, jst_ne, jst_ni, jI_i, jcmp_lt, jcmp_gt, w32_id, jcpy_out, Sum.elim_inl, Sum.elim_inr, jt2, jt3, jt4, jt5, jt6, jt7, jt8] at fs9
    try simp (disch := omega) only [jst_eq, jst_ne, jst_ni, jI_i, jcmp_lt, jcmp_gt, w32_id, jcpy_out, Sum.elim_inl, Sum.elim_inr, jt2, jt3, jt4, jt5, jt6, jt7, jt8] at kk9
    rw [FL0] at fd9
    refine OK_some ?_
    try dsimp only [Sum.elim_inl, Sum.elim_inr, jt2, jt3, jt4, jt5, jt6, jt7, jt8]
    try dsimp only [Sum.elim_inl, Sum.elim_inr, jt2, jt3, jt4, jt5, jt6, jt7, jt8]
    refine ⟨?_, ?_⟩
    · exact .inl ⟨MY, rfl, fd9, fRd_F (h1 := h5) (fun a s z1 z2 z3 z4 z5 z6 => M5 a s (by omega) (by omega)) fs9, (by rw [fs9 _ _ (by omega) (by omega) (by omega) (by omega)]; exact M5 _ _ (by omega) (by omega))⟩ -- o44 e3.1
    · exact ⟨fun a s y => by (unfold sA at y; rw [fs9 a s (by omega) (by omega) (by omega) (by omega)]; exact M5 a s (by omega) (by omega)), kk9, (by rw [fs9 _ _ (by omega) (by omega) (by omega) (by omega)]; exact M5 _ _ (by omega) (by omega)), (by rw [fs9 _ _ (by omega) (by omega) (by omega) (by omega)]; exact M5 _ _ (by omega) (by omega))⟩ -- o45 e3.2

