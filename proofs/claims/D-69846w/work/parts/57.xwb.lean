/-! x: acts worked out, on -/
def sw (l : List VW) : Nat → Int
  | 0 => 0
  | k + 1 => sw l k + (gv l k).2
theorem jand_00 (x : Int) : jand x 0 = 0 := by
  have h := jand_mask (k := 0) (by decide) x
  have e : ((2 ^ 0 - 1 : Nat) : Int) = 0 := by decide
  rw [e] at h
  rw [h]
  show x % 1 = 0
  omega
theorem preG_kd {h h' : AH} {E : EV} {Rf : Int → TR} {W : Int → Int → Int → VW} {f : Int → Int → Int → Int} {T N w wv b np d hi n : Int} {kp p hl : Int → Int} {R : TR} (q : preG h E Rf W f T N w wv b np kp p hl R d hi) (k : Nat) (lk : (k : Int) < nk R) (fr : ∀ a s, ¬ (a = 200 ∧ (s = 9 ∨ s = 10)) → ¬ (a = 269 ∧ hi ≤ s) → h' a s = h a s) (n9 : h' 200 9 = hi + n) (n3 : 0 ≤ n ∧ n ≤ 3) (b10 : -2147483648 ≤ h' 200 10 ∧ h' 200 10 < 2147483648) : preE h' E Rf W f T N w wv b np kp p hl (kdA R k) (h' (T + 5) (3 * d + k)) := by
  obtain ⟨q1, q2, q3, q4, q5, q6, q7, q8, q9, q10, q11, q12, q13⟩ := q
  have t3 := isX3_p q2.1
  have t4 := isX3_r q2.1
  have kd := vwX_kd k q3 lk
  rw [Int.zero_add] at kd
  have dk := dpE_kd (wA := E.1.2.2.2.1) R k lk
  refine ⟨enuX_fr q1 (fun a s y1 y2 => fr a s (by omega) (by omega)), capX_fr q2 (fun a a0 a1 => fr _ _ (by omega) (by omega)), ?_, (tyT_kd k q4 lk).1, by rw [fr _ _ (by omega) (by omega)]; exact q5, by rw [fr _ _ (by omega) (by omega)]; exact q6, q7, by omega, by omega, q10, fun c c0 c1 => ?_, fun c c0 c1 => ?_, b10⟩
  · rw [fr (T + 5) _ (by omega) (by omega)]
    exact vwX_fr (fun a s y => fr _ _ (by omega) (by omega)) kd.2
  · rw [fr _ _ (by omega) (by omega)]; exact q11 c c0 c1
  · rw [fr _ _ (by omega) (by omega)]; exact q12 c c0 c1
theorem vX1_workAct_l147 {F : Int → Int → Int → AH → Option (Int × AH)} (i1 : Int) (i2 : Int) (i3 : Int) (i4 : Int) (i5 : Int) (i6 : Int) (i7 : Int) (a80 : Int) (a90 : Int) {h0 : AH} {E : EV} {Rf : Int → TR} {W : Int → Int → Int → VW} {f : Int → Int → Int → Int} {N w wv np k : Int} {kp p hl : Int → Int} {R : TR} (hF : CWX F k) (q : preG h0 E Rf W f i1 N w wv i3 np kp p hl R i2 i6) (dk : dpE E.1.2.2.2.1 R ≤ k + 1) (n : i7 = nk R ∧ i7 ≤ 3) (n9 : h0 200 9 = i6 + i7) (z : a80 = 1 ∧ a90 = 0) : OK (gX1_workAct_l147 F i1 i2 i3 i4 i5 i6 i7 a80 a90 h0) (fun r => jt2 r fun y h' => (∀ m : Nat, (m : Int) < i7 → h' 269 (i6 + m) = (gv (evK W f p hl R) m).1) ∧ ((y = 1 ∧ ∀ m : Nat, (m : Int) < i7 → (gv (evK W f p hl R) m).1 ≠ -1) ∨ (y = 0 ∧ ∃ m : Nat, (m : Int) < i7 ∧ (gv (evK W f p hl R) m).1 = -1)) ∧ (h' 200 10 = w32 (h0 200 10 + sw (evK W f p hl R) i7.toNat)) ∧ (∀ a s, ¬ (a = 200 ∧ s = 10) → ¬ (a = 269 ∧ i6 ≤ s) → h' a s = h0 a s)) := by
  unfold gX1_workAct_l147
  refine OK_jit (I := (fun (s : Int × Int × AH) => jt3 s fun a8 a9 h => (0 ≤ a9 ∧ a9 ≤ i7) ∧ (∀ m : Nat, (m : Int) < a9 → h 269 (i6 + m) = (gv (evK W f p hl R) m).1) ∧ ((a8 = 1 ∧ ∀ m : Nat, (m : Int) < a9 → (gv (evK W f p hl R) m).1 ≠ -1) ∨ (a8 = 0 ∧ ∃ m : Nat, (m : Int) < a9 ∧ (gv (evK W f p hl R) m).1 = -1)) ∧ (h 200 10 = w32 (h0 200 10 + sw (evK W f p hl R) a9.toNat)) ∧ (∀ a s, ¬ (a = 200 ∧ s = 10) → ¬ (a = 269 ∧ i6 ≤ s) → h a s = h0 a s))) (m := (fun (s : Int × Int × AH) => jt3 s fun a8 a9 h => (i7 - a9).toNat)) ?_ ?_
  · intro s hs
    obtain ⟨a8, a9, h⟩ := s
    dsimp only [Sum.elim_inl, Sum.elim_inr, jt2, jt3, jt4, jt5, jt6, jt7, jt8] at hs
    obtain ⟨q0, q1, q2, q3, fr⟩ := hs
    unfold gX1_workAct_b147
    refine OK_jt3 ?_
    have nk0 := nk_0 R
    have cp := q.2.1.2
    have t3 := isX3_p q.2.1.1
    have nd := vwX_nd q.2.2.1
    have hb := q.2.2.2.2.2.2.1
    have hb2 := q.2.2.2.2.2.2.2.1
    have hb3 := q.2.2.2.2.2.2.2.2.1
    have d0 := dpE_0 q.1.2.2.2.2.2.2.2 R
    have np0 := q.2.2.2.2.2.2.2.2.2.1
    have wr := w32_r (h0 200 10 + sw (evK W f p hl R) a9.toNat)
    refine OK_if (fun c1 => ?_) (fun c1 => ?_)
    · skip
      try simp (disch := omega) only [jst_eq, jst_ne, jst_ni, jI_i, jcmp_lt, jcmp_gt, w32_id, jcpy_out, Sum.elim_inl, Sum.elim_inr, jt2, jt3, jt4, jt5, jt6, jt7, jt8] at c1
      refine OK_ir ?_
      try dsimp only [Sum.elim_inl, Sum.elim_inr, jt2, jt3, jt4, jt5, jt6, jt7, jt8]
      refine ⟨?_, ?_, ?_, ?_⟩
      · (rw [show i7 = a9 by omega]; exact q1) -- o1 e1.1
      · (rw [show i7 = a9 by omega]; exact q2) -- o2 e1.2
      · (rw [show i7 = a9 by omega]; exact q3) -- o3 e1.3
      · (first | assumption | omega | ((try dsimp only [jt2, jt3, jt4]); first | omega | (simp (disch := omega) only [jst_eq, jst_ne, jst_ni, jst_o, jI_i, jcpy_out, w32_id, jdiv_nn, jshr_k, jand_255] <;> first | done | omega | assumption)) | (intros; simp (disch := omega) only [jst_eq, jst_ne, jst_ni, jst_o, jI_i, jcpy_out, w32_id, jdiv_nn, *] <;> first | done | omega) | (intros; simp (disch := omega) only [jst_eq, jst_ne, jst_ni, jst_o, jI_i, jcpy_out, w32_id, jdiv_nn] at * <;> first | done | omega | assumption) | (intros; first | rfl | (exfalso; omega) | ((repeat' apply And.intro) <;> first | assumption | rfl | omega | trivial))) -- o4 e1.4
    · skip
      try simp (disch := omega) only [jst_eq, jst_ne, jst_ni, jI_i, jcmp_lt, jcmp_gt, w32_id, jcpy_out, Sum.elim_inl, Sum.elim_inr, jt2, jt3, jt4, jt5, jt6, jt7, jt8] at c1
      have lk : ((a9.toNat : Nat) : Int) < nk R := by omega
      have ea : ((a9.toNat : Nat) : Int) = a9 := by omega
      have dkk := dpE_kd (wA := E.1.2.2.2.1) R a9.toNat lk
      have gk := gv_kd (W := W) (f := f) (p := p) (hl := hl) R a9.toNat lk
      have sk : sw (evK W f p hl R) (a9 + 1).toNat = sw (evK W f p hl R) a9.toNat + (gv (evK W f p hl R) a9.toNat).2 := by { rw [show (a9 + 1).toNat = a9.toNat + 1 by omega]; rfl }
      refine OK_jb (vX3_part (M := N) _ _ _ (by exact capT_fr cp (fun a a0 a1 => fr _ _ (by omega) (by omega))) (by (first | assumption | omega | ((try dsimp only [jt2, jt3, jt4]); first | omega | (simp (disch := omega) only [jst_eq, jst_ne, jst_ni, jst_o, jI_i, jcpy_out, w32_id, jdiv_nn, jshr_k, jand_255] <;> first | done | omega | assumption)) | (intros; simp (disch := omega) only [jst_eq, jst_ne, jst_ni, jst_o, jI_i, jcpy_out, w32_id, jdiv_nn, *] <;> first | done | omega) | (intros; simp (disch := omega) only [jst_eq, jst_ne, jst_ni, jst_o, jI_i, jcpy_out, w32_id, jdiv_nn] at * <;> first | done | omega | assumption) | (intros; first | rfl | (exfalso; omega) | ((repeat' apply And.intro) <;> first | assumption | rfl | omega | trivial))))) (fun v47 r1 => ?_)
      try dsimp only [Sum.elim_inl, Sum.elim_inr, jt2, jt3, jt4, jt5, jt6, jt7, jt8] at r1
      have v1 := r1
      clear r1
      try simp (disch := omega) only [jst_eq, jst_ne, jst_ni, jI_i, jcmp_lt, jcmp_gt, w32_id, jcpy_out, Sum.elim_inl, Sum.elim_inr, jt2, jt3, jt4, jt5, jt6, jt7, jt8] at v1
      have pk := preG_kd (h' := h) (n := i7) q a9.toNat lk (fun a s y1 y2 => fr a s (by omega) (by omega)) (by rw [fr _ _ (by omega) (by omega)]; exact n9) (by omega) (by omega)
      rw [ea] at pk
      rw [if_neg (by omega)] at v1
      refine OK_jb2 (vX1_work_ (E := E) (Rf := Rf) (W := W) (f := f) (N := N) (w := w) (wv := wv) (np := np) (k := k) (kp := kp) (p := p) (hl := hl) (R := kdA R a9.toNat) _ _ _ (by (first | assumption | omega | ((try dsimp only [jt2, jt3, jt4]); first | omega | (simp (disch := omega) only [jst_eq, jst_ne, jst_ni, jst_o, jI_i, jcpy_out, w32_id, jdiv_nn, jshr_k, jand_255] <;> first | done | omega | assumption)) | (intros; simp (disch := omega) only [jst_eq, jst_ne, jst_ni, jst_o, jI_i, jcpy_out, w32_id, jdiv_nn, *] <;> first | done | omega) | (intros; simp (disch := omega) only [jst_eq, jst_ne, jst_ni, jst_o, jI_i, jcpy_out, w32_id, jdiv_nn] at * <;> first | done | omega | assumption) | (intros; first | rfl | (exfalso; omega) | ((repeat' apply And.intro) <;> first | assumption | rfl | omega | trivial)))) (by (rw [v1]; exact pk)) (by omega)) (fun v49 h50 r2 => ?_)
      try dsimp only [Sum.elim_inl, Sum.elim_inr, jt2, jt3, jt4, jt5, jt6, jt7, jt8] at r2
      obtain ⟨ev2, pe2⟩ := r2
      try simp (disch := omega) only [jst_eq, jst_ne, jst_ni, jI_i, jcmp_lt, jcmp_gt, w32_id, jcpy_out, Sum.elim_inl, Sum.elim_inr, jt2, jt3, jt4, jt5, jt6, jt7, jt8] at ev2
      try simp (disch := omega) only [jst_eq, jst_ne, jst_ni, jI_i, jcmp_lt, jcmp_gt, w32_id, jcpy_out, Sum.elim_inl, Sum.elim_inr, jt2, jt3, jt4, jt5, jt6, jt7, jt8] at pe2
      have dkid := dpE_0 q.1.2.2.2.2.2.2.2 (kdA R a9.toNat)
      have i6a : w32 (i6 + a9) = i6 + a9 := w32_id (by omega) (by omega)
      have i6b : 0 ≤ w32 (i6 + a9) ∧ w32 (i6 + a9) < 1000 := by { rw [i6a]; omega }
      have h9 : h 200 9 = i6 + i7 := by { rw [fr _ _ (by omega) (by omega)]; exact n9 }
      have F50 : ∀ a s, ¬ (a = 200 ∧ s = 10) → ¬ (a = 269 ∧ i6 + i7 ≤ s) → h50 a s = h a s := fun a s y1 y2 => pe2.2 a s y1 (by omega)
      have e50 : h50 200 10 = w32 (h0 200 10 + sw (evK W f p hl R) (a9 + 1).toNat) := by { rw [pe2.1, q3, w32_add, sk, gk]; congr 1; omega }
      have ev3 : v49 = (gv (evK W f p hl R) a9.toNat).1 := by { rw [gk]; exact ev2 }
      refine OK_if (fun c2 => ?_) (fun c2 => ?_)
      · skip
        try simp (disch := omega) only [jst_eq, jst_ne, jst_ni, jI_i, jcmp_lt, jcmp_gt, w32_id, jcpy_out, Sum.elim_inl, Sum.elim_inr, jt2, jt3, jt4, jt5, jt6, jt7, jt8] at c2
        unfold gX1_workAct_j182_147
        refine OK_jlx (fun x52 ex52 => ?_)
        try simp (disch := omega) only [jst_eq, jst_ne, jst_ni, jI_i, jcmp_lt, jcmp_gt, w32_id, jcpy_out, Sum.elim_inl, Sum.elim_inr, jt2, jt3, jt4, jt5, jt6, jt7, jt8] at ex52
        refine OK_jg (by (first | assumption | omega | ((try dsimp only [jt2, jt3, jt4]); first | omega | (simp (disch := omega) only [jst_eq, jst_ne, jst_ni, jst_o, jI_i, jcpy_out, w32_id, jdiv_nn, jshr_k, jand_255] <;> first | done | omega | assumption)) | (intros; simp (disch := omega) only [jst_eq, jst_ne, jst_ni, jst_o, jI_i, jcpy_out, w32_id, jdiv_nn, *] <;> first | done | omega) | (intros; simp (disch := omega) only [jst_eq, jst_ne, jst_ni, jst_o, jI_i, jcpy_out, w32_id, jdiv_nn] at * <;> first | done | omega | assumption) | (intros; first | rfl | (exfalso; omega) | ((repeat' apply And.intro) <;> first | assumption | rfl | omega | trivial)))) ?_ -- o10
        refine OK_jl ?_
        refine OK_jlx (fun x54 ex54 => ?_)
        try simp (disch := omega) only [jst_eq, jst_ne, jst_ni, jI_i, jcmp_lt, jcmp_gt, w32_id, jcpy_out, Sum.elim_inl, Sum.elim_inr, jt2, jt3, jt4, jt5, jt6, jt7, jt8] at ex54
        have ex54' : x54 = a9 + 1 := by omega
        refine OK_il ?_ ?_
        · try dsimp only [Sum.elim_inl, Sum.elim_inr, jt2, jt3, jt4, jt5, jt6, jt7, jt8]
          refine ⟨?_, ?_, ?_, ?_, ?_⟩
          · (first | assumption | omega | ((try dsimp only [jt2, jt3, jt4]); first | omega | (simp (disch := omega) only [jst_eq, jst_ne, jst_ni, jst_o, jI_i, jcpy_out, w32_id, jdiv_nn, jshr_k, jand_255] <;> first | done | omega | assumption)) | (intros; simp (disch := omega) only [jst_eq, jst_ne, jst_ni, jst_o, jI_i, jcpy_out, w32_id, jdiv_nn, *] <;> first | done | omega) | (intros; simp (disch := omega) only [jst_eq, jst_ne, jst_ni, jst_o, jI_i, jcpy_out, w32_id, jdiv_nn] at * <;> first | done | omega | assumption) | (intros; first | rfl | (exfalso; omega) | ((repeat' apply And.intro) <;> first | assumption | rfl | omega | trivial))) -- o11 e2i.1
          · (intro m m1; rw [i6a, jst_at]; by_cases y : (m : Int) = a9; { rw [if_pos (by omega), ev3]; rw [show m = a9.toNat by omega] }; { rw [if_neg (by omega), F50 _ _ (by omega) (by omega)]; exact q1 m (by omega) }) -- o12 e2i.2
          · exact Or.inr ⟨by rw [ex52]; exact jand_00 _, a9.toNat, by omega, by omega⟩ -- o13 e2i.3
          · (rw [jst_o (by omega), ex54']; exact e50) -- o14 e2i.4
          · (intro a s y1 y2; rw [i6a, jst_o (by omega), F50 a s y1 (by omega)]; exact fr a s y1 y2) -- o15 e2i.5
        · (first | assumption | omega | ((try dsimp only [jt2, jt3, jt4]); first | omega | (simp (disch := omega) only [jst_eq, jst_ne, jst_ni, jst_o, jI_i, jcpy_out, w32_id, jdiv_nn, jshr_k, jand_255] <;> first | done | omega | assumption)) | (intros; simp (disch := omega) only [jst_eq, jst_ne, jst_ni, jst_o, jI_i, jcpy_out, w32_id, jdiv_nn, *] <;> first | done | omega) | (intros; simp (disch := omega) only [jst_eq, jst_ne, jst_ni, jst_o, jI_i, jcpy_out, w32_id, jdiv_nn] at * <;> first | done | omega | assumption) | (intros; first | rfl | (exfalso; omega) | ((repeat' apply And.intro) <;> first | assumption | rfl | omega | trivial))) -- o16 e2m
      · skip
        try simp (disch := omega) only [jst_eq, jst_ne, jst_ni, jI_i, jcmp_lt, jcmp_gt, w32_id, jcpy_out, Sum.elim_inl, Sum.elim_inr, jt2, jt3, jt4, jt5, jt6, jt7, jt8] at c2
        unfold gX1_workAct_j182_147
        refine OK_jlx (fun x52 ex52 => ?_)
        try simp (disch := omega) only [jst_eq, jst_ne, jst_ni, jI_i, jcmp_lt, jcmp_gt, w32_id, jcpy_out, Sum.elim_inl, Sum.elim_inr, jt2, jt3, jt4, jt5, jt6, jt7, jt8] at ex52
        refine OK_jg (by (first | assumption | omega | ((try dsimp only [jt2, jt3, jt4]); first | omega | (simp (disch := omega) only [jst_eq, jst_ne, jst_ni, jst_o, jI_i, jcpy_out, w32_id, jdiv_nn, jshr_k, jand_255] <;> first | done | omega | assumption)) | (intros; simp (disch := omega) only [jst_eq, jst_ne, jst_ni, jst_o, jI_i, jcpy_out, w32_id, jdiv_nn, *] <;> first | done | omega) | (intros; simp (disch := omega) only [jst_eq, jst_ne, jst_ni, jst_o, jI_i, jcpy_out, w32_id, jdiv_nn] at * <;> first | done | omega | assumption) | (intros; first | rfl | (exfalso; omega) | ((repeat' apply And.intro) <;> first | assumption | rfl | omega | trivial)))) ?_ -- o17
        refine OK_jl ?_
        refine OK_jlx (fun x54 ex54 => ?_)
        try simp (disch := omega) only [jst_eq, jst_ne, jst_ni, jI_i, jcmp_lt, jcmp_gt, w32_id, jcpy_out, Sum.elim_inl, Sum.elim_inr, jt2, jt3, jt4, jt5, jt6, jt7, jt8] at ex54
        have ex54' : x54 = a9 + 1 := by omega
        refine OK_il ?_ ?_
        · try dsimp only [Sum.elim_inl, Sum.elim_inr, jt2, jt3, jt4, jt5, jt6, jt7, jt8]
          refine ⟨?_, ?_, ?_, ?_, ?_⟩
          · (first | assumption | omega | ((try dsimp only [jt2, jt3, jt4]); first | omega | (simp (disch := omega) only [jst_eq, jst_ne, jst_ni, jst_o, jI_i, jcpy_out, w32_id, jdiv_nn, jshr_k, jand_255] <;> first | done | omega | assumption)) | (intros; simp (disch := omega) only [jst_eq, jst_ne, jst_ni, jst_o, jI_i, jcpy_out, w32_id, jdiv_nn, *] <;> first | done | omega) | (intros; simp (disch := omega) only [jst_eq, jst_ne, jst_ni, jst_o, jI_i, jcpy_out, w32_id, jdiv_nn] at * <;> first | done | omega | assumption) | (intros; first | rfl | (exfalso; omega) | ((repeat' apply And.intro) <;> first | assumption | rfl | omega | trivial))) -- o18 e3i.1
          · (intro m m1; rw [i6a, jst_at]; by_cases y : (m : Int) = a9; { rw [if_pos (by omega), ev3]; rw [show m = a9.toNat by omega] }; { rw [if_neg (by omega), F50 _ _ (by omega) (by omega)]; exact q1 m (by omega) }) -- o19 e3i.2
          · (rcases q2 with ⟨g1, g2⟩ | ⟨g1, m, g2, g3⟩; { refine Or.inl ⟨by rw [ex52, g1]; decide, fun m m1 => ?_⟩; by_cases y : (m : Int) = a9; { rw [show m = a9.toNat by omega]; omega }; { exact g2 m (by omega) } }; { exact Or.inr ⟨by rw [ex52, g1]; decide, m, by omega, g3⟩ }) -- o20 e3i.3
          · (rw [jst_o (by omega), ex54']; exact e50) -- o21 e3i.4
          · (intro a s y1 y2; rw [i6a, jst_o (by omega), F50 a s y1 (by omega)]; exact fr a s y1 y2) -- o22 e3i.5
        · (first | assumption | omega | ((try dsimp only [jt2, jt3, jt4]); first | omega | (simp (disch := omega) only [jst_eq, jst_ne, jst_ni, jst_o, jI_i, jcpy_out, w32_id, jdiv_nn, jshr_k, jand_255] <;> first | done | omega | assumption)) | (intros; simp (disch := omega) only [jst_eq, jst_ne, jst_ni, jst_o, jI_i, jcpy_out, w32_id, jdiv_nn, *] <;> first | done | omega) | (intros; simp (disch := omega) only [jst_eq, jst_ne, jst_ni, jst_o, jI_i, jcpy_out, w32_id, jdiv_nn] at * <;> first | done | omega | assumption) | (intros; first | rfl | (exfalso; omega) | ((repeat' apply And.intro) <;> first | assumption | rfl | omega | trivial))) -- o23 e3m
  · try dsimp only [Sum.elim_inl, Sum.elim_inr, jt2, jt3, jt4, jt5, jt6, jt7, jt8]
    refine ⟨?_, ?_, ?_, ?_, ?_⟩
    · (have := nk_0 R; omega) -- o24 init.1
    · (intro m m1; omega) -- o25 init.2
    · exact Or.inl ⟨z.1, fun m m1 => by omega⟩ -- o26 init.3
    · (rw [z.2]; show _ = w32 (h0 200 10 + 0); rw [w32_id (by have := q.2.2.2.2.2.2.2.2.2.2.2.2; omega) (by have := q.2.2.2.2.2.2.2.2.2.2.2.2; omega)]; omega) -- o27 init.4
    · (first | assumption | omega | ((try dsimp only [jt2, jt3, jt4]); first | omega | (simp (disch := omega) only [jst_eq, jst_ne, jst_ni, jst_o, jI_i, jcpy_out, w32_id, jdiv_nn, jshr_k, jand_255] <;> first | done | omega | assumption)) | (intros; simp (disch := omega) only [jst_eq, jst_ne, jst_ni, jst_o, jI_i, jcpy_out, w32_id, jdiv_nn, *] <;> first | done | omega) | (intros; simp (disch := omega) only [jst_eq, jst_ne, jst_ni, jst_o, jI_i, jcpy_out, w32_id, jdiv_nn] at * <;> first | done | omega | assumption) | (intros; first | rfl | (exfalso; omega) | ((repeat' apply And.intro) <;> first | assumption | rfl | omega | trivial))) -- o28 init.5

