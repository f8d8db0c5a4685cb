/-! x: may one look; what meets -/
def fI (h h' : AH) : Prop := ∀ a s, ¬ (a = 200 ∧ (s = 9 ∨ s = 10 ∨ s = 14 ∨ s = 15)) → ¬ (a = 269 ∧ 0 ≤ s) → ¬ (a = 315 ∧ 0 ≤ s) → h' a s = h a s
theorem fI_r (h : AH) : fI h h := fun _ _ _ _ _ => rfl
theorem fI_t {h h1 h2 : AH} (x : fI h h1) (y : fI h1 h2) : fI h h2 := fun a s z1 z2 z3 => (y a s z1 z2 z3).trans (x a s z1 z2 z3)
theorem fI_A {h h' : AH} (f : fI h h') : agX h h' := fun a s y => by
  unfold nA at y
  exact f a s (by omega) (by omega) (by omega)
theorem tyV_e {pts : Int} {P T : TB} (e : extT P T) (t : tyV pts P) : ∀ a p, 0 ≤ a → a < P.1 → 0 ≤ p → p < pts → okV (T.2.1 a) (T.2.2.2.2.2 a p) := fun a p a0 a1 p0 p1 => by
  have q := e.2 a a0 a1
  rw [q.1, q.2.2.2.2]
  exact t a p a0 a1 p0 p1
/-- x's table, more than the terms up to a price -/
def XT (h : AH) (E : EV) (W : Int → Int → Int → VW) (K : AK) (p : Nat) (T : TB) : Prop := XI h E W (kA K) (kP K) (MKa E W K) T ∧ extT (LV E W (kP K) (kA K) p) T ∧ h 314 p = (LV E W (kP K) (kA K) p).1 ∧ (LV E W (kP K) (kA K) p).1 ≤ 120 ∧ tyV (kP K) (LV E W (kP K) (kA K) p)
theorem XI_I {h h' : AH} {E : EV} {W : Int → Int → Int → VW} {A : AD} {pts : Int} {M : Int → (Int → Int) → Prop} {T : TB} {i : Int} (x : XI h E W A pts M T) (i0 : 0 ≤ i ∧ i < T.1) (k : mkS h' i (M (T.2.1 i) (T.2.2.2.2.2 i))) (f : f315 i h h') : XI h' E W A pts M T := by
  obtain ⟨x1, x2, x3, x4, x5⟩ := x
  refine ⟨x1, ?_, caX_f (fun a s y => f a s (by omega) (by omega) (by omega)) x3, fun a a0 a1 => ?_, x5⟩
  · unfold tX tbX at *
    obtain ⟨t1, t2, t3, t4, t5, t6, t7, t8⟩ := x2
    have xx : h 200 16 = 271 ∨ h 200 16 = 289 := t1
    have e16 : h' 200 16 = h 200 16 := f _ _ (by omega) (by omega) (by omega)
    refine ⟨by rw [e16]; exact t1, by rw [e16, f _ _ (by omega) (by omega) (by omega)]; exact t2, t3, t4, by rw [f _ _ (by omega) (by omega) (by omega)]; exact t5, t6, t7, fun x x0 x1 => ?_⟩
    obtain ⟨c1, c2, c3, c4, c5, c6⟩ := t8 x x0 x1
    refine ⟨?_, ?_, ?_, fun i i0 i1 => ?_, fun p p0 p1 => ?_, ?_⟩
    · rw [f _ _ (by omega) (by omega) (by omega)]; exact c1
    · rw [f _ _ (by omega) (by omega) (by omega)]; exact c2
    · rw [f _ _ (by omega) (by omega) (by omega)]; exact c3
    · rw [f _ _ (by omega) (by omega) (by omega)]; exact c4 i i0 i1
    · rw [f _ _ (by omega) (by omega) (by omega)]; exact c5 p p0 p1
    · rw [f _ _ (by omega) (by omega) (by omega)]; exact c6
  · by_cases y : a = i
    · rw [y]; exact Or.inr k
    · have m := x4 a a0 a1
      unfold mkS at m ⊢
      rw [f 315 a (by omega) (by omega) (by omega)]
      exact m
theorem f315_I {h h' : AH} {i : Int} (i0 : 0 ≤ i) (f : f315 i h h') : fI h h' := fun a s y1 y2 y3 => f a s y1 y2 (by omega)
/-- does a term of the levels meet? -/
theorem vIM (a1 : Int) {h : AH} {E : EV} {Rf : Int → TR} {W : Int → Int → Int → VW} {K : AK} {p : Nat} {T : TB} (ak : akX h E Rf W K) (xt : XT h E W K p T) (a : 0 ≤ a1 ∧ a1 < (LV E W (kP K) (kA K) p).1) : OK (gX5_isMeeting a1 h) (fun r => jt2 r fun v h' => ((v = 1 ∧ MKT E W K p a1) ∨ (v = 0 ∧ ¬ MKT E W K p a1)) ∧ XT h' E W K p T ∧ fI h h' ∧ akX h' E Rf W K) := by
  obtain ⟨x1, x2, x3, x4, x5⟩ := xt
  have ek := evF_k E K
  have l := x2.1
  have q := x2.2 a1 a.1 a.2
  have me := x1.2.2.2.1 a1 a.1 (by omega)
  have ty := tyV_e x2 x5
  refine OK_mono (vX5_isMeeting (E := evF E K) (Rf := Rf) (W := W) (hl := K.2.2.2.2) (n := (kA K).1) (kf := (kA K).2.1) (wh := K.1.2.2.1) (rv := K.1.2.2.2) (pts := kP K) (rn := K.2.1.1) (ra := K.2.1.2) (ln := K.2.2.1.1) (nn := K.2.2.1.2.1) (lk := K.2.2.1.2.2.1) (LL := K.2.2.1.2.2.2.1) (LR := K.2.2.1.2.2.2.2) (N := T.1) (kd := T.2.1) (wt := T.2.2.1) (hd := T.2.2.2.1) (op := T.2.2.2.2.1) (vl := T.2.2.2.2.2) a1 ak.2.1 x1.2.1 ⟨a.1, by omega⟩ (by rw [ek.2]; exact ak.2.2.1) ak.2.2.2.1 (by rw [ek.2]; exact me) (by rw [ek.2]; intro e p p0 p1; rw [← e]; exact ty a1 p a.1 a.2 p0 p1)) (fun r => ?_)
  obtain ⟨v, h'⟩ := r
  intro z
  obtain ⟨z1, z2, z3, z4⟩ := z
  rw [ek.2] at z1 z2
  have F := f315_I a.1 z3
  refine ⟨?_, ⟨XI_I x1 ⟨a.1, by omega⟩ z2 z3, x2, by rw [F _ _ (by omega) (by omega) (by omega)]; exact x3, x4, x5⟩, F, akX_n ak (fI_A F) z4⟩
  unfold MKT MKa
  rw [← q.1, ← q.2.2.2.2]
  exact z1
/-- a found state of the search, with a table that holds the terms up to a price -/
theorem GSx_T {h : AH} {E : EV} {Rf : Int → TR} {W : Int → Int → Int → VW} {K : AK} {cn : Int → Int → Int} {e p : Nat} {f : Int} (ak : akX h E Rf W K) (g : GSx h E W (kA K) (kP K) (MKa E W K) cn e f) (p1 : 1 ≤ p ∧ p ≤ e) : ∃ T, XT h E W K p T ∧ ∀ h', fI h h' → XT h' E W K p T → GSx h' E W (kA K) (kP K) (MKa E W K) cn e f := by
  obtain ⟨g1, g2, g3, g4, g5⟩ := g
  rcases g5 with g5 | ⟨T, t1, t2, t3, t4, t5⟩
  · omega
  · have s := ak.1
    have A1 := s.2.1.2.1
    have GTp := GT_LV (E := E) (W := W) (pts := kP K) (A := kA K) (ppA_V ak.2.2.2.2.2.2.1) (by omega) s.2.2.2.1.2.1 (eoA_V s.1.2.1.2.1 ak.2.2.2.2.2.2.1) p (fun m lt => g1.1 m (by omega))
    have x := extT_t (ext_LV (E := E) (W := W) (pts := kP K) (A := kA K) (a := p) e p1.2) t2.1
    refine ⟨T, ⟨t1, x, t4 p p1.2, g1.1 p p1.2, tyV_GT s.1.2.1.2.1 (wOK_ty s.1.2.1.2.2.1) ak.2.2.2.2.2.2.1 GTp⟩, fun h' F x' => ?_⟩
    have G : ∀ a s, a = 307 ∨ a = 314 ∨ a = 321 → h' a s = h a s := fun a s y => F a s (by omega) (by omega) (by omega)
    refine ⟨g1, by rw [G 307 _ (Or.inl rfl)]; exact g2, by rw [G 307 _ (Or.inl rfl)]; exact g3, by rw [G 307 _ (Or.inl rfl)]; exact g4, Or.inr ⟨T, x'.1, t2, t3, fun m l => by rw [G 314 _ (Or.inr (Or.inl rfl))]; exact t4 m l, fun q f a b c d => by rw [G 321 _ (Or.inr (Or.inr rfl)), G 307 _ (Or.inl rfl)]; exact t5 q f a b c d⟩⟩
/-- x: an ask, if there is one, and its search -/
def asX (h : AH) (E : EV) (Rf : Int → TR) (W : Int → Int → Int → VW) (K : AK) (cn : Int → Int → Int) : Prop := akX h E Rf W K ∧ ∃ (d : Nat) (f : Int), GSx h E W (kA K) (kP K) (MKa E W K) cn d f
/-- what looking leaves as it was: x -/
def fU (h h' : AH) : Prop := ∀ a s, ¬ (a = 200 ∧ (s = 9 ∨ s = 10 ∨ s = 14 ∨ s = 15)) → ¬ (a = 269 ∧ 0 ≤ s) → ¬ (307 ≤ a ∧ a ≤ 323 ∧ 0 ≤ s) → h' a s = h a s
theorem fU_r (h : AH) : fU h h := fun _ _ _ _ _ => rfl
theorem fU_t {h h1 h2 : AH} (x : fU h h1) (y : fU h1 h2) : fU h h2 := fun a s z1 z2 z3 => (y a s z1 z2 z3).trans (x a s z1 z2 z3)
theorem fS_U {h h' : AH} (f : fS h h') : fU h h' := fun a s y1 y2 y3 => f a s (by omega) y2 (by omega) (by omega)
theorem fI_U {h h' : AH} (f : fI h h') : fU h h' := fun a s y1 y2 y3 => f a s y1 y2 (by omega)
theorem vX1_known (a1 : Int) {h : AH} {E : EV} {Rf : Int → TR} {W : Int → Int → Int → VW} {K : AK} {cn : Int → Int → Int} (x4 : isX4 (h 200 16)) (ak : ¬ h (h 200 16) 19 = 0 → asX h E Rf W K cn) : OK (gX1_known a1 h) (fun r => jt2 r fun v h' => (rfs (¬ h 200 53 = 0) a1 (¬ h (h 200 16) 19 = 0) (lvK E W (kP K) (kA K) a1.toNat) v) ∧ (fU h h' ∧ (¬ h (h 200 16) 19 = 0 → asX h' E Rf W K cn) ∧ (v = 0 → ∃ T, XT h' E W K a1.toNat T ∧ ∀ h2, fI h' h2 → XT h2 E W K a1.toNat T → akX h2 E Rf W K → asX h2 E Rf W K cn))) := by
  unfold gX1_known
  refine OK_if (fun c1 => ?_) (fun c1 => ?_)
  · skip
    try simp (disch := omega) only [jst_eq, jst_ne, jst_ni, jI_i, jcmp_lt, jcmp_gt, w32_id, jcpy_out, Sum.elim_inl, Sum.elim_inr, jt2, jt3, jt4, jt5, jt6, jt7, jt8] at c1
    refine OK_jb (vX1_isIn _ _ _) (fun v3 r1 => ?_)
    try dsimp only [Sum.elim_inl, Sum.elim_inr, jt2, jt3, jt4, jt5, jt6, jt7, jt8] at r1
    have v1 := r1
    clear r1
    try simp (disch := omega) only [jst_eq, jst_ne, jst_ni, jI_i, jcmp_lt, jcmp_gt, w32_id, jcpy_out, Sum.elim_inl, Sum.elim_inr, jt2, jt3, jt4, jt5, jt6, jt7, jt8] at v1
    refine OK_if (fun c2 => ?_) (fun c2 => ?_)
    · skip
      try simp (disch := omega) only [jst_eq, jst_ne, jst_ni, jI_i, jcmp_lt, jcmp_gt, w32_id, jcpy_out, Sum.elim_inl, Sum.elim_inr, jt2, jt3, jt4, jt5, jt6, jt7, jt8] at c2
      refine OK_some ?_
      try dsimp only [Sum.elim_inl, Sum.elim_inr, jt2, jt3, jt4, jt5, jt6, jt7, jt8]
      try dsimp only [Sum.elim_inl, Sum.elim_inr, jt2, jt3, jt4, jt5, jt6, jt7, jt8]
      refine ⟨?_, ?_⟩
      · exact Or.inr (Or.inl ⟨fun y => y c1, by omega, rfl⟩) -- o1 e1.1
      · exact ⟨fU_r _, ak, fun y => by omega⟩ -- o2 e1.2
    · skip
      try simp (disch := omega) only [jst_eq, jst_ne, jst_ni, jI_i, jcmp_lt, jcmp_gt, w32_id, jcpy_out, Sum.elim_inl, Sum.elim_inr, jt2, jt3, jt4, jt5, jt6, jt7, jt8] at c2
      refine OK_if (fun c3 => ?_) (fun c3 => ?_)
      · skip
        try simp (disch := omega) only [jst_eq, jst_ne, jst_ni, jI_i, jcmp_lt, jcmp_gt, w32_id, jcpy_out, Sum.elim_inl, Sum.elim_inr, jt2, jt3, jt4, jt5, jt6, jt7, jt8] at c3
        refine OK_some ?_
        try dsimp only [Sum.elim_inl, Sum.elim_inr, jt2, jt3, jt4, jt5, jt6, jt7, jt8]
        try dsimp only [Sum.elim_inl, Sum.elim_inr, jt2, jt3, jt4, jt5, jt6, jt7, jt8]
        refine ⟨?_, ?_⟩
        · exact Or.inr (Or.inr (Or.inl ⟨fun y => y c1, by omega, fun y => y c3, rfl⟩)) -- o3 e2.1
        · exact ⟨fU_r _, ak, fun y => by omega⟩ -- o4 e2.2
      · skip
        try simp (disch := omega) only [jst_eq, jst_ne, jst_ni, jI_i, jcmp_lt, jcmp_gt, w32_id, jcpy_out, Sum.elim_inl, Sum.elim_inr, jt2, jt3, jt4, jt5, jt6, jt7, jt8] at c3
        obtain ⟨AKx, d, f0, gs⟩ := ak c3
        have p0 : 1 ≤ a1 ∧ a1 ≤ 12 := by omega
        refine OK_jb2 (vX5_grow (E := E) (Rf := Rf) (W := W) (f := fun _ _ _ => 0) (A := kA K) (pts := kP K) (wh := K.1.2.2.1) (rv := K.1.2.2.2) (M := MKa E W K) (cn := cn) (d := d) (fl := f0) _ (by exact AKx.1) (by exact AKx.2.2.2.2.2.2.1) (by exact AKx.2.2.2.2.1) (by exact AKx.2.2.2.2.2.1) (by omega) (by exact gs)) (fun v7 h8 r2 => ?_)
        try dsimp only [Sum.elim_inl, Sum.elim_inr, jt2, jt3, jt4, jt5, jt6, jt7, jt8] at r2
        obtain ⟨gr2, fs2⟩ := r2
        try simp (disch := omega) only [jst_eq, jst_ne, jst_ni, jI_i, jcmp_lt, jcmp_gt, w32_id, jcpy_out, Sum.elim_inl, Sum.elim_inr, jt2, jt3, jt4, jt5, jt6, jt7, jt8] at gr2
        try simp (disch := omega) only [jst_eq, jst_ne, jst_ni, jI_i, jcmp_lt, jcmp_gt, w32_id, jcpy_out, Sum.elim_inl, Sum.elim_inr, jt2, jt3, jt4, jt5, jt6, jt7, jt8] at fs2
        obtain ⟨e, f1, r1, r2, r3⟩ := gr2
        have AK8 := akX_n AKx (fS_A fs2.1) fs2.2
        have ep : ((a1.toNat : Nat) : Int) = a1 := by omega
        rw [← ep] at r1
        have LV8 := rch_lv r2.1 r1
        refine OK_if (fun c4 => ?_) (fun c4 => ?_)
        · skip
          try simp (disch := omega) only [jst_eq, jst_ne, jst_ni, jI_i, jcmp_lt, jcmp_gt, w32_id, jcpy_out, Sum.elim_inl, Sum.elim_inr, jt2, jt3, jt4, jt5, jt6, jt7, jt8] at c4
          refine OK_some ?_
          try dsimp only [Sum.elim_inl, Sum.elim_inr, jt2, jt3, jt4, jt5, jt6, jt7, jt8]
          try dsimp only [Sum.elim_inl, Sum.elim_inr, jt2, jt3, jt4, jt5, jt6, jt7, jt8]
          refine ⟨?_, ?_⟩
          · exact Or.inr (Or.inr (Or.inr (Or.inl ⟨fun y => y c1, p0, c3, fun y => by have := LV8.2 y; omega, rfl⟩))) -- o11 e3.1
          · exact ⟨fS_U fs2.1, fun _ => ⟨AK8, e, f1, r2⟩, fun y => by omega⟩ -- o12 e3.2
        · skip
          try simp (disch := omega) only [jst_eq, jst_ne, jst_ni, jI_i, jcmp_lt, jcmp_gt, w32_id, jcpy_out, Sum.elim_inl, Sum.elim_inr, jt2, jt3, jt4, jt5, jt6, jt7, jt8] at c4
          refine OK_some ?_
          try dsimp only [Sum.elim_inl, Sum.elim_inr, jt2, jt3, jt4, jt5, jt6, jt7, jt8]
          try dsimp only [Sum.elim_inl, Sum.elim_inr, jt2, jt3, jt4, jt5, jt6, jt7, jt8]
          refine ⟨?_, ?_⟩
          · exact Or.inr (Or.inr (Or.inr (Or.inr ⟨fun y => y c1, p0, c3, LV8.1 (by omega), rfl⟩))) -- o13 e4.1
          · (refine ⟨fS_U fs2.1, fun _ => ⟨AK8, e, f1, r2⟩, fun _ => ?_⟩; obtain ⟨T, t1, t2⟩ := GSx_T (p := a1.toNat) AK8 r2 ⟨by omega, by omega⟩; exact ⟨T, t1, fun h2 F x2 y2 => ⟨y2, e, f1, t2 h2 F x2⟩⟩) -- o14 e4.2
  · skip
    try simp (disch := omega) only [jst_eq, jst_ne, jst_ni, jI_i, jcmp_lt, jcmp_gt, w32_id, jcpy_out, Sum.elim_inl, Sum.elim_inr, jt2, jt3, jt4, jt5, jt6, jt7, jt8] at c1
    refine OK_some ?_
    try dsimp only [Sum.elim_inl, Sum.elim_inr, jt2, jt3, jt4, jt5, jt6, jt7, jt8]
    try dsimp only [Sum.elim_inl, Sum.elim_inr, jt2, jt3, jt4, jt5, jt6, jt7, jt8]
    refine ⟨?_, ?_⟩
    · exact Or.inl ⟨c1, rfl⟩ -- o15 e5.1
    · exact ⟨fU_r _, ak, fun y => by omega⟩ -- o16 e5.2
theorem vX5_first_l2 (i1 : Int) (a20 : Int) {h0 : AH} {E : EV} {Rf : Int → TR} {W : Int → Int → Int → VW} {K : AK} {p : Nat} {T : TB} (ak : akX h0 E Rf W K) (xt : XT h0 E W K p T) (ip : i1 = p ∧ p ≤ 12) (z : a20 = 0) : OK (gX5_first_l2 i1 a20 h0) (Sum.elim (fun r => jt2 r fun a h' => (0 ≤ a ∧ a < (LV E W (kP K) (kA K) p).1 ∧ MKT E W K p a ∧ ∀ b, 0 ≤ b → b < a → ¬ MKT E W K p b) ∧ (XT h' E W K p T ∧ fI h0 h' ∧ akX h' E Rf W K)) (fun h' => (∀ b, 0 ≤ b → b < (LV E W (kP K) (kA K) p).1 → ¬ MKT E W K p b) ∧ (XT h' E W K p T ∧ fI h0 h' ∧ akX h' E Rf W K))) := by
  unfold gX5_first_l2
  refine OK_jit (I := (fun (s : Int × AH) => jt2 s fun a2 h => (0 ≤ a2 ∧ a2 ≤ (LV E W (kP K) (kA K) p).1) ∧ (∀ b, 0 ≤ b → b < a2 → ¬ MKT E W K p b) ∧ (XT h E W K p T) ∧ (fI h0 h) ∧ (akX h E Rf W K))) (m := (fun (s : Int × AH) => jt2 s fun a2 h => ((LV E W (kP K) (kA K) p).1 - a2).toNat)) ?_ ?_
  · intro s hs
    obtain ⟨a2, h⟩ := s
    dsimp only [Sum.elim_inl, Sum.elim_inr, jt2, jt3, jt4, jt5, jt6, jt7, jt8] at hs
    obtain ⟨q0, q1, xh, fr, kh⟩ := hs
    unfold gX5_first_b2
    refine OK_jt2 ?_
    have n3 : h 314 i1 = (LV E W (kP K) (kA K) p).1 := by { rw [ip.1]; exact xh.2.2.1 }
    have n120 := xh.2.2.2.1
    have w12 : w32 (a2 + 1) = a2 + 1 := w32_id (by omega) (by omega)
    refine OK_jg (by (first | assumption | omega | ((try dsimp only [jt2, jt3, jt4]); first | omega | (simp (disch := omega) only [jst_eq, jst_ne, jst_ni, jst_o, jI_i, jcpy_out, w32_id, jdiv_nn, jshr_k, jand_255] <;> first | done | omega | assumption)) | (intros; simp (disch := omega) only [jst_eq, jst_ne, jst_ni, jst_o, jI_i, jcpy_out, w32_id, jdiv_nn, *] <;> first | done | omega) | (intros; simp (disch := omega) only [jst_eq, jst_ne, jst_ni, jst_o, jI_i, jcpy_out, w32_id, jdiv_nn] at * <;> first | done | omega | assumption) | (intros; first | rfl | (exfalso; omega) | ((repeat' apply And.intro) <;> first | assumption | rfl | omega | trivial)))) ?_ -- o1
    refine OK_if (fun c1 => ?_) (fun c1 => ?_)
    · skip
      try simp (disch := omega) only [jst_eq, jst_ne, jst_ni, jI_i, jcmp_lt, jcmp_gt, w32_id, jcpy_out, Sum.elim_inl, Sum.elim_inr, jt2, jt3, jt4, jt5, jt6, jt7, jt8] at c1
      refine OK_ir ?_
      try dsimp only [Sum.elim_inl, Sum.elim_inr, jt2, jt3, jt4, jt5, jt6, jt7, jt8]
      refine ⟨?_, ?_⟩
      · (intro b b0 b1; exact q1 b b0 (by omega)) -- o2 e1.1
      · exact ⟨xh, fr, kh⟩ -- o3 e1.2
    · skip
      try simp (disch := omega) only [jst_eq, jst_ne, jst_ni, jI_i, jcmp_lt, jcmp_gt, w32_id, jcpy_out, Sum.elim_inl, Sum.elim_inr, jt2, jt3, jt4, jt5, jt6, jt7, jt8] at c1
      refine OK_jb2 (vIM (E := E) (Rf := Rf) (W := W) (K := K) (p := p) (T := T) _ (by exact kh) (by exact xh) (by (first | assumption | omega | ((try dsimp only [jt2, jt3, jt4]); first | omega | (simp (disch := omega) only [jst_eq, jst_ne, jst_ni, jst_o, jI_i, jcpy_out, w32_id, jdiv_nn, jshr_k, jand_255] <;> first | done | omega | assumption)) | (intros; simp (disch := omega) only [jst_eq, jst_ne, jst_ni, jst_o, jI_i, jcpy_out, w32_id, jdiv_nn, *] <;> first | done | omega) | (intros; simp (disch := omega) only [jst_eq, jst_ne, jst_ni, jst_o, jI_i, jcpy_out, w32_id, jdiv_nn] at * <;> first | done | omega | assumption) | (intros; first | rfl | (exfalso; omega) | ((repeat' apply And.intro) <;> first | assumption | rfl | omega | trivial))))) (fun v9 h10 r1 => ?_)
      try dsimp only [Sum.elim_inl, Sum.elim_inr, jt2, jt3, jt4, jt5, jt6, jt7, jt8] at r1
      obtain ⟨im1, xt1, fr1, ak1⟩ := r1
      try simp (disch := omega) only [jst_eq, jst_ne, jst_ni, jI_i, jcmp_lt, jcmp_gt, w32_id, jcpy_out, Sum.elim_inl, Sum.elim_inr, jt2, jt3, jt4, jt5, jt6, jt7, jt8] at im1
      try simp (disch := omega) only [jst_eq, jst_ne, jst_ni, jI_i, jcmp_lt, jcmp_gt, w32_id, jcpy_out, Sum.elim_inl, Sum.elim_inr, jt2, jt3, jt4, jt5, jt6, jt7, jt8] at xt1
      try simp (disch := omega) only [jst_eq, jst_ne, jst_ni, jI_i, jcmp_lt, jcmp_gt, w32_id, jcpy_out, Sum.elim_inl, Sum.elim_inr, jt2, jt3, jt4, jt5, jt6, jt7, jt8] at fr1
      try simp (disch := omega) only [jst_eq, jst_ne, jst_ni, jI_i, jcmp_lt, jcmp_gt, w32_id, jcpy_out, Sum.elim_inl, Sum.elim_inr, jt2, jt3, jt4, jt5, jt6, jt7, jt8] at ak1
      refine OK_if (fun c2 => ?_) (fun c2 => ?_)
      · skip
        try simp (disch := omega) only [jst_eq, jst_ne, jst_ni, jI_i, jcmp_lt, jcmp_gt, w32_id, jcpy_out, Sum.elim_inl, Sum.elim_inr, jt2, jt3, jt4, jt5, jt6, jt7, jt8] at c2
        refine OK_jlx (fun x12 ex12 => ?_)
        try simp (disch := omega) only [jst_eq, jst_ne, jst_ni, jI_i, jcmp_lt, jcmp_gt, w32_id, jcpy_out, Sum.elim_inl, Sum.elim_inr, jt2, jt3, jt4, jt5, jt6, jt7, jt8] at ex12
        refine OK_il ?_ ?_
        · try dsimp only [Sum.elim_inl, Sum.elim_inr, jt2, jt3, jt4, jt5, jt6, jt7, jt8]
          refine ⟨?_, ?_, ?_, ?_, ?_⟩
          · (first | assumption | omega | ((try dsimp only [jt2, jt3, jt4]); first | omega | (simp (disch := omega) only [jst_eq, jst_ne, jst_ni, jst_o, jI_i, jcpy_out, w32_id, jdiv_nn, jshr_k, jand_255] <;> first | done | omega | assumption)) | (intros; simp (disch := omega) only [jst_eq, jst_ne, jst_ni, jst_o, jI_i, jcpy_out, w32_id, jdiv_nn, *] <;> first | done | omega) | (intros; simp (disch := omega) only [jst_eq, jst_ne, jst_ni, jst_o, jI_i, jcpy_out, w32_id, jdiv_nn] at * <;> first | done | omega | assumption) | (intros; first | rfl | (exfalso; omega) | ((repeat' apply And.intro) <;> first | assumption | rfl | omega | trivial))) -- o7 e2i.1
          · (intro b b0 b1; by_cases y : b = a2; { rw [y]; rcases im1 with u | u; { omega }; { exact u.2 } }; { exact q1 b b0 (by omega) }) -- o8 e2i.2
          · (first | assumption | omega | ((try dsimp only [jt2, jt3, jt4]); first | omega | (simp (disch := omega) only [jst_eq, jst_ne, jst_ni, jst_o, jI_i, jcpy_out, w32_id, jdiv_nn, jshr_k, jand_255] <;> first | done | omega | assumption)) | (intros; simp (disch := omega) only [jst_eq, jst_ne, jst_ni, jst_o, jI_i, jcpy_out, w32_id, jdiv_nn, *] <;> first | done | omega) | (intros; simp (disch := omega) only [jst_eq, jst_ne, jst_ni, jst_o, jI_i, jcpy_out, w32_id, jdiv_nn] at * <;> first | done | omega | assumption) | (intros; first | rfl | (exfalso; omega) | ((repeat' apply And.intro) <;> first | assumption | rfl | omega | trivial))) -- o9 e2i.3
          · exact fI_t fr fr1 -- o10 e2i.4
          · (first | assumption | omega | ((try dsimp only [jt2, jt3, jt4]); first | omega | (simp (disch := omega) only [jst_eq, jst_ne, jst_ni, jst_o, jI_i, jcpy_out, w32_id, jdiv_nn, jshr_k, jand_255] <;> first | done | omega | assumption)) | (intros; simp (disch := omega) only [jst_eq, jst_ne, jst_ni, jst_o, jI_i, jcpy_out, w32_id, jdiv_nn, *] <;> first | done | omega) | (intros; simp (disch := omega) only [jst_eq, jst_ne, jst_ni, jst_o, jI_i, jcpy_out, w32_id, jdiv_nn] at * <;> first | done | omega | assumption) | (intros; first | rfl | (exfalso; omega) | ((repeat' apply And.intro) <;> first | assumption | rfl | omega | trivial))) -- o11 e2i.5
        · (first | assumption | omega | ((try dsimp only [jt2, jt3, jt4]); first | omega | (simp (disch := omega) only [jst_eq, jst_ne, jst_ni, jst_o, jI_i, jcpy_out, w32_id, jdiv_nn, jshr_k, jand_255] <;> first | done | omega | assumption)) | (intros; simp (disch := omega) only [jst_eq, jst_ne, jst_ni, jst_o, jI_i, jcpy_out, w32_id, jdiv_nn, *] <;> first | done | omega) | (intros; simp (disch := omega) only [jst_eq, jst_ne, jst_ni, jst_o, jI_i, jcpy_out, w32_id, jdiv_nn] at * <;> first | done | omega | assumption) | (intros; first | rfl | (exfalso; omega) | ((repeat' apply And.intro) <;> first | assumption | rfl | omega | trivial))) -- o12 e2m
      · skip
        try simp (disch := omega) only [jst_eq, jst_ne, jst_ni, jI_i, jcmp_lt, jcmp_gt, w32_id, jcpy_out, Sum.elim_inl, Sum.elim_inr, jt2, jt3, jt4, jt5, jt6, jt7, jt8] at c2
        refine OK_ir ?_
        try dsimp only [Sum.elim_inl, Sum.elim_inr, jt2, jt3, jt4, jt5, jt6, jt7, jt8]
        refine ⟨?_, ?_⟩
        · (refine ⟨q0.1, by omega, ?_, q1⟩; rcases im1 with u | u; { exact u.2 }; { omega }) -- o13 e3.1
        · exact ⟨xt1, fI_t fr fr1, ak1⟩ -- o14 e3.2
  · try dsimp only [Sum.elim_inl, Sum.elim_inr, jt2, jt3, jt4, jt5, jt6, jt7, jt8]
    refine ⟨?_, ?_, ?_, ?_, ?_⟩
    · (have := xt.1.2.1.2.2.2.2.2.1; have l := LV_0 (E := E) (W := W) (pts := kP K) (A := kA K) p; omega) -- o15 init.1
    · (intro b b0 b1; omega) -- o16 init.2
    · exact xt -- o17 init.3
    · exact fI_r _ -- o18 init.4
    · exact ak -- o19 init.5
def fiT (E : EV) (W : Int → Int → Int → VW) (K : AK) (p : Nat) (v : Int) : Prop := (0 ≤ v ∧ v < (LV E W (kP K) (kA K) p).1 ∧ MKT E W K p v ∧ ∀ b, 0 ≤ b → b < v → ¬ MKT E W K p b) ∨ (v = -1 ∧ ∀ b, 0 ≤ b → b < (LV E W (kP K) (kA K) p).1 → ¬ MKT E W K p b)
theorem fiT_det {E : EV} {W : Int → Int → Int → VW} {K : AK} {p : Nat} {v v' : Int} (a : fiT E W K p v) (b : fiT E W K p v') : v = v' := by
  rcases a with ⟨a1, a2, a3, a4⟩ | ⟨a1, a2⟩ <;> rcases b with ⟨b1, b2, b3, b4⟩ | ⟨b1, b2⟩
  · by_cases x : v < v'
    · exact absurd a3 (b4 v a1 x)
    · by_cases y : v' < v
      · exact absurd b3 (a4 v' b1 y)
      · omega
  · exact absurd a3 (b2 v a1 a2)
  · exact absurd b3 (a2 v' b1 b2)
  · omega
theorem vX5_first (a1 : Int) {h : AH} {E : EV} {Rf : Int → TR} {W : Int → Int → Int → VW} {K : AK} {p : Nat} {T : TB} (ak : akX h E Rf W K) (xt : XT h E W K p T) (ip : a1 = p ∧ p ≤ 12) : OK (gX5_first a1 h) (fun r => jt2 r fun v h' => (fiT E W K p v) ∧ (XT h' E W K p T ∧ fI h h' ∧ akX h' E Rf W K)) := by
  unfold gX5_first
  refine OK_jb (vX5_first_l2 (E := E) (Rf := Rf) (W := W) (K := K) (p := p) (T := T) _ _ (by exact ak) (by exact xt) (by exact ip) (by (first | (exact fs1) | (exact fs2) | (first | assumption | omega | ((try dsimp only [jt2, jt3, jt4]); first | omega | (simp (disch := omega) only [jst_eq, jst_ne, jst_ni, jst_o, jI_i, jcpy_out, w32_id, jdiv_nn, jshr_k, jand_255] <;> first | done | omega | assumption)) | (intros; simp (disch := omega) only [jst_eq, jst_ne, jst_ni, jst_o, jI_i, jcpy_out, w32_id, jdiv_nn, *] <;> first | done | omega) | (intros; simp (disch := omega) only [jst_eq, jst_ne, jst_ni, jst_o, jI_i, jcpy_out, w32_id, jdiv_nn] at * <;> first | done | omega | assumption) | (intros; first | rfl | (exfalso; omega) | ((repeat' apply And.intro) <;> first | assumption | rfl | omega | trivial)))))) (fun o1 r1 => ?_)
  rcases o1 with o3 | o4
  · skip
    have r2 := r1; clear r1
    dsimp only [Sum.elim_inl, Sum.elim_inr] at r2
    refine OK_jml ?_
    obtain ⟨y5, h6⟩ := o3
    refine OK_jt2 ?_
    try dsimp only [Sum.elim_inl, Sum.elim_inr, jt2, jt3, jt4, jt5, jt6, jt7, jt8] at r2
    obtain ⟨fo1, fs1⟩ := r2
    try simp (disch := omega) only [jst_eq, jst_ne, jst_ni, jI_i, jcmp_lt, jcmp_gt, w32_id, jcpy_out, Sum.elim_inl, Sum.elim_inr, jt2, jt3, jt4, jt5, jt6, jt7, jt8] at fo1
    try simp (disch := omega) only [jst_eq, jst_ne, jst_ni, jI_i, jcmp_lt, jcmp_gt, w32_id, jcpy_out, Sum.elim_inl, Sum.elim_inr, jt2, jt3, jt4, jt5, jt6, jt7, jt8] at fs1
    refine OK_some ?_
    try dsimp only [Sum.elim_inl, Sum.elim_inr, jt2, jt3, jt4, jt5, jt6, jt7, jt8]
    try dsimp only [Sum.elim_inl, Sum.elim_inr, jt2, jt3, jt4, jt5, jt6, jt7, jt8]
    refine ⟨?_, ?_⟩
    · exact Or.inl fo1 -- o5 e1.1
    · (first | (exact fs1) | (exact fs2) | (first | assumption | omega | ((try dsimp only [jt2, jt3, jt4]); first | omega | (simp (disch := omega) only [jst_eq, jst_ne, jst_ni, jst_o, jI_i, jcpy_out, w32_id, jdiv_nn, jshr_k, jand_255] <;> first | done | omega | assumption)) | (intros; simp (disch := omega) only [jst_eq, jst_ne, jst_ni, jst_o, jI_i, jcpy_out, w32_id, jdiv_nn, *] <;> first | done | omega) | (intros; simp (disch := omega) only [jst_eq, jst_ne, jst_ni, jst_o, jI_i, jcpy_out, w32_id, jdiv_nn] at * <;> first | done | omega | assumption) | (intros; first | rfl | (exfalso; omega) | ((repeat' apply And.intro) <;> first | assumption | rfl | omega | trivial)))) -- o6 e1.2
  · skip
    have r3 := r1; clear r1
    dsimp only [Sum.elim_inl, Sum.elim_inr] at r3
    try dsimp only [Sum.elim_inl, Sum.elim_inr, jt2, jt3, jt4, jt5, jt6, jt7, jt8] at r3
    obtain ⟨nf2, fs2⟩ := r3
    try simp (disch := omega) only [jst_eq, jst_ne, jst_ni, jI_i, jcmp_lt, jcmp_gt, w32_id, jcpy_out, Sum.elim_inl, Sum.elim_inr, jt2, jt3, jt4, jt5, jt6, jt7, jt8] at nf2
    try simp (disch := omega) only [jst_eq, jst_ne, jst_ni, jI_i, jcmp_lt, jcmp_gt, w32_id, jcpy_out, Sum.elim_inl, Sum.elim_inr, jt2, jt3, jt4, jt5, jt6, jt7, jt8] at fs2
    refine OK_jmr ?_
    refine OK_some ?_
    try dsimp only [Sum.elim_inl, Sum.elim_inr, jt2, jt3, jt4, jt5, jt6, jt7, jt8]
    try dsimp only [Sum.elim_inl, Sum.elim_inr, jt2, jt3, jt4, jt5, jt6, jt7, jt8]
    refine ⟨?_, ?_⟩
    · (first | exact Or.inr ⟨rfl, nf1⟩ | exact Or.inr ⟨rfl, nf2⟩) -- o7 e2.1
    · (first | (exact fs1) | (exact fs2) | (first | assumption | omega | ((try dsimp only [jt2, jt3, jt4]); first | omega | (simp (disch := omega) only [jst_eq, jst_ne, jst_ni, jst_o, jI_i, jcpy_out, w32_id, jdiv_nn, jshr_k, jand_255] <;> first | done | omega | assumption)) | (intros; simp (disch := omega) only [jst_eq, jst_ne, jst_ni, jst_o, jI_i, jcpy_out, w32_id, jdiv_nn, *] <;> first | done | omega) | (intros; simp (disch := omega) only [jst_eq, jst_ne, jst_ni, jst_o, jI_i, jcpy_out, w32_id, jdiv_nn] at * <;> first | done | omega | assumption) | (intros; first | rfl | (exfalso; omega) | ((repeat' apply And.intro) <;> first | assumption | rfl | omega | trivial)))) -- o8 e2.2
theorem vX5_different_l4 (i1 : Int) (a20 : Int) (a30 : Int) {h0 : AH} {E : EV} {Rf : Int → TR} {W : Int → Int → Int → VW} {K : AK} {p : Nat} {T : TB} (ak : akX h0 E Rf W K) (xt : XT h0 E W K p T) (ip : i1 = p ∧ p ≤ 12) (z : a20 = 0 ∧ a30 = 0) : OK (gX5_different_l4 i1 a20 a30 h0) (fun r => jt2 r fun v h' => (v = cMt (MKT E W K p) (LV E W (kP K) (kA K) p).1.toNat) ∧ (XT h' E W K p T ∧ fI h0 h' ∧ akX h' E Rf W K)) := by
  unfold gX5_different_l4
  refine OK_jit (I := (fun (s : Int × Int × AH) => jt3 s fun a2 a3 h => (0 ≤ a3 ∧ a3 ≤ (LV E W (kP K) (kA K) p).1) ∧ (a2 = cMt (MKT E W K p) a3.toNat) ∧ (XT h E W K p T) ∧ (fI h0 h) ∧ (akX h E Rf W K))) (m := (fun (s : Int × Int × AH) => jt3 s fun a2 a3 h => ((LV E W (kP K) (kA K) p).1 - a3).toNat)) ?_ ?_
  · intro s hs
    obtain ⟨a2, a3, h⟩ := s
    dsimp only [Sum.elim_inl, Sum.elim_inr, jt2, jt3, jt4, jt5, jt6, jt7, jt8] at hs
    obtain ⟨q0, q1, xh, fr, kh⟩ := hs
    unfold gX5_different_b4
    refine OK_jt3 ?_
    have n3 : h 314 i1 = (LV E W (kP K) (kA K) p).1 := by { rw [ip.1]; exact xh.2.2.1 }
    have n120 := xh.2.2.2.1
    have cr := cMt_r (MKT E W K p) a3.toNat
    have w12 : w32 (a3 + 1) = a3 + 1 := w32_id (by omega) (by omega)
    have e3 : (a3 + 1).toNat = a3.toNat + 1 := by omega
    have c3 : ((a3.toNat : Nat) : Int) = a3 := by omega
    refine OK_jg (by (first | (exact fI_t fr fr1) | (first | assumption | omega | ((try dsimp only [jt2, jt3, jt4]); first | omega | (simp (disch := omega) only [jst_eq, jst_ne, jst_ni, jst_o, jI_i, jcpy_out, w32_id, jdiv_nn, jshr_k, jand_255] <;> first | done | omega | assumption)) | (intros; simp (disch := omega) only [jst_eq, jst_ne, jst_ni, jst_o, jI_i, jcpy_out, w32_id, jdiv_nn, *] <;> first | done | omega) | (intros; simp (disch := omega) only [jst_eq, jst_ne, jst_ni, jst_o, jI_i, jcpy_out, w32_id, jdiv_nn] at * <;> first | done | omega | assumption) | (intros; first | rfl | (exfalso; omega) | ((repeat' apply And.intro) <;> first | assumption | rfl | omega | trivial))))) ?_ -- o1
    refine OK_if (fun c1 => ?_) (fun c1 => ?_)
    · skip
      try simp (disch := omega) only [jst_eq, jst_ne, jst_ni, jI_i, jcmp_lt, jcmp_gt, w32_id, jcpy_out, Sum.elim_inl, Sum.elim_inr, jt2, jt3, jt4, jt5, jt6, jt7, jt8] at c1
      refine OK_ir ?_
      try dsimp only [Sum.elim_inl, Sum.elim_inr, jt2, jt3, jt4, jt5, jt6, jt7, jt8]
      refine ⟨?_, ?_⟩
      · (rw [q1, show (LV E W (kP K) (kA K) p).1.toNat = a3.toNat by omega]) -- o2 e1.1
      · exact ⟨xh, fr, kh⟩ -- o3 e1.2
    · skip
      try simp (disch := omega) only [jst_eq, jst_ne, jst_ni, jI_i, jcmp_lt, jcmp_gt, w32_id, jcpy_out, Sum.elim_inl, Sum.elim_inr, jt2, jt3, jt4, jt5, jt6, jt7, jt8] at c1
      refine OK_jb2 (vIM (E := E) (Rf := Rf) (W := W) (K := K) (p := p) (T := T) _ (by exact kh) (by exact xh) (by (first | (exact fI_t fr fr1) | (first | assumption | omega | ((try dsimp only [jt2, jt3, jt4]); first | omega | (simp (disch := omega) only [jst_eq, jst_ne, jst_ni, jst_o, jI_i, jcpy_out, w32_id, jdiv_nn, jshr_k, jand_255] <;> first | done | omega | assumption)) | (intros; simp (disch := omega) only [jst_eq, jst_ne, jst_ni, jst_o, jI_i, jcpy_out, w32_id, jdiv_nn, *] <;> first | done | omega) | (intros; simp (disch := omega) only [jst_eq, jst_ne, jst_ni, jst_o, jI_i, jcpy_out, w32_id, jdiv_nn] at * <;> first | done | omega | assumption) | (intros; first | rfl | (exfalso; omega) | ((repeat' apply And.intro) <;> first | assumption | rfl | omega | trivial)))))) (fun v7 h8 r1 => ?_)
      try dsimp only [Sum.elim_inl, Sum.elim_inr, jt2, jt3, jt4, jt5, jt6, jt7, jt8] at r1
      obtain ⟨im1, xt1, fr1, ak1⟩ := r1
      try simp (disch := omega) only [jst_eq, jst_ne, jst_ni, jI_i, jcmp_lt, jcmp_gt, w32_id, jcpy_out, Sum.elim_inl, Sum.elim_inr, jt2, jt3, jt4, jt5, jt6, jt7, jt8] at im1
      try simp (disch := omega) only [jst_eq, jst_ne, jst_ni, jI_i, jcmp_lt, jcmp_gt, w32_id, jcpy_out, Sum.elim_inl, Sum.elim_inr, jt2, jt3, jt4, jt5, jt6, jt7, jt8] at xt1
      try simp (disch := omega) only [jst_eq, jst_ne, jst_ni, jI_i, jcmp_lt, jcmp_gt, w32_id, jcpy_out, Sum.elim_inl, Sum.elim_inr, jt2, jt3, jt4, jt5, jt6, jt7, jt8] at fr1
      try simp (disch := omega) only [jst_eq, jst_ne, jst_ni, jI_i, jcmp_lt, jcmp_gt, w32_id, jcpy_out, Sum.elim_inl, Sum.elim_inr, jt2, jt3, jt4, jt5, jt6, jt7, jt8] at ak1
      refine OK_if (fun c2 => ?_) (fun c2 => ?_)
      · skip
        try simp (disch := omega) only [jst_eq, jst_ne, jst_ni, jI_i, jcmp_lt, jcmp_gt, w32_id, jcpy_out, Sum.elim_inl, Sum.elim_inr, jt2, jt3, jt4, jt5, jt6, jt7, jt8] at c2
        have CN : a2 = cMt (MKT E W K p) (a3.toNat + 1) := by { rw [cMt_n (by rw [c3]; rcases im1 with u | u; { omega }; { exact u.2 })]; exact q1 }
        unfold gX5_different_j28_4
        refine OK_jlx (fun x10 ex10 => ?_)
        try simp (disch := omega) only [jst_eq, jst_ne, jst_ni, jI_i, jcmp_lt, jcmp_gt, w32_id, jcpy_out, Sum.elim_inl, Sum.elim_inr, jt2, jt3, jt4, jt5, jt6, jt7, jt8] at ex10
        have x10w := w32_id (x := a2 + 1) (by omega) (by omega)
        have x10v := w32_id (x := a2 + 0) (by omega) (by omega)
        refine OK_jlx (fun x11 ex11 => ?_)
        try simp (disch := omega) only [jst_eq, jst_ne, jst_ni, jI_i, jcmp_lt, jcmp_gt, w32_id, jcpy_out, Sum.elim_inl, Sum.elim_inr, jt2, jt3, jt4, jt5, jt6, jt7, jt8] at ex11
        have x11e : x11 = a3 + 1 := by omega
        refine OK_il ?_ ?_
        · try dsimp only [Sum.elim_inl, Sum.elim_inr, jt2, jt3, jt4, jt5, jt6, jt7, jt8]
          refine ⟨?_, ?_, ?_, ?_, ?_⟩
          · (first | (exact fI_t fr fr1) | (first | assumption | omega | ((try dsimp only [jt2, jt3, jt4]); first | omega | (simp (disch := omega) only [jst_eq, jst_ne, jst_ni, jst_o, jI_i, jcpy_out, w32_id, jdiv_nn, jshr_k, jand_255] <;> first | done | omega | assumption)) | (intros; simp (disch := omega) only [jst_eq, jst_ne, jst_ni, jst_o, jI_i, jcpy_out, w32_id, jdiv_nn, *] <;> first | done | omega) | (intros; simp (disch := omega) only [jst_eq, jst_ne, jst_ni, jst_o, jI_i, jcpy_out, w32_id, jdiv_nn] at * <;> first | done | omega | assumption) | (intros; first | rfl | (exfalso; omega) | ((repeat' apply And.intro) <;> first | assumption | rfl | omega | trivial)))) -- o7 e2i.1
          · (rw [x11e, e3, ← CN]; omega) -- o8 e2i.2
          · (first | (exact fI_t fr fr1) | (first | assumption | omega | ((try dsimp only [jt2, jt3, jt4]); first | omega | (simp (disch := omega) only [jst_eq, jst_ne, jst_ni, jst_o, jI_i, jcpy_out, w32_id, jdiv_nn, jshr_k, jand_255] <;> first | done | omega | assumption)) | (intros; simp (disch := omega) only [jst_eq, jst_ne, jst_ni, jst_o, jI_i, jcpy_out, w32_id, jdiv_nn, *] <;> first | done | omega) | (intros; simp (disch := omega) only [jst_eq, jst_ne, jst_ni, jst_o, jI_i, jcpy_out, w32_id, jdiv_nn] at * <;> first | done | omega | assumption) | (intros; first | rfl | (exfalso; omega) | ((repeat' apply And.intro) <;> first | assumption | rfl | omega | trivial)))) -- o9 e2i.3
          · (first | (exact fI_t fr fr1) | (first | assumption | omega | ((try dsimp only [jt2, jt3, jt4]); first | omega | (simp (disch := omega) only [jst_eq, jst_ne, jst_ni, jst_o, jI_i, jcpy_out, w32_id, jdiv_nn, jshr_k, jand_255] <;> first | done | omega | assumption)) | (intros; simp (disch := omega) only [jst_eq, jst_ne, jst_ni, jst_o, jI_i, jcpy_out, w32_id, jdiv_nn, *] <;> first | done | omega) | (intros; simp (disch := omega) only [jst_eq, jst_ne, jst_ni, jst_o, jI_i, jcpy_out, w32_id, jdiv_nn] at * <;> first | done | omega | assumption) | (intros; first | rfl | (exfalso; omega) | ((repeat' apply And.intro) <;> first | assumption | rfl | omega | trivial)))) -- o10 e2i.4
          · (first | (exact fI_t fr fr1) | (first | assumption | omega | ((try dsimp only [jt2, jt3, jt4]); first | omega | (simp (disch := omega) only [jst_eq, jst_ne, jst_ni, jst_o, jI_i, jcpy_out, w32_id, jdiv_nn, jshr_k, jand_255] <;> first | done | omega | assumption)) | (intros; simp (disch := omega) only [jst_eq, jst_ne, jst_ni, jst_o, jI_i, jcpy_out, w32_id, jdiv_nn, *] <;> first | done | omega) | (intros; simp (disch := omega) only [jst_eq, jst_ne, jst_ni, jst_o, jI_i, jcpy_out, w32_id, jdiv_nn] at * <;> first | done | omega | assumption) | (intros; first | rfl | (exfalso; omega) | ((repeat' apply And.intro) <;> first | assumption | rfl | omega | trivial)))) -- o11 e2i.5
        · (first | (exact fI_t fr fr1) | (first | assumption | omega | ((try dsimp only [jt2, jt3, jt4]); first | omega | (simp (disch := omega) only [jst_eq, jst_ne, jst_ni, jst_o, jI_i, jcpy_out, w32_id, jdiv_nn, jshr_k, jand_255] <;> first | done | omega | assumption)) | (intros; simp (disch := omega) only [jst_eq, jst_ne, jst_ni, jst_o, jI_i, jcpy_out, w32_id, jdiv_nn, *] <;> first | done | omega) | (intros; simp (disch := omega) only [jst_eq, jst_ne, jst_ni, jst_o, jI_i, jcpy_out, w32_id, jdiv_nn] at * <;> first | done | omega | assumption) | (intros; first | rfl | (exfalso; omega) | ((repeat' apply And.intro) <;> first | assumption | rfl | omega | trivial)))) -- o12 e2m
      · skip
        try simp (disch := omega) only [jst_eq, jst_ne, jst_ni, jI_i, jcmp_lt, jcmp_gt, w32_id, jcpy_out, Sum.elim_inl, Sum.elim_inr, jt2, jt3, jt4, jt5, jt6, jt7, jt8] at c2
        have CN : a2 + 1 = cMt (MKT E W K p) (a3.toNat + 1) := by { rw [cMt_y (by rw [c3]; rcases im1 with u | u; { exact u.2 }; { omega })]; omega }
        unfold gX5_different_j28_4
        refine OK_jlx (fun x10 ex10 => ?_)
        try simp (disch := omega) only [jst_eq, jst_ne, jst_ni, jI_i, jcmp_lt, jcmp_gt, w32_id, jcpy_out, Sum.elim_inl, Sum.elim_inr, jt2, jt3, jt4, jt5, jt6, jt7, jt8] at ex10
        have x10w := w32_id (x := a2 + 1) (by omega) (by omega)
        have x10v := w32_id (x := a2 + 0) (by omega) (by omega)
        refine OK_jlx (fun x11 ex11 => ?_)
        try simp (disch := omega) only [jst_eq, jst_ne, jst_ni, jI_i, jcmp_lt, jcmp_gt, w32_id, jcpy_out, Sum.elim_inl, Sum.elim_inr, jt2, jt3, jt4, jt5, jt6, jt7, jt8] at ex11
        have x11e : x11 = a3 + 1 := by omega
        refine OK_il ?_ ?_
        · try dsimp only [Sum.elim_inl, Sum.elim_inr, jt2, jt3, jt4, jt5, jt6, jt7, jt8]
          refine ⟨?_, ?_, ?_, ?_, ?_⟩
          · (first | (exact fI_t fr fr1) | (first | assumption | omega | ((try dsimp only [jt2, jt3, jt4]); first | omega | (simp (disch := omega) only [jst_eq, jst_ne, jst_ni, jst_o, jI_i, jcpy_out, w32_id, jdiv_nn, jshr_k, jand_255] <;> first | done | omega | assumption)) | (intros; simp (disch := omega) only [jst_eq, jst_ne, jst_ni, jst_o, jI_i, jcpy_out, w32_id, jdiv_nn, *] <;> first | done | omega) | (intros; simp (disch := omega) only [jst_eq, jst_ne, jst_ni, jst_o, jI_i, jcpy_out, w32_id, jdiv_nn] at * <;> first | done | omega | assumption) | (intros; first | rfl | (exfalso; omega) | ((repeat' apply And.intro) <;> first | assumption | rfl | omega | trivial)))) -- o13 e3i.1
          · (rw [x11e, e3, ← CN]; omega) -- o14 e3i.2
          · (first | (exact fI_t fr fr1) | (first | assumption | omega | ((try dsimp only [jt2, jt3, jt4]); first | omega | (simp (disch := omega) only [jst_eq, jst_ne, jst_ni, jst_o, jI_i, jcpy_out, w32_id, jdiv_nn, jshr_k, jand_255] <;> first | done | omega | assumption)) | (intros; simp (disch := omega) only [jst_eq, jst_ne, jst_ni, jst_o, jI_i, jcpy_out, w32_id, jdiv_nn, *] <;> first | done | omega) | (intros; simp (disch := omega) only [jst_eq, jst_ne, jst_ni, jst_o, jI_i, jcpy_out, w32_id, jdiv_nn] at * <;> first | done | omega | assumption) | (intros; first | rfl | (exfalso; omega) | ((repeat' apply And.intro) <;> first | assumption | rfl | omega | trivial)))) -- o15 e3i.3
          · (first | (exact fI_t fr fr1) | (first | assumption | omega | ((try dsimp only [jt2, jt3, jt4]); first | omega | (simp (disch := omega) only [jst_eq, jst_ne, jst_ni, jst_o, jI_i, jcpy_out, w32_id, jdiv_nn, jshr_k, jand_255] <;> first | done | omega | assumption)) | (intros; simp (disch := omega) only [jst_eq, jst_ne, jst_ni, jst_o, jI_i, jcpy_out, w32_id, jdiv_nn, *] <;> first | done | omega) | (intros; simp (disch := omega) only [jst_eq, jst_ne, jst_ni, jst_o, jI_i, jcpy_out, w32_id, jdiv_nn] at * <;> first | done | omega | assumption) | (intros; first | rfl | (exfalso; omega) | ((repeat' apply And.intro) <;> first | assumption | rfl | omega | trivial)))) -- o16 e3i.4
          · (first | (exact fI_t fr fr1) | (first | assumption | omega | ((try dsimp only [jt2, jt3, jt4]); first | omega | (simp (disch := omega) only [jst_eq, jst_ne, jst_ni, jst_o, jI_i, jcpy_out, w32_id, jdiv_nn, jshr_k, jand_255] <;> first | done | omega | assumption)) | (intros; simp (disch := omega) only [jst_eq, jst_ne, jst_ni, jst_o, jI_i, jcpy_out, w32_id, jdiv_nn, *] <;> first | done | omega) | (intros; simp (disch := omega) only [jst_eq, jst_ne, jst_ni, jst_o, jI_i, jcpy_out, w32_id, jdiv_nn] at * <;> first | done | omega | assumption) | (intros; first | rfl | (exfalso; omega) | ((repeat' apply And.intro) <;> first | assumption | rfl | omega | trivial)))) -- o17 e3i.5
        · (first | (exact fI_t fr fr1) | (first | assumption | omega | ((try dsimp only [jt2, jt3, jt4]); first | omega | (simp (disch := omega) only [jst_eq, jst_ne, jst_ni, jst_o, jI_i, jcpy_out, w32_id, jdiv_nn, jshr_k, jand_255] <;> first | done | omega | assumption)) | (intros; simp (disch := omega) only [jst_eq, jst_ne, jst_ni, jst_o, jI_i, jcpy_out, w32_id, jdiv_nn, *] <;> first | done | omega) | (intros; simp (disch := omega) only [jst_eq, jst_ne, jst_ni, jst_o, jI_i, jcpy_out, w32_id, jdiv_nn] at * <;> first | done | omega | assumption) | (intros; first | rfl | (exfalso; omega) | ((repeat' apply And.intro) <;> first | assumption | rfl | omega | trivial)))) -- o18 e3m
  · try dsimp only [Sum.elim_inl, Sum.elim_inr, jt2, jt3, jt4, jt5, jt6, jt7, jt8]
    refine ⟨?_, ?_, ?_, ?_, ?_⟩
    · (have l := LV_0 (E := E) (W := W) (pts := kP K) (A := kA K) p; omega) -- o19 init.1
    · (rw [z.1, z.2]; rfl) -- o20 init.2
    · exact xt -- o21 init.3
    · exact fI_r _ -- o22 init.4
    · exact ak -- o23 init.5
theorem vX5_different (a1 : Int) {h : AH} {E : EV} {Rf : Int → TR} {W : Int → Int → Int → VW} {K : AK} {p : Nat} {T : TB} (ak : akX h E Rf W K) (xt : XT h E W K p T) (ip : a1 = p ∧ p ≤ 12) : OK (gX5_different a1 h) (fun r => jt2 r fun v h' => (v = cMt (MKT E W K p) (LV E W (kP K) (kA K) p).1.toNat) ∧ (XT h' E W K p T ∧ fI h h' ∧ akX h' E Rf W K)) := by
  unfold gX5_different
  refine OK_jb (vX5_different_l4 (E := E) (Rf := Rf) (W := W) (K := K) (p := p) (T := T) _ _ _ (by exact ak) (by exact xt) (by exact ip) (by (first | assumption | omega | ((try dsimp only [jt2, jt3, jt4]); first | omega | (simp (disch := omega) only [jst_eq, jst_ne, jst_ni, jst_o, jI_i, jcpy_out, w32_id, jdiv_nn, jshr_k, jand_255] <;> first | done | omega | assumption)) | (intros; simp (disch := omega) only [jst_eq, jst_ne, jst_ni, jst_o, jI_i, jcpy_out, w32_id, jdiv_nn, *] <;> first | done | omega) | (intros; simp (disch := omega) only [jst_eq, jst_ne, jst_ni, jst_o, jI_i, jcpy_out, w32_id, jdiv_nn] at * <;> first | done | omega | assumption) | (intros; first | rfl | (exfalso; omega) | ((repeat' apply And.intro) <;> first | assumption | rfl | omega | trivial))))) (fun o1 r1 => ?_)
  obtain ⟨y3, h4⟩ := o1
  refine OK_jt2 ?_
  try dsimp only [Sum.elim_inl, Sum.elim_inr, jt2, jt3, jt4, jt5, jt6, jt7, jt8] at r1
  obtain ⟨cc1, fs1⟩ := r1
  try simp (disch := omega) only [jst_eq, jst_ne, jst_ni, jI_i, jcmp_lt, jcmp_gt, w32_id, jcpy_out, Sum.elim_inl, Sum.elim_inr, jt2, jt3, jt4, jt5, jt6, jt7, jt8] at cc1
  try simp (disch := omega) only [jst_eq, jst_ne, jst_ni, jI_i, jcmp_lt, jcmp_gt, w32_id, jcpy_out, Sum.elim_inl, Sum.elim_inr, jt2, jt3, jt4, jt5, jt6, jt7, jt8] at fs1
  refine OK_some ?_
  try dsimp only [Sum.elim_inl, Sum.elim_inr, jt2, jt3, jt4, jt5, jt6, jt7, jt8]
  try dsimp only [Sum.elim_inl, Sum.elim_inr, jt2, jt3, jt4, jt5, jt6, jt7, jt8]
  refine ⟨?_, ?_⟩
  · (first | assumption | omega | ((try dsimp only [jt2, jt3, jt4]); first | omega | (simp (disch := omega) only [jst_eq, jst_ne, jst_ni, jst_o, jI_i, jcpy_out, w32_id, jdiv_nn, jshr_k, jand_255] <;> first | done | omega | assumption)) | (intros; simp (disch := omega) only [jst_eq, jst_ne, jst_ni, jst_o, jI_i, jcpy_out, w32_id, jdiv_nn, *] <;> first | done | omega) | (intros; simp (disch := omega) only [jst_eq, jst_ne, jst_ni, jst_o, jI_i, jcpy_out, w32_id, jdiv_nn] at * <;> first | done | omega | assumption) | (intros; first | rfl | (exfalso; omega) | ((repeat' apply And.intro) <;> first | assumption | rfl | omega | trivial))) -- o5 e1.1
  · (first | assumption | omega | ((try dsimp only [jt2, jt3, jt4]); first | omega | (simp (disch := omega) only [jst_eq, jst_ne, jst_ni, jst_o, jI_i, jcpy_out, w32_id, jdiv_nn, jshr_k, jand_255] <;> first | done | omega | assumption)) | (intros; simp (disch := omega) only [jst_eq, jst_ne, jst_ni, jst_o, jI_i, jcpy_out, w32_id, jdiv_nn, *] <;> first | done | omega) | (intros; simp (disch := omega) only [jst_eq, jst_ne, jst_ni, jst_o, jI_i, jcpy_out, w32_id, jdiv_nn] at * <;> first | done | omega | assumption) | (intros; first | rfl | (exfalso; omega) | ((repeat' apply And.intro) <;> first | assumption | rfl | omega | trivial))) -- o6 e1.2
noncomputable def QP (E : EV) (W : Int → Int → Int → VW) (K : AK) (p : Nat) : Int → Int → Int := (LV E W (kP K) (kA K) p).2.2.2.2.2
theorem XT_v {h : AH} {E : EV} {W : Int → Int → Int → VW} {K : AK} {p : Nat} {T : TB} (x : XT h E W K p T) {a q : Int} (a0 : 0 ≤ a ∧ a < (LV E W (kP K) (kA K) p).1) (q0 : 0 ≤ q ∧ q < kP K) : h 312 (256 * a + q) = QP E W K p a q := by
  have e := (x.2.1.2 a a0.1 a0.2).2.2.2.2
  have l := x.2.1.1
  rw [(x.1.2.1.2.2.2.2.2.2.2 a a0.1 (by omega)).2.2.2.2.1 q q0.1 q0.2, e]
  rfl
theorem vX5_question_l44 (i1 : Int) (i2 : Int) (i3 : Int) (i4 : Int) (i5 : Int) (i6 : Int) (a70 : Int) (a80 : Int) {h0 : AH} {E : EV} {Rf : Int → TR} {W : Int → Int → Int → VW} {K : AK} {p : Nat} {T : TB} (ak : akX h0 E Rf W K) (xt : XT h0 E W K p T) (b : (0 ≤ i6 ∧ i6 < (LV E W (kP K) (kA K) p).1) ∧ (0 ≤ i4 ∧ i4 < kP K)) (z : a80 = 0 ∧ ((a70 = 1 ∧ MKT E W K p i6) ∨ (a70 = 0 ∧ ¬ MKT E W K p i6))) : OK (gX5_question_l44 i1 i2 i3 i4 i5 i6 a70 a80 h0) (fun r => jt2 r fun v h' => ((v = 1 ∧ nwT (MKT E W K p) (QP E W K p) i4 i6) ∨ (v = 0 ∧ ¬ nwT (MKT E W K p) (QP E W K p) i4 i6)) ∧ (XT h' E W K p T ∧ fI h0 h' ∧ akX h' E Rf W K)) := by
  unfold gX5_question_l44
  refine OK_jit (I := (fun (s : Int × Int × AH) => jt3 s fun a7 a8 h => (0 ≤ a8 ∧ a8 ≤ i6) ∧ ((a7 = 1 ∧ MKT E W K p i6 ∧ ∀ b, 0 ≤ b → b < a8 → MKT E W K p b → QP E W K p b i4 ≠ QP E W K p i6 i4) ∨ (a7 = 0 ∧ ¬ nwT (MKT E W K p) (QP E W K p) i4 i6)) ∧ (XT h E W K p T) ∧ (fI h0 h) ∧ (akX h E Rf W K))) (m := (fun (s : Int × Int × AH) => jt3 s fun a7 a8 h => (i6 - a8).toNat)) ?_ ?_
  · intro s hs
    obtain ⟨a7, a8, h⟩ := s
    dsimp only [Sum.elim_inl, Sum.elim_inr, jt2, jt3, jt4, jt5, jt6, jt7, jt8] at hs
    obtain ⟨q0, q1, xh, fr, kh⟩ := hs
    unfold gX5_question_b44
    refine OK_jt3 ?_
    have n120 := xh.2.2.2.1
    have p256 := kh.1.2.2.1.2.2
    have w12 : w32 (a8 + 1) = a8 + 1 := w32_id (by omega) (by omega)
    have wa : w32 (w32 (a8 * 256) + i4) = 256 * a8 + i4 := by { rw [w32_id (x := a8 * 256) (by omega) (by omega), w32_id (by omega) (by omega)]; omega }
    have wb : w32 (w32 (i6 * 256) + i4) = 256 * i6 + i4 := by { rw [w32_id (x := i6 * 256) (by omega) (by omega), w32_id (by omega) (by omega)]; omega }
    refine OK_if (fun c1 => ?_) (fun c1 => ?_)
    · skip
      try simp (disch := omega) only [jst_eq, jst_ne, jst_ni, jI_i, jcmp_lt, jcmp_gt, w32_id, jcpy_out, Sum.elim_inl, Sum.elim_inr, jt2, jt3, jt4, jt5, jt6, jt7, jt8] at c1
      refine OK_ir ?_
      try dsimp only [Sum.elim_inl, Sum.elim_inr, jt2, jt3, jt4, jt5, jt6, jt7, jt8]
      refine ⟨?_, ?_⟩
      · (rcases q1 with u | u; { exact Or.inl ⟨u.1, u.2.1, fun b b0 b1 m => u.2.2 b b0 (by omega) m⟩ }; { exact Or.inr u }) -- o1 e1.1
      · exact ⟨xh, fr, kh⟩ -- o2 e1.2
    · skip
      try simp (disch := omega) only [jst_eq, jst_ne, jst_ni, jI_i, jcmp_lt, jcmp_gt, w32_id, jcpy_out, Sum.elim_inl, Sum.elim_inr, jt2, jt3, jt4, jt5, jt6, jt7, jt8] at c1
      refine OK_if (fun c2 => ?_) (fun c2 => ?_)
      · skip
        try simp (disch := omega) only [jst_eq, jst_ne, jst_ni, jI_i, jcmp_lt, jcmp_gt, w32_id, jcpy_out, Sum.elim_inl, Sum.elim_inr, jt2, jt3, jt4, jt5, jt6, jt7, jt8] at c2
        refine OK_ir ?_
        try dsimp only [Sum.elim_inl, Sum.elim_inr, jt2, jt3, jt4, jt5, jt6, jt7, jt8]
        refine ⟨?_, ?_⟩
        · (rcases q1 with u | u; { omega }; { exact Or.inr u }) -- o3 e2.1
        · exact ⟨xh, fr, kh⟩ -- o4 e2.2
      · skip
        try simp (disch := omega) only [jst_eq, jst_ne, jst_ni, jI_i, jcmp_lt, jcmp_gt, w32_id, jcpy_out, Sum.elim_inl, Sum.elim_inr, jt2, jt3, jt4, jt5, jt6, jt7, jt8] at c2
        refine OK_jb2 (vIM (E := E) (Rf := Rf) (W := W) (K := K) (p := p) (T := T) _ (by exact kh) (by exact xh) (by (first | (exact fI_t fr fr1) | (first | assumption | omega | ((try dsimp only [jt2, jt3, jt4]); first | omega | (simp (disch := omega) only [jst_eq, jst_ne, jst_ni, jst_o, jI_i, jcpy_out, w32_id, jdiv_nn, jshr_k, jand_255] <;> first | done | omega | assumption)) | (intros; simp (disch := omega) only [jst_eq, jst_ne, jst_ni, jst_o, jI_i, jcpy_out, w32_id, jdiv_nn, *] <;> first | done | omega) | (intros; simp (disch := omega) only [jst_eq, jst_ne, jst_ni, jst_o, jI_i, jcpy_out, w32_id, jdiv_nn] at * <;> first | done | omega | assumption) | (intros; first | rfl | (exfalso; omega) | ((repeat' apply And.intro) <;> first | assumption | rfl | omega | trivial)))))) (fun v30 h31 r1 => ?_)
        try dsimp only [Sum.elim_inl, Sum.elim_inr, jt2, jt3, jt4, jt5, jt6, jt7, jt8] at r1
        obtain ⟨im1, xt1, fr1, ak1⟩ := r1
        try simp (disch := omega) only [jst_eq, jst_ne, jst_ni, jI_i, jcmp_lt, jcmp_gt, w32_id, jcpy_out, Sum.elim_inl, Sum.elim_inr, jt2, jt3, jt4, jt5, jt6, jt7, jt8] at im1
        try simp (disch := omega) only [jst_eq, jst_ne, jst_ni, jI_i, jcmp_lt, jcmp_gt, w32_id, jcpy_out, Sum.elim_inl, Sum.elim_inr, jt2, jt3, jt4, jt5, jt6, jt7, jt8] at xt1
        try simp (disch := omega) only [jst_eq, jst_ne, jst_ni, jI_i, jcmp_lt, jcmp_gt, w32_id, jcpy_out, Sum.elim_inl, Sum.elim_inr, jt2, jt3, jt4, jt5, jt6, jt7, jt8] at fr1
        try simp (disch := omega) only [jst_eq, jst_ne, jst_ni, jI_i, jcmp_lt, jcmp_gt, w32_id, jcpy_out, Sum.elim_inl, Sum.elim_inr, jt2, jt3, jt4, jt5, jt6, jt7, jt8] at ak1
        have va := XT_v xt1 (a := a8) (q := i4) ⟨q0.1, by omega⟩ b.2
        have vb := XT_v xt1 (a := i6) (q := i4) b.1 b.2
        have q2 : MKT E W K p i6 ∧ ∀ b, 0 ≤ b → b < a8 → MKT E W K p b → QP E W K p b i4 ≠ QP E W K p i6 i4 := by { rcases q1 with u | u; { exact u.2 }; { omega } }
        refine OK_if (fun c3 => ?_) (fun c3 => ?_)
        · skip
          try simp (disch := omega) only [jst_eq, jst_ne, jst_ni, jI_i, jcmp_lt, jcmp_gt, w32_id, jcpy_out, Sum.elim_inl, Sum.elim_inr, jt2, jt3, jt4, jt5, jt6, jt7, jt8] at c3
          unfold gX5_question_j101_44
          refine OK_jlx (fun x34 ex34 => ?_)
          try simp (disch := omega) only [jst_eq, jst_ne, jst_ni, jI_i, jcmp_lt, jcmp_gt, w32_id, jcpy_out, Sum.elim_inl, Sum.elim_inr, jt2, jt3, jt4, jt5, jt6, jt7, jt8] at ex34
          have x34e : x34 = a8 + 1 := by omega
          subst x34e
          refine OK_il ?_ ?_
          · try dsimp only [Sum.elim_inl, Sum.elim_inr, jt2, jt3, jt4, jt5, jt6, jt7, jt8]
            refine ⟨?_, ?_, ?_, ?_, ?_⟩
            · (first | (exact fI_t fr fr1) | (first | assumption | omega | ((try dsimp only [jt2, jt3, jt4]); first | omega | (simp (disch := omega) only [jst_eq, jst_ne, jst_ni, jst_o, jI_i, jcpy_out, w32_id, jdiv_nn, jshr_k, jand_255] <;> first | done | omega | assumption)) | (intros; simp (disch := omega) only [jst_eq, jst_ne, jst_ni, jst_o, jI_i, jcpy_out, w32_id, jdiv_nn, *] <;> first | done | omega) | (intros; simp (disch := omega) only [jst_eq, jst_ne, jst_ni, jst_o, jI_i, jcpy_out, w32_id, jdiv_nn] at * <;> first | done | omega | assumption) | (intros; first | rfl | (exfalso; omega) | ((repeat' apply And.intro) <;> first | assumption | rfl | omega | trivial)))) -- o8 e3i.1
            · (refine Or.inl ⟨rfl, q2.1, fun b b0 b1 m => ?_⟩; by_cases y : b = a8; { rw [y] at m; rcases im1 with u | u; { omega }; { exact absurd m u.2 } }; { exact q2.2 b b0 (by omega) m }) -- o9 e3i.2
            · (first | (exact fI_t fr fr1) | (first | assumption | omega | ((try dsimp only [jt2, jt3, jt4]); first | omega | (simp (disch := omega) only [jst_eq, jst_ne, jst_ni, jst_o, jI_i, jcpy_out, w32_id, jdiv_nn, jshr_k, jand_255] <;> first | done | omega | assumption)) | (intros; simp (disch := omega) only [jst_eq, jst_ne, jst_ni, jst_o, jI_i, jcpy_out, w32_id, jdiv_nn, *] <;> first | done | omega) | (intros; simp (disch := omega) only [jst_eq, jst_ne, jst_ni, jst_o, jI_i, jcpy_out, w32_id, jdiv_nn] at * <;> first | done | omega | assumption) | (intros; first | rfl | (exfalso; omega) | ((repeat' apply And.intro) <;> first | assumption | rfl | omega | trivial)))) -- o10 e3i.3
            · (first | (exact fI_t fr fr1) | (first | assumption | omega | ((try dsimp only [jt2, jt3, jt4]); first | omega | (simp (disch := omega) only [jst_eq, jst_ne, jst_ni, jst_o, jI_i, jcpy_out, w32_id, jdiv_nn, jshr_k, jand_255] <;> first | done | omega | assumption)) | (intros; simp (disch := omega) only [jst_eq, jst_ne, jst_ni, jst_o, jI_i, jcpy_out, w32_id, jdiv_nn, *] <;> first | done | omega) | (intros; simp (disch := omega) only [jst_eq, jst_ne, jst_ni, jst_o, jI_i, jcpy_out, w32_id, jdiv_nn] at * <;> first | done | omega | assumption) | (intros; first | rfl | (exfalso; omega) | ((repeat' apply And.intro) <;> first | assumption | rfl | omega | trivial)))) -- o11 e3i.4
            · (first | (exact fI_t fr fr1) | (first | assumption | omega | ((try dsimp only [jt2, jt3, jt4]); first | omega | (simp (disch := omega) only [jst_eq, jst_ne, jst_ni, jst_o, jI_i, jcpy_out, w32_id, jdiv_nn, jshr_k, jand_255] <;> first | done | omega | assumption)) | (intros; simp (disch := omega) only [jst_eq, jst_ne, jst_ni, jst_o, jI_i, jcpy_out, w32_id, jdiv_nn, *] <;> first | done | omega) | (intros; simp (disch := omega) only [jst_eq, jst_ne, jst_ni, jst_o, jI_i, jcpy_out, w32_id, jdiv_nn] at * <;> first | done | omega | assumption) | (intros; first | rfl | (exfalso; omega) | ((repeat' apply And.intro) <;> first | assumption | rfl | omega | trivial)))) -- o12 e3i.5
          · (first | (exact fI_t fr fr1) | (first | assumption | omega | ((try dsimp only [jt2, jt3, jt4]); first | omega | (simp (disch := omega) only [jst_eq, jst_ne, jst_ni, jst_o, jI_i, jcpy_out, w32_id, jdiv_nn, jshr_k, jand_255] <;> first | done | omega | assumption)) | (intros; simp (disch := omega) only [jst_eq, jst_ne, jst_ni, jst_o, jI_i, jcpy_out, w32_id, jdiv_nn, *] <;> first | done | omega) | (intros; simp (disch := omega) only [jst_eq, jst_ne, jst_ni, jst_o, jI_i, jcpy_out, w32_id, jdiv_nn] at * <;> first | done | omega | assumption) | (intros; first | rfl | (exfalso; omega) | ((repeat' apply And.intro) <;> first | assumption | rfl | omega | trivial)))) -- o13 e3m
        · skip
          try simp (disch := omega) only [jst_eq, jst_ne, jst_ni, jI_i, jcmp_lt, jcmp_gt, w32_id, jcpy_out, Sum.elim_inl, Sum.elim_inr, jt2, jt3, jt4, jt5, jt6, jt7, jt8] at c3
          rw [wa, wb, va, vb]
          refine OK_jg (by (first | (exact fI_t fr fr1) | (first | assumption | omega | ((try dsimp only [jt2, jt3, jt4]); first | omega | (simp (disch := omega) only [jst_eq, jst_ne, jst_ni, jst_o, jI_i, jcpy_out, w32_id, jdiv_nn, jshr_k, jand_255] <;> first | done | omega | assumption)) | (intros; simp (disch := omega) only [jst_eq, jst_ne, jst_ni, jst_o, jI_i, jcpy_out, w32_id, jdiv_nn, *] <;> first | done | omega) | (intros; simp (disch := omega) only [jst_eq, jst_ne, jst_ni, jst_o, jI_i, jcpy_out, w32_id, jdiv_nn] at * <;> first | done | omega | assumption) | (intros; first | rfl | (exfalso; omega) | ((repeat' apply And.intro) <;> first | assumption | rfl | omega | trivial))))) ?_ -- o14
          refine OK_jg (by (first | (exact fI_t fr fr1) | (first | assumption | omega | ((try dsimp only [jt2, jt3, jt4]); first | omega | (simp (disch := omega) only [jst_eq, jst_ne, jst_ni, jst_o, jI_i, jcpy_out, w32_id, jdiv_nn, jshr_k, jand_255] <;> first | done | omega | assumption)) | (intros; simp (disch := omega) only [jst_eq, jst_ne, jst_ni, jst_o, jI_i, jcpy_out, w32_id, jdiv_nn, *] <;> first | done | omega) | (intros; simp (disch := omega) only [jst_eq, jst_ne, jst_ni, jst_o, jI_i, jcpy_out, w32_id, jdiv_nn] at * <;> first | done | omega | assumption) | (intros; first | rfl | (exfalso; omega) | ((repeat' apply And.intro) <;> first | assumption | rfl | omega | trivial))))) ?_ -- o15
          refine OK_if (fun c4 => ?_) (fun c4 => ?_)
          · skip
            try simp (disch := omega) only [jst_eq, jst_ne, jst_ni, jI_i, jcmp_lt, jcmp_gt, w32_id, jcpy_out, Sum.elim_inl, Sum.elim_inr, jt2, jt3, jt4, jt5, jt6, jt7, jt8] at c4
            unfold gX5_question_j101_44
            refine OK_jlx (fun x34 ex34 => ?_)
            try simp (disch := omega) only [jst_eq, jst_ne, jst_ni, jI_i, jcmp_lt, jcmp_gt, w32_id, jcpy_out, Sum.elim_inl, Sum.elim_inr, jt2, jt3, jt4, jt5, jt6, jt7, jt8] at ex34
            have x34e : x34 = a8 + 1 := by omega
            subst x34e
            refine OK_il ?_ ?_
            · try dsimp only [Sum.elim_inl, Sum.elim_inr, jt2, jt3, jt4, jt5, jt6, jt7, jt8]
              refine ⟨?_, ?_, ?_, ?_, ?_⟩
              · (first | (exact fI_t fr fr1) | (first | assumption | omega | ((try dsimp only [jt2, jt3, jt4]); first | omega | (simp (disch := omega) only [jst_eq, jst_ne, jst_ni, jst_o, jI_i, jcpy_out, w32_id, jdiv_nn, jshr_k, jand_255] <;> first | done | omega | assumption)) | (intros; simp (disch := omega) only [jst_eq, jst_ne, jst_ni, jst_o, jI_i, jcpy_out, w32_id, jdiv_nn, *] <;> first | done | omega) | (intros; simp (disch := omega) only [jst_eq, jst_ne, jst_ni, jst_o, jI_i, jcpy_out, w32_id, jdiv_nn] at * <;> first | done | omega | assumption) | (intros; first | rfl | (exfalso; omega) | ((repeat' apply And.intro) <;> first | assumption | rfl | omega | trivial)))) -- o16 e4i.1
              · (refine Or.inr ⟨rfl, fun y => ?_⟩; rcases im1 with u | u; { exact y.2 a8 q0.1 (by omega) u.2 (by assumption) }; { omega }) -- o17 e4i.2
              · (first | (exact fI_t fr fr1) | (first | assumption | omega | ((try dsimp only [jt2, jt3, jt4]); first | omega | (simp (disch := omega) only [jst_eq, jst_ne, jst_ni, jst_o, jI_i, jcpy_out, w32_id, jdiv_nn, jshr_k, jand_255] <;> first | done | omega | assumption)) | (intros; simp (disch := omega) only [jst_eq, jst_ne, jst_ni, jst_o, jI_i, jcpy_out, w32_id, jdiv_nn, *] <;> first | done | omega) | (intros; simp (disch := omega) only [jst_eq, jst_ne, jst_ni, jst_o, jI_i, jcpy_out, w32_id, jdiv_nn] at * <;> first | done | omega | assumption) | (intros; first | rfl | (exfalso; omega) | ((repeat' apply And.intro) <;> first | assumption | rfl | omega | trivial)))) -- o18 e4i.3
              · (first | (exact fI_t fr fr1) | (first | assumption | omega | ((try dsimp only [jt2, jt3, jt4]); first | omega | (simp (disch := omega) only [jst_eq, jst_ne, jst_ni, jst_o, jI_i, jcpy_out, w32_id, jdiv_nn, jshr_k, jand_255] <;> first | done | omega | assumption)) | (intros; simp (disch := omega) only [jst_eq, jst_ne, jst_ni, jst_o, jI_i, jcpy_out, w32_id, jdiv_nn, *] <;> first | done | omega) | (intros; simp (disch := omega) only [jst_eq, jst_ne, jst_ni, jst_o, jI_i, jcpy_out, w32_id, jdiv_nn] at * <;> first | done | omega | assumption) | (intros; first | rfl | (exfalso; omega) | ((repeat' apply And.intro) <;> first | assumption | rfl | omega | trivial)))) -- o19 e4i.4
              · (first | (exact fI_t fr fr1) | (first | assumption | omega | ((try dsimp only [jt2, jt3, jt4]); first | omega | (simp (disch := omega) only [jst_eq, jst_ne, jst_ni, jst_o, jI_i, jcpy_out, w32_id, jdiv_nn, jshr_k, jand_255] <;> first | done | omega | assumption)) | (intros; simp (disch := omega) only [jst_eq, jst_ne, jst_ni, jst_o, jI_i, jcpy_out, w32_id, jdiv_nn, *] <;> first | done | omega) | (intros; simp (disch := omega) only [jst_eq, jst_ne, jst_ni, jst_o, jI_i, jcpy_out, w32_id, jdiv_nn] at * <;> first | done | omega | assumption) | (intros; first | rfl | (exfalso; omega) | ((repeat' apply And.intro) <;> first | assumption | rfl | omega | trivial)))) -- o20 e4i.5
            · (first | (exact fI_t fr fr1) | (first | assumption | omega | ((try dsimp only [jt2, jt3, jt4]); first | omega | (simp (disch := omega) only [jst_eq, jst_ne, jst_ni, jst_o, jI_i, jcpy_out, w32_id, jdiv_nn, jshr_k, jand_255] <;> first | done | omega | assumption)) | (intros; simp (disch := omega) only [jst_eq, jst_ne, jst_ni, jst_o, jI_i, jcpy_out, w32_id, jdiv_nn, *] <;> first | done | omega) | (intros; simp (disch := omega) only [jst_eq, jst_ne, jst_ni, jst_o, jI_i, jcpy_out, w32_id, jdiv_nn] at * <;> first | done | omega | assumption) | (intros; first | rfl | (exfalso; omega) | ((repeat' apply And.intro) <;> first | assumption | rfl | omega | trivial)))) -- o21 e4m
          · skip
            try simp (disch := omega) only [jst_eq, jst_ne, jst_ni, jI_i, jcmp_lt, jcmp_gt, w32_id, jcpy_out, Sum.elim_inl, Sum.elim_inr, jt2, jt3, jt4, jt5, jt6, jt7, jt8] at c4
            unfold gX5_question_j101_44
            refine OK_jlx (fun x34 ex34 => ?_)
            try simp (disch := omega) only [jst_eq, jst_ne, jst_ni, jI_i, jcmp_lt, jcmp_gt, w32_id, jcpy_out, Sum.elim_inl, Sum.elim_inr, jt2, jt3, jt4, jt5, jt6, jt7, jt8] at ex34
            have x34e : x34 = a8 + 1 := by omega
            subst x34e
            refine OK_il ?_ ?_
            · try dsimp only [Sum.elim_inl, Sum.elim_inr, jt2, jt3, jt4, jt5, jt6, jt7, jt8]
              refine ⟨?_, ?_, ?_, ?_, ?_⟩
              · (first | (exact fI_t fr fr1) | (first | assumption | omega | ((try dsimp only [jt2, jt3, jt4]); first | omega | (simp (disch := omega) only [jst_eq, jst_ne, jst_ni, jst_o, jI_i, jcpy_out, w32_id, jdiv_nn, jshr_k, jand_255] <;> first | done | omega | assumption)) | (intros; simp (disch := omega) only [jst_eq, jst_ne, jst_ni, jst_o, jI_i, jcpy_out, w32_id, jdiv_nn, *] <;> first | done | omega) | (intros; simp (disch := omega) only [jst_eq, jst_ne, jst_ni, jst_o, jI_i, jcpy_out, w32_id, jdiv_nn] at * <;> first | done | omega | assumption) | (intros; first | rfl | (exfalso; omega) | ((repeat' apply And.intro) <;> first | assumption | rfl | omega | trivial)))) -- o22 e5i.1
              · (refine Or.inl ⟨rfl, q2.1, fun b b0 b1 m => ?_⟩; by_cases y : b = a8; { rw [y]; assumption }; { exact q2.2 b b0 (by omega) m }) -- o23 e5i.2
              · (first | (exact fI_t fr fr1) | (first | assumption | omega | ((try dsimp only [jt2, jt3, jt4]); first | omega | (simp (disch := omega) only [jst_eq, jst_ne, jst_ni, jst_o, jI_i, jcpy_out, w32_id, jdiv_nn, jshr_k, jand_255] <;> first | done | omega | assumption)) | (intros; simp (disch := omega) only [jst_eq, jst_ne, jst_ni, jst_o, jI_i, jcpy_out, w32_id, jdiv_nn, *] <;> first | done | omega) | (intros; simp (disch := omega) only [jst_eq, jst_ne, jst_ni, jst_o, jI_i, jcpy_out, w32_id, jdiv_nn] at * <;> first | done | omega | assumption) | (intros; first | rfl | (exfalso; omega) | ((repeat' apply And.intro) <;> first | assumption | rfl | omega | trivial)))) -- o24 e5i.3
              · (first | (exact fI_t fr fr1) | (first | assumption | omega | ((try dsimp only [jt2, jt3, jt4]); first | omega | (simp (disch := omega) only [jst_eq, jst_ne, jst_ni, jst_o, jI_i, jcpy_out, w32_id, jdiv_nn, jshr_k, jand_255] <;> first | done | omega | assumption)) | (intros; simp (disch := omega) only [jst_eq, jst_ne, jst_ni, jst_o, jI_i, jcpy_out, w32_id, jdiv_nn, *] <;> first | done | omega) | (intros; simp (disch := omega) only [jst_eq, jst_ne, jst_ni, jst_o, jI_i, jcpy_out, w32_id, jdiv_nn] at * <;> first | done | omega | assumption) | (intros; first | rfl | (exfalso; omega) | ((repeat' apply And.intro) <;> first | assumption | rfl | omega | trivial)))) -- o25 e5i.4
              · (first | (exact fI_t fr fr1) | (first | assumption | omega | ((try dsimp only [jt2, jt3, jt4]); first | omega | (simp (disch := omega) only [jst_eq, jst_ne, jst_ni, jst_o, jI_i, jcpy_out, w32_id, jdiv_nn, jshr_k, jand_255] <;> first | done | omega | assumption)) | (intros; simp (disch := omega) only [jst_eq, jst_ne, jst_ni, jst_o, jI_i, jcpy_out, w32_id, jdiv_nn, *] <;> first | done | omega) | (intros; simp (disch := omega) only [jst_eq, jst_ne, jst_ni, jst_o, jI_i, jcpy_out, w32_id, jdiv_nn] at * <;> first | done | omega | assumption) | (intros; first | rfl | (exfalso; omega) | ((repeat' apply And.intro) <;> first | assumption | rfl | omega | trivial)))) -- o26 e5i.5
            · (first | (exact fI_t fr fr1) | (first | assumption | omega | ((try dsimp only [jt2, jt3, jt4]); first | omega | (simp (disch := omega) only [jst_eq, jst_ne, jst_ni, jst_o, jI_i, jcpy_out, w32_id, jdiv_nn, jshr_k, jand_255] <;> first | done | omega | assumption)) | (intros; simp (disch := omega) only [jst_eq, jst_ne, jst_ni, jst_o, jI_i, jcpy_out, w32_id, jdiv_nn, *] <;> first | done | omega) | (intros; simp (disch := omega) only [jst_eq, jst_ne, jst_ni, jst_o, jI_i, jcpy_out, w32_id, jdiv_nn] at * <;> first | done | omega | assumption) | (intros; first | rfl | (exfalso; omega) | ((repeat' apply And.intro) <;> first | assumption | rfl | omega | trivial)))) -- o27 e5m
  · try dsimp only [Sum.elim_inl, Sum.elim_inr, jt2, jt3, jt4, jt5, jt6, jt7, jt8]
    refine ⟨?_, ?_, ?_, ?_, ?_⟩
    · omega -- o28 init.1
    · (rcases z.2 with u | u; { exact Or.inl ⟨u.1, u.2, fun b b0 b1 => by omega⟩ }; { exact Or.inr ⟨u.1, fun y => u.2 y.1⟩ }) -- o29 init.2
    · exact xt -- o30 init.3
    · exact fI_r _ -- o31 init.4
    · exact ak -- o32 init.5
theorem vX5_question_l22 (i1 : Int) (i2 : Int) (i3 : Int) (i4 : Int) (a50 : Int) (a60 : Int) {h0 : AH} {E : EV} {Rf : Int → TR} {W : Int → Int → Int → VW} {K : AK} {p : Nat} {T : TB} (ak : akX h0 E Rf W K) (xt : XT h0 E W K p T) (ip : i1 = p ∧ p ≤ 12) (b : 0 ≤ i4 ∧ i4 < kP K) (z : a50 = 0 ∧ a60 = 0) : OK (gX5_question_l22 i1 i2 i3 i4 a50 a60 h0) (fun r => jt2 r fun v h' => (v = cMt (nwT (MKT E W K p) (QP E W K p) i4) (LV E W (kP K) (kA K) p).1.toNat) ∧ (XT h' E W K p T ∧ fI h0 h' ∧ akX h' E Rf W K)) := by
  unfold gX5_question_l22
  refine OK_jit (I := (fun (s : Int × Int × AH) => jt3 s fun a5 a6 h => (0 ≤ a6 ∧ a6 ≤ (LV E W (kP K) (kA K) p).1) ∧ (a5 = cMt (nwT (MKT E W K p) (QP E W K p) i4) a6.toNat) ∧ (XT h E W K p T) ∧ (fI h0 h) ∧ (akX h E Rf W K))) (m := (fun (s : Int × Int × AH) => jt3 s fun a5 a6 h => ((LV E W (kP K) (kA K) p).1 - a6).toNat)) ?_ ?_
  · intro s hs
    obtain ⟨a5, a6, h⟩ := s
    dsimp only [Sum.elim_inl, Sum.elim_inr, jt2, jt3, jt4, jt5, jt6, jt7, jt8] at hs
    obtain ⟨q0, q1, xh, fr, kh⟩ := hs
    unfold gX5_question_b22
    refine OK_jt3 ?_
    have n3 : h 314 i1 = (LV E W (kP K) (kA K) p).1 := by { rw [ip.1]; exact xh.2.2.1 }
    have n120 := xh.2.2.2.1
    have cr := cMt_r (nwT (MKT E W K p) (QP E W K p) i4) a6.toNat
    have w12 : w32 (a6 + 1) = a6 + 1 := w32_id (by omega) (by omega)
    have e3 : (a6 + 1).toNat = a6.toNat + 1 := by omega
    have c3 : ((a6.toNat : Nat) : Int) = a6 := by omega
    refine OK_jg (by (first | (exact fs2.1) | (exact fI_t fr (fI_t fr1 fs2.2.1)) | (exact fs2.2.2) | (first | assumption | omega | ((try dsimp only [jt2, jt3, jt4]); first | omega | (simp (disch := omega) only [jst_eq, jst_ne, jst_ni, jst_o, jI_i, jcpy_out, w32_id, jdiv_nn, jshr_k, jand_255] <;> first | done | omega | assumption)) | (intros; simp (disch := omega) only [jst_eq, jst_ne, jst_ni, jst_o, jI_i, jcpy_out, w32_id, jdiv_nn, *] <;> first | done | omega) | (intros; simp (disch := omega) only [jst_eq, jst_ne, jst_ni, jst_o, jI_i, jcpy_out, w32_id, jdiv_nn] at * <;> first | done | omega | assumption) | (intros; first | rfl | (exfalso; omega) | ((repeat' apply And.intro) <;> first | assumption | rfl | omega | trivial))))) ?_ -- o1
    refine OK_if (fun c1 => ?_) (fun c1 => ?_)
    · skip
      try simp (disch := omega) only [jst_eq, jst_ne, jst_ni, jI_i, jcmp_lt, jcmp_gt, w32_id, jcpy_out, Sum.elim_inl, Sum.elim_inr, jt2, jt3, jt4, jt5, jt6, jt7, jt8] at c1
      refine OK_ir ?_
      try dsimp only [Sum.elim_inl, Sum.elim_inr, jt2, jt3, jt4, jt5, jt6, jt7, jt8]
      refine ⟨?_, ?_⟩
      · (rw [q1, show (LV E W (kP K) (kA K) p).1.toNat = a6.toNat by omega]) -- o2 e1.1
      · exact ⟨xh, fr, kh⟩ -- o3 e1.2
    · skip
      try simp (disch := omega) only [jst_eq, jst_ne, jst_ni, jI_i, jcmp_lt, jcmp_gt, w32_id, jcpy_out, Sum.elim_inl, Sum.elim_inr, jt2, jt3, jt4, jt5, jt6, jt7, jt8] at c1
      refine OK_jb2 (vIM (E := E) (Rf := Rf) (W := W) (K := K) (p := p) (T := T) _ (by exact kh) (by exact xh) (by (first | (exact fs2.1) | (exact fI_t fr (fI_t fr1 fs2.2.1)) | (exact fs2.2.2) | (first | assumption | omega | ((try dsimp only [jt2, jt3, jt4]); first | omega | (simp (disch := omega) only [jst_eq, jst_ne, jst_ni, jst_o, jI_i, jcpy_out, w32_id, jdiv_nn, jshr_k, jand_255] <;> first | done | omega | assumption)) | (intros; simp (disch := omega) only [jst_eq, jst_ne, jst_ni, jst_o, jI_i, jcpy_out, w32_id, jdiv_nn, *] <;> first | done | omega) | (intros; simp (disch := omega) only [jst_eq, jst_ne, jst_ni, jst_o, jI_i, jcpy_out, w32_id, jdiv_nn] at * <;> first | done | omega | assumption) | (intros; first | rfl | (exfalso; omega) | ((repeat' apply And.intro) <;> first | assumption | rfl | omega | trivial)))))) (fun v18 h19 r1 => ?_)
      try dsimp only [Sum.elim_inl, Sum.elim_inr, jt2, jt3, jt4, jt5, jt6, jt7, jt8] at r1
      obtain ⟨im1, xt1, fr1, ak1⟩ := r1
      try simp (disch := omega) only [jst_eq, jst_ne, jst_ni, jI_i, jcmp_lt, jcmp_gt, w32_id, jcpy_out, Sum.elim_inl, Sum.elim_inr, jt2, jt3, jt4, jt5, jt6, jt7, jt8] at im1
      try simp (disch := omega) only [jst_eq, jst_ne, jst_ni, jI_i, jcmp_lt, jcmp_gt, w32_id, jcpy_out, Sum.elim_inl, Sum.elim_inr, jt2, jt3, jt4, jt5, jt6, jt7, jt8] at xt1
      try simp (disch := omega) only [jst_eq, jst_ne, jst_ni, jI_i, jcmp_lt, jcmp_gt, w32_id, jcpy_out, Sum.elim_inl, Sum.elim_inr, jt2, jt3, jt4, jt5, jt6, jt7, jt8] at fr1
      try simp (disch := omega) only [jst_eq, jst_ne, jst_ni, jI_i, jcmp_lt, jcmp_gt, w32_id, jcpy_out, Sum.elim_inl, Sum.elim_inr, jt2, jt3, jt4, jt5, jt6, jt7, jt8] at ak1
      refine OK_jb (vX5_question_l44 (E := E) (Rf := Rf) (W := W) (K := K) (p := p) (T := T) _ _ _ _ _ _ _ _ (by exact ak1) (by exact xt1) (by exact ⟨⟨q0.1, by omega⟩, b⟩) (by exact ⟨rfl, im1⟩)) (fun o20 r2 => ?_)
      obtain ⟨y22, h23⟩ := o20
      refine OK_jt2 ?_
      try dsimp only [Sum.elim_inl, Sum.elim_inr, jt2, jt3, jt4, jt5, jt6, jt7, jt8] at r2
      obtain ⟨nw2, fs2⟩ := r2
      try simp (disch := omega) only [jst_eq, jst_ne, jst_ni, jI_i, jcmp_lt, jcmp_gt, w32_id, jcpy_out, Sum.elim_inl, Sum.elim_inr, jt2, jt3, jt4, jt5, jt6, jt7, jt8] at nw2
      try simp (disch := omega) only [jst_eq, jst_ne, jst_ni, jI_i, jcmp_lt, jcmp_gt, w32_id, jcpy_out, Sum.elim_inl, Sum.elim_inr, jt2, jt3, jt4, jt5, jt6, jt7, jt8] at fs2
      unfold gX5_question_j109_22
      refine OK_if (fun c2 => ?_) (fun c2 => ?_)
      · skip
        try simp (disch := omega) only [jst_eq, jst_ne, jst_ni, jI_i, jcmp_lt, jcmp_gt, w32_id, jcpy_out, Sum.elim_inl, Sum.elim_inr, jt2, jt3, jt4, jt5, jt6, jt7, jt8] at c2
        have CN : a5 = cMt (nwT (MKT E W K p) (QP E W K p) i4) (a6.toNat + 1) := by { rw [cMt_n (by rw [c3]; rcases nw2 with u | u; { omega }; { exact u.2 })]; exact q1 }
        unfold gX5_question_j121_22
        refine OK_jlx (fun x25 ex25 => ?_)
        try simp (disch := omega) only [jst_eq, jst_ne, jst_ni, jI_i, jcmp_lt, jcmp_gt, w32_id, jcpy_out, Sum.elim_inl, Sum.elim_inr, jt2, jt3, jt4, jt5, jt6, jt7, jt8] at ex25
        have x25w := w32_id (x := a5 + 1) (by omega) (by omega)
        have x25v := w32_id (x := a5 + 0) (by omega) (by omega)
        refine OK_jlx (fun x26 ex26 => ?_)
        try simp (disch := omega) only [jst_eq, jst_ne, jst_ni, jI_i, jcmp_lt, jcmp_gt, w32_id, jcpy_out, Sum.elim_inl, Sum.elim_inr, jt2, jt3, jt4, jt5, jt6, jt7, jt8] at ex26
        have x26e : x26 = a6 + 1 := by omega
        refine OK_il ?_ ?_
        · try dsimp only [Sum.elim_inl, Sum.elim_inr, jt2, jt3, jt4, jt5, jt6, jt7, jt8]
          refine ⟨?_, ?_, ?_, ?_, ?_⟩
          · (first | (exact fs2.1) | (exact fI_t fr (fI_t fr1 fs2.2.1)) | (exact fs2.2.2) | (first | assumption | omega | ((try dsimp only [jt2, jt3, jt4]); first | omega | (simp (disch := omega) only [jst_eq, jst_ne, jst_ni, jst_o, jI_i, jcpy_out, w32_id, jdiv_nn, jshr_k, jand_255] <;> first | done | omega | assumption)) | (intros; simp (disch := omega) only [jst_eq, jst_ne, jst_ni, jst_o, jI_i, jcpy_out, w32_id, jdiv_nn, *] <;> first | done | omega) | (intros; simp (disch := omega) only [jst_eq, jst_ne, jst_ni, jst_o, jI_i, jcpy_out, w32_id, jdiv_nn] at * <;> first | done | omega | assumption) | (intros; first | rfl | (exfalso; omega) | ((repeat' apply And.intro) <;> first | assumption | rfl | omega | trivial)))) -- o11 e2i.1
          · (rw [x26e, e3, ← CN]; omega) -- o12 e2i.2
          · (first | (exact fs2.1) | (exact fI_t fr (fI_t fr1 fs2.2.1)) | (exact fs2.2.2) | (first | assumption | omega | ((try dsimp only [jt2, jt3, jt4]); first | omega | (simp (disch := omega) only [jst_eq, jst_ne, jst_ni, jst_o, jI_i, jcpy_out, w32_id, jdiv_nn, jshr_k, jand_255] <;> first | done | omega | assumption)) | (intros; simp (disch := omega) only [jst_eq, jst_ne, jst_ni, jst_o, jI_i, jcpy_out, w32_id, jdiv_nn, *] <;> first | done | omega) | (intros; simp (disch := omega) only [jst_eq, jst_ne, jst_ni, jst_o, jI_i, jcpy_out, w32_id, jdiv_nn] at * <;> first | done | omega | assumption) | (intros; first | rfl | (exfalso; omega) | ((repeat' apply And.intro) <;> first | assumption | rfl | omega | trivial)))) -- o13 e2i.3
          · (first | (exact fs2.1) | (exact fI_t fr (fI_t fr1 fs2.2.1)) | (exact fs2.2.2) | (first | assumption | omega | ((try dsimp only [jt2, jt3, jt4]); first | omega | (simp (disch := omega) only [jst_eq, jst_ne, jst_ni, jst_o, jI_i, jcpy_out, w32_id, jdiv_nn, jshr_k, jand_255] <;> first | done | omega | assumption)) | (intros; simp (disch := omega) only [jst_eq, jst_ne, jst_ni, jst_o, jI_i, jcpy_out, w32_id, jdiv_nn, *] <;> first | done | omega) | (intros; simp (disch := omega) only [jst_eq, jst_ne, jst_ni, jst_o, jI_i, jcpy_out, w32_id, jdiv_nn] at * <;> first | done | omega | assumption) | (intros; first | rfl | (exfalso; omega) | ((repeat' apply And.intro) <;> first | assumption | rfl | omega | trivial)))) -- o14 e2i.4
          · (first | (exact fs2.1) | (exact fI_t fr (fI_t fr1 fs2.2.1)) | (exact fs2.2.2) | (first | assumption | omega | ((try dsimp only [jt2, jt3, jt4]); first | omega | (simp (disch := omega) only [jst_eq, jst_ne, jst_ni, jst_o, jI_i, jcpy_out, w32_id, jdiv_nn, jshr_k, jand_255] <;> first | done | omega | assumption)) | (intros; simp (disch := omega) only [jst_eq, jst_ne, jst_ni, jst_o, jI_i, jcpy_out, w32_id, jdiv_nn, *] <;> first | done | omega) | (intros; simp (disch := omega) only [jst_eq, jst_ne, jst_ni, jst_o, jI_i, jcpy_out, w32_id, jdiv_nn] at * <;> first | done | omega | assumption) | (intros; first | rfl | (exfalso; omega) | ((repeat' apply And.intro) <;> first | assumption | rfl | omega | trivial)))) -- o15 e2i.5
        · (first | (exact fs2.1) | (exact fI_t fr (fI_t fr1 fs2.2.1)) | (exact fs2.2.2) | (first | assumption | omega | ((try dsimp only [jt2, jt3, jt4]); first | omega | (simp (disch := omega) only [jst_eq, jst_ne, jst_ni, jst_o, jI_i, jcpy_out, w32_id, jdiv_nn, jshr_k, jand_255] <;> first | done | omega | assumption)) | (intros; simp (disch := omega) only [jst_eq, jst_ne, jst_ni, jst_o, jI_i, jcpy_out, w32_id, jdiv_nn, *] <;> first | done | omega) | (intros; simp (disch := omega) only [jst_eq, jst_ne, jst_ni, jst_o, jI_i, jcpy_out, w32_id, jdiv_nn] at * <;> first | done | omega | assumption) | (intros; first | rfl | (exfalso; omega) | ((repeat' apply And.intro) <;> first | assumption | rfl | omega | trivial)))) -- o16 e2m
      · skip
        try simp (disch := omega) only [jst_eq, jst_ne, jst_ni, jI_i, jcmp_lt, jcmp_gt, w32_id, jcpy_out, Sum.elim_inl, Sum.elim_inr, jt2, jt3, jt4, jt5, jt6, jt7, jt8] at c2
        have CN : a5 + 1 = cMt (nwT (MKT E W K p) (QP E W K p) i4) (a6.toNat + 1) := by { rw [cMt_y (by rw [c3]; rcases nw2 with u | u; { exact u.2 }; { omega })]; omega }
        unfold gX5_question_j121_22
        refine OK_jlx (fun x25 ex25 => ?_)
        try simp (disch := omega) only [jst_eq, jst_ne, jst_ni, jI_i, jcmp_lt, jcmp_gt, w32_id, jcpy_out, Sum.elim_inl, Sum.elim_inr, jt2, jt3, jt4, jt5, jt6, jt7, jt8] at ex25
        have x25w := w32_id (x := a5 + 1) (by omega) (by omega)
        have x25v := w32_id (x := a5 + 0) (by omega) (by omega)
        refine OK_jlx (fun x26 ex26 => ?_)
        try simp (disch := omega) only [jst_eq, jst_ne, jst_ni, jI_i, jcmp_lt, jcmp_gt, w32_id, jcpy_out, Sum.elim_inl, Sum.elim_inr, jt2, jt3, jt4, jt5, jt6, jt7, jt8] at ex26
        have x26e : x26 = a6 + 1 := by omega
        refine OK_il ?_ ?_
        · try dsimp only [Sum.elim_inl, Sum.elim_inr, jt2, jt3, jt4, jt5, jt6, jt7, jt8]
          refine ⟨?_, ?_, ?_, ?_, ?_⟩
          · (first | (exact fs2.1) | (exact fI_t fr (fI_t fr1 fs2.2.1)) | (exact fs2.2.2) | (first | assumption | omega | ((try dsimp only [jt2, jt3, jt4]); first | omega | (simp (disch := omega) only [jst_eq, jst_ne, jst_ni, jst_o, jI_i, jcpy_out, w32_id, jdiv_nn, jshr_k, jand_255] <;> first | done | omega | assumption)) | (intros; simp (disch := omega) only [jst_eq, jst_ne, jst_ni, jst_o, jI_i, jcpy_out, w32_id, jdiv_nn, *] <;> first | done | omega) | (intros; simp (disch := omega) only [jst_eq, jst_ne, jst_ni, jst_o, jI_i, jcpy_out, w32_id, jdiv_nn] at * <;> first | done | omega | assumption) | (intros; first | rfl | (exfalso; omega) | ((repeat' apply And.intro) <;> first | assumption | rfl | omega | trivial)))) -- o17 e3i.1
          · (rw [x26e, e3, ← CN]; omega) -- o18 e3i.2
          · (first | (exact fs2.1) | (exact fI_t fr (fI_t fr1 fs2.2.1)) | (exact fs2.2.2) | (first | assumption | omega | ((try dsimp only [jt2, jt3, jt4]); first | omega | (simp (disch := omega) only [jst_eq, jst_ne, jst_ni, jst_o, jI_i, jcpy_out, w32_id, jdiv_nn, jshr_k, jand_255] <;> first | done | omega | assumption)) | (intros; simp (disch := omega) only [jst_eq, jst_ne, jst_ni, jst_o, jI_i, jcpy_out, w32_id, jdiv_nn, *] <;> first | done | omega) | (intros; simp (disch := omega) only [jst_eq, jst_ne, jst_ni, jst_o, jI_i, jcpy_out, w32_id, jdiv_nn] at * <;> first | done | omega | assumption) | (intros; first | rfl | (exfalso; omega) | ((repeat' apply And.intro) <;> first | assumption | rfl | omega | trivial)))) -- o19 e3i.3
          · (first | (exact fs2.1) | (exact fI_t fr (fI_t fr1 fs2.2.1)) | (exact fs2.2.2) | (first | assumption | omega | ((try dsimp only [jt2, jt3, jt4]); first | omega | (simp (disch := omega) only [jst_eq, jst_ne, jst_ni, jst_o, jI_i, jcpy_out, w32_id, jdiv_nn, jshr_k, jand_255] <;> first | done | omega | assumption)) | (intros; simp (disch := omega) only [jst_eq, jst_ne, jst_ni, jst_o, jI_i, jcpy_out, w32_id, jdiv_nn, *] <;> first | done | omega) | (intros; simp (disch := omega) only [jst_eq, jst_ne, jst_ni, jst_o, jI_i, jcpy_out, w32_id, jdiv_nn] at * <;> first | done | omega | assumption) | (intros; first | rfl | (exfalso; omega) | ((repeat' apply And.intro) <;> first | assumption | rfl | omega | trivial)))) -- o20 e3i.4
          · (first | (exact fs2.1) | (exact fI_t fr (fI_t fr1 fs2.2.1)) | (exact fs2.2.2) | (first | assumption | omega | ((try dsimp only [jt2, jt3, jt4]); first | omega | (simp (disch := omega) only [jst_eq, jst_ne, jst_ni, jst_o, jI_i, jcpy_out, w32_id, jdiv_nn, jshr_k, jand_255] <;> first | done | omega | assumption)) | (intros; simp (disch := omega) only [jst_eq, jst_ne, jst_ni, jst_o, jI_i, jcpy_out, w32_id, jdiv_nn, *] <;> first | done | omega) | (intros; simp (disch := omega) only [jst_eq, jst_ne, jst_ni, jst_o, jI_i, jcpy_out, w32_id, jdiv_nn] at * <;> first | done | omega | assumption) | (intros; first | rfl | (exfalso; omega) | ((repeat' apply And.intro) <;> first | assumption | rfl | omega | trivial)))) -- o21 e3i.5
        · (first | (exact fs2.1) | (exact fI_t fr (fI_t fr1 fs2.2.1)) | (exact fs2.2.2) | (first | assumption | omega | ((try dsimp only [jt2, jt3, jt4]); first | omega | (simp (disch := omega) only [jst_eq, jst_ne, jst_ni, jst_o, jI_i, jcpy_out, w32_id, jdiv_nn, jshr_k, jand_255] <;> first | done | omega | assumption)) | (intros; simp (disch := omega) only [jst_eq, jst_ne, jst_ni, jst_o, jI_i, jcpy_out, w32_id, jdiv_nn, *] <;> first | done | omega) | (intros; simp (disch := omega) only [jst_eq, jst_ne, jst_ni, jst_o, jI_i, jcpy_out, w32_id, jdiv_nn] at * <;> first | done | omega | assumption) | (intros; first | rfl | (exfalso; omega) | ((repeat' apply And.intro) <;> first | assumption | rfl | omega | trivial)))) -- o22 e3m
  · try dsimp only [Sum.elim_inl, Sum.elim_inr, jt2, jt3, jt4, jt5, jt6, jt7, jt8]
    refine ⟨?_, ?_, ?_, ?_, ?_⟩
    · (have l := LV_0 (E := E) (W := W) (pts := kP K) (A := kA K) p; omega) -- o23 init.1
    · (rw [z.1, z.2]; rfl) -- o24 init.2
    · exact xt -- o25 init.3
    · exact fI_r _ -- o26 init.4
    · exact ak -- o27 init.5
theorem vX5_question_l7 (i1 : Int) (a20 : Int) (a30 : Int) (a40 : Int) {h0 : AH} {E : EV} {Rf : Int → TR} {W : Int → Int → Int → VW} {K : AK} {p : Nat} {T : TB} (ak : akX h0 E Rf W K) (xt : XT h0 E W K p T) (ip : i1 = p ∧ p ≤ 12) (z : a20 = 1 ∧ a30 = 0 ∧ a40 = 0) : OK (gX5_question_l7 i1 a20 a30 a40 h0) (fun r => jt3 r fun v w h' => (v = (bsP (MKT E W K p) (QP E W K p) (LV E W (kP K) (kA K) p).1.toNat (kP K).toNat).1 ∧ w = (bsP (MKT E W K p) (QP E W K p) (LV E W (kP K) (kA K) p).1.toNat (kP K).toNat).2) ∧ (XT h' E W K p T) ∧ (fI h0 h') ∧ (akX h' E Rf W K)) := by
  unfold gX5_question_l7
  refine OK_jit (I := (fun (s : Int × Int × Int × AH) => jt4 s fun a2 a3 a4 h => (0 ≤ a4 ∧ a4 ≤ kP K) ∧ (a2 = (bsP (MKT E W K p) (QP E W K p) (LV E W (kP K) (kA K) p).1.toNat a4.toNat).1 ∧ a3 = (bsP (MKT E W K p) (QP E W K p) (LV E W (kP K) (kA K) p).1.toNat a4.toNat).2) ∧ (XT h E W K p T) ∧ (fI h0 h) ∧ (akX h E Rf W K))) (m := (fun (s : Int × Int × Int × AH) => jt4 s fun a2 a3 a4 h => (kP K - a4).toNat)) ?_ ?_
  · intro s hs
    obtain ⟨a2, a3, a4, h⟩ := s
    dsimp only [Sum.elim_inl, Sum.elim_inr, jt2, jt3, jt4, jt5, jt6, jt7, jt8] at hs
    obtain ⟨q0, q1, xh, fr, kh⟩ := hs
    unfold gX5_question_b7
    refine OK_jt4 ?_
    have n120 := xh.2.2.2.1
    have p256 := kh.1.2.2.1.2.2
    have pz := kh.2.2.2.2.2.1
    have w12 : w32 (a4 + 1) = a4 + 1 := w32_id (by omega) (by omega)
    have e3 : (a4 + 1).toNat = a4.toNat + 1 := by omega
    have c3 : ((a4.toNat : Nat) : Int) = a4 := by omega
    have bs : bsP (MKT E W K p) (QP E W K p) (LV E W (kP K) (kA K) p).1.toNat (a4.toNat + 1) = if (bsP (MKT E W K p) (QP E W K p) (LV E W (kP K) (kA K) p).1.toNat a4.toNat).1 < cMt (nwT (MKT E W K p) (QP E W K p) ((a4.toNat : Nat) : Int)) (LV E W (kP K) (kA K) p).1.toNat then (cMt (nwT (MKT E W K p) (QP E W K p) ((a4.toNat : Nat) : Int)) (LV E W (kP K) (kA K) p).1.toNat, ((a4.toNat : Nat) : Int)) else bsP (MKT E W K p) (QP E W K p) (LV E W (kP K) (kA K) p).1.toNat a4.toNat := rfl
    rw [c3, ← q1.1] at bs
    refine OK_jb (vX5_points) (fun v8 r1 => ?_)
    try dsimp only [Sum.elim_inl, Sum.elim_inr, jt2, jt3, jt4, jt5, jt6, jt7, jt8] at r1
    have pp1 := r1
    clear r1
    try simp (disch := omega) only [jst_eq, jst_ne, jst_ni, jI_i, jcmp_lt, jcmp_gt, w32_id, jcpy_out, Sum.elim_inl, Sum.elim_inr, jt2, jt3, jt4, jt5, jt6, jt7, jt8] at pp1
    have v8e : v8 = kP K := by { rw [← pz.1]; first | assumption | omega }
    refine OK_if (fun c1 => ?_) (fun c1 => ?_)
    · skip
      try simp (disch := omega) only [jst_eq, jst_ne, jst_ni, jI_i, jcmp_lt, jcmp_gt, w32_id, jcpy_out, Sum.elim_inl, Sum.elim_inr, jt2, jt3, jt4, jt5, jt6, jt7, jt8] at c1
      refine OK_ir ?_
      (refine ⟨?_, xh, fr, kh⟩; have en : a4.toNat = (kP K).toNat := (by omega); rw [en] at q1; exact q1) -- e1
    · skip
      try simp (disch := omega) only [jst_eq, jst_ne, jst_ni, jI_i, jcmp_lt, jcmp_gt, w32_id, jcpy_out, Sum.elim_inl, Sum.elim_inr, jt2, jt3, jt4, jt5, jt6, jt7, jt8] at c1
      refine OK_jb (vX5_question_l22 (E := E) (Rf := Rf) (W := W) (K := K) (p := p) (T := T) _ _ _ _ _ _ (by exact kh) (by exact xh) (by exact ip) (by omega) (by exact ⟨rfl, rfl⟩)) (fun o10 r2 => ?_)
      obtain ⟨y12, h13⟩ := o10
      refine OK_jt2 ?_
      try dsimp only [Sum.elim_inl, Sum.elim_inr, jt2, jt3, jt4, jt5, jt6, jt7, jt8] at r2
      obtain ⟨cc2, fs2⟩ := r2
      try simp (disch := omega) only [jst_eq, jst_ne, jst_ni, jI_i, jcmp_lt, jcmp_gt, w32_id, jcpy_out, Sum.elim_inl, Sum.elim_inr, jt2, jt3, jt4, jt5, jt6, jt7, jt8] at cc2
      try simp (disch := omega) only [jst_eq, jst_ne, jst_ni, jI_i, jcmp_lt, jcmp_gt, w32_id, jcpy_out, Sum.elim_inl, Sum.elim_inr, jt2, jt3, jt4, jt5, jt6, jt7, jt8] at fs2
      refine OK_if (fun c2 => ?_) (fun c2 => ?_)
      · skip
        try simp (disch := omega) only [jst_eq, jst_ne, jst_ni, jI_i, jcmp_lt, jcmp_gt, w32_id, jcpy_out, Sum.elim_inl, Sum.elim_inr, jt2, jt3, jt4, jt5, jt6, jt7, jt8] at c2
        unfold gX5_question_j142_7
        refine OK_jlx (fun x15 ex15 => ?_)
        try simp (disch := omega) only [jst_eq, jst_ne, jst_ni, jI_i, jcmp_lt, jcmp_gt, w32_id, jcpy_out, Sum.elim_inl, Sum.elim_inr, jt2, jt3, jt4, jt5, jt6, jt7, jt8] at ex15
        have x15e : x15 = a4 + 1 := by omega
        subst x15e
        refine OK_il ?_ ?_
        · try dsimp only [Sum.elim_inl, Sum.elim_inr, jt2, jt3, jt4, jt5, jt6, jt7, jt8]
          refine ⟨?_, ?_, ?_, ?_, ?_⟩
          · (first | (exact fs2.1) | (exact fI_t fr fs2.2.1) | (exact fs2.2.2) | (first | assumption | omega | ((try dsimp only [jt2, jt3, jt4]); first | omega | (simp (disch := omega) only [jst_eq, jst_ne, jst_ni, jst_o, jI_i, jcpy_out, w32_id, jdiv_nn, jshr_k, jand_255] <;> first | done | omega | assumption)) | (intros; simp (disch := omega) only [jst_eq, jst_ne, jst_ni, jst_o, jI_i, jcpy_out, w32_id, jdiv_nn, *] <;> first | done | omega) | (intros; simp (disch := omega) only [jst_eq, jst_ne, jst_ni, jst_o, jI_i, jcpy_out, w32_id, jdiv_nn] at * <;> first | done | omega | assumption) | (intros; first | rfl | (exfalso; omega) | ((repeat' apply And.intro) <;> first | assumption | rfl | omega | trivial)))) -- o6 e2i.1
          · (rw [e3, bs, if_neg (by omega)]; exact ⟨rfl.trans q1.1, q1.2⟩) -- o7 e2i.2
          · (first | (exact fs2.1) | (exact fI_t fr fs2.2.1) | (exact fs2.2.2) | (first | assumption | omega | ((try dsimp only [jt2, jt3, jt4]); first | omega | (simp (disch := omega) only [jst_eq, jst_ne, jst_ni, jst_o, jI_i, jcpy_out, w32_id, jdiv_nn, jshr_k, jand_255] <;> first | done | omega | assumption)) | (intros; simp (disch := omega) only [jst_eq, jst_ne, jst_ni, jst_o, jI_i, jcpy_out, w32_id, jdiv_nn, *] <;> first | done | omega) | (intros; simp (disch := omega) only [jst_eq, jst_ne, jst_ni, jst_o, jI_i, jcpy_out, w32_id, jdiv_nn] at * <;> first | done | omega | assumption) | (intros; first | rfl | (exfalso; omega) | ((repeat' apply And.intro) <;> first | assumption | rfl | omega | trivial)))) -- o8 e2i.3
          · (first | (exact fs2.1) | (exact fI_t fr fs2.2.1) | (exact fs2.2.2) | (first | assumption | omega | ((try dsimp only [jt2, jt3, jt4]); first | omega | (simp (disch := omega) only [jst_eq, jst_ne, jst_ni, jst_o, jI_i, jcpy_out, w32_id, jdiv_nn, jshr_k, jand_255] <;> first | done | omega | assumption)) | (intros; simp (disch := omega) only [jst_eq, jst_ne, jst_ni, jst_o, jI_i, jcpy_out, w32_id, jdiv_nn, *] <;> first | done | omega) | (intros; simp (disch := omega) only [jst_eq, jst_ne, jst_ni, jst_o, jI_i, jcpy_out, w32_id, jdiv_nn] at * <;> first | done | omega | assumption) | (intros; first | rfl | (exfalso; omega) | ((repeat' apply And.intro) <;> first | assumption | rfl | omega | trivial)))) -- o9 e2i.4
          · (first | (exact fs2.1) | (exact fI_t fr fs2.2.1) | (exact fs2.2.2) | (first | assumption | omega | ((try dsimp only [jt2, jt3, jt4]); first | omega | (simp (disch := omega) only [jst_eq, jst_ne, jst_ni, jst_o, jI_i, jcpy_out, w32_id, jdiv_nn, jshr_k, jand_255] <;> first | done | omega | assumption)) | (intros; simp (disch := omega) only [jst_eq, jst_ne, jst_ni, jst_o, jI_i, jcpy_out, w32_id, jdiv_nn, *] <;> first | done | omega) | (intros; simp (disch := omega) only [jst_eq, jst_ne, jst_ni, jst_o, jI_i, jcpy_out, w32_id, jdiv_nn] at * <;> first | done | omega | assumption) | (intros; first | rfl | (exfalso; omega) | ((repeat' apply And.intro) <;> first | assumption | rfl | omega | trivial)))) -- o10 e2i.5
        · (first | (exact fs2.1) | (exact fI_t fr fs2.2.1) | (exact fs2.2.2) | (first | assumption | omega | ((try dsimp only [jt2, jt3, jt4]); first | omega | (simp (disch := omega) only [jst_eq, jst_ne, jst_ni, jst_o, jI_i, jcpy_out, w32_id, jdiv_nn, jshr_k, jand_255] <;> first | done | omega | assumption)) | (intros; simp (disch := omega) only [jst_eq, jst_ne, jst_ni, jst_o, jI_i, jcpy_out, w32_id, jdiv_nn, *] <;> first | done | omega) | (intros; simp (disch := omega) only [jst_eq, jst_ne, jst_ni, jst_o, jI_i, jcpy_out, w32_id, jdiv_nn] at * <;> first | done | omega | assumption) | (intros; first | rfl | (exfalso; omega) | ((repeat' apply And.intro) <;> first | assumption | rfl | omega | trivial)))) -- o11 e2m
      · skip
        try simp (disch := omega) only [jst_eq, jst_ne, jst_ni, jI_i, jcmp_lt, jcmp_gt, w32_id, jcpy_out, Sum.elim_inl, Sum.elim_inr, jt2, jt3, jt4, jt5, jt6, jt7, jt8] at c2
        unfold gX5_question_j142_7
        refine OK_jlx (fun x15 ex15 => ?_)
        try simp (disch := omega) only [jst_eq, jst_ne, jst_ni, jI_i, jcmp_lt, jcmp_gt, w32_id, jcpy_out, Sum.elim_inl, Sum.elim_inr, jt2, jt3, jt4, jt5, jt6, jt7, jt8] at ex15
        have x15e : x15 = a4 + 1 := by omega
        subst x15e
        refine OK_il ?_ ?_
        · try dsimp only [Sum.elim_inl, Sum.elim_inr, jt2, jt3, jt4, jt5, jt6, jt7, jt8]
          refine ⟨?_, ?_, ?_, ?_, ?_⟩
          · (first | (exact fs2.1) | (exact fI_t fr fs2.2.1) | (exact fs2.2.2) | (first | assumption | omega | ((try dsimp only [jt2, jt3, jt4]); first | omega | (simp (disch := omega) only [jst_eq, jst_ne, jst_ni, jst_o, jI_i, jcpy_out, w32_id, jdiv_nn, jshr_k, jand_255] <;> first | done | omega | assumption)) | (intros; simp (disch := omega) only [jst_eq, jst_ne, jst_ni, jst_o, jI_i, jcpy_out, w32_id, jdiv_nn, *] <;> first | done | omega) | (intros; simp (disch := omega) only [jst_eq, jst_ne, jst_ni, jst_o, jI_i, jcpy_out, w32_id, jdiv_nn] at * <;> first | done | omega | assumption) | (intros; first | rfl | (exfalso; omega) | ((repeat' apply And.intro) <;> first | assumption | rfl | omega | trivial)))) -- o12 e3i.1
          · (rw [e3, bs, if_pos (by omega)]; exact ⟨by omega, rfl⟩) -- o13 e3i.2
          · (first | (exact fs2.1) | (exact fI_t fr fs2.2.1) | (exact fs2.2.2) | (first | assumption | omega | ((try dsimp only [jt2, jt3, jt4]); first | omega | (simp (disch := omega) only [jst_eq, jst_ne, jst_ni, jst_o, jI_i, jcpy_out, w32_id, jdiv_nn, jshr_k, jand_255] <;> first | done | omega | assumption)) | (intros; simp (disch := omega) only [jst_eq, jst_ne, jst_ni, jst_o, jI_i, jcpy_out, w32_id, jdiv_nn, *] <;> first | done | omega) | (intros; simp (disch := omega) only [jst_eq, jst_ne, jst_ni, jst_o, jI_i, jcpy_out, w32_id, jdiv_nn] at * <;> first | done | omega | assumption) | (intros; first | rfl | (exfalso; omega) | ((repeat' apply And.intro) <;> first | assumption | rfl | omega | trivial)))) -- o14 e3i.3
          · (first | (exact fs2.1) | (exact fI_t fr fs2.2.1) | (exact fs2.2.2) | (first | assumption | omega | ((try dsimp only [jt2, jt3, jt4]); first | omega | (simp (disch := omega) only [jst_eq, jst_ne, jst_ni, jst_o, jI_i, jcpy_out, w32_id, jdiv_nn, jshr_k, jand_255] <;> first | done | omega | assumption)) | (intros; simp (disch := omega) only [jst_eq, jst_ne, jst_ni, jst_o, jI_i, jcpy_out, w32_id, jdiv_nn, *] <;> first | done | omega) | (intros; simp (disch := omega) only [jst_eq, jst_ne, jst_ni, jst_o, jI_i, jcpy_out, w32_id, jdiv_nn] at * <;> first | done | omega | assumption) | (intros; first | rfl | (exfalso; omega) | ((repeat' apply And.intro) <;> first | assumption | rfl | omega | trivial)))) -- o15 e3i.4
          · (first | (exact fs2.1) | (exact fI_t fr fs2.2.1) | (exact fs2.2.2) | (first | assumption | omega | ((try dsimp only [jt2, jt3, jt4]); first | omega | (simp (disch := omega) only [jst_eq, jst_ne, jst_ni, jst_o, jI_i, jcpy_out, w32_id, jdiv_nn, jshr_k, jand_255] <;> first | done | omega | assumption)) | (intros; simp (disch := omega) only [jst_eq, jst_ne, jst_ni, jst_o, jI_i, jcpy_out, w32_id, jdiv_nn, *] <;> first | done | omega) | (intros; simp (disch := omega) only [jst_eq, jst_ne, jst_ni, jst_o, jI_i, jcpy_out, w32_id, jdiv_nn] at * <;> first | done | omega | assumption) | (intros; first | rfl | (exfalso; omega) | ((repeat' apply And.intro) <;> first | assumption | rfl | omega | trivial)))) -- o16 e3i.5
        · (first | (exact fs2.1) | (exact fI_t fr fs2.2.1) | (exact fs2.2.2) | (first | assumption | omega | ((try dsimp only [jt2, jt3, jt4]); first | omega | (simp (disch := omega) only [jst_eq, jst_ne, jst_ni, jst_o, jI_i, jcpy_out, w32_id, jdiv_nn, jshr_k, jand_255] <;> first | done | omega | assumption)) | (intros; simp (disch := omega) only [jst_eq, jst_ne, jst_ni, jst_o, jI_i, jcpy_out, w32_id, jdiv_nn, *] <;> first | done | omega) | (intros; simp (disch := omega) only [jst_eq, jst_ne, jst_ni, jst_o, jI_i, jcpy_out, w32_id, jdiv_nn] at * <;> first | done | omega | assumption) | (intros; first | rfl | (exfalso; omega) | ((repeat' apply And.intro) <;> first | assumption | rfl | omega | trivial)))) -- o17 e3m
  · try dsimp only [Sum.elim_inl, Sum.elim_inr, jt2, jt3, jt4, jt5, jt6, jt7, jt8]
    refine ⟨?_, ?_, ?_, ?_, ?_⟩
    · (have := ak.2.2.2.2.2.1.2; omega) -- o18 init.1
    · (rw [z.1, z.2.1, z.2.2]; exact ⟨rfl, rfl⟩) -- o19 init.2
    · exact xt -- o20 init.3
    · exact fI_r _ -- o21 init.4
    · exact ak -- o22 init.5
theorem vX5_question (a1 : Int) {h : AH} {E : EV} {Rf : Int → TR} {W : Int → Int → Int → VW} {K : AK} {p : Nat} {T : TB} (ak : akX h E Rf W K) (xt : XT h E W K p T) (ip : a1 = p ∧ p ≤ 12) : OK (gX5_question a1 h) (fun r => jt2 r fun v h' => (v = qsP (bsP (MKT E W K p) (QP E W K p) (LV E W (kP K) (kA K) p).1.toNat (kP K).toNat)) ∧ (XT h' E W K p T ∧ fI h h' ∧ akX h' E Rf W K)) := by
  have br := bsP_r (Q := MKT E W K p) (vl := QP E W K p) (n := (LV E W (kP K) (kA K) p).1.toNat) (kP K).toNat
  have n120 := xt.2.2.2.1
  have p256 := ak.1.2.2.1.2.2
  unfold gX5_question
  refine OK_jb (vX5_question_l7 (E := E) (Rf := Rf) (W := W) (K := K) (p := p) (T := T) _ _ _ _ (by exact ak) (by exact xt) (by exact ip) (by (first | (exact ⟨xs1, fs1, ks1⟩) | (first | assumption | omega | ((try dsimp only [jt2, jt3, jt4]); first | omega | (simp (disch := omega) only [jst_eq, jst_ne, jst_ni, jst_o, jI_i, jcpy_out, w32_id, jdiv_nn, jshr_k, jand_255] <;> first | done | omega | assumption)) | (intros; simp (disch := omega) only [jst_eq, jst_ne, jst_ni, jst_o, jI_i, jcpy_out, w32_id, jdiv_nn, *] <;> first | done | omega) | (intros; simp (disch := omega) only [jst_eq, jst_ne, jst_ni, jst_o, jI_i, jcpy_out, w32_id, jdiv_nn] at * <;> first | done | omega | assumption) | (intros; first | rfl | (exfalso; omega) | ((repeat' apply And.intro) <;> first | assumption | rfl | omega | trivial)))))) (fun o1 r1 => ?_)
  obtain ⟨y3, y4, h5⟩ := o1
  refine OK_jt3 ?_
  try dsimp only [Sum.elim_inl, Sum.elim_inr, jt2, jt3, jt4, jt5, jt6, jt7, jt8] at r1
  obtain ⟨bs1, xs1, fs1, ks1⟩ := r1
  try simp (disch := omega) only [jst_eq, jst_ne, jst_ni, jI_i, jcmp_lt, jcmp_gt, w32_id, jcpy_out, Sum.elim_inl, Sum.elim_inr, jt2, jt3, jt4, jt5, jt6, jt7, jt8] at bs1
  try simp (disch := omega) only [jst_eq, jst_ne, jst_ni, jI_i, jcmp_lt, jcmp_gt, w32_id, jcpy_out, Sum.elim_inl, Sum.elim_inr, jt2, jt3, jt4, jt5, jt6, jt7, jt8] at xs1
  try simp (disch := omega) only [jst_eq, jst_ne, jst_ni, jI_i, jcmp_lt, jcmp_gt, w32_id, jcpy_out, Sum.elim_inl, Sum.elim_inr, jt2, jt3, jt4, jt5, jt6, jt7, jt8] at fs1
  try simp (disch := omega) only [jst_eq, jst_ne, jst_ni, jI_i, jcmp_lt, jcmp_gt, w32_id, jcpy_out, Sum.elim_inl, Sum.elim_inr, jt2, jt3, jt4, jt5, jt6, jt7, jt8] at ks1
  refine OK_if (fun c1 => ?_) (fun c1 => ?_)
  · skip
    try simp (disch := omega) only [jst_eq, jst_ne, jst_ni, jI_i, jcmp_lt, jcmp_gt, w32_id, jcpy_out, Sum.elim_inl, Sum.elim_inr, jt2, jt3, jt4, jt5, jt6, jt7, jt8] at c1
    refine OK_some ?_
    try dsimp only [Sum.elim_inl, Sum.elim_inr, jt2, jt3, jt4, jt5, jt6, jt7, jt8]
    try dsimp only [Sum.elim_inl, Sum.elim_inr, jt2, jt3, jt4, jt5, jt6, jt7, jt8]
    refine ⟨?_, ?_⟩
    · (unfold qsP; rw [if_pos (by omega)]) -- o5 e1.1
    · (first | (exact ⟨xs1, fs1, ks1⟩) | (first | assumption | omega | ((try dsimp only [jt2, jt3, jt4]); first | omega | (simp (disch := omega) only [jst_eq, jst_ne, jst_ni, jst_o, jI_i, jcpy_out, w32_id, jdiv_nn, jshr_k, jand_255] <;> first | done | omega | assumption)) | (intros; simp (disch := omega) only [jst_eq, jst_ne, jst_ni, jst_o, jI_i, jcpy_out, w32_id, jdiv_nn, *] <;> first | done | omega) | (intros; simp (disch := omega) only [jst_eq, jst_ne, jst_ni, jst_o, jI_i, jcpy_out, w32_id, jdiv_nn] at * <;> first | done | omega | assumption) | (intros; first | rfl | (exfalso; omega) | ((repeat' apply And.intro) <;> first | assumption | rfl | omega | trivial)))) -- o6 e1.2
  · skip
    try simp (disch := omega) only [jst_eq, jst_ne, jst_ni, jI_i, jcmp_lt, jcmp_gt, w32_id, jcpy_out, Sum.elim_inl, Sum.elim_inr, jt2, jt3, jt4, jt5, jt6, jt7, jt8] at c1
    refine OK_some ?_
    try dsimp only [Sum.elim_inl, Sum.elim_inr, jt2, jt3, jt4, jt5, jt6, jt7, jt8]
    try dsimp only [Sum.elim_inl, Sum.elim_inr, jt2, jt3, jt4, jt5, jt6, jt7, jt8]
    refine ⟨?_, ?_⟩
    · (unfold qsP; rw [if_neg (by omega), ← bs1.1, ← bs1.2, w32_id (x := 1000 * y4) (by omega) (by omega), w32_id (by omega) (by omega)]) -- o7 e2.1
    · (first | (exact ⟨xs1, fs1, ks1⟩) | (first | assumption | omega | ((try dsimp only [jt2, jt3, jt4]); first | omega | (simp (disch := omega) only [jst_eq, jst_ne, jst_ni, jst_o, jI_i, jcpy_out, w32_id, jdiv_nn, jshr_k, jand_255] <;> first | done | omega | assumption)) | (intros; simp (disch := omega) only [jst_eq, jst_ne, jst_ni, jst_o, jI_i, jcpy_out, w32_id, jdiv_nn, *] <;> first | done | omega) | (intros; simp (disch := omega) only [jst_eq, jst_ne, jst_ni, jst_o, jI_i, jcpy_out, w32_id, jdiv_nn] at * <;> first | done | omega | assumption) | (intros; first | rfl | (exfalso; omega) | ((repeat' apply And.intro) <;> first | assumption | rfl | omega | trivial)))) -- o8 e2.2

