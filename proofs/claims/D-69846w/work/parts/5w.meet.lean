/-! x: rows and laws that are met -/
/-- a side of a law -/
def sdX (h : AH) (E : EV) (T : Int) (np : Int) (kp : Int → Int) (R : TR) (d : Int) : Prop := capX h T 2200 ∧ vwX h T 2200 (-1) 0 R d 0 ∧ tyT E np kp R 0 ∧ dpE E.1.2.2.2.1 R ≤ 100
def f269 (h h' : AH) : Prop := ∀ a s, ¬ (a = 200 ∧ (s = 9 ∨ s = 10)) → ¬ (a = 269 ∧ 0 ≤ s) → h' a s = h a s
theorem f269_tr {h h1 h2 : AH} (a : f269 h h1) (b : f269 h1 h2) : f269 h h2 := fun x s y1 y2 => (b x s y1 y2).trans (a x s y1 y2)
theorem f269_rfl {h : AH} : f269 h h := fun _ _ _ _ => rfl
theorem sdX_fr {h h' : AH} {E : EV} {T np d : Int} {kp : Int → Int} {R : TR} (s : sdX h E T np kp R d) (g : f269 h h') : sdX h' E T np kp R d := by
  obtain ⟨s1, s2, s3, s4⟩ := s
  have t3 := isX3_p s1.1
  have t4 : T = 258 ∨ T = 283 ∨ T = 301 ∨ T = 324 ∨ T = 330 ∨ T = 341 ∨ T = 347 ∨ T = 357 ∨ T = 363 ∨ T = 383 ∨ T = 396 := s1.1
  exact ⟨capX_fr s1 (fun a a0 a1 => g _ _ (by omega) (by omega)), vwX_fr (fun a s y => g _ _ (by omega) (by omega)) s2, s3, s4⟩
/-- what working out a law needs -/
def wkL (h : AH) (E : EV) (Rf : Int → TR) (W : Int → Int → Int → VW) (f : Int → Int → Int → Int) (hl : Int → Int) : Prop := enuX h E Rf W f ∧ h 200 11 = -1 ∧ (∀ c, 0 ≤ c → c ≤ 2 → h 270 c = hl c ∧ 0 ≤ hl c ∧ hl c ≤ 15) ∧ -2147483648 ≤ h 200 10 ∧ h 200 10 < 2147483648
theorem wkL_fr {h h' : AH} {E : EV} {Rf : Int → TR} {W : Int → Int → Int → VW} {f : Int → Int → Int → Int} {hl : Int → Int} (w : wkL h E Rf W f hl) (g : f269 h h') (b : -2147483648 ≤ h' 200 10 ∧ h' 200 10 < 2147483648) : wkL h' E Rf W f hl := ⟨enuX_fr w.1 (fun a s y1 y2 => g a s (by omega) y2), by rw [g _ _ (by omega) (by omega)]; exact w.2.1, fun c c0 c1 => by rw [g _ _ (by omega) (by omega)]; exact w.2.2.1 c c0 c1, b⟩
theorem vX1_side (a1 : Int) (a2 : Int) (a3 : Int) {h : AH} {E : EV} {Rf : Int → TR} {W : Int → Int → Int → VW} {f : Int → Int → Int → Int} {np : Int} {kp hl : Int → Int} {R : TR} (w : wkL h E Rf W f hl) (s : sdX h E (h 200 16 + 12) np kp R a1) (n : 1 ≤ np ∧ np ≤ 2) (x : vlR (kp 0) a2 ∧ (np = 2 → vlR (kp 1) a3)) (x4 : isX4 (h 200 16)) : OK (gX1_side a1 a2 a3 h) (fun r => jt2 r fun v h' => (v = (evT W f (pr2 a2 a3) hl R).1) ∧ (f269 h h') ∧ (-2147483648 ≤ h' 200 10 ∧ h' 200 10 < 2147483648)) := by
  have x44 : h 200 16 = 271 ∨ h 200 16 = 289 := x4
  unfold gX1_side
  refine OK_jl ?_
  refine OK_jl ?_
  refine OK_jl ?_
  have F3 : ∀ a s, ¬ (a = 200 ∧ s = 9) → ¬ (a = 269 ∧ 0 ≤ s) → jst (jst (jst h 269 0 a2) 269 1 a3) 200 9 2 a s = h a s := fun a s y1 y2 => by { rw [jst_o (by omega), jst_o (by omega), jst_o (by omega)] }
  have C3 : jst (jst (jst h 269 0 a2) 269 1 a3) 200 9 2 200 9 = 2 ∧ jst (jst (jst h 269 0 a2) 269 1 a3) 200 9 2 269 0 = a2 ∧ jst (jst (jst h 269 0 a2) 269 1 a3) 200 9 2 269 1 = a3 := by { refine ⟨jst_eq, ?_, ?_⟩; { rw [jst_o (by omega), jst_o (by omega), jst_eq] }; { rw [jst_o (by omega), jst_eq] } }
  generalize e3 : jst (jst (jst h 269 0 a2) 269 1 a3) 200 9 2 = hq at *
  have G3 : f269 h hq := fun a s y1 y2 => F3 a s (by omega) y2
  have b3 : -2147483648 ≤ hq 200 10 ∧ hq 200 10 < 2147483648 := by { rw [F3 _ _ (by omega) (by omega)]; exact w.2.2.2 }
  have w3 := wkL_fr w G3 b3
  have s3 := sdX_fr s G3
  have e16 : hq 200 16 = h 200 16 := F3 _ _ (by omega) (by omega)
  refine OK_jb2 (vX1_work (E := E) (Rf := Rf) (W := W) (f := f) (N := 2200) (w := -1) (wv := 0) (np := np) (kp := kp) (p := pr2 a2 a3) (hl := hl) (R := R) _ _ _ (by (rw [e16]; exact ⟨w3.1, s3.1, s3.2.1, s3.2.2.1, w3.2.1, Or.inl rfl, by decide, by rw [C3.1]; omega, by rw [C3.1]; have := s3.2.2.2; omega, by omega, fun c c0 c1 => by (rcases (show c = 0 ∨ c = 1 by omega) with rfl | rfl; { exact ⟨C3.2.1, x.1⟩ }; { exact ⟨C3.2.2, x.2 (by omega)⟩ }), w3.2.2.1, w3.2.2.2⟩)) (by exact s3.2.2.2)) (fun v5 h6 r1 => ?_)
  try dsimp only [Sum.elim_inl, Sum.elim_inr, jt2, jt3, jt4, jt5, jt6, jt7, jt8] at r1
  obtain ⟨ev1, pe1⟩ := r1
  try simp (disch := omega) only [jst_eq, jst_ne, jst_ni, jI_i, jcmp_lt, jcmp_gt, w32_id, jcpy_out, Sum.elim_inl, Sum.elim_inr, jt2, jt3, jt4, jt5, jt6, jt7, jt8] at ev1
  try simp (disch := omega) only [jst_eq, jst_ne, jst_ni, jI_i, jcmp_lt, jcmp_gt, w32_id, jcpy_out, Sum.elim_inl, Sum.elim_inr, jt2, jt3, jt4, jt5, jt6, jt7, jt8] at pe1
  have wr := w32_r (hq 200 10 + (evT W f (pr2 a2 a3) hl R).2)
  have pe10 := pe1.1
  refine OK_jl ?_
  refine OK_some ?_
  try dsimp only [Sum.elim_inl, Sum.elim_inr, jt2, jt3, jt4, jt5, jt6, jt7, jt8]
  try dsimp only [Sum.elim_inl, Sum.elim_inr, jt2, jt3, jt4, jt5, jt6, jt7, jt8]
  refine ⟨?_, ?_, ?_⟩
  · (first | assumption | omega | ((try dsimp only [jt2, jt3, jt4]); first | omega | (simp (disch := omega) only [jst_eq, jst_ne, jst_ni, jst_o, jI_i, jcpy_out, w32_id, jdiv_nn, jshr_k, jand_255] <;> first | done | omega | assumption)) | (intros; simp (disch := omega) only [jst_eq, jst_ne, jst_ni, jst_o, jI_i, jcpy_out, w32_id, jdiv_nn, *] <;> first | done | omega) | (intros; simp (disch := omega) only [jst_eq, jst_ne, jst_ni, jst_o, jI_i, jcpy_out, w32_id, jdiv_nn] at * <;> first | done | omega | assumption) | (intros; first | rfl | (exfalso; omega) | ((repeat' apply And.intro) <;> first | assumption | rfl | omega | trivial))) -- o3 e1.1
  · (intro a s y1 y2; rw [jst_o (by omega), pe1.2 a s (by omega) (by omega)]; exact G3 a s y1 y2) -- o4 e1.2
  · (rw [jst_o (by omega), pe10]; exact wr) -- o5 e1.3
/-- a law, for all values of its names -/
def lwA (W : Int → Int → Int → VW) (f : Int → Int → Int → Int) (hl : Int → Int) (one two : Int) (L R : TR) : Prop := ∀ x y, 0 ≤ x → x < one → 0 ≤ y → y < two → (evT W f (pr2 x y) hl L).1 = (evT W f (pr2 x y) hl R).1
/-- laws: x -/
def lwX (h : AH) (E : EV) (nn : Int → Int) (lk : Int → Int → Int) (LL LR : Int → TR) (l : Int) : Prop := 1 ≤ nn l ∧ nn l ≤ 2 ∧ h (h 200 16 + 10) l = nn l ∧ (∀ k, 0 ≤ k → k < nn l → h (h 200 16 + 11) (2 * l + k) = lk l k ∧ 0 ≤ lk l k ∧ lk l k ≤ 1) ∧ sdX h E (h 200 16 + 12) (nn l) (lk l) (LL l) (h (h 200 16 + 8) l) ∧ sdX h E (h 200 16 + 12) (nn l) (lk l) (LR l) (h (h 200 16 + 9) l)
theorem lwX_fr {h h' : AH} {E : EV} {nn : Int → Int} {lk : Int → Int → Int} {LL LR : Int → TR} {l : Int} (x4 : isX4 (h 200 16)) (w : lwX h E nn lk LL LR l) (g : f269 h h') : lwX h' E nn lk LL LR l := by
  have x : h 200 16 = 271 ∨ h 200 16 = 289 := x4
  have e : h' 200 16 = h 200 16 := g _ _ (by omega) (by omega)
  obtain ⟨w1, w2, w3, w4, w5, w6⟩ := w
  unfold lwX
  rw [e, g _ l (by omega) (by omega), g (h 200 16 + 8) l (by omega) (by omega), g (h 200 16 + 9) l (by omega) (by omega)]
  exact ⟨w1, w2, w3, fun k k0 k1 => by rw [g _ _ (by omega) (by omega)]; exact w4 k k0 k1, sdX_fr w5 g, sdX_fr w6 g⟩
theorem bs_vl {k v : Int} (k0 : 0 ≤ k) (k1 : k ≤ 1) (h0 : 0 ≤ v) (h1 : v < bsK k) : vlR k v := by
  unfold bsK at h1
  refine ⟨h0, fun y => ?_, fun y => ?_, fun y => by omega⟩
  · rw [if_pos y] at h1; omega
  · rw [if_neg (by omega)] at h1; omega
theorem vX1_holds_l64 (i1 : Int) (i3 : Int) (i4 : Int) (i5 : Int) (a60 : Int) {h0 : AH} {E : EV} {Rf : Int → TR} {W : Int → Int → Int → VW} {f : Int → Int → Int → Int} {hl : Int → Int} {nn : Int → Int} {lk : Int → Int → Int} {LL LR : Int → TR} (w : wkL h0 E Rf W f hl) (x4 : isX4 (h0 200 16)) (l : lwX h0 E nn lk LL LR i1) (b : 0 ≤ i1 ∧ i1 < 4 ∧ vlR (lk i1 0) i5 ∧ i4 = if nn i1 = 2 then bsK (lk i1 1) else 1) (z : a60 = 0) : OK (gX1_holds_l64 i1 i3 i4 i5 a60 h0) (Sum.elim (fun h' => (∃ y, 0 ≤ y ∧ y < i4 ∧ (evT W f (pr2 i5 y) hl (LL i1)).1 ≠ (evT W f (pr2 i5 y) hl (LR i1)).1) ∧ (f269 h0 h' ∧ -2147483648 ≤ h' 200 10 ∧ h' 200 10 < 2147483648)) (fun h' => (∀ y, 0 ≤ y → y < i4 → (evT W f (pr2 i5 y) hl (LL i1)).1 = (evT W f (pr2 i5 y) hl (LR i1)).1) ∧ (f269 h0 h' ∧ -2147483648 ≤ h' 200 10 ∧ h' 200 10 < 2147483648))) := by
  unfold gX1_holds_l64
  refine OK_jit (I := (fun (s : Int × AH) => jt2 s fun a6 h => (0 ≤ a6 ∧ a6 ≤ i4) ∧ (∀ y, 0 ≤ y → y < a6 → (evT W f (pr2 i5 y) hl (LL i1)).1 = (evT W f (pr2 i5 y) hl (LR i1)).1) ∧ (f269 h0 h) ∧ (-2147483648 ≤ h 200 10 ∧ h 200 10 < 2147483648))) (m := (fun (s : Int × AH) => jt2 s fun a6 h => (i4 - a6).toNat)) ?_ ?_
  · intro s hs
    obtain ⟨a6, h⟩ := s
    dsimp only [Sum.elim_inl, Sum.elim_inr, jt2, jt3, jt4, jt5, jt6, jt7, jt8] at hs
    obtain ⟨q0, q1, fr, bb⟩ := hs
    unfold gX1_holds_b64
    refine OK_jt2 ?_
    have W1 := wkL_fr w fr bb
    have L1 := lwX_fr x4 l fr
    have e16 : h 200 16 = h0 200 16 := fr _ _ (by omega) (by omega)
    have X4 : isX4 (h 200 16) := by { rw [e16]; exact x4 }
    obtain ⟨l1, l2, l3, l4, l5, l6⟩ := L1
    have bk := bsK_r (lk i1 1)
    refine OK_if (fun c1 => ?_) (fun c1 => ?_)
    · skip
      try simp (disch := omega) only [jst_eq, jst_ne, jst_ni, jI_i, jcmp_lt, jcmp_gt, w32_id, jcpy_out, Sum.elim_inl, Sum.elim_inr, jt2, jt3, jt4, jt5, jt6, jt7, jt8] at c1
      refine OK_ir ?_
      try dsimp only [Sum.elim_inl, Sum.elim_inr, jt2, jt3, jt4, jt5, jt6, jt7, jt8]
      refine ⟨?_, ?_⟩
      · (intro y y0 y1; exact q1 y y0 (by omega)) -- o1 e1.1
      · exact ⟨fr, bb⟩ -- o2 e1.2
    · skip
      try simp (disch := omega) only [jst_eq, jst_ne, jst_ni, jI_i, jcmp_lt, jcmp_gt, w32_id, jcpy_out, Sum.elim_inl, Sum.elim_inr, jt2, jt3, jt4, jt5, jt6, jt7, jt8] at c1
      have vy : nn i1 = 2 → vlR (lk i1 1) a6 := fun y => by { have k1 := l4 1 (by decide) (by omega); have e := b.2.2.2; rw [if_pos y] at e; exact bs_vl k1.2.1 k1.2.2 q0.1 (by omega) }
      refine OK_jg (by (first | assumption | omega | ((try dsimp only [jt2, jt3, jt4]); first | omega | (simp (disch := omega) only [jst_eq, jst_ne, jst_ni, jst_o, jI_i, jcpy_out, w32_id, jdiv_nn, jshr_k, jand_255] <;> first | done | omega | assumption)) | (intros; simp (disch := omega) only [jst_eq, jst_ne, jst_ni, jst_o, jI_i, jcpy_out, w32_id, jdiv_nn, *] <;> first | done | omega) | (intros; simp (disch := omega) only [jst_eq, jst_ne, jst_ni, jst_o, jI_i, jcpy_out, w32_id, jdiv_nn] at * <;> first | done | omega | assumption) | (intros; first | rfl | (exfalso; omega) | ((repeat' apply And.intro) <;> first | assumption | rfl | omega | trivial)))) ?_ -- o3
      refine OK_jb2 (vX1_side (E := E) (Rf := Rf) (W := W) (f := f) (np := nn i1) (kp := lk i1) (hl := hl) _ _ _ (by exact W1) (by exact l5) (by exact ⟨l1, l2⟩) (by exact ⟨b.2.2.1, vy⟩) (by (first | assumption | omega | ((try dsimp only [jt2, jt3, jt4]); first | omega | (simp (disch := omega) only [jst_eq, jst_ne, jst_ni, jst_o, jI_i, jcpy_out, w32_id, jdiv_nn, jshr_k, jand_255] <;> first | done | omega | assumption)) | (intros; simp (disch := omega) only [jst_eq, jst_ne, jst_ni, jst_o, jI_i, jcpy_out, w32_id, jdiv_nn, *] <;> first | done | omega) | (intros; simp (disch := omega) only [jst_eq, jst_ne, jst_ni, jst_o, jI_i, jcpy_out, w32_id, jdiv_nn] at * <;> first | done | omega | assumption) | (intros; first | rfl | (exfalso; omega) | ((repeat' apply And.intro) <;> first | assumption | rfl | omega | trivial))))) (fun v19 h20 r1 => ?_)
      try dsimp only [Sum.elim_inl, Sum.elim_inr, jt2, jt3, jt4, jt5, jt6, jt7, jt8] at r1
      obtain ⟨ev1, fs1, bs1⟩ := r1
      try simp (disch := omega) only [jst_eq, jst_ne, jst_ni, jI_i, jcmp_lt, jcmp_gt, w32_id, jcpy_out, Sum.elim_inl, Sum.elim_inr, jt2, jt3, jt4, jt5, jt6, jt7, jt8] at ev1
      try simp (disch := omega) only [jst_eq, jst_ne, jst_ni, jI_i, jcmp_lt, jcmp_gt, w32_id, jcpy_out, Sum.elim_inl, Sum.elim_inr, jt2, jt3, jt4, jt5, jt6, jt7, jt8] at fs1
      try simp (disch := omega) only [jst_eq, jst_ne, jst_ni, jI_i, jcmp_lt, jcmp_gt, w32_id, jcpy_out, Sum.elim_inl, Sum.elim_inr, jt2, jt3, jt4, jt5, jt6, jt7, jt8] at bs1
      have L20 := lwX_fr X4 (l := i1) (nn := nn) (lk := lk) (LL := LL) (LR := LR) (E := E) ⟨l1, l2, l3, l4, l5, l6⟩ fs1
      have W20 := wkL_fr W1 fs1 bs1
      have e20 : h20 200 16 = h 200 16 := fs1 _ _ (by omega) (by omega)
      refine OK_jb2 (vX1_side (E := E) (Rf := Rf) (W := W) (f := f) (np := nn i1) (kp := lk i1) (hl := hl) _ _ _ (by exact W20) (by exact L20.2.2.2.2.2) (by exact ⟨l1, l2⟩) (by exact ⟨b.2.2.1, vy⟩) (by (rw [e20]; exact X4))) (fun v22 h23 r2 => ?_)
      try dsimp only [Sum.elim_inl, Sum.elim_inr, jt2, jt3, jt4, jt5, jt6, jt7, jt8] at r2
      obtain ⟨ev2, fs2, bs2⟩ := r2
      try simp (disch := omega) only [jst_eq, jst_ne, jst_ni, jI_i, jcmp_lt, jcmp_gt, w32_id, jcpy_out, Sum.elim_inl, Sum.elim_inr, jt2, jt3, jt4, jt5, jt6, jt7, jt8] at ev2
      try simp (disch := omega) only [jst_eq, jst_ne, jst_ni, jI_i, jcmp_lt, jcmp_gt, w32_id, jcpy_out, Sum.elim_inl, Sum.elim_inr, jt2, jt3, jt4, jt5, jt6, jt7, jt8] at fs2
      try simp (disch := omega) only [jst_eq, jst_ne, jst_ni, jI_i, jcmp_lt, jcmp_gt, w32_id, jcpy_out, Sum.elim_inl, Sum.elim_inr, jt2, jt3, jt4, jt5, jt6, jt7, jt8] at bs2
      have F23 := f269_tr fr (f269_tr fs1 fs2)
      refine OK_if (fun c2 => ?_) (fun c2 => ?_)
      · skip
        try simp (disch := omega) only [jst_eq, jst_ne, jst_ni, jI_i, jcmp_lt, jcmp_gt, w32_id, jcpy_out, Sum.elim_inl, Sum.elim_inr, jt2, jt3, jt4, jt5, jt6, jt7, jt8] at c2
        refine OK_jlx (fun x25 ex25 => ?_)
        try simp (disch := omega) only [jst_eq, jst_ne, jst_ni, jI_i, jcmp_lt, jcmp_gt, w32_id, jcpy_out, Sum.elim_inl, Sum.elim_inr, jt2, jt3, jt4, jt5, jt6, jt7, jt8] at ex25
        refine OK_il ?_ ?_
        · try dsimp only [Sum.elim_inl, Sum.elim_inr, jt2, jt3, jt4, jt5, jt6, jt7, jt8]
          refine ⟨?_, ?_, ?_, ?_⟩
          · (first | assumption | omega | ((try dsimp only [jt2, jt3, jt4]); first | omega | (simp (disch := omega) only [jst_eq, jst_ne, jst_ni, jst_o, jI_i, jcpy_out, w32_id, jdiv_nn, jshr_k, jand_255] <;> first | done | omega | assumption)) | (intros; simp (disch := omega) only [jst_eq, jst_ne, jst_ni, jst_o, jI_i, jcpy_out, w32_id, jdiv_nn, *] <;> first | done | omega) | (intros; simp (disch := omega) only [jst_eq, jst_ne, jst_ni, jst_o, jI_i, jcpy_out, w32_id, jdiv_nn] at * <;> first | done | omega | assumption) | (intros; first | rfl | (exfalso; omega) | ((repeat' apply And.intro) <;> first | assumption | rfl | omega | trivial))) -- o14 e2i.1
          · (intro y y0 y1; by_cases z : y = a6; { rw [z, ← ev1, ← ev2]; assumption }; { exact q1 y y0 (by omega) }) -- o15 e2i.2
          · exact F23 -- o16 e2i.3
          · exact bs2 -- o17 e2i.4
        · (first | assumption | omega | ((try dsimp only [jt2, jt3, jt4]); first | omega | (simp (disch := omega) only [jst_eq, jst_ne, jst_ni, jst_o, jI_i, jcpy_out, w32_id, jdiv_nn, jshr_k, jand_255] <;> first | done | omega | assumption)) | (intros; simp (disch := omega) only [jst_eq, jst_ne, jst_ni, jst_o, jI_i, jcpy_out, w32_id, jdiv_nn, *] <;> first | done | omega) | (intros; simp (disch := omega) only [jst_eq, jst_ne, jst_ni, jst_o, jI_i, jcpy_out, w32_id, jdiv_nn] at * <;> first | done | omega | assumption) | (intros; first | rfl | (exfalso; omega) | ((repeat' apply And.intro) <;> first | assumption | rfl | omega | trivial))) -- o18 e2m
      · skip
        try simp (disch := omega) only [jst_eq, jst_ne, jst_ni, jI_i, jcmp_lt, jcmp_gt, w32_id, jcpy_out, Sum.elim_inl, Sum.elim_inr, jt2, jt3, jt4, jt5, jt6, jt7, jt8] at c2
        refine OK_ir ?_
        try dsimp only [Sum.elim_inl, Sum.elim_inr, jt2, jt3, jt4, jt5, jt6, jt7, jt8]
        refine ⟨?_, ?_⟩
        · (refine ⟨a6, q0.1, by omega, ?_⟩; rw [← ev1, ← ev2]; assumption) -- o19 e3.1
        · exact ⟨F23, bs2⟩ -- o20 e3.2
  · try dsimp only [Sum.elim_inl, Sum.elim_inr, jt2, jt3, jt4, jt5, jt6, jt7, jt8]
    refine ⟨?_, ?_, ?_, ?_⟩
    · (have e := b.2.2.2; by_cases y : nn i1 = 2; { rw [if_pos y] at e; have := bsK_r (lk i1 1); omega }; { rw [if_neg y] at e; omega }) -- o21 init.1
    · (first | assumption | omega | ((try dsimp only [jt2, jt3, jt4]); first | omega | (simp (disch := omega) only [jst_eq, jst_ne, jst_ni, jst_o, jI_i, jcpy_out, w32_id, jdiv_nn, jshr_k, jand_255] <;> first | done | omega | assumption)) | (intros; simp (disch := omega) only [jst_eq, jst_ne, jst_ni, jst_o, jI_i, jcpy_out, w32_id, jdiv_nn, *] <;> first | done | omega) | (intros; simp (disch := omega) only [jst_eq, jst_ne, jst_ni, jst_o, jI_i, jcpy_out, w32_id, jdiv_nn] at * <;> first | done | omega | assumption) | (intros; first | rfl | (exfalso; omega) | ((repeat' apply And.intro) <;> first | assumption | rfl | omega | trivial))) -- o22 init.2
    · exact f269_rfl -- o23 init.3
    · exact w.2.2.2 -- o24 init.4
theorem vX1_holds_l55 (i1 : Int) (i3 : Int) (i4 : Int) (a50 : Int) {h0 : AH} {E : EV} {Rf : Int → TR} {W : Int → Int → Int → VW} {f : Int → Int → Int → Int} {hl : Int → Int} {nn : Int → Int} {lk : Int → Int → Int} {LL LR : Int → TR} (w : wkL h0 E Rf W f hl) (x4 : isX4 (h0 200 16)) (l : lwX h0 E nn lk LL LR i1) (b : 0 ≤ i1 ∧ i1 < 4 ∧ i3 = bsK (lk i1 0) ∧ i4 = if nn i1 = 2 then bsK (lk i1 1) else 1) (z : a50 = 0) : OK (gX1_holds_l55 i1 i3 i4 a50 h0) (Sum.elim (fun h' => (∃ x y, 0 ≤ x ∧ x < i3 ∧ 0 ≤ y ∧ y < i4 ∧ (evT W f (pr2 x y) hl (LL i1)).1 ≠ (evT W f (pr2 x y) hl (LR i1)).1) ∧ (f269 h0 h' ∧ -2147483648 ≤ h' 200 10 ∧ h' 200 10 < 2147483648)) (fun h' => (∀ x y, 0 ≤ x → x < i3 → 0 ≤ y → y < i4 → (evT W f (pr2 x y) hl (LL i1)).1 = (evT W f (pr2 x y) hl (LR i1)).1) ∧ (f269 h0 h' ∧ -2147483648 ≤ h' 200 10 ∧ h' 200 10 < 2147483648))) := by
  unfold gX1_holds_l55
  refine OK_jit (I := (fun (s : Int × AH) => jt2 s fun a5 h => (0 ≤ a5 ∧ a5 ≤ i3) ∧ (∀ x y, 0 ≤ x → x < a5 → 0 ≤ y → y < i4 → (evT W f (pr2 x y) hl (LL i1)).1 = (evT W f (pr2 x y) hl (LR i1)).1) ∧ (f269 h0 h) ∧ (-2147483648 ≤ h 200 10 ∧ h 200 10 < 2147483648))) (m := (fun (s : Int × AH) => jt2 s fun a5 h => (i3 - a5).toNat)) ?_ ?_
  · intro s hs
    obtain ⟨a5, h⟩ := s
    dsimp only [Sum.elim_inl, Sum.elim_inr, jt2, jt3, jt4, jt5, jt6, jt7, jt8] at hs
    obtain ⟨q0, q1, fr, bb⟩ := hs
    unfold gX1_holds_b55
    refine OK_jt2 ?_
    have W1 := wkL_fr w fr bb
    have L1 := lwX_fr x4 l fr
    have e16 : h 200 16 = h0 200 16 := fr _ _ (by omega) (by omega)
    have X4 : isX4 (h 200 16) := by { rw [e16]; exact x4 }
    have k0 := L1.2.2.2.1 0 (by decide) (by have := L1.1; omega)
    have bk := bsK_r (lk i1 0)
    refine OK_if (fun c1 => ?_) (fun c1 => ?_)
    · skip
      try simp (disch := omega) only [jst_eq, jst_ne, jst_ni, jI_i, jcmp_lt, jcmp_gt, w32_id, jcpy_out, Sum.elim_inl, Sum.elim_inr, jt2, jt3, jt4, jt5, jt6, jt7, jt8] at c1
      refine OK_ir ?_
      try dsimp only [Sum.elim_inl, Sum.elim_inr, jt2, jt3, jt4, jt5, jt6, jt7, jt8]
      refine ⟨?_, ?_⟩
      · (intro x y x0 x1 y0 y1; exact q1 x y x0 (by omega) y0 y1) -- o1 e1.1
      · exact ⟨fr, bb⟩ -- o2 e1.2
    · skip
      try simp (disch := omega) only [jst_eq, jst_ne, jst_ni, jI_i, jcmp_lt, jcmp_gt, w32_id, jcpy_out, Sum.elim_inl, Sum.elim_inr, jt2, jt3, jt4, jt5, jt6, jt7, jt8] at c1
      refine OK_jb (vX1_holds_l64 (E := E) (Rf := Rf) (W := W) (f := f) (hl := hl) (nn := nn) (lk := lk) (LL := LL) (LR := LR) _ _ _ _ _ (by exact W1) (by exact X4) (by exact L1) (by exact ⟨b.1, b.2.1, bs_vl k0.2.1 k0.2.2 q0.1 (by omega), b.2.2.2⟩) (by (first | assumption | omega | ((try dsimp only [jt2, jt3, jt4]); first | omega | (simp (disch := omega) only [jst_eq, jst_ne, jst_ni, jst_o, jI_i, jcpy_out, w32_id, jdiv_nn, jshr_k, jand_255] <;> first | done | omega | assumption)) | (intros; simp (disch := omega) only [jst_eq, jst_ne, jst_ni, jst_o, jI_i, jcpy_out, w32_id, jdiv_nn, *] <;> first | done | omega) | (intros; simp (disch := omega) only [jst_eq, jst_ne, jst_ni, jst_o, jI_i, jcpy_out, w32_id, jdiv_nn] at * <;> first | done | omega | assumption) | (intros; first | rfl | (exfalso; omega) | ((repeat' apply And.intro) <;> first | assumption | rfl | omega | trivial))))) (fun o12 r1 => ?_)
      rcases o12 with o14 | o15
      · skip
        have r2 := r1; clear r1
        dsimp only [Sum.elim_inl, Sum.elim_inr] at r2
        try dsimp only [Sum.elim_inl, Sum.elim_inr, jt2, jt3, jt4, jt5, jt6, jt7, jt8] at r2
        obtain ⟨ne1, fs1⟩ := r2
        try simp (disch := omega) only [jst_eq, jst_ne, jst_ni, jI_i, jcmp_lt, jcmp_gt, w32_id, jcpy_out, Sum.elim_inl, Sum.elim_inr, jt2, jt3, jt4, jt5, jt6, jt7, jt8] at ne1
        try simp (disch := omega) only [jst_eq, jst_ne, jst_ni, jI_i, jcmp_lt, jcmp_gt, w32_id, jcpy_out, Sum.elim_inl, Sum.elim_inr, jt2, jt3, jt4, jt5, jt6, jt7, jt8] at fs1
        refine OK_jml ?_
        refine OK_ir ?_
        try dsimp only [Sum.elim_inl, Sum.elim_inr, jt2, jt3, jt4, jt5, jt6, jt7, jt8]
        refine ⟨?_, ?_⟩
        · (obtain ⟨y, y0, y1, y2⟩ := ne1; exact ⟨a5, y, q0.1, by omega, y0, y1, y2⟩) -- o8 e2.1
        · exact ⟨f269_tr fr fs1.1, fs1.2⟩ -- o9 e2.2
      · skip
        have r3 := r1; clear r1
        dsimp only [Sum.elim_inl, Sum.elim_inr] at r3
        try dsimp only [Sum.elim_inl, Sum.elim_inr, jt2, jt3, jt4, jt5, jt6, jt7, jt8] at r3
        obtain ⟨al2, fs2⟩ := r3
        try simp (disch := omega) only [jst_eq, jst_ne, jst_ni, jI_i, jcmp_lt, jcmp_gt, w32_id, jcpy_out, Sum.elim_inl, Sum.elim_inr, jt2, jt3, jt4, jt5, jt6, jt7, jt8] at al2
        try simp (disch := omega) only [jst_eq, jst_ne, jst_ni, jI_i, jcmp_lt, jcmp_gt, w32_id, jcpy_out, Sum.elim_inl, Sum.elim_inr, jt2, jt3, jt4, jt5, jt6, jt7, jt8] at fs2
        refine OK_jmr ?_
        refine OK_jlx (fun x16 ex16 => ?_)
        try simp (disch := omega) only [jst_eq, jst_ne, jst_ni, jI_i, jcmp_lt, jcmp_gt, w32_id, jcpy_out, Sum.elim_inl, Sum.elim_inr, jt2, jt3, jt4, jt5, jt6, jt7, jt8] at ex16
        refine OK_il ?_ ?_
        · try dsimp only [Sum.elim_inl, Sum.elim_inr, jt2, jt3, jt4, jt5, jt6, jt7, jt8]
          refine ⟨?_, ?_, ?_, ?_⟩
          · (first | assumption | omega | ((try dsimp only [jt2, jt3, jt4]); first | omega | (simp (disch := omega) only [jst_eq, jst_ne, jst_ni, jst_o, jI_i, jcpy_out, w32_id, jdiv_nn, jshr_k, jand_255] <;> first | done | omega | assumption)) | (intros; simp (disch := omega) only [jst_eq, jst_ne, jst_ni, jst_o, jI_i, jcpy_out, w32_id, jdiv_nn, *] <;> first | done | omega) | (intros; simp (disch := omega) only [jst_eq, jst_ne, jst_ni, jst_o, jI_i, jcpy_out, w32_id, jdiv_nn] at * <;> first | done | omega | assumption) | (intros; first | rfl | (exfalso; omega) | ((repeat' apply And.intro) <;> first | assumption | rfl | omega | trivial))) -- o10 e3i.1
          · (intro x y x0 x1 y0 y1; by_cases z : x = a5; { rw [z]; exact al2 y y0 y1 }; { exact q1 x y x0 (by omega) y0 y1 }) -- o11 e3i.2
          · exact f269_tr fr fs2.1 -- o12 e3i.3
          · exact fs2.2 -- o13 e3i.4
        · (first | assumption | omega | ((try dsimp only [jt2, jt3, jt4]); first | omega | (simp (disch := omega) only [jst_eq, jst_ne, jst_ni, jst_o, jI_i, jcpy_out, w32_id, jdiv_nn, jshr_k, jand_255] <;> first | done | omega | assumption)) | (intros; simp (disch := omega) only [jst_eq, jst_ne, jst_ni, jst_o, jI_i, jcpy_out, w32_id, jdiv_nn, *] <;> first | done | omega) | (intros; simp (disch := omega) only [jst_eq, jst_ne, jst_ni, jst_o, jI_i, jcpy_out, w32_id, jdiv_nn] at * <;> first | done | omega | assumption) | (intros; first | rfl | (exfalso; omega) | ((repeat' apply And.intro) <;> first | assumption | rfl | omega | trivial))) -- o14 e3m
  · try dsimp only [Sum.elim_inl, Sum.elim_inr, jt2, jt3, jt4, jt5, jt6, jt7, jt8]
    refine ⟨?_, ?_, ?_, ?_⟩
    · (have := bsK_r (lk i1 0); omega) -- o15 init.1
    · (first | assumption | omega | ((try dsimp only [jt2, jt3, jt4]); first | omega | (simp (disch := omega) only [jst_eq, jst_ne, jst_ni, jst_o, jI_i, jcpy_out, w32_id, jdiv_nn, jshr_k, jand_255] <;> first | done | omega | assumption)) | (intros; simp (disch := omega) only [jst_eq, jst_ne, jst_ni, jst_o, jI_i, jcpy_out, w32_id, jdiv_nn, *] <;> first | done | omega) | (intros; simp (disch := omega) only [jst_eq, jst_ne, jst_ni, jst_o, jI_i, jcpy_out, w32_id, jdiv_nn] at * <;> first | done | omega | assumption) | (intros; first | rfl | (exfalso; omega) | ((repeat' apply And.intro) <;> first | assumption | rfl | omega | trivial))) -- o16 init.2
    · exact f269_rfl -- o17 init.3
    · exact w.2.2.2 -- o18 init.4
def lwH (W : Int → Int → Int → VW) (f : Int → Int → Int → Int) (hl : Int → Int) (nn : Int → Int) (lk : Int → Int → Int) (LL LR : Int → TR) (l : Int) : Prop := lwA W f hl (bsK (lk l 0)) (if nn l = 2 then bsK (lk l 1) else 1) (LL l) (LR l)
theorem vX1_holds_j50 (a1 : Int) (a3 : Int) (t0 : Int) {h : AH} {E : EV} {Rf : Int → TR} {W : Int → Int → Int → VW} {f : Int → Int → Int → Int} {hl : Int → Int} {nn : Int → Int} {lk : Int → Int → Int} {LL LR : Int → TR} (w : wkL h E Rf W f hl) (x4 : isX4 (h 200 16)) (l : lwX h E nn lk LL LR a1) (b : 0 ≤ a1 ∧ a1 < 4 ∧ a3 = bsK (lk a1 0) ∧ t0 = if nn a1 = 2 then bsK (lk a1 1) else 1) : OK (gX1_holds_j50 a1 a3 t0 h) (fun r => jt2 r fun v h' => ((v = 1 ∧ lwH W f hl nn lk LL LR a1) ∨ (v = 0 ∧ ¬ lwH W f hl nn lk LL LR a1)) ∧ (f269 h h' ∧ -2147483648 ≤ h' 200 10 ∧ h' 200 10 < 2147483648)) := by
  unfold gX1_holds_j50
  refine OK_jb (vX1_holds_l55 (E := E) (Rf := Rf) (W := W) (f := f) (hl := hl) (nn := nn) (lk := lk) (LL := LL) (LR := LR) _ _ _ _ (by (first | assumption | omega | ((try dsimp only [jt2, jt3, jt4]); first | omega | (simp (disch := omega) only [jst_eq, jst_ne, jst_ni, jst_o, jI_i, jcpy_out, w32_id, jdiv_nn, jshr_k, jand_255] <;> first | done | omega | assumption)) | (intros; simp (disch := omega) only [jst_eq, jst_ne, jst_ni, jst_o, jI_i, jcpy_out, w32_id, jdiv_nn, *] <;> first | done | omega) | (intros; simp (disch := omega) only [jst_eq, jst_ne, jst_ni, jst_o, jI_i, jcpy_out, w32_id, jdiv_nn] at * <;> first | done | omega | assumption) | (intros; first | rfl | (exfalso; omega) | ((repeat' apply And.intro) <;> first | assumption | rfl | omega | trivial)))) (by (first | assumption | omega | ((try dsimp only [jt2, jt3, jt4]); first | omega | (simp (disch := omega) only [jst_eq, jst_ne, jst_ni, jst_o, jI_i, jcpy_out, w32_id, jdiv_nn, jshr_k, jand_255] <;> first | done | omega | assumption)) | (intros; simp (disch := omega) only [jst_eq, jst_ne, jst_ni, jst_o, jI_i, jcpy_out, w32_id, jdiv_nn, *] <;> first | done | omega) | (intros; simp (disch := omega) only [jst_eq, jst_ne, jst_ni, jst_o, jI_i, jcpy_out, w32_id, jdiv_nn] at * <;> first | done | omega | assumption) | (intros; first | rfl | (exfalso; omega) | ((repeat' apply And.intro) <;> first | assumption | rfl | omega | trivial)))) (by (first | assumption | omega | ((try dsimp only [jt2, jt3, jt4]); first | omega | (simp (disch := omega) only [jst_eq, jst_ne, jst_ni, jst_o, jI_i, jcpy_out, w32_id, jdiv_nn, jshr_k, jand_255] <;> first | done | omega | assumption)) | (intros; simp (disch := omega) only [jst_eq, jst_ne, jst_ni, jst_o, jI_i, jcpy_out, w32_id, jdiv_nn, *] <;> first | done | omega) | (intros; simp (disch := omega) only [jst_eq, jst_ne, jst_ni, jst_o, jI_i, jcpy_out, w32_id, jdiv_nn] at * <;> first | done | omega | assumption) | (intros; first | rfl | (exfalso; omega) | ((repeat' apply And.intro) <;> first | assumption | rfl | omega | trivial)))) (by (first | assumption | omega | ((try dsimp only [jt2, jt3, jt4]); first | omega | (simp (disch := omega) only [jst_eq, jst_ne, jst_ni, jst_o, jI_i, jcpy_out, w32_id, jdiv_nn, jshr_k, jand_255] <;> first | done | omega | assumption)) | (intros; simp (disch := omega) only [jst_eq, jst_ne, jst_ni, jst_o, jI_i, jcpy_out, w32_id, jdiv_nn, *] <;> first | done | omega) | (intros; simp (disch := omega) only [jst_eq, jst_ne, jst_ni, jst_o, jI_i, jcpy_out, w32_id, jdiv_nn] at * <;> first | done | omega | assumption) | (intros; first | rfl | (exfalso; omega) | ((repeat' apply And.intro) <;> first | assumption | rfl | omega | trivial)))) (by (first | assumption | omega | ((try dsimp only [jt2, jt3, jt4]); first | omega | (simp (disch := omega) only [jst_eq, jst_ne, jst_ni, jst_o, jI_i, jcpy_out, w32_id, jdiv_nn, jshr_k, jand_255] <;> first | done | omega | assumption)) | (intros; simp (disch := omega) only [jst_eq, jst_ne, jst_ni, jst_o, jI_i, jcpy_out, w32_id, jdiv_nn, *] <;> first | done | omega) | (intros; simp (disch := omega) only [jst_eq, jst_ne, jst_ni, jst_o, jI_i, jcpy_out, w32_id, jdiv_nn] at * <;> first | done | omega | assumption) | (intros; first | rfl | (exfalso; omega) | ((repeat' apply And.intro) <;> first | assumption | rfl | omega | trivial))))) (fun o7 r1 => ?_)
  rcases o7 with o9 | o10
  · skip
    have r2 := r1; clear r1
    dsimp only [Sum.elim_inl, Sum.elim_inr] at r2
    try dsimp only [Sum.elim_inl, Sum.elim_inr, jt2, jt3, jt4, jt5, jt6, jt7, jt8] at r2
    obtain ⟨ne1, fs1⟩ := r2
    try simp (disch := omega) only [jst_eq, jst_ne, jst_ni, jI_i, jcmp_lt, jcmp_gt, w32_id, jcpy_out, Sum.elim_inl, Sum.elim_inr, jt2, jt3, jt4, jt5, jt6, jt7, jt8] at ne1
    try simp (disch := omega) only [jst_eq, jst_ne, jst_ni, jI_i, jcmp_lt, jcmp_gt, w32_id, jcpy_out, Sum.elim_inl, Sum.elim_inr, jt2, jt3, jt4, jt5, jt6, jt7, jt8] at fs1
    refine OK_jml ?_
    refine OK_some ?_
    try dsimp only [Sum.elim_inl, Sum.elim_inr, jt2, jt3, jt4, jt5, jt6, jt7, jt8]
    try dsimp only [Sum.elim_inl, Sum.elim_inr, jt2, jt3, jt4, jt5, jt6, jt7, jt8]
    refine ⟨?_, ?_⟩
    · (refine Or.inr ⟨rfl, fun z => ?_⟩; obtain ⟨x, y, x0, x1, y0, y1, n⟩ := ne1; exact n (z x y x0 (by rw [← b.2.2.1]; exact x1) y0 (by rw [← b.2.2.2]; exact y1))) -- o6 e1.1
    · (first | assumption | omega | ((try dsimp only [jt2, jt3, jt4]); first | omega | (simp (disch := omega) only [jst_eq, jst_ne, jst_ni, jst_o, jI_i, jcpy_out, w32_id, jdiv_nn, jshr_k, jand_255] <;> first | done | omega | assumption)) | (intros; simp (disch := omega) only [jst_eq, jst_ne, jst_ni, jst_o, jI_i, jcpy_out, w32_id, jdiv_nn, *] <;> first | done | omega) | (intros; simp (disch := omega) only [jst_eq, jst_ne, jst_ni, jst_o, jI_i, jcpy_out, w32_id, jdiv_nn] at * <;> first | done | omega | assumption) | (intros; first | rfl | (exfalso; omega) | ((repeat' apply And.intro) <;> first | assumption | rfl | omega | trivial))) -- o7 e1.2
  · skip
    have r3 := r1; clear r1
    dsimp only [Sum.elim_inl, Sum.elim_inr] at r3
    try dsimp only [Sum.elim_inl, Sum.elim_inr, jt2, jt3, jt4, jt5, jt6, jt7, jt8] at r3
    obtain ⟨al2, fs2⟩ := r3
    try simp (disch := omega) only [jst_eq, jst_ne, jst_ni, jI_i, jcmp_lt, jcmp_gt, w32_id, jcpy_out, Sum.elim_inl, Sum.elim_inr, jt2, jt3, jt4, jt5, jt6, jt7, jt8] at al2
    try simp (disch := omega) only [jst_eq, jst_ne, jst_ni, jI_i, jcmp_lt, jcmp_gt, w32_id, jcpy_out, Sum.elim_inl, Sum.elim_inr, jt2, jt3, jt4, jt5, jt6, jt7, jt8] at fs2
    refine OK_jmr ?_
    refine OK_some ?_
    try dsimp only [Sum.elim_inl, Sum.elim_inr, jt2, jt3, jt4, jt5, jt6, jt7, jt8]
    try dsimp only [Sum.elim_inl, Sum.elim_inr, jt2, jt3, jt4, jt5, jt6, jt7, jt8]
    refine ⟨?_, ?_⟩
    · (refine Or.inl ⟨rfl, fun x y x0 x1 y0 y1 => al2 x y x0 (by rw [b.2.2.1]; exact x1) y0 (by rw [b.2.2.2]; exact y1)⟩) -- o8 e2.1
    · (first | assumption | omega | ((try dsimp only [jt2, jt3, jt4]); first | omega | (simp (disch := omega) only [jst_eq, jst_ne, jst_ni, jst_o, jI_i, jcpy_out, w32_id, jdiv_nn, jshr_k, jand_255] <;> first | done | omega | assumption)) | (intros; simp (disch := omega) only [jst_eq, jst_ne, jst_ni, jst_o, jI_i, jcpy_out, w32_id, jdiv_nn, *] <;> first | done | omega) | (intros; simp (disch := omega) only [jst_eq, jst_ne, jst_ni, jst_o, jI_i, jcpy_out, w32_id, jdiv_nn] at * <;> first | done | omega | assumption) | (intros; first | rfl | (exfalso; omega) | ((repeat' apply And.intro) <;> first | assumption | rfl | omega | trivial))) -- o9 e2.2
theorem vX1_holds (a1 : Int) {h : AH} {E : EV} {Rf : Int → TR} {W : Int → Int → Int → VW} {f : Int → Int → Int → Int} {hl : Int → Int} {nn : Int → Int} {lk : Int → Int → Int} {LL LR : Int → TR} (w : wkL h E Rf W f hl) (x4 : isX4 (h 200 16)) (l : lwX h E nn lk LL LR a1) (b : 0 ≤ a1 ∧ a1 < 4) : OK (gX1_holds a1 h) (fun r => jt2 r fun v h' => ((v = 1 ∧ lwH W f hl nn lk LL LR a1) ∨ (v = 0 ∧ ¬ lwH W f hl nn lk LL LR a1)) ∧ (f269 h h' ∧ -2147483648 ≤ h' 200 10 ∧ h' 200 10 < 2147483648)) := by
  have l1 := l.1
  have l2 := l.2.1
  have l3 := l.2.2.1
  have k0 := l.2.2.2.1 0 (by decide) (by omega)
  have w2 : w32 (2 * a1) = 2 * a1 := w32_id (by omega) (by omega)
  have k00 : h (h 200 16 + 11) (2 * a1) = lk a1 0 := by { have := k0.1; rw [Int.add_zero] at this; exact this }
  unfold gX1_holds
  refine OK_jg (by (first | assumption | omega | ((try dsimp only [jt2, jt3, jt4]); first | omega | (simp (disch := omega) only [jst_eq, jst_ne, jst_ni, jst_o, jI_i, jcpy_out, w32_id, jdiv_nn, jshr_k, jand_255] <;> first | done | omega | assumption)) | (intros; simp (disch := omega) only [jst_eq, jst_ne, jst_ni, jst_o, jI_i, jcpy_out, w32_id, jdiv_nn, *] <;> first | done | omega) | (intros; simp (disch := omega) only [jst_eq, jst_ne, jst_ni, jst_o, jI_i, jcpy_out, w32_id, jdiv_nn] at * <;> first | done | omega | assumption) | (intros; first | rfl | (exfalso; omega) | ((repeat' apply And.intro) <;> first | assumption | rfl | omega | trivial)))) ?_ -- o1
  refine OK_jlx (fun x1 ex1 => ?_)
  try simp (disch := omega) only [jst_eq, jst_ne, jst_ni, jI_i, jcmp_lt, jcmp_gt, w32_id, jcpy_out, Sum.elim_inl, Sum.elim_inr, jt2, jt3, jt4, jt5, jt6, jt7, jt8] at ex1
  refine OK_jg (by (first | assumption | omega | ((try dsimp only [jt2, jt3, jt4]); first | omega | (simp (disch := omega) only [jst_eq, jst_ne, jst_ni, jst_o, jI_i, jcpy_out, w32_id, jdiv_nn, jshr_k, jand_255] <;> first | done | omega | assumption)) | (intros; simp (disch := omega) only [jst_eq, jst_ne, jst_ni, jst_o, jI_i, jcpy_out, w32_id, jdiv_nn, *] <;> first | done | omega) | (intros; simp (disch := omega) only [jst_eq, jst_ne, jst_ni, jst_o, jI_i, jcpy_out, w32_id, jdiv_nn] at * <;> first | done | omega | assumption) | (intros; first | rfl | (exfalso; omega) | ((repeat' apply And.intro) <;> first | assumption | rfl | omega | trivial)))) ?_ -- o2
  refine OK_jb (vX4_valuesOf _) (fun v3 r1 => ?_)
  try dsimp only [Sum.elim_inl, Sum.elim_inr, jt2, jt3, jt4, jt5, jt6, jt7, jt8] at r1
  have bv1 := r1
  clear r1
  try simp (disch := omega) only [jst_eq, jst_ne, jst_ni, jI_i, jcmp_lt, jcmp_gt, w32_id, jcpy_out, Sum.elim_inl, Sum.elim_inr, jt2, jt3, jt4, jt5, jt6, jt7, jt8] at bv1
  have bvA : v3 = bsK (lk a1 0) := by { rw [bv1]; first | rw [k00] | rw [w2, k00] }
  refine OK_if (fun c1 => ?_) (fun c1 => ?_)
  · skip
    try simp (disch := omega) only [jst_eq, jst_ne, jst_ni, jI_i, jcmp_lt, jcmp_gt, w32_id, jcpy_out, Sum.elim_inl, Sum.elim_inr, jt2, jt3, jt4, jt5, jt6, jt7, jt8] at c1
    refine OK_mono (vX1_holds_j50 (E := E) (Rf := Rf) (W := W) (f := f) (hl := hl) (nn := nn) (lk := lk) (LL := LL) (LR := LR) _ _ _ (by (first | assumption | omega | ((try dsimp only [jt2, jt3, jt4]); first | omega | (simp (disch := omega) only [jst_eq, jst_ne, jst_ni, jst_o, jI_i, jcpy_out, w32_id, jdiv_nn, jshr_k, jand_255] <;> first | done | omega | assumption)) | (intros; simp (disch := omega) only [jst_eq, jst_ne, jst_ni, jst_o, jI_i, jcpy_out, w32_id, jdiv_nn, *] <;> first | done | omega) | (intros; simp (disch := omega) only [jst_eq, jst_ne, jst_ni, jst_o, jI_i, jcpy_out, w32_id, jdiv_nn] at * <;> first | done | omega | assumption) | (intros; first | rfl | (exfalso; omega) | ((repeat' apply And.intro) <;> first | assumption | rfl | omega | trivial)))) (by (first | assumption | omega | ((try dsimp only [jt2, jt3, jt4]); first | omega | (simp (disch := omega) only [jst_eq, jst_ne, jst_ni, jst_o, jI_i, jcpy_out, w32_id, jdiv_nn, jshr_k, jand_255] <;> first | done | omega | assumption)) | (intros; simp (disch := omega) only [jst_eq, jst_ne, jst_ni, jst_o, jI_i, jcpy_out, w32_id, jdiv_nn, *] <;> first | done | omega) | (intros; simp (disch := omega) only [jst_eq, jst_ne, jst_ni, jst_o, jI_i, jcpy_out, w32_id, jdiv_nn] at * <;> first | done | omega | assumption) | (intros; first | rfl | (exfalso; omega) | ((repeat' apply And.intro) <;> first | assumption | rfl | omega | trivial)))) (by (first | assumption | omega | ((try dsimp only [jt2, jt3, jt4]); first | omega | (simp (disch := omega) only [jst_eq, jst_ne, jst_ni, jst_o, jI_i, jcpy_out, w32_id, jdiv_nn, jshr_k, jand_255] <;> first | done | omega | assumption)) | (intros; simp (disch := omega) only [jst_eq, jst_ne, jst_ni, jst_o, jI_i, jcpy_out, w32_id, jdiv_nn, *] <;> first | done | omega) | (intros; simp (disch := omega) only [jst_eq, jst_ne, jst_ni, jst_o, jI_i, jcpy_out, w32_id, jdiv_nn] at * <;> first | done | omega | assumption) | (intros; first | rfl | (exfalso; omega) | ((repeat' apply And.intro) <;> first | assumption | rfl | omega | trivial)))) (by exact ⟨b.1, b.2, bvA, by rw [if_neg (by omega)]⟩)) (fun r r2 => ?_)
    obtain ⟨y1, y2⟩ := r
    try dsimp only [Sum.elim_inl, Sum.elim_inr, jt2, jt3, jt4, jt5, jt6, jt7, jt8] at r2
    obtain ⟨hv2, fs2⟩ := r2
    try simp (disch := omega) only [jst_eq, jst_ne, jst_ni, jI_i, jcmp_lt, jcmp_gt, w32_id, jcpy_out, Sum.elim_inl, Sum.elim_inr, jt2, jt3, jt4, jt5, jt6, jt7, jt8] at hv2
    try simp (disch := omega) only [jst_eq, jst_ne, jst_ni, jI_i, jcmp_lt, jcmp_gt, w32_id, jcpy_out, Sum.elim_inl, Sum.elim_inr, jt2, jt3, jt4, jt5, jt6, jt7, jt8] at fs2
    try dsimp only [Sum.elim_inl, Sum.elim_inr, jt2, jt3, jt4, jt5, jt6, jt7, jt8]
    try dsimp only [Sum.elim_inl, Sum.elim_inr, jt2, jt3, jt4, jt5, jt6, jt7, jt8]
    refine ⟨?_, ?_⟩
    · (first | assumption | omega | ((try dsimp only [jt2, jt3, jt4]); first | omega | (simp (disch := omega) only [jst_eq, jst_ne, jst_ni, jst_o, jI_i, jcpy_out, w32_id, jdiv_nn, jshr_k, jand_255] <;> first | done | omega | assumption)) | (intros; simp (disch := omega) only [jst_eq, jst_ne, jst_ni, jst_o, jI_i, jcpy_out, w32_id, jdiv_nn, *] <;> first | done | omega) | (intros; simp (disch := omega) only [jst_eq, jst_ne, jst_ni, jst_o, jI_i, jcpy_out, w32_id, jdiv_nn] at * <;> first | done | omega | assumption) | (intros; first | rfl | (exfalso; omega) | ((repeat' apply And.intro) <;> first | assumption | rfl | omega | trivial))) -- o7 e1.1
    · (first | assumption | omega | ((try dsimp only [jt2, jt3, jt4]); first | omega | (simp (disch := omega) only [jst_eq, jst_ne, jst_ni, jst_o, jI_i, jcpy_out, w32_id, jdiv_nn, jshr_k, jand_255] <;> first | done | omega | assumption)) | (intros; simp (disch := omega) only [jst_eq, jst_ne, jst_ni, jst_o, jI_i, jcpy_out, w32_id, jdiv_nn, *] <;> first | done | omega) | (intros; simp (disch := omega) only [jst_eq, jst_ne, jst_ni, jst_o, jI_i, jcpy_out, w32_id, jdiv_nn] at * <;> first | done | omega | assumption) | (intros; first | rfl | (exfalso; omega) | ((repeat' apply And.intro) <;> first | assumption | rfl | omega | trivial))) -- o8 e1.2
  · skip
    try simp (disch := omega) only [jst_eq, jst_ne, jst_ni, jI_i, jcmp_lt, jcmp_gt, w32_id, jcpy_out, Sum.elim_inl, Sum.elim_inr, jt2, jt3, jt4, jt5, jt6, jt7, jt8] at c1
    have k1 := l.2.2.2.1 1 (by decide) (by omega)
    have w21 : w32 (w32 (2 * a1) + 1) = 2 * a1 + 1 := by { rw [w2]; exact w32_id (by omega) (by omega) }
    refine OK_jg (by (first | assumption | omega | ((try dsimp only [jt2, jt3, jt4]); first | omega | (simp (disch := omega) only [jst_eq, jst_ne, jst_ni, jst_o, jI_i, jcpy_out, w32_id, jdiv_nn, jshr_k, jand_255] <;> first | done | omega | assumption)) | (intros; simp (disch := omega) only [jst_eq, jst_ne, jst_ni, jst_o, jI_i, jcpy_out, w32_id, jdiv_nn, *] <;> first | done | omega) | (intros; simp (disch := omega) only [jst_eq, jst_ne, jst_ni, jst_o, jI_i, jcpy_out, w32_id, jdiv_nn] at * <;> first | done | omega | assumption) | (intros; first | rfl | (exfalso; omega) | ((repeat' apply And.intro) <;> first | assumption | rfl | omega | trivial)))) ?_ -- o9
    refine OK_jb (vX4_valuesOf _) (fun v6 r3 => ?_)
    try dsimp only [Sum.elim_inl, Sum.elim_inr, jt2, jt3, jt4, jt5, jt6, jt7, jt8] at r3
    have bv3 := r3
    clear r3
    try simp (disch := omega) only [jst_eq, jst_ne, jst_ni, jI_i, jcmp_lt, jcmp_gt, w32_id, jcpy_out, Sum.elim_inl, Sum.elim_inr, jt2, jt3, jt4, jt5, jt6, jt7, jt8] at bv3
    have bvB : v6 = bsK (lk a1 1) := by { rw [bv3]; first | rw [k1.1] | rw [w21, k1.1] }
    refine OK_mono (vX1_holds_j50 (E := E) (Rf := Rf) (W := W) (f := f) (hl := hl) (nn := nn) (lk := lk) (LL := LL) (LR := LR) _ _ _ (by (first | assumption | omega | ((try dsimp only [jt2, jt3, jt4]); first | omega | (simp (disch := omega) only [jst_eq, jst_ne, jst_ni, jst_o, jI_i, jcpy_out, w32_id, jdiv_nn, jshr_k, jand_255] <;> first | done | omega | assumption)) | (intros; simp (disch := omega) only [jst_eq, jst_ne, jst_ni, jst_o, jI_i, jcpy_out, w32_id, jdiv_nn, *] <;> first | done | omega) | (intros; simp (disch := omega) only [jst_eq, jst_ne, jst_ni, jst_o, jI_i, jcpy_out, w32_id, jdiv_nn] at * <;> first | done | omega | assumption) | (intros; first | rfl | (exfalso; omega) | ((repeat' apply And.intro) <;> first | assumption | rfl | omega | trivial)))) (by (first | assumption | omega | ((try dsimp only [jt2, jt3, jt4]); first | omega | (simp (disch := omega) only [jst_eq, jst_ne, jst_ni, jst_o, jI_i, jcpy_out, w32_id, jdiv_nn, jshr_k, jand_255] <;> first | done | omega | assumption)) | (intros; simp (disch := omega) only [jst_eq, jst_ne, jst_ni, jst_o, jI_i, jcpy_out, w32_id, jdiv_nn, *] <;> first | done | omega) | (intros; simp (disch := omega) only [jst_eq, jst_ne, jst_ni, jst_o, jI_i, jcpy_out, w32_id, jdiv_nn] at * <;> first | done | omega | assumption) | (intros; first | rfl | (exfalso; omega) | ((repeat' apply And.intro) <;> first | assumption | rfl | omega | trivial)))) (by (first | assumption | omega | ((try dsimp only [jt2, jt3, jt4]); first | omega | (simp (disch := omega) only [jst_eq, jst_ne, jst_ni, jst_o, jI_i, jcpy_out, w32_id, jdiv_nn, jshr_k, jand_255] <;> first | done | omega | assumption)) | (intros; simp (disch := omega) only [jst_eq, jst_ne, jst_ni, jst_o, jI_i, jcpy_out, w32_id, jdiv_nn, *] <;> first | done | omega) | (intros; simp (disch := omega) only [jst_eq, jst_ne, jst_ni, jst_o, jI_i, jcpy_out, w32_id, jdiv_nn] at * <;> first | done | omega | assumption) | (intros; first | rfl | (exfalso; omega) | ((repeat' apply And.intro) <;> first | assumption | rfl | omega | trivial)))) (by exact ⟨b.1, b.2, bvA, by rw [if_pos (by omega)]; exact bvB⟩)) (fun r r4 => ?_)
    obtain ⟨y3, y4⟩ := r
    try dsimp only [Sum.elim_inl, Sum.elim_inr, jt2, jt3, jt4, jt5, jt6, jt7, jt8] at r4
    obtain ⟨hv4, fs4⟩ := r4
    try simp (disch := omega) only [jst_eq, jst_ne, jst_ni, jI_i, jcmp_lt, jcmp_gt, w32_id, jcpy_out, Sum.elim_inl, Sum.elim_inr, jt2, jt3, jt4, jt5, jt6, jt7, jt8] at hv4
    try simp (disch := omega) only [jst_eq, jst_ne, jst_ni, jI_i, jcmp_lt, jcmp_gt, w32_id, jcpy_out, Sum.elim_inl, Sum.elim_inr, jt2, jt3, jt4, jt5, jt6, jt7, jt8] at fs4
    try dsimp only [Sum.elim_inl, Sum.elim_inr, jt2, jt3, jt4, jt5, jt6, jt7, jt8]
    try dsimp only [Sum.elim_inl, Sum.elim_inr, jt2, jt3, jt4, jt5, jt6, jt7, jt8]
    refine ⟨?_, ?_⟩
    · (first | assumption | omega | ((try dsimp only [jt2, jt3, jt4]); first | omega | (simp (disch := omega) only [jst_eq, jst_ne, jst_ni, jst_o, jI_i, jcpy_out, w32_id, jdiv_nn, jshr_k, jand_255] <;> first | done | omega | assumption)) | (intros; simp (disch := omega) only [jst_eq, jst_ne, jst_ni, jst_o, jI_i, jcpy_out, w32_id, jdiv_nn, *] <;> first | done | omega) | (intros; simp (disch := omega) only [jst_eq, jst_ne, jst_ni, jst_o, jI_i, jcpy_out, w32_id, jdiv_nn] at * <;> first | done | omega | assumption) | (intros; first | rfl | (exfalso; omega) | ((repeat' apply And.intro) <;> first | assumption | rfl | omega | trivial))) -- o14 e2.1
    · (first | assumption | omega | ((try dsimp only [jt2, jt3, jt4]); first | omega | (simp (disch := omega) only [jst_eq, jst_ne, jst_ni, jst_o, jI_i, jcpy_out, w32_id, jdiv_nn, jshr_k, jand_255] <;> first | done | omega | assumption)) | (intros; simp (disch := omega) only [jst_eq, jst_ne, jst_ni, jst_o, jI_i, jcpy_out, w32_id, jdiv_nn, *] <;> first | done | omega) | (intros; simp (disch := omega) only [jst_eq, jst_ne, jst_ni, jst_o, jI_i, jcpy_out, w32_id, jdiv_nn] at * <;> first | done | omega | assumption) | (intros; first | rfl | (exfalso; omega) | ((repeat' apply And.intro) <;> first | assumption | rfl | omega | trivial))) -- o15 e2.2

