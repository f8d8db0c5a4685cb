/-! x: a term is mended, from the tape -/
/-- the work of mending -/
noncomputable def wkMe (E : EV) (W : Int → Int → Int → VW) (K : AK) (p : Nat) (R : TR) : Int := (LV E W (kP K) (kA K) p).1 * sz R * sz R * kP K
/-- what mending a told term comes to: answer, work, what is found, the place -/
def meR (E : EV) (W : Int → Int → Int → VW) (K : AK) (p : Nat) (R : TR) (w0 m0 v w1 m1 : Int) (fo : Option TR) : Prop := (¬ lvK E W (kP K) (kA K) p ∧ v = -3 ∧ w1 = w0 ∧ m1 = m0 ∧ fo = none) ∨ (lvK E W (kP K) (kA K) p ∧ 1000000000 < w0 + wkMe E W K p R ∧ v = -3 ∧ w1 = w0 ∧ m1 = m0 ∧ fo = none) ∨ (lvK E W (kP K) (kA K) p ∧ w0 + wkMe E W K p R ≤ 1000000000 ∧ w1 = w0 + wkMe E W K p R ∧ ((MKa E W K (kR K) (evQ W K (fun _ => 0) R) ∧ v = 0 ∧ m1 = m0 ∧ fo = some (flT (fun _ => 0) R)) ∨ (¬ MKa E W K (kR K) (evQ W K (fun _ => 0) R) ∧ ((∃ x y, mdR E W K p R x y ∧ v = (LV E W (kP K) (kA K) p).2.2.1 y ∧ m1 = x ∧ fo = some (mdT E W K p R x y)) ∨ ((∀ m f, 0 ≤ m → m < sz R → 0 ≤ f → f < (LV E W (kP K) (kA K) p).1 → ¬ mdQ E W K p R m f) ∧ v = 100 ∧ m1 = m0 ∧ fo = none)))))
def outMe (E EP : EV) (W : Int → Int → Int → VW) (K : AK) (p : Int) (th : Prop) (w : Int) (P : Int ⊕ TR) (p0 w0 m0 v p1 w1 m1 : Int) (fo : Option TR) : Prop := (¬ (1 ≤ p ∧ p ≤ 12) ∧ v = -1 ∧ p1 = p0 ∧ w1 = w0 ∧ m1 = m0 ∧ fo = none) ∨ ((1 ≤ p ∧ p ≤ 12) ∧ match P with
  | .inl z => v = -11 ∧ p1 = z ∧ w1 = w0 ∧ m1 = m0 ∧ fo = none
  | .inr t => (keyE EP w t = 1000000 → p1 = p0 ∧ (¬ th → v = -2 ∧ w1 = w0 ∧ m1 = m0 ∧ fo = none) ∧ (th → meR E W K p.toNat (rsE EP t 0) w0 m0 v w1 m1 fo)) ∧ (keyE EP w t ≠ 1000000 → v = -10 - keyE EP w t % 8 ∧ p1 = keyE EP w t / 8 ∧ w1 = w0 ∧ m1 = m0 ∧ fo = none))
def foP (fo : Option TR) (fd : TR → Prop) : Prop := ∀ R, fo = some R → fd R
theorem outMe_ng {E EP : EV} {W : Int → Int → Int → VW} {K : AK} {th : Prop} {P : Int ⊕ TR} {p w p0 w0 m0 v : Int} {h' : AH} (pr : 1 ≤ p ∧ p ≤ 12) (o : outX EP w P p0 v h') (v0 : ¬ 0 ≤ v) : outMe E EP W K p th w P p0 w0 m0 v (h' 200 56) w0 m0 none := by
  refine .inr ⟨pr, ?_⟩
  rcases outX_ng o v0 with ⟨z, e, o1⟩ | ⟨t, e, k, o1⟩
  · subst e; exact ⟨o1.1, o1.2, rfl, rfl, rfl⟩
  · subst e; exact ⟨fun y => absurd y k, fun _ => ⟨o1.1, o1.2, rfl, rfl, rfl⟩⟩
theorem fRd_f {h h1 h2 : AH} (x : fRd h h1) (y : fRf h1 h2) : fRf h h2 := fun a s z1 z2 z3 z4 z5 z6 => (y a s z1 z2 z3 z4 z5 z6).trans (x a s (by omega) z2 (by omega) z4 z5 z6)
theorem mul_b2 {a b A B : Int} (x : 0 ≤ a ∧ a ≤ A) (y : 0 ≤ b ∧ b ≤ B) : 0 ≤ a * b ∧ a * b ≤ A * B := ⟨Int.mul_nonneg x.1 y.1, Int.mul_le_mul x.2 y.2 y.1 (by omega)⟩
theorem mul_b4 {a b c d : Int} (x : 0 ≤ a ∧ a ≤ 120) (y : 0 ≤ b ∧ b ≤ 121) (z : 0 ≤ c ∧ c ≤ 121) (w : 0 ≤ d ∧ d ≤ 256) : (0 ≤ a * b ∧ a * b ≤ 120 * 121) ∧ (0 ≤ a * b * c ∧ a * b * c ≤ 120 * 121 * 121) ∧ (0 ≤ a * b * c * d ∧ a * b * c * d ≤ 120 * 121 * 121 * 256) := by
  have p := mul_b2 x y
  have q := mul_b2 p z
  exact ⟨p, q, mul_b2 q w⟩
theorem vX1_mend (a1 : Int) {h : AH} {B : Int → Int} {n : Int} {E EP : EV} {Rf : Int → TR} {W : Int → Int → Int → VW} {K : AK} {cn : Int → Int → Int} (hB : ∀ i, 0 ≤ i → i < n → 0 ≤ B i ∧ B i < 256) (tb : n = h 200 55 ∧ tapX B n h) (st : stX h E Rf W) (x4 : isX4 (h 200 16)) (cA : ∀ a, 0 ≤ a → a < E.1.1 → E.1.2.1 a < 282429536481) (ak : ¬ h (h 200 16) 19 = 0 → asX h E Rf W K cn) (ep : epK h E Rf W K EP) (w58 : 0 ≤ h 200 58 ∧ h 200 58 ≤ 1000000000) : OK (gX1_mend a1 h) (fun r => jt2 r fun v h' => (¬ h 200 53 = 0 → v = -5 ∧ h' = h) ∧ (h 200 53 = 0 → ∃ fo, outMe E EP W K a1 (¬ h (h 200 16) 19 = 0) (if h (h 200 16) 19 = 0 then -1 else kR K) (pA B n false (beg B n)) (h 200 56) (h 200 58) (h 200 31) v (h' 200 56) (h' 200 58) (h' 200 31) fo ∧ foP fo (fdK h' E W K) ∧ ((fo = none ∧ fRd h h') ∨ fRf h h')) ∧ (¬ h (h 200 16) 19 = 0 → asX h' E Rf W K cn)) := by
  have T := tb.2
  have x42 : h 200 16 = 271 ∨ h 200 16 = 289 := x4
  unfold gX1_mend
  refine OK_if (fun c1 => ?_) (fun c1 => ?_)
  · skip
    try simp (disch := omega) only [jst_eq, jst_ne, jst_ni, jI_i, jcmp_lt, jcmp_gt, w32_id, jcpy_out, Sum.elim_inl, Sum.elim_inr, jt2, jt3, jt4, jt5, jt6, jt7, jt8] at c1
    refine OK_jb (vX1_isIn _ _ _) (fun v3 r1 => ?_)
    try dsimp only [Sum.elim_inl, Sum.elim_inr, jt2, jt3, jt4, jt5, jt6, jt7, jt8] at r1
    have v1 := r1
    clear r1
    try simp (disch := omega) only [jst_eq, jst_ne, jst_ni, jI_i, jcmp_lt, jcmp_gt, w32_id, jcpy_out, Sum.elim_inl, Sum.elim_inr, jt2, jt3, jt4, jt5, jt6, jt7, jt8] at v1
    refine OK_if (fun c2 => ?_) (fun c2 => ?_)
    · skip
      try simp (disch := omega) only [jst_eq, jst_ne, jst_ni, jI_i, jcmp_lt, jcmp_gt, w32_id, jcpy_out, Sum.elim_inl, Sum.elim_inr, jt2, jt3, jt4, jt5, jt6, jt7, jt8] at c2
      refine OK_jb2 (vX1_takeTape) (fun v6 h7 r2 => ?_)
      try dsimp only [Sum.elim_inl, Sum.elim_inr, jt2, jt3, jt4, jt5, jt6, jt7, jt8] at r2
      obtain ⟨v2, hh2⟩ := r2
      try simp (disch := omega) only [jst_eq, jst_ne, jst_ni, jI_i, jcmp_lt, jcmp_gt, w32_id, jcpy_out, Sum.elim_inl, Sum.elim_inr, jt2, jt3, jt4, jt5, jt6, jt7, jt8] at v2
      try simp (disch := omega) only [jst_eq, jst_ne, jst_ni, jI_i, jcmp_lt, jcmp_gt, w32_id, jcpy_out, Sum.elim_inl, Sum.elim_inr, jt2, jt3, jt4, jt5, jt6, jt7, jt8] at hh2
      have F7 : ∀ a s, ¬ (a = 200 ∧ s = 55) → h7 a s = h a s := fun a s y => by { rw [hh2]; exact jst_o (by omega) }
      refine OK_some ?_
      try dsimp only [Sum.elim_inl, Sum.elim_inr, jt2, jt3, jt4, jt5, jt6, jt7, jt8]
      try dsimp only [Sum.elim_inl, Sum.elim_inr, jt2, jt3, jt4, jt5, jt6, jt7, jt8]
      refine ⟨?_, ?_, ?_⟩
      · (first | assumption | omega | ((try dsimp only [jt2, jt3, jt4]); first | omega | (simp (disch := omega) only [jst_eq, jst_ne, jst_ni, jst_o, jI_i, jcpy_out, w32_id, jdiv_nn, jshr_k, jand_255] <;> first | done | omega | assumption)) | (intros; simp (disch := omega) only [jst_eq, jst_ne, jst_ni, jst_o, jI_i, jcpy_out, w32_id, jdiv_nn, *] <;> first | done | omega) | (intros; simp (disch := omega) only [jst_eq, jst_ne, jst_ni, jst_o, jI_i, jcpy_out, w32_id, jdiv_nn] at * <;> first | done | omega | assumption) | (intros; first | rfl | (exfalso; omega) | ((repeat' apply And.intro) <;> first | assumption | rfl | omega | trivial))) -- o1 e1.1
      · (intro _; refine ⟨none, .inl ⟨by omega, rfl, F7 _ _ (by omega), F7 _ _ (by omega), F7 _ _ (by omega), rfl⟩, (fun _ y => by cases y), .inl ⟨rfl, fun a s y1 y2 y3 y4 y5 y6 => F7 a s (by omega)⟩⟩) -- o2 e1.2
      · exact fun y => asX_g (ak y) (fun a s q => F7 a s (by unfold sA at q; omega)) (akX_n (ak y).1 (fun a s q => F7 a s (by unfold nA at q; omega)) (by unfold b10; rw [F7 _ _ (by omega)]; exact (ak y).1.1.1.2.2.2.2)) -- o3 e1.3
    · skip
      try simp (disch := omega) only [jst_eq, jst_ne, jst_ni, jI_i, jcmp_lt, jcmp_gt, w32_id, jcpy_out, Sum.elim_inl, Sum.elim_inr, jt2, jt3, jt4, jt5, jt6, jt7, jt8] at c2
      have PR : 1 ≤ a1 ∧ a1 ≤ 12 := by omega
      refine OK_jb2 (vRT (B := B) (n := n) (sk := false) (E := E) (EP := EP) (Rf := Rf) (W := W) (K := K) _ _ (by exact hB) (by exact tb) (by rfl) (by exact st) (by exact x4) (by exact ep)) (fun v9 h10 r3 => ?_)
      try dsimp only [Sum.elim_inl, Sum.elim_inr, jt2, jt3, jt4, jt5, jt6, jt7, jt8] at r3
      obtain ⟨o3, fr3⟩ := r3
      try simp (disch := omega) only [jst_eq, jst_ne, jst_ni, jI_i, jcmp_lt, jcmp_gt, w32_id, jcpy_out, Sum.elim_inl, Sum.elim_inr, jt2, jt3, jt4, jt5, jt6, jt7, jt8] at o3
      try simp (disch := omega) only [jst_eq, jst_ne, jst_ni, jI_i, jcmp_lt, jcmp_gt, w32_id, jcpy_out, Sum.elim_inl, Sum.elim_inr, jt2, jt3, jt4, jt5, jt6, jt7, jt8] at fr3
      have e16 : h10 200 16 = h 200 16 := fr3 _ _ (by omega) (by omega) (by omega) (by omega) (by omega) (by omega)
      have e19 : h10 (h10 200 16) 19 = h (h 200 16) 19 := by { rw [e16]; exact fr3 _ _ (by omega) (by omega) (by omega) (by omega) (by omega) (by omega) }
      have AS4 : ¬ h (h 200 16) 19 = 0 → asX h10 E Rf W K cn := fun y => asX_g (ak y) (frXr_S fr3) (akX_n (ak y).1 (frXr_A fr3) (by unfold b10; rw [fr3 _ _ (by omega) (by omega) (by omega) (by omega) (by omega) (by omega)]; exact (ak y).1.1.1.2.2.2.2))
      have RD4 := frXr_Rd fr3
      have W4 : h10 200 58 = h 200 58 := fr3 _ _ (by omega) (by omega) (by omega) (by omega) (by omega) (by omega)
      have M4 : h10 200 31 = h 200 31 := fr3 _ _ (by omega) (by omega) (by omega) (by omega) (by omega) (by omega)
      obtain ⟨wk, ewk⟩ : ∃ w, w = (if (1 : Int) = 0 ∨ h (h 200 16) 19 = 0 then -1 else h (h 200 16) 2) := ⟨_, rfl⟩
      rw [← ewk] at o3
      have EWK : ¬ h (h 200 16) 19 = 0 → wk = kR K := fun y => by { rw [ewk, if_neg (by omega)]; exact (ak y).1.2.2.1 }
      have EW0 : h (h 200 16) 19 = 0 → wk = -1 := fun y => by { rw [ewk, if_pos (by omega)] }
      refine OK_if (fun c3 => ?_) (fun c3 => ?_)
      · skip
        try simp (disch := omega) only [jst_eq, jst_ne, jst_ni, jI_i, jcmp_lt, jcmp_gt, w32_id, jcpy_out, Sum.elim_inl, Sum.elim_inr, jt2, jt3, jt4, jt5, jt6, jt7, jt8] at c3
        obtain ⟨t, eP, k, v0, rx, nz, hz, p56⟩ := outX_ok o3 c3
        refine OK_if (fun c4 => ?_) (fun c4 => ?_)
        · skip
          try simp (disch := omega) only [jst_eq, jst_ne, jst_ni, jI_i, jcmp_lt, jcmp_gt, w32_id, jcpy_out, Sum.elim_inl, Sum.elim_inr, jt2, jt3, jt4, jt5, jt6, jt7, jt8] at c4
          have A0 : h (h 200 16) 19 = 0 := by { rw [← e19]; exact c4 }
          refine OK_some ?_
          try dsimp only [Sum.elim_inl, Sum.elim_inr, jt2, jt3, jt4, jt5, jt6, jt7, jt8]
          try dsimp only [Sum.elim_inl, Sum.elim_inr, jt2, jt3, jt4, jt5, jt6, jt7, jt8]
          refine ⟨?_, ?_, ?_⟩
          · (first | assumption | omega | ((try dsimp only [jt2, jt3, jt4]); first | omega | (simp (disch := omega) only [jst_eq, jst_ne, jst_ni, jst_o, jI_i, jcpy_out, w32_id, jdiv_nn, jshr_k, jand_255] <;> first | done | omega | assumption)) | (intros; simp (disch := omega) only [jst_eq, jst_ne, jst_ni, jst_o, jI_i, jcpy_out, w32_id, jdiv_nn, *] <;> first | done | omega) | (intros; simp (disch := omega) only [jst_eq, jst_ne, jst_ni, jst_o, jI_i, jcpy_out, w32_id, jdiv_nn] at * <;> first | done | omega | assumption) | (intros; first | rfl | (exfalso; omega) | ((repeat' apply And.intro) <;> first | assumption | rfl | omega | trivial))) -- o10 e2.1
          · (intro _; refine ⟨none, .inr ⟨PR, ?_⟩, (fun _ y => by cases y), .inl ⟨rfl, RD4⟩⟩; rw [W4, M4, eP]; refine ⟨fun _ => ⟨p56, fun _ => ⟨rfl, rfl, rfl, rfl⟩, fun w => absurd A0 w⟩, fun w => ?_⟩; rw [if_pos A0] at w; rw [EW0 A0] at k; exact absurd k w) -- o11 e2.2
          · exact AS4 -- o12 e2.3
        · skip
          try simp (disch := omega) only [jst_eq, jst_ne, jst_ni, jI_i, jcmp_lt, jcmp_gt, w32_id, jcpy_out, Sum.elim_inl, Sum.elim_inr, jt2, jt3, jt4, jt5, jt6, jt7, jt8] at c4
          have A1 : ¬ h (h 200 16) 19 = 0 := by { rw [← e19]; exact c4 }
          rw [EWK A1] at k o3
          obtain ⟨AK4, d, f0, gs4⟩ := AS4 A1
          have EPe : EP = EPn E (kA K).1 (kA K).2.1 := by { rcases ep with y | y; { exact absurd y.1 A1 }; { exact y.2.2 } }
          have KA := AK4.1.2.1
          have VK := AK4.2.2.2.2.2.2.1
          have TM := rd_tm (sk := false) (E := E) (kf := (kA K).2.1) (m := (kA K).1) (w := kR K) st.1.2.1 st.1.2.2.2.2.2 hB T.2.1 T.1 (by omega) (fun k k0 k1 => VK.1 k k0 k1) eP (by rw [← EPe]; exact k)
          rw [← EPe] at TM
          obtain ⟨TM1, SE, KDw, KD, FK1, GT1, NHH⟩ := TM
          obtain ⟨TY, DE, WT, S1, D12, NV⟩ := TM1
          have NH1 := (NHH rfl).1
          have kr0 := AK4.2.2.2.2.2.2.2.1
          have KRR : (inf (rsE EP t 0)).2.2.1 = kR K := by { rw [KD]; exact KDw (by omega) }
          have s0 := sz_pos (rsE EP t 0)
          have CX4 : cX h10 324 (rsE EP t 0) 0 0 1 := rXc_cX st.1.2.1 TY rx (Int.le_refl _)
          have LN := AK4.2.2.2.2.2.2.2.2.2.1
          have C4 : capT h10 324 2200 := ⟨(LN 325 (by decide) (by decide)).2.trans (by decide), (LN 326 (by decide) (by decide)).2.trans (by decide), (LN 327 (by decide) (by decide)).2.trans (by decide), (LN 328 (by decide) (by decide)).2.trans (by decide), (LN 329 (by decide) (by decide)).2.trans (by decide), by decide, by decide, by decide⟩
          rw [v0]
          refine OK_jb2 (vX5_grow (E := E) (Rf := Rf) (W := W) (f := fun _ _ _ => 0) (A := kA K) (pts := kP K) (wh := K.1.2.2.1) (rv := K.1.2.2.2) (M := MKa E W K) (cn := cn) (d := d) (fl := f0) _ (by exact AK4.1) (by exact VK) (by exact AK4.2.2.2.2.1) (by exact AK4.2.2.2.2.2.1) (by omega) (by exact gs4)) (fun v14 h15 r4 => ?_)
          try dsimp only [Sum.elim_inl, Sum.elim_inr, jt2, jt3, jt4, jt5, jt6, jt7, jt8] at r4
          obtain ⟨gr4, fs4⟩ := r4
          try simp (disch := omega) only [jst_eq, jst_ne, jst_ni, jI_i, jcmp_lt, jcmp_gt, w32_id, jcpy_out, Sum.elim_inl, Sum.elim_inr, jt2, jt3, jt4, jt5, jt6, jt7, jt8] at gr4
          try simp (disch := omega) only [jst_eq, jst_ne, jst_ni, jI_i, jcmp_lt, jcmp_gt, w32_id, jcpy_out, Sum.elim_inl, Sum.elim_inr, jt2, jt3, jt4, jt5, jt6, jt7, jt8] at fs4
          obtain ⟨e, f1, r1, r2, r3⟩ := gr4
          have AK13 := akX_n AK4 (fS_A fs4.1) fs4.2
          have epv : ((a1.toNat : Nat) : Int) = a1 := by omega
          rw [← epv] at r1
          have LV13 := rch_lv r2.1 r1
          have RD13 := fRd_t RD4 (fS_Rd fs4.1)
          have p56b : h15 200 56 = h 200 56 := by { rw [fs4.1 _ _ (by omega) (by omega) (by omega) (by omega)]; exact p56 }
          have W15 : h15 200 58 = h 200 58 := by { rw [fs4.1 _ _ (by omega) (by omega) (by omega) (by omega)]; exact W4 }
          have M15 : h15 200 31 = h 200 31 := by { rw [fs4.1 _ _ (by omega) (by omega) (by omega) (by omega)]; exact M4 }
          refine OK_if (fun c5 => ?_) (fun c5 => ?_)
          · skip
            try simp (disch := omega) only [jst_eq, jst_ne, jst_ni, jI_i, jcmp_lt, jcmp_gt, w32_id, jcpy_out, Sum.elim_inl, Sum.elim_inr, jt2, jt3, jt4, jt5, jt6, jt7, jt8] at c5
            refine OK_some ?_
            try dsimp only [Sum.elim_inl, Sum.elim_inr, jt2, jt3, jt4, jt5, jt6, jt7, jt8]
            try dsimp only [Sum.elim_inl, Sum.elim_inr, jt2, jt3, jt4, jt5, jt6, jt7, jt8]
            refine ⟨?_, ?_, ?_⟩
            · (first | assumption | omega | ((try dsimp only [jt2, jt3, jt4]); first | omega | (simp (disch := omega) only [jst_eq, jst_ne, jst_ni, jst_o, jI_i, jcpy_out, w32_id, jdiv_nn, jshr_k, jand_255] <;> first | done | omega | assumption)) | (intros; simp (disch := omega) only [jst_eq, jst_ne, jst_ni, jst_o, jI_i, jcpy_out, w32_id, jdiv_nn, *] <;> first | done | omega) | (intros; simp (disch := omega) only [jst_eq, jst_ne, jst_ni, jst_o, jI_i, jcpy_out, w32_id, jdiv_nn] at * <;> first | done | omega | assumption) | (intros; first | rfl | (exfalso; omega) | ((repeat' apply And.intro) <;> first | assumption | rfl | omega | trivial))) -- o19 e3.1
            · (intro _; refine ⟨none, .inr ⟨PR, ?_⟩, (fun _ y => by cases y), .inl ⟨rfl, RD13⟩⟩; rw [W15, M15, eP, if_neg A1]; exact ⟨fun _ => ⟨p56b, fun w => absurd A1 w, fun _ => .inl ⟨(fun y => by have := LV13.2 y; omega), rfl, rfl, rfl, rfl⟩⟩, fun w => absurd k w⟩) -- o20 e3.2
            · exact fun _ => ⟨AK13, e, f1, r2⟩ -- o21 e3.3
          · skip
            try simp (disch := omega) only [jst_eq, jst_ne, jst_ni, jI_i, jcmp_lt, jcmp_gt, w32_id, jcpy_out, Sum.elim_inl, Sum.elim_inr, jt2, jt3, jt4, jt5, jt6, jt7, jt8] at c5
            have LVp : lvK E W (kP K) (kA K) a1.toNat := LV13.1 (by omega)
            obtain ⟨T13, xt13, keep13⟩ := GSx_T AK13 r2 (p := a1.toNat) (by omega)
            have CX13 : cX h15 324 (rsE EP t 0) 0 0 1 := cX_fr (h := h10) (lo := 0) (hi := 2200) (fun a s _ _ _ _ => fs4.1 _ _ (by omega) (by omega) (by omega) (by omega)) (fun s _ _ => fs4.1 _ _ (by omega) (by omega) (by omega) (by omega)) CX4 (Int.le_refl _) (by decide) (by decide) (by decide) (by omega)
            have C13 : capT h15 324 2200 := capT_fr C4 (fun a x0 x1 => fs4.1 _ _ (by omega) (by omega) (by omega) (by omega))
            have N13 : h15 324 0 = sz (rsE EP t 0) := by { rw [fs4.1 _ _ (by omega) (by omega) (by omega) (by omega), nz, SE] }
            refine OK_jb2 (vX1_number (R := rsE EP t 0) _ _ (by exact C13) (by exact CX13) (by omega) (by omega) (by omega)) (fun v18 h19 r5 => ?_)
            try dsimp only [Sum.elim_inl, Sum.elim_inr, jt2, jt3, jt4, jt5, jt6, jt7, jt8] at r5
            obtain ⟨nv5, nh5⟩ := r5
            try simp (disch := omega) only [jst_eq, jst_ne, jst_ni, jI_i, jcmp_lt, jcmp_gt, w32_id, jcpy_out, Sum.elim_inl, Sum.elim_inr, jt2, jt3, jt4, jt5, jt6, jt7, jt8] at nv5
            try simp (disch := omega) only [jst_eq, jst_ne, jst_ni, jI_i, jcmp_lt, jcmp_gt, w32_id, jcpy_out, Sum.elim_inl, Sum.elim_inr, jt2, jt3, jt4, jt5, jt6, jt7, jt8] at nh5
            have F19 : ∀ a s, a ≠ 340 → h19 a s = h15 a s := fun a s y => by { rw [nh5]; exact if_neg (by omega) }
            have NN19 : ∀ s, s < 0 → h19 340 s = h15 340 s := fun s s0 => by { rw [nh5]; exact if_neg (by omega) }
            have PT : h15 (h15 200 16) 18 = kP K ∧ 0 ≤ kP K := AK13.2.2.2.2.2.1
            have x15 : h15 200 16 = 271 ∨ h15 200 16 = 289 := AK13.1.1.1
            have E16 : h19 200 16 = h15 200 16 := F19 _ _ (by omega)
            have PT19 : h19 (h19 200 16) 18 = kP K := by { rw [E16, F19 _ _ (by omega)]; exact PT.1 }
            have U19 : h19 314 a1 = (LV E W (kP K) (kA K) a1.toNat).1 := by { rw [F19 _ _ (by omega), ← epv]; exact xt13.2.2.1 }
            have V18 : v18 = sz (rsE EP t 0) := by omega
            have p256 := AK13.1.2.2.1.2.2
            have n120 := xt13.2.2.2.1
            have n00 := LV_0 (E := E) (W := W) (pts := kP K) (A := kA K) a1.toNat
            have M1 := mul_b4 (a := (LV E W (kP K) (kA K) a1.toNat).1) (b := sz (rsE EP t 0)) (c := sz (rsE EP t 0)) (d := kP K) ⟨n00, n120⟩ ⟨by omega, S1⟩ ⟨by omega, S1⟩ ⟨PT.2, p256⟩
            have WK : w64 (w64 (w64 (h19 314 a1 * v18) * v18) * h19 (h19 200 16) 18) = wkMe E W K a1.toNat (rsE EP t 0) := by { rw [U19, PT19, V18, w64_id (x := (LV E W (kP K) (kA K) a1.toNat).1 * sz (rsE EP t 0)) (by omega) (by omega), w64_id (x := (LV E W (kP K) (kA K) a1.toNat).1 * sz (rsE EP t 0) * sz (rsE EP t 0)) (by omega) (by omega), w64_id (by omega) (by omega)]; rfl }
            have WKr : 0 ≤ wkMe E W K a1.toNat (rsE EP t 0) ∧ wkMe E W K a1.toNat (rsE EP t 0) ≤ 120 * 121 * 121 * 256 := M1.2.2
            rw [WK]
            have W19 : h19 200 58 = h 200 58 := by { rw [F19 _ _ (by omega)]; exact W15 }
            refine OK_jg (by (first | assumption | omega | ((try dsimp only [jt2, jt3, jt4]); first | omega | (simp (disch := omega) only [jst_eq, jst_ne, jst_ni, jst_o, jI_i, jcpy_out, w32_id, jdiv_nn, jshr_k, jand_255] <;> first | done | omega | assumption)) | (intros; simp (disch := omega) only [jst_eq, jst_ne, jst_ni, jst_o, jI_i, jcpy_out, w32_id, jdiv_nn, *] <;> first | done | omega) | (intros; simp (disch := omega) only [jst_eq, jst_ne, jst_ni, jst_o, jI_i, jcpy_out, w32_id, jdiv_nn] at * <;> first | done | omega | assumption) | (intros; first | rfl | (exfalso; omega) | ((repeat' apply And.intro) <;> first | assumption | rfl | omega | trivial)))) ?_ -- o27
            refine OK_jb2 (vX1_isTooMuch _ (by (rw [W19]; omega))) (fun v21 h22 r6 => ?_)
            try dsimp only [Sum.elim_inl, Sum.elim_inr, jt2, jt3, jt4, jt5, jt6, jt7, jt8] at r6
            have tm6 := r6
            clear r6
            try simp (disch := omega) only [jst_eq, jst_ne, jst_ni, jI_i, jcmp_lt, jcmp_gt, w32_id, jcpy_out, Sum.elim_inl, Sum.elim_inr, jt2, jt3, jt4, jt5, jt6, jt7, jt8] at tm6
            have F22 : ∀ a s, a ≠ 340 → ¬ (a = 200 ∧ s = 58) → h22 a s = h15 a s := fun a s y1 y2 => by { rcases tm6 with w | w; { rw [w.2.2]; exact F19 a s y1 }; { rw [w.2.2, jst_o y2]; exact F19 a s y1 } }
            have N22 : ∀ s, s < 0 → h22 340 s = h15 340 s := fun s s0 => by { rcases tm6 with w | w; { rw [w.2.2]; exact NN19 s s0 }; { rw [w.2.2, jst_o (by omega)]; exact NN19 s s0 } }
            have RD22 : fRd h h22 := fun a s y1 y2 y3 y4 y5 y6 => by { by_cases q : a = 340; { rw [q] at y6 ⊢; rw [N22 s (by omega)]; exact RD13 _ _ (by omega) (by omega) (by omega) (by omega) (by omega) (by omega) }; { rw [F22 a s q (by omega)]; exact RD13 a s y1 y2 y3 y4 y5 y6 } }
            have AK22 : akX h22 E Rf W K := akX_n AK13 (fun a s y => by unfold nA at y; by_cases q : a = 340; { rw [q]; exact N22 s (by omega) }; { exact F22 a s q (by omega) }) (by unfold b10; rw [F22 _ _ (by omega) (by omega)]; exact AK13.1.1.2.2.2.2)
            have GS22 : GSx h22 E W (kA K) (kP K) (MKa E W K) cn e f1 := GSx_g (fun a s y => by unfold sA at y; exact F22 a s (by omega) (by omega)) r2
            have P22 : h22 200 56 = h 200 56 := by { rw [F22 _ _ (by omega) (by omega)]; exact p56b }
            have M22 : h22 200 31 = h 200 31 := by { rw [F22 _ _ (by omega) (by omega)]; exact M15 }
            refine OK_if (fun c6 => ?_) (fun c6 => ?_)
            · skip
              try simp (disch := omega) only [jst_eq, jst_ne, jst_ni, jI_i, jcmp_lt, jcmp_gt, w32_id, jcpy_out, Sum.elim_inl, Sum.elim_inr, jt2, jt3, jt4, jt5, jt6, jt7, jt8] at c6
              have TM5 : h 200 58 + wkMe E W K a1.toNat (rsE EP t 0) ≤ 1000000000 ∧ h22 200 58 = h 200 58 + wkMe E W K a1.toNat (rsE EP t 0) := by { rcases tm6 with w | w; { omega }; { rw [W19] at w; exact ⟨w.2.1, by rw [w.2.2, jst_eq]⟩ } }
              refine OK_jb2 (vX1_mendBy (E := E) (Rf := Rf) (W := W) (K := K) (p := a1.toNat) (T := T13) (R := rsE EP t 0) _ _ (by exact AK22) (by exact cA) (by exact XT_w (fun a s s0 y => F22 a s (by omega) (by omega)) xt13) (by exact ⟨cX_fr (h := h15) (lo := 0) (hi := 2200) (fun a s _ _ _ _ => F22 _ _ (by omega) (by omega)) (fun s _ _ => F22 _ _ (by omega) (by omega)) CX13 (Int.le_refl _) (by decide) (by decide) (by decide) (by omega), S1, by rw [F22 _ _ (by omega) (by omega)]; exact N13⟩) (by exact TY) (by exact ⟨NH1, NV⟩) (by omega) (by exact KRR) (by exact ⟨rfl, by omega, by omega, LVp⟩)) (fun v25 h26 r7 => ?_)
              try dsimp only [Sum.elim_inl, Sum.elim_inr, jt2, jt3, jt4, jt5, jt6, jt7, jt8] at r7
              obtain ⟨oo7, st7⟩ := r7
              try simp (disch := omega) only [jst_eq, jst_ne, jst_ni, jI_i, jcmp_lt, jcmp_gt, w32_id, jcpy_out, Sum.elim_inl, Sum.elim_inr, jt2, jt3, jt4, jt5, jt6, jt7, jt8] at oo7
              try simp (disch := omega) only [jst_eq, jst_ne, jst_ni, jI_i, jcmp_lt, jcmp_gt, w32_id, jcpy_out, Sum.elim_inl, Sum.elim_inr, jt2, jt3, jt4, jt5, jt6, jt7, jt8] at st7
              obtain ⟨AG26, AK26, P26, W26⟩ := st7
              refine OK_some ?_
              try dsimp only [Sum.elim_inl, Sum.elim_inr, jt2, jt3, jt4, jt5, jt6, jt7, jt8]
              try dsimp only [Sum.elim_inl, Sum.elim_inr, jt2, jt3, jt4, jt5, jt6, jt7, jt8]
              refine ⟨?_, ?_, ?_⟩
              · (first | assumption | omega | ((try dsimp only [jt2, jt3, jt4]); first | omega | (simp (disch := omega) only [jst_eq, jst_ne, jst_ni, jst_o, jI_i, jcpy_out, w32_id, jdiv_nn, jshr_k, jand_255] <;> first | done | omega | assumption)) | (intros; simp (disch := omega) only [jst_eq, jst_ne, jst_ni, jst_o, jI_i, jcpy_out, w32_id, jdiv_nn, *] <;> first | done | omega) | (intros; simp (disch := omega) only [jst_eq, jst_ne, jst_ni, jst_o, jI_i, jcpy_out, w32_id, jdiv_nn] at * <;> first | done | omega | assumption) | (intros; first | rfl | (exfalso; omega) | ((repeat' apply And.intro) <;> first | assumption | rfl | omega | trivial))) -- o38 e4.1
              · (intro _; have w26 : h26 200 58 = h 200 58 + wkMe E W K a1.toNat (rsE EP t 0) := (W26.trans TM5.2); have key : ∀ fo, meR E W K a1.toNat (rsE EP t 0) (h 200 58) (h 200 31) v25 (h26 200 58) (h26 200 31) fo → outMe E EP W K a1 (¬ h (h 200 16) 19 = 0) (if h (h 200 16) 19 = 0 then -1 else kR K) (pA B n false (beg B n)) (h 200 56) (h 200 58) (h 200 31) v25 (h26 200 56) (h26 200 58) (h26 200 31) fo := (fun fo m => .inr ⟨PR, by (rw [eP, if_neg A1]; exact ⟨fun _ => ⟨P26.trans P22, fun w => absurd A1 w, fun _ => m⟩, fun w => absurd k w⟩)⟩); rcases oo7 with ⟨u1, u2, u3, u4, u5⟩ | ⟨u1, ⟨x, y, u2, u3, u4, u5, u6⟩ | ⟨u2, u3, u4, u5⟩⟩; { exact ⟨_, key _ (.inr (.inr ⟨LVp, TM5.1, w26, .inl ⟨u1, u2, u5.trans M22, rfl⟩⟩)), (fun R e => by cases e; exact u3), .inr (fRd_f RD22 u4)⟩ }; { exact ⟨_, key _ (.inr (.inr ⟨LVp, TM5.1, w26, .inr ⟨u1, .inl ⟨x, y, u2, u3, u6, rfl⟩⟩⟩)), (fun R e => by cases e; exact u4), .inr (fRd_f RD22 u5)⟩ }; { exact ⟨_, key _ (.inr (.inr ⟨LVp, TM5.1, w26, .inr ⟨u1, .inr ⟨u2, u3, u5.trans M22, rfl⟩⟩⟩)), (fun R e => by cases e), .inl ⟨rfl, fRd_t RD22 u4⟩⟩ }) -- o39 e4.2
              · exact fun _ => ⟨AK26, e, f1, GSx_g AG26 GS22⟩ -- o40 e4.3
            · skip
              try simp (disch := omega) only [jst_eq, jst_ne, jst_ni, jI_i, jcmp_lt, jcmp_gt, w32_id, jcpy_out, Sum.elim_inl, Sum.elim_inr, jt2, jt3, jt4, jt5, jt6, jt7, jt8] at c6
              have TM5 : 1000000000 < h 200 58 + wkMe E W K a1.toNat (rsE EP t 0) ∧ h22 200 58 = h 200 58 := by { rcases tm6 with w | w; { rw [W19] at w; exact ⟨w.2.1, by rw [w.2.2]; exact W19⟩ }; { omega } }
              refine OK_some ?_
              try dsimp only [Sum.elim_inl, Sum.elim_inr, jt2, jt3, jt4, jt5, jt6, jt7, jt8]
              try dsimp only [Sum.elim_inl, Sum.elim_inr, jt2, jt3, jt4, jt5, jt6, jt7, jt8]
              refine ⟨?_, ?_, ?_⟩
              · (first | assumption | omega | ((try dsimp only [jt2, jt3, jt4]); first | omega | (simp (disch := omega) only [jst_eq, jst_ne, jst_ni, jst_o, jI_i, jcpy_out, w32_id, jdiv_nn, jshr_k, jand_255] <;> first | done | omega | assumption)) | (intros; simp (disch := omega) only [jst_eq, jst_ne, jst_ni, jst_o, jI_i, jcpy_out, w32_id, jdiv_nn, *] <;> first | done | omega) | (intros; simp (disch := omega) only [jst_eq, jst_ne, jst_ni, jst_o, jI_i, jcpy_out, w32_id, jdiv_nn] at * <;> first | done | omega | assumption) | (intros; first | rfl | (exfalso; omega) | ((repeat' apply And.intro) <;> first | assumption | rfl | omega | trivial))) -- o41 e5.1
              · (intro _; refine ⟨none, .inr ⟨PR, ?_⟩, (fun _ y => by cases y), .inl ⟨rfl, RD22⟩⟩; rw [TM5.2, M22, eP, if_neg A1]; exact ⟨fun _ => ⟨P22, fun w => absurd A1 w, fun _ => .inr (.inl ⟨LVp, TM5.1, rfl, rfl, rfl, rfl⟩)⟩, fun w => absurd k w⟩) -- o42 e5.2
              · exact fun _ => ⟨AK22, e, f1, GS22⟩ -- o43 e5.3
      · skip
        try simp (disch := omega) only [jst_eq, jst_ne, jst_ni, jI_i, jcmp_lt, jcmp_gt, w32_id, jcpy_out, Sum.elim_inl, Sum.elim_inr, jt2, jt3, jt4, jt5, jt6, jt7, jt8] at c3
        refine OK_some ?_
        try dsimp only [Sum.elim_inl, Sum.elim_inr, jt2, jt3, jt4, jt5, jt6, jt7, jt8]
        try dsimp only [Sum.elim_inl, Sum.elim_inr, jt2, jt3, jt4, jt5, jt6, jt7, jt8]
        refine ⟨?_, ?_, ?_⟩
        · (first | assumption | omega | ((try dsimp only [jt2, jt3, jt4]); first | omega | (simp (disch := omega) only [jst_eq, jst_ne, jst_ni, jst_o, jI_i, jcpy_out, w32_id, jdiv_nn, jshr_k, jand_255] <;> first | done | omega | assumption)) | (intros; simp (disch := omega) only [jst_eq, jst_ne, jst_ni, jst_o, jI_i, jcpy_out, w32_id, jdiv_nn, *] <;> first | done | omega) | (intros; simp (disch := omega) only [jst_eq, jst_ne, jst_ni, jst_o, jI_i, jcpy_out, w32_id, jdiv_nn] at * <;> first | done | omega | assumption) | (intros; first | rfl | (exfalso; omega) | ((repeat' apply And.intro) <;> first | assumption | rfl | omega | trivial))) -- o44 e6.1
        · (intro _; refine ⟨none, ?_, (fun _ y => by cases y), .inl ⟨rfl, RD4⟩⟩; rw [W4, M4]; have q := outMe_ng (E := E) (W := W) (K := K) (th := ¬ h (h 200 16) 19 = 0) (w0 := h 200 58) (m0 := h 200 31) PR o3 c3; by_cases y : h (h 200 16) 19 = 0; { rw [if_pos y]; rw [EW0 y] at q; exact q }; { rw [if_neg y]; rw [EWK y] at q; exact q }) -- o45 e6.2
        · exact AS4 -- o46 e6.3
  · skip
    try simp (disch := omega) only [jst_eq, jst_ne, jst_ni, jI_i, jcmp_lt, jcmp_gt, w32_id, jcpy_out, Sum.elim_inl, Sum.elim_inr, jt2, jt3, jt4, jt5, jt6, jt7, jt8] at c1
    refine OK_some ?_
    try dsimp only [Sum.elim_inl, Sum.elim_inr, jt2, jt3, jt4, jt5, jt6, jt7, jt8]
    try dsimp only [Sum.elim_inl, Sum.elim_inr, jt2, jt3, jt4, jt5, jt6, jt7, jt8]
    refine ⟨?_, ?_, ?_⟩
    · exact fun _ => ⟨rfl, rfl⟩ -- o47 e7.1
    · (intro y; exact absurd y c1) -- o48 e7.2
    · exact ak -- o49 e7.3

