/-! x: a sketch: from the tape -/
def aS (n : Int) : Int := if n = 1 then 16 else if n = 2 then 256 else 4096
theorem aS_r (n : Int) : 16 ≤ aS n ∧ aS n ≤ 4096 := by
  unfold aS
  by_cases a : n = 1
  · rw [if_pos a]; decide
  · rw [if_neg a]
    by_cases b : n = 2
    · rw [if_pos b]; decide
    · rw [if_neg b]; decide
theorem shl_aS {n : Int} (h : 1 ≤ n ∧ n ≤ 3) : jshl 1 (w32 (4 * n)) = aS n := by
  rcases (show n = 1 ∨ n = 2 ∨ n = 3 by omega) with y | y | y <;> (subst y; rfl)
/-- the work of a sketch -/
def wkS (K : AK) (R : TR) (n : Int) : Int := aS n * kP K * sz R
def skR (E : EV) (W : Int → Int → Int → VW) (K : AK) (R : TR) (n w0 v w1 y : Int) : Prop := (n = 0 ∧ v = -2 ∧ w1 = w0 ∧ y = -1) ∨ (1 ≤ n ∧ 1000000000 < w0 + wkS K R n ∧ v = -3 ∧ w1 = w0 ∧ y = -1) ∨ (1 ≤ n ∧ w0 + wkS K R n ≤ 1000000000 ∧ w1 = w0 + wkS K R n ∧ ((0 ≤ y ∧ y < aS n ∧ skQ E W K R n y ∧ (∀ u, 0 ≤ u → u < y → ¬ skQ E W K R n u) ∧ v = y) ∨ (y = -1 ∧ v = 4096 ∧ ∀ u, 0 ≤ u → u < aS n → ¬ skQ E W K R n u)))
def outSk (E EP : EV) (W : Int → Int → Int → VW) (K : AK) (th : Prop) (w : Int) (P : Int ⊕ TR) (p0 w0 v p1 w1 y : Int) (fd : TR → Prop) : Prop := match P with
  | .inl z => v = -11 ∧ p1 = z ∧ w1 = w0 ∧ y = -1
  | .inr t => (keyE EP w t = 1000000 → p1 = p0 ∧ (¬ th → v = -2 ∧ w1 = w0 ∧ y = -1) ∧ (th → skR E W K (rsE EP t 0) (hlT t) w0 v w1 y ∧ (0 ≤ y → fd (flT (hlS (hlT t) y) (rsE EP t 0))))) ∧ (keyE EP w t ≠ 1000000 → v = -10 - keyE EP w t % 8 ∧ p1 = keyE EP w t / 8 ∧ w1 = w0 ∧ y = -1)
theorem outSk_ng {E EP : EV} {W : Int → Int → Int → VW} {K : AK} {th : Prop} {P : Int ⊕ TR} {w p0 w0 v : Int} {h' : AH} {fd : TR → Prop} (o : outX EP w P p0 v h') (v0 : ¬ 0 ≤ v) : outSk E EP W K th w P p0 w0 v (h' 200 56) w0 (-1) fd := by
  rcases outX_ng o v0 with ⟨z, e, o1⟩ | ⟨t, e, k, o1⟩
  · subst e; exact ⟨o1.1, o1.2, rfl, rfl⟩
  · subst e; exact ⟨fun y => absurd y k, fun _ => ⟨o1.1, o1.2, rfl, rfl⟩⟩
theorem fSk_S {h h' : AH} (f : fSk h h') : agS h h' := fun a s y => by
  unfold sA at y
  exact f a s (by omega) (by omega)
theorem fSk_Rd {h h' : AH} (f : fSk h h') : fRd h h' := fun a s y1 y2 y3 _ _ _ => f a s (by omega) (by omega)
theorem asX_hl {h : AH} {E : EV} {Rf : Int → TR} {W : Int → Int → Int → VW} {K : AK} {cn : Int → Int → Int} {hl : Int → Int} {d : Nat} {f : Int} (nq : nhK K) (a : akX h E Rf W (hlK K hl)) (g : GSx h E W (kA K) (kP K) (MKa E W K) cn d f) : asX h E Rf W (hlK K hl) cn := ⟨a, d, f, by rw [MKa_hl nq hl]; exact g⟩
theorem vX1_sketch {h : AH} {B : Int → Int} {n : Int} {E EP : EV} {Rf : Int → TR} {W : Int → Int → Int → VW} {K : AK} {cn : Int → Int → Int} (hB : ∀ i, 0 ≤ i → i < n → 0 ≤ B i ∧ B i < 256) (tb : n = h 200 55 ∧ tapX B n h) (st : stX h E Rf W) (x4 : isX4 (h 200 16)) (cA : ∀ a, 0 ≤ a → a < E.1.1 → E.1.2.1 a < 282429536481) (ak : ¬ h (h 200 16) 19 = 0 → asX h E Rf W K cn) (ep : epK h E Rf W K EP) (nq : nhK K) (w58 : 0 ≤ h 200 58 ∧ h 200 58 ≤ 1000000000) : OK (gX1_sketch h) (fun r => jt2 r fun v h' => (¬ h 200 53 = 0 → v = -5 ∧ h' = h) ∧ (h 200 53 = 0 → ∃ y, outSk E EP W K (¬ h (h 200 16) 19 = 0) (if h (h 200 16) 19 = 0 then -1 else kR K) (pA B n true (beg B n)) (h 200 56) (h 200 58) v (h' 200 56) (h' 200 58) y (fdK h' E W K) ∧ ((y < 0 ∧ fRd h h') ∨ (0 ≤ y ∧ fRf h h'))) ∧ (¬ h (h 200 16) 19 = 0 → ∃ hl, asX h' E Rf W (hlK K hl) cn)) := by
  have T := tb.2
  have x42 : h 200 16 = 271 ∨ h 200 16 = 289 := x4
  unfold gX1_sketch
  refine OK_if (fun c1 => ?_) (fun c1 => ?_)
  · skip
    try simp (disch := omega) only [jst_eq, jst_ne, jst_ni, jI_i, jcmp_lt, jcmp_gt, w32_id, jcpy_out, Sum.elim_inl, Sum.elim_inr, jt2, jt3, jt4, jt5, jt6, jt7, jt8] at c1
    refine OK_jb2 (vRT (B := B) (n := n) (sk := true) (E := E) (EP := EP) (Rf := Rf) (W := W) (K := K) _ _ (by exact hB) (by exact tb) (by rfl) (by exact st) (by exact x4) (by exact ep)) (fun v3 h4 r1 => ?_)
    try dsimp only [Sum.elim_inl, Sum.elim_inr, jt2, jt3, jt4, jt5, jt6, jt7, jt8] at r1
    obtain ⟨o1, fr1⟩ := r1
    try simp (disch := omega) only [jst_eq, jst_ne, jst_ni, jI_i, jcmp_lt, jcmp_gt, w32_id, jcpy_out, Sum.elim_inl, Sum.elim_inr, jt2, jt3, jt4, jt5, jt6, jt7, jt8] at o1
    try simp (disch := omega) only [jst_eq, jst_ne, jst_ni, jI_i, jcmp_lt, jcmp_gt, w32_id, jcpy_out, Sum.elim_inl, Sum.elim_inr, jt2, jt3, jt4, jt5, jt6, jt7, jt8] at fr1
    have e16 : h4 200 16 = h 200 16 := fr1 _ _ (by omega) (by omega) (by omega) (by omega) (by omega) (by omega)
    have e19 : h4 (h4 200 16) 19 = h (h 200 16) 19 := by { rw [e16]; exact fr1 _ _ (by omega) (by omega) (by omega) (by omega) (by omega) (by omega) }
    have AS4 : ¬ h (h 200 16) 19 = 0 → asX h4 E Rf W K cn := fun y => asX_g (ak y) (frXr_S fr1) (akX_n (ak y).1 (frXr_A fr1) (by unfold b10; rw [fr1 _ _ (by omega) (by omega) (by omega) (by omega) (by omega) (by omega)]; exact (ak y).1.1.1.2.2.2.2))
    have RD4 := frXr_Rd fr1
    have W4 : h4 200 58 = h 200 58 := fr1 _ _ (by omega) (by omega) (by omega) (by omega) (by omega) (by omega)
    obtain ⟨wk, ewk⟩ : ∃ w, w = (if (1 : Int) = 0 ∨ h (h 200 16) 19 = 0 then -1 else h (h 200 16) 2) := ⟨_, rfl⟩
    rw [← ewk] at o1
    have EWK : ¬ h (h 200 16) 19 = 0 → wk = kR K := fun y => by { rw [ewk, if_neg (by omega)]; exact (ak y).1.2.2.1 }
    have EW0 : h (h 200 16) 19 = 0 → wk = -1 := fun y => by { rw [ewk, if_pos (by omega)] }
    have AK0 : ¬ h (h 200 16) 19 = 0 → ∃ hl, asX h4 E Rf W (hlK K hl) cn := fun y => ⟨K.2.2.2.2, AS4 y⟩
    refine OK_if (fun c2 => ?_) (fun c2 => ?_)
    · skip
      try simp (disch := omega) only [jst_eq, jst_ne, jst_ni, jI_i, jcmp_lt, jcmp_gt, w32_id, jcpy_out, Sum.elim_inl, Sum.elim_inr, jt2, jt3, jt4, jt5, jt6, jt7, jt8] at c2
      obtain ⟨t, eP, k, v0, rx, nz, hz, p56⟩ := outX_ok o1 c2
      refine OK_if (fun c3 => ?_) (fun c3 => ?_)
      · skip
        try simp (disch := omega) only [jst_eq, jst_ne, jst_ni, jI_i, jcmp_lt, jcmp_gt, w32_id, jcpy_out, Sum.elim_inl, Sum.elim_inr, jt2, jt3, jt4, jt5, jt6, jt7, jt8] at c3
        have A0 : h (h 200 16) 19 = 0 := by { rw [← e19]; exact c3 }
        refine OK_some ?_
        try dsimp only [Sum.elim_inl, Sum.elim_inr, jt2, jt3, jt4, jt5, jt6, jt7, jt8]
        try dsimp only [Sum.elim_inl, Sum.elim_inr, jt2, jt3, jt4, jt5, jt6, jt7, jt8]
        refine ⟨?_, ?_, ?_⟩
        · (first | assumption | omega | ((try dsimp only [jt2, jt3, jt4]); first | omega | (simp (disch := omega) only [jst_eq, jst_ne, jst_ni, jst_o, jI_i, jcpy_out, w32_id, jdiv_nn, jshr_k, jand_255] <;> first | done | omega | assumption)) | (intros; simp (disch := omega) only [jst_eq, jst_ne, jst_ni, jst_o, jI_i, jcpy_out, w32_id, jdiv_nn, *] <;> first | done | omega) | (intros; simp (disch := omega) only [jst_eq, jst_ne, jst_ni, jst_o, jI_i, jcpy_out, w32_id, jdiv_nn] at * <;> first | done | omega | assumption) | (intros; first | rfl | (exfalso; omega) | ((repeat' apply And.intro) <;> first | assumption | rfl | omega | trivial))) -- o7 e1.1
        · (intro _; refine ⟨-1, ?_, .inl ⟨by decide, RD4⟩⟩; rw [W4, eP]; refine ⟨fun _ => ⟨p56, fun _ => ⟨rfl, rfl, rfl⟩, fun w => absurd A0 w⟩, fun w => ?_⟩; rw [if_pos A0] at w; rw [EW0 A0] at k; exact absurd k w) -- o8 e1.2
        · (intro y; exact absurd A0 y) -- o9 e1.3
      · skip
        try simp (disch := omega) only [jst_eq, jst_ne, jst_ni, jI_i, jcmp_lt, jcmp_gt, w32_id, jcpy_out, Sum.elim_inl, Sum.elim_inr, jt2, jt3, jt4, jt5, jt6, jt7, jt8] at c3
        have A1 : ¬ h (h 200 16) 19 = 0 := by { rw [← e19]; exact c3 }
        rw [EWK A1] at k o1
        obtain ⟨AK4, d, f0, gs4⟩ := AS4 A1
        have EPe : EP = EPn E (kA K).1 (kA K).2.1 := by { rcases ep with y | y; { exact absurd y.1 A1 }; { exact y.2.2 } }
        have KA := AK4.1.2.1
        have VK := AK4.2.2.2.2.2.2.1
        have TM := rd_tm (sk := true) (E := E) (kf := (kA K).2.1) (m := (kA K).1) (w := kR K) st.1.2.1 st.1.2.2.2.2.2 hB T.2.1 T.1 (by omega) (fun k k0 k1 => VK.1 k k0 k1) eP (by rw [← EPe]; exact k)
        rw [← EPe] at TM
        obtain ⟨TM1, SE, KDw, KD, FK1, GT1, -⟩ := TM
        obtain ⟨TY, DE, WT, S1, D12, NV⟩ := TM1
        have kr0 := AK4.2.2.2.2.2.2.2.1
        have KRR : (inf (rsE EP t 0)).2.2.1 = kR K := by { rw [KD]; exact KDw (by omega) }
        have H3 : 0 + hlT t ≤ 3 := hl_E GT1 FK1
        have HC : hcT (hlT t) (rsE EP t 0) := hc_E GT1 FK1
        have h00 := hlT_0 t
        have s0 := sz_pos (rsE EP t 0)
        have CX4 : cX h4 324 (rsE EP t 0) 0 0 1 := rXc_cX st.1.2.1 TY rx (Int.le_refl _)
        have LN := AK4.2.2.2.2.2.2.2.2.2.1
        have C4 : capT h4 324 2200 := ⟨(LN 325 (by decide) (by decide)).2.trans (by decide), (LN 326 (by decide) (by decide)).2.trans (by decide), (LN 327 (by decide) (by decide)).2.trans (by decide), (LN 328 (by decide) (by decide)).2.trans (by decide), (LN 329 (by decide) (by decide)).2.trans (by decide), by decide, by decide, by decide⟩
        rw [v0]
        refine OK_if (fun c4 => ?_) (fun c4 => ?_)
        · skip
          try simp (disch := omega) only [jst_eq, jst_ne, jst_ni, jI_i, jcmp_lt, jcmp_gt, w32_id, jcpy_out, Sum.elim_inl, Sum.elim_inr, jt2, jt3, jt4, jt5, jt6, jt7, jt8] at c4
          refine OK_some ?_
          try dsimp only [Sum.elim_inl, Sum.elim_inr, jt2, jt3, jt4, jt5, jt6, jt7, jt8]
          try dsimp only [Sum.elim_inl, Sum.elim_inr, jt2, jt3, jt4, jt5, jt6, jt7, jt8]
          refine ⟨?_, ?_, ?_⟩
          · (first | assumption | omega | ((try dsimp only [jt2, jt3, jt4]); first | omega | (simp (disch := omega) only [jst_eq, jst_ne, jst_ni, jst_o, jI_i, jcpy_out, w32_id, jdiv_nn, jshr_k, jand_255] <;> first | done | omega | assumption)) | (intros; simp (disch := omega) only [jst_eq, jst_ne, jst_ni, jst_o, jI_i, jcpy_out, w32_id, jdiv_nn, *] <;> first | done | omega) | (intros; simp (disch := omega) only [jst_eq, jst_ne, jst_ni, jst_o, jI_i, jcpy_out, w32_id, jdiv_nn] at * <;> first | done | omega | assumption) | (intros; first | rfl | (exfalso; omega) | ((repeat' apply And.intro) <;> first | assumption | rfl | omega | trivial))) -- o10 e2.1
          · (intro _; refine ⟨-1, ?_, .inl ⟨by decide, RD4⟩⟩; rw [W4, eP, if_neg A1]; exact ⟨fun _ => ⟨p56, fun w => absurd A1 w, fun _ => ⟨.inl ⟨by omega, rfl, rfl, rfl⟩, fun w => by omega⟩⟩, fun w => absurd k w⟩) -- o11 e2.2
          · exact AK0 -- o12 e2.3
        · skip
          try simp (disch := omega) only [jst_eq, jst_ne, jst_ni, jI_i, jcmp_lt, jcmp_gt, w32_id, jcpy_out, Sum.elim_inl, Sum.elim_inr, jt2, jt3, jt4, jt5, jt6, jt7, jt8] at c4
          have N3 : 1 ≤ hlT t ∧ hlT t ≤ 3 := by omega
          refine OK_jlx (fun x8 ex8 => ?_)
          try simp (disch := omega) only [jst_eq, jst_ne, jst_ni, jI_i, jcmp_lt, jcmp_gt, w32_id, jcpy_out, Sum.elim_inl, Sum.elim_inr, jt2, jt3, jt4, jt5, jt6, jt7, jt8] at ex8
          have X8 : x8 = aS (hlT t) := by { have q := shl_aS N3; have E4 : w32 (4 * hlT t) = 4 * hlT t := w32_id (by omega) (by omega); rw [ex8, hz]; (try rw [E4]); rw [E4] at q; exact q }
          refine OK_jb2 (vX1_number (R := rsE EP t 0) _ _ (by exact C4) (by exact CX4) (by omega) (by omega) (by omega)) (fun v10 h11 r2 => ?_)
          try dsimp only [Sum.elim_inl, Sum.elim_inr, jt2, jt3, jt4, jt5, jt6, jt7, jt8] at r2
          obtain ⟨nv2, nh2⟩ := r2
          try simp (disch := omega) only [jst_eq, jst_ne, jst_ni, jI_i, jcmp_lt, jcmp_gt, w32_id, jcpy_out, Sum.elim_inl, Sum.elim_inr, jt2, jt3, jt4, jt5, jt6, jt7, jt8] at nv2
          try simp (disch := omega) only [jst_eq, jst_ne, jst_ni, jI_i, jcmp_lt, jcmp_gt, w32_id, jcpy_out, Sum.elim_inl, Sum.elim_inr, jt2, jt3, jt4, jt5, jt6, jt7, jt8] at nh2
          have F11 : ∀ a s, a ≠ 340 → h11 a s = h4 a s := fun a s y => by { rw [nh2]; exact if_neg (by omega) }
          have PT4 : h4 (h4 200 16) 18 = kP K ∧ 0 ≤ kP K := AK4.2.2.2.2.2.1
          have p256 := AK4.1.2.2.1.2.2
          have ar := aS_r (hlT t)
          have V10 : v10 = sz (rsE EP t 0) := by omega
          have M1 : 0 ≤ aS (hlT t) * kP K ∧ aS (hlT t) * kP K ≤ 4096 * 256 := ⟨Int.mul_nonneg (by omega) PT4.2, Int.mul_le_mul (by omega) (by omega) PT4.2 (by decide)⟩
          have M2 : 0 ≤ aS (hlT t) * kP K * sz (rsE EP t 0) ∧ aS (hlT t) * kP K * sz (rsE EP t 0) ≤ 4096 * 256 * 121 := ⟨Int.mul_nonneg M1.1 (by omega), Int.mul_le_mul M1.2 S1 (by omega) (by decide)⟩
          have WK : w64 (w64 (x8 * h4 (h4 200 16) 18) * v10) = wkS K (rsE EP t 0) (hlT t) := by { rw [X8, PT4.1, V10, w64_id (x := aS (hlT t) * kP K) (by omega) (by omega), w64_id (by omega) (by omega)]; rfl }
          have WKr : 0 ≤ wkS K (rsE EP t 0) (hlT t) ∧ wkS K (rsE EP t 0) (hlT t) ≤ 4096 * 256 * 121 := M2
          rw [WK]
          have W11 : h11 200 58 = h 200 58 := by { rw [F11 _ _ (by omega)]; exact W4 }
          refine OK_jb2 (vX1_isTooMuch _ (by (rw [W11]; omega))) (fun v13 h14 r3 => ?_)
          try dsimp only [Sum.elim_inl, Sum.elim_inr, jt2, jt3, jt4, jt5, jt6, jt7, jt8] at r3
          have tm3 := r3
          clear r3
          try simp (disch := omega) only [jst_eq, jst_ne, jst_ni, jI_i, jcmp_lt, jcmp_gt, w32_id, jcpy_out, Sum.elim_inl, Sum.elim_inr, jt2, jt3, jt4, jt5, jt6, jt7, jt8] at tm3
          have F14 : ∀ a s, a ≠ 340 → ¬ (a = 200 ∧ s = 58) → h14 a s = h4 a s := fun a s y1 y2 => by { rcases tm3 with w | w; { rw [w.2.2]; exact F11 a s y1 }; { rw [w.2.2, jst_o y2]; exact F11 a s y1 } }
          have RD14 : fRd h h14 := fun a s y1 y2 y3 y4 y5 y6 => by { by_cases q : a = 340; { rw [q] at y6 ⊢; rcases tm3 with w | w; { rw [w.2.2, nh2]; unfold plN; rw [if_neg (by omega)]; exact RD4 _ _ (by omega) (by omega) (by omega) (by omega) (by omega) (by omega) }; { rw [w.2.2, jst_o (by omega), nh2]; unfold plN; rw [if_neg (by omega)]; exact RD4 _ _ (by omega) (by omega) (by omega) (by omega) (by omega) (by omega) } }; { rw [F14 a s q (by omega)]; exact RD4 a s y1 y2 y3 y4 y5 y6 } }
          have N340 : ∀ s, s < 0 → h14 340 s = h4 340 s := fun s s0 => by { rcases tm3 with w | w; { rw [w.2.2, nh2]; exact if_neg (by omega) }; { rw [w.2.2, jst_o (by omega), nh2]; exact if_neg (by omega) } }
          have AK14 : akX h14 E Rf W K := akX_n AK4 (fun a s y => by unfold nA at y; by_cases q : a = 340; { rw [q]; exact N340 s (by omega) }; { exact F14 a s q (by omega) }) (by unfold b10; rw [F14 _ _ (by omega) (by omega)]; exact AK4.1.1.2.2.2.2)
          have GS14 : GSx h14 E W (kA K) (kP K) (MKa E W K) cn d f0 := GSx_g (fun a s y => by unfold sA at y; exact F14 a s (by omega) (by omega)) gs4
          have TR14 : trX h14 324 0 2200 (rsE EP t 0) 0 0 := trX_fr (fun a s x0 x1 _ _ => F14 _ _ (by omega) (by omega)) (fun s _ _ => F14 _ _ (by omega) (by omega)) (cX_tr CX4 (by decide) (by decide) (by decide) (by omega)) (Int.le_refl 0)
          have N14 : h14 441 16 = hlT t := by { rw [F14 _ _ (by omega) (by omega)]; exact hz }
          have P14 : h14 200 56 = h 200 56 := by { rw [F14 _ _ (by omega) (by omega)]; exact p56 }
          refine OK_if (fun c5 => ?_) (fun c5 => ?_)
          · skip
            try simp (disch := omega) only [jst_eq, jst_ne, jst_ni, jI_i, jcmp_lt, jcmp_gt, w32_id, jcpy_out, Sum.elim_inl, Sum.elim_inr, jt2, jt3, jt4, jt5, jt6, jt7, jt8] at c5
            have TM5 : h 200 58 + wkS K (rsE EP t 0) (hlT t) ≤ 1000000000 ∧ h14 200 58 = h 200 58 + wkS K (rsE EP t 0) (hlT t) := by { rcases tm3 with w | w; { omega }; { rw [W11] at w; exact ⟨w.2.1, by rw [w.2.2, jst_eq]⟩ } }
            refine OK_jb (vX1_sketch_l93 (E := E) (Rf := Rf) (W := W) (K := K) (n := hlT t) (R := rsE EP t 0) _ _ _ (by exact ⟨K.2.2.2.2, AK14⟩) (by exact nq) (by exact ⟨N14, N3⟩) (by exact TR14) (by exact TY) (by exact HC) (by exact KRR) (by omega) (by (rw [X8]; omega)) (by rfl)) (fun o16 r4 => ?_)
            rcases o16 with o18 | o19
            · skip
              have r5 := r4; clear r4
              dsimp only [Sum.elim_inl, Sum.elim_inr] at r5
              refine OK_jml ?_
              obtain ⟨y20, h21⟩ := o18
              refine OK_jt2 ?_
              try dsimp only [Sum.elim_inl, Sum.elim_inr, jt2, jt3, jt4, jt5, jt6, jt7, jt8] at r5
              obtain ⟨fo4, ak4, fr4⟩ := r5
              try simp (disch := omega) only [jst_eq, jst_ne, jst_ni, jI_i, jcmp_lt, jcmp_gt, w32_id, jcpy_out, Sum.elim_inl, Sum.elim_inr, jt2, jt3, jt4, jt5, jt6, jt7, jt8] at fo4
              try simp (disch := omega) only [jst_eq, jst_ne, jst_ni, jI_i, jcmp_lt, jcmp_gt, w32_id, jcpy_out, Sum.elim_inl, Sum.elim_inr, jt2, jt3, jt4, jt5, jt6, jt7, jt8] at ak4
              try simp (disch := omega) only [jst_eq, jst_ne, jst_ni, jI_i, jcmp_lt, jcmp_gt, w32_id, jcpy_out, Sum.elim_inl, Sum.elim_inr, jt2, jt3, jt4, jt5, jt6, jt7, jt8] at fr4
              obtain ⟨hl, AK21, HL21⟩ := ak4
              have FLE : flT hl (rsE EP t 0) = flT (hlS (hlT t) y20) (rsE EP t 0) := fl_hc HL21 HC
              have HR := AK21.2.1.1.2.2.2.1
              have TYF : tyT E (kA K).1 (kA K).2.1 (flT hl (rsE EP t 0)) 0 := ty_fl (fun c c0 c1 => (HR c c0 c1).2) (Int.le_refl _) TY
              refine OK_jb (vX1_become (E := E) (Rf := Rf) (W := W) (K := hlK K hl) (R := rsE EP t 0) _ (by exact AK21) (by exact cA) (by exact trX_fr (fun a s x0 x1 _ _ => fr4 _ _ (by omega) (by omega)) (fun s _ _ => fr4 _ _ (by omega) (by omega)) TR14 (Int.le_refl 0)) (by exact ty_nr TY) (by exact TYF) (by exact ⟨ty_ok st.1.2.1 (by omega) (by rw [st.1.2.2.2.2.1]; decide) (Int.le_refl _) TYF (fl_nv (fun c c0 c1 => by have := HR c c0 (by omega); omega) HC NV), fl_nh _⟩) (by exact ⟨by rw [fl_dE]; omega, by omega, by omega⟩)) (fun h23 r6 => ?_)
              try dsimp only [Sum.elim_inl, Sum.elim_inr, jt2, jt3, jt4, jt5, jt6, jt7, jt8] at r6
              obtain ⟨fd5, fs5, kk5⟩ := r6
              try simp (disch := omega) only [jst_eq, jst_ne, jst_ni, jI_i, jcmp_lt, jcmp_gt, w32_id, jcpy_out, Sum.elim_inl, Sum.elim_inr, jt2, jt3, jt4, jt5, jt6, jt7, jt8] at fd5
              try simp (disch := omega) only [jst_eq, jst_ne, jst_ni, jI_i, jcmp_lt, jcmp_gt, w32_id, jcpy_out, Sum.elim_inl, Sum.elim_inr, jt2, jt3, jt4, jt5, jt6, jt7, jt8] at fs5
              try simp (disch := omega) only [jst_eq, jst_ne, jst_ni, jI_i, jcmp_lt, jcmp_gt, w32_id, jcpy_out, Sum.elim_inl, Sum.elim_inr, jt2, jt3, jt4, jt5, jt6, jt7, jt8] at kk5
              have P23 : h23 200 56 = h 200 56 := by { rw [fs5 _ _ (by omega) (by omega) (by omega) (by omega), fr4 _ _ (by omega) (by omega)]; exact P14 }
              have W23 : h23 200 58 = h 200 58 + wkS K (rsE EP t 0) (hlT t) := by { rw [fs5 _ _ (by omega) (by omega) (by omega) (by omega), fr4 _ _ (by omega) (by omega)]; exact TM5.2 }
              have FD : fdK h23 E W K (flT (hlS (hlT t) y20) (rsE EP t 0)) := by { rw [← FLE]; exact fd5 }
              refine OK_some ?_
              try dsimp only [Sum.elim_inl, Sum.elim_inr, jt2, jt3, jt4, jt5, jt6, jt7, jt8]
              try dsimp only [Sum.elim_inl, Sum.elim_inr, jt2, jt3, jt4, jt5, jt6, jt7, jt8]
              refine ⟨?_, ?_, ?_⟩
              · (first | assumption | omega | ((try dsimp only [jt2, jt3, jt4]); first | omega | (simp (disch := omega) only [jst_eq, jst_ne, jst_ni, jst_o, jI_i, jcpy_out, w32_id, jdiv_nn, jshr_k, jand_255] <;> first | done | omega | assumption)) | (intros; simp (disch := omega) only [jst_eq, jst_ne, jst_ni, jst_o, jI_i, jcpy_out, w32_id, jdiv_nn, *] <;> first | done | omega) | (intros; simp (disch := omega) only [jst_eq, jst_ne, jst_ni, jst_o, jI_i, jcpy_out, w32_id, jdiv_nn] at * <;> first | done | omega | assumption) | (intros; first | rfl | (exfalso; omega) | ((repeat' apply And.intro) <;> first | assumption | rfl | omega | trivial))) -- o36 e3.1
              · (intro _; refine ⟨y20, ?_, .inr ⟨fo4.1, fRd_F (fRd_t RD14 (fSk_Rd fr4)) fs5⟩⟩; rw [W23, eP, if_neg A1]; exact ⟨fun _ => ⟨P23, fun w => absurd A1 w, fun _ => ⟨.inr (.inr ⟨N3.1, TM5.1, rfl, .inl ⟨fo4.1, by have q := fo4.2.1; rw [X8] at q; exact q, fo4.2.2.1, fo4.2.2.2, rfl⟩⟩), fun _ => FD⟩⟩, fun w => absurd k w⟩) -- o37 e3.2
              · exact fun _ => ⟨hl, asX_hl nq kk5 (GSx_g (fBF_S (fB_F fs5)) (GSx_g (fSk_S fr4) GS14))⟩ -- o38 e3.3
            · skip
              have r7 := r4; clear r4
              dsimp only [Sum.elim_inl, Sum.elim_inr] at r7
              try dsimp only [Sum.elim_inl, Sum.elim_inr, jt2, jt3, jt4, jt5, jt6, jt7, jt8] at r7
              obtain ⟨no6, ak6, fr6⟩ := r7
              try simp (disch := omega) only [jst_eq, jst_ne, jst_ni, jI_i, jcmp_lt, jcmp_gt, w32_id, jcpy_out, Sum.elim_inl, Sum.elim_inr, jt2, jt3, jt4, jt5, jt6, jt7, jt8] at no6
              try simp (disch := omega) only [jst_eq, jst_ne, jst_ni, jI_i, jcmp_lt, jcmp_gt, w32_id, jcpy_out, Sum.elim_inl, Sum.elim_inr, jt2, jt3, jt4, jt5, jt6, jt7, jt8] at ak6
              try simp (disch := omega) only [jst_eq, jst_ne, jst_ni, jI_i, jcmp_lt, jcmp_gt, w32_id, jcpy_out, Sum.elim_inl, Sum.elim_inr, jt2, jt3, jt4, jt5, jt6, jt7, jt8] at fr6
              refine OK_jmr ?_
              have P19 : o19 200 56 = h 200 56 := by { rw [fr6 _ _ (by omega) (by omega)]; exact P14 }
              have W19 : o19 200 58 = h 200 58 + wkS K (rsE EP t 0) (hlT t) := by { rw [fr6 _ _ (by omega) (by omega)]; exact TM5.2 }
              refine OK_some ?_
              try dsimp only [Sum.elim_inl, Sum.elim_inr, jt2, jt3, jt4, jt5, jt6, jt7, jt8]
              try dsimp only [Sum.elim_inl, Sum.elim_inr, jt2, jt3, jt4, jt5, jt6, jt7, jt8]
              refine ⟨?_, ?_, ?_⟩
              · (first | assumption | omega | ((try dsimp only [jt2, jt3, jt4]); first | omega | (simp (disch := omega) only [jst_eq, jst_ne, jst_ni, jst_o, jI_i, jcpy_out, w32_id, jdiv_nn, jshr_k, jand_255] <;> first | done | omega | assumption)) | (intros; simp (disch := omega) only [jst_eq, jst_ne, jst_ni, jst_o, jI_i, jcpy_out, w32_id, jdiv_nn, *] <;> first | done | omega) | (intros; simp (disch := omega) only [jst_eq, jst_ne, jst_ni, jst_o, jI_i, jcpy_out, w32_id, jdiv_nn] at * <;> first | done | omega | assumption) | (intros; first | rfl | (exfalso; omega) | ((repeat' apply And.intro) <;> first | assumption | rfl | omega | trivial))) -- o39 e4.1
              · (intro _; refine ⟨-1, ?_, .inl ⟨by decide, fRd_t RD14 (fSk_Rd fr6)⟩⟩; rw [W19, eP, if_neg A1]; exact ⟨fun _ => ⟨P19, fun w => absurd A1 w, fun _ => ⟨.inr (.inr ⟨N3.1, TM5.1, rfl, .inr ⟨rfl, rfl, fun u u0 u1 => no6 u u0 (by rw [X8]; exact u1)⟩⟩), fun w => by omega⟩⟩, fun w => absurd k w⟩) -- o40 e4.2
              · (intro _; obtain ⟨hl, AK19⟩ := ak6; exact ⟨hl, asX_hl nq AK19 (GSx_g (fSk_S fr6) GS14)⟩) -- o41 e4.3
          · skip
            try simp (disch := omega) only [jst_eq, jst_ne, jst_ni, jI_i, jcmp_lt, jcmp_gt, w32_id, jcpy_out, Sum.elim_inl, Sum.elim_inr, jt2, jt3, jt4, jt5, jt6, jt7, jt8] at c5
            have TM5 : 1000000000 < h 200 58 + wkS K (rsE EP t 0) (hlT t) ∧ h14 200 58 = h 200 58 := by { rcases tm3 with w | w; { rw [W11] at w; exact ⟨w.2.1, by rw [w.2.2]; exact W11⟩ }; { omega } }
            refine OK_some ?_
            try dsimp only [Sum.elim_inl, Sum.elim_inr, jt2, jt3, jt4, jt5, jt6, jt7, jt8]
            try dsimp only [Sum.elim_inl, Sum.elim_inr, jt2, jt3, jt4, jt5, jt6, jt7, jt8]
            refine ⟨?_, ?_, ?_⟩
            · (first | assumption | omega | ((try dsimp only [jt2, jt3, jt4]); first | omega | (simp (disch := omega) only [jst_eq, jst_ne, jst_ni, jst_o, jI_i, jcpy_out, w32_id, jdiv_nn, jshr_k, jand_255] <;> first | done | omega | assumption)) | (intros; simp (disch := omega) only [jst_eq, jst_ne, jst_ni, jst_o, jI_i, jcpy_out, w32_id, jdiv_nn, *] <;> first | done | omega) | (intros; simp (disch := omega) only [jst_eq, jst_ne, jst_ni, jst_o, jI_i, jcpy_out, w32_id, jdiv_nn] at * <;> first | done | omega | assumption) | (intros; first | rfl | (exfalso; omega) | ((repeat' apply And.intro) <;> first | assumption | rfl | omega | trivial))) -- o42 e5.1
            · (intro _; refine ⟨-1, ?_, .inl ⟨by decide, RD14⟩⟩; rw [TM5.2, eP, if_neg A1]; exact ⟨fun _ => ⟨P14, fun w => absurd A1 w, fun _ => ⟨.inr (.inl ⟨N3.1, TM5.1, rfl, rfl, rfl⟩), fun w => by omega⟩⟩, fun w => absurd k w⟩) -- o43 e5.2
            · exact fun _ => ⟨K.2.2.2.2, AK14, d, f0, GS14⟩ -- o44 e5.3
    · skip
      try simp (disch := omega) only [jst_eq, jst_ne, jst_ni, jI_i, jcmp_lt, jcmp_gt, w32_id, jcpy_out, Sum.elim_inl, Sum.elim_inr, jt2, jt3, jt4, jt5, jt6, jt7, jt8] at c2
      refine OK_some ?_
      try dsimp only [Sum.elim_inl, Sum.elim_inr, jt2, jt3, jt4, jt5, jt6, jt7, jt8]
      try dsimp only [Sum.elim_inl, Sum.elim_inr, jt2, jt3, jt4, jt5, jt6, jt7, jt8]
      refine ⟨?_, ?_, ?_⟩
      · (first | assumption | omega | ((try dsimp only [jt2, jt3, jt4]); first | omega | (simp (disch := omega) only [jst_eq, jst_ne, jst_ni, jst_o, jI_i, jcpy_out, w32_id, jdiv_nn, jshr_k, jand_255] <;> first | done | omega | assumption)) | (intros; simp (disch := omega) only [jst_eq, jst_ne, jst_ni, jst_o, jI_i, jcpy_out, w32_id, jdiv_nn, *] <;> first | done | omega) | (intros; simp (disch := omega) only [jst_eq, jst_ne, jst_ni, jst_o, jI_i, jcpy_out, w32_id, jdiv_nn] at * <;> first | done | omega | assumption) | (intros; first | rfl | (exfalso; omega) | ((repeat' apply And.intro) <;> first | assumption | rfl | omega | trivial))) -- o45 e6.1
      · (intro _; refine ⟨-1, ?_, .inl ⟨by decide, RD4⟩⟩; rw [W4]; have q := outSk_ng (E := E) (W := W) (K := K) (th := ¬ h (h 200 16) 19 = 0) (w0 := h 200 58) (fd := fdK h4 E W K) o1 c2; by_cases y : h (h 200 16) 19 = 0; { rw [if_pos y]; rw [EW0 y] at q; exact q }; { rw [if_neg y]; rw [EWK y] at q; exact q }) -- o46 e6.2
      · exact AK0 -- o47 e6.3
  · skip
    try simp (disch := omega) only [jst_eq, jst_ne, jst_ni, jI_i, jcmp_lt, jcmp_gt, w32_id, jcpy_out, Sum.elim_inl, Sum.elim_inr, jt2, jt3, jt4, jt5, jt6, jt7, jt8] at c1
    refine OK_some ?_
    try dsimp only [Sum.elim_inl, Sum.elim_inr, jt2, jt3, jt4, jt5, jt6, jt7, jt8]
    try dsimp only [Sum.elim_inl, Sum.elim_inr, jt2, jt3, jt4, jt5, jt6, jt7, jt8]
    refine ⟨?_, ?_, ?_⟩
    · exact fun _ => ⟨rfl, rfl⟩ -- o48 e7.1
    · (intro y; exact absurd y c1) -- o49 e7.2
    · exact fun y => ⟨K.2.2.2.2, ak y⟩ -- o50 e7.3

