/-! x: a cheaper term, whole -/
theorem akX_pp {h : AH} {E : EV} {Rf : Int → TR} {W : Int → Int → Int → VW} {K : AK} (ak : akX h E Rf W K) : pp9 (kA K) := fun k k0 k1 => (ak.2.2.2.2.2.2.1.2.2 k k0 k1).1
theorem akX_GT {h : AH} {E : EV} {Rf : Int → TR} {W : Int → Int → Int → VW} {K : AK} (ak : akX h E Rf W K) {p : Nat} (l : lvK E W (kP K) (kA K) p) : ∀ m : Nat, m ≤ p → GT E W (kP K) (kA K) m (LV E W (kP K) (kA K) m) := fun m lm => ak_GT ak (fun j lj => l j (by omega))
/-- a told term of pieces: it stands in the table of its price -/
theorem ch_has {E : EV} {W : Int → Int → Int → VW} {K : AK} {R : TR} (ce : acE E) (va : VA E (kA K) (kP K)) (np : 0 ≤ (kA K).2.2.2.1) {p : Nat} (G : ∀ m : Nat, m ≤ p → GT E W (kP K) (kA K) m (LV E W (kP K) (kA K) m)) (ty : tyT E (kA K).1 (kA K).2.1 R 0) (pl : pnT R) (dk : dpT R ≤ 39) (e : cosT (kA K) R = p) : hasT (kP K) (LV E W (kP K) (kA K) p) (inf R).2.2.1 (evQ W K (fun _ => 0) R) := cos_has ce va np G (fun _ _ _ => 0) (fun _ => 0) 40 R (by omega) ty pl p e (Nat.le_refl _)
theorem evQ_hl {E : EV} {W : Int → Int → Int → VW} {K : AK} {R : TR} (l : E.2.2.1 ≠ 1) (t : tyT E (kA K).1 (kA K).2.1 R 0) (n : nhT R) {hl hl' : Int → Int} {p : Int} : evQ W K hl R p = evQ W K hl' R p := by
  unfold evQ
  rw [evT_cg (np := (kA K).1) (N := E.1.1) (W' := W) (f' := fun _ _ _ => 0) (p' := (kA K).2.2.1 p) (hl' := hl') (fun _ _ _ _ _ => rfl) (fun c c0 c1 => rfl) (ty_cg l t n)]
theorem vX1_cheaper {h : AH} {B : Int → Int} {n : Int} {E EP : EV} {Rf : Int → TR} {W : Int → Int → Int → VW} {K : AK} {cn : Int → Int → Int} (hB : ∀ i, 0 ≤ i → i < n → 0 ≤ B i ∧ B i < 256) (tb : n = h 200 55 ∧ tapX B n h) (st : stX h E Rf W) (x4 : isX4 (h 200 16)) (cA : ∀ a, 0 ≤ a → a < E.1.1 → E.1.2.1 a < 282429536481) (ak : ¬ h (h 200 16) 19 = 0 → asX h E Rf W K cn) (ep : epK h E Rf W K EP) : OK (gX1_cheaper h) (fun r => jt2 r fun v h' => (¬ h 200 53 = 0 → v = -5 ∧ h' = h) ∧ (h 200 53 = 0 → ∃ y, outCh E EP W K (¬ h (h 200 16) 19 = 0) (pA B n false (beg B n)) (h 200 56) v (h' 200 56) y (fdK h' E W K) ∧ ((y < 0 ∧ fRd h h') ∨ (0 ≤ y ∧ fRf h h'))) ∧ (¬ h (h 200 16) 19 = 0 → asX h' E Rf W K cn)) := by
  have T := tb.2
  have x42 : h 200 16 = 271 ∨ h 200 16 = 289 := x4
  unfold gX1_cheaper
  refine OK_if (fun c1 => ?_) (fun c1 => ?_)
  · skip
    try simp (disch := omega) only [jst_eq, jst_ne, jst_ni, jI_i, jcmp_lt, jcmp_gt, w32_id, jcpy_out, Sum.elim_inl, Sum.elim_inr, jt2, jt3, jt4, jt5, jt6, jt7, jt8] at c1
    refine OK_jb2 (vRT (B := B) (n := n) (sk := false) (E := E) (EP := EP) (Rf := Rf) (W := W) (K := K) _ _ (by exact hB) (by exact tb) (by rfl) (by exact st) (by exact x4) (by exact ep)) (fun v3 h4 r1 => ?_)
    try dsimp only [Sum.elim_inl, Sum.elim_inr, jt2, jt3, jt4, jt5, jt6, jt7, jt8] at r1
    obtain ⟨o1, fr1⟩ := r1
    try simp (disch := omega) only [jst_eq, jst_ne, jst_ni, jI_i, jcmp_lt, jcmp_gt, w32_id, jcpy_out, Sum.elim_inl, Sum.elim_inr, jt2, jt3, jt4, jt5, jt6, jt7, jt8] at o1
    try simp (disch := omega) only [jst_eq, jst_ne, jst_ni, jI_i, jcmp_lt, jcmp_gt, w32_id, jcpy_out, Sum.elim_inl, Sum.elim_inr, jt2, jt3, jt4, jt5, jt6, jt7, jt8] at fr1
    rw [if_pos (Or.inl trivial)] at o1
    have e16 : h4 200 16 = h 200 16 := fr1 _ _ (by omega) (by omega) (by omega) (by omega) (by omega) (by omega)
    have e19 : h4 (h4 200 16) 19 = h (h 200 16) 19 := by { rw [e16]; exact fr1 _ _ (by omega) (by omega) (by omega) (by omega) (by omega) (by omega) }
    have AS4 : ¬ h (h 200 16) 19 = 0 → asX h4 E Rf W K cn := fun y => asX_g (ak y) (frXr_S fr1) (akX_n (ak y).1 (frXr_A fr1) (by unfold b10; rw [fr1 _ _ (by omega) (by omega) (by omega) (by omega) (by omega) (by omega)]; exact (ak y).1.1.1.2.2.2.2))
    have RD4 := frXr_Rd fr1
    refine OK_if (fun c2 => ?_) (fun c2 => ?_)
    · skip
      try simp (disch := omega) only [jst_eq, jst_ne, jst_ni, jI_i, jcmp_lt, jcmp_gt, w32_id, jcpy_out, Sum.elim_inl, Sum.elim_inr, jt2, jt3, jt4, jt5, jt6, jt7, jt8] at c2
      obtain ⟨t, eP, k, v0, rx, nz, hz, p56⟩ := outX_ok o1 c2
      refine OK_if (fun c3 => ?_) (fun c3 => ?_)
      · skip
        try simp (disch := omega) only [jst_eq, jst_ne, jst_ni, jI_i, jcmp_lt, jcmp_gt, w32_id, jcpy_out, Sum.elim_inl, Sum.elim_inr, jt2, jt3, jt4, jt5, jt6, jt7, jt8] at c3
        have A0 : h (h 200 16) 19 = 0 := by { rw [← e19]; exact c3 }
        refine OK_some ?_
        try dsimp only [Sum.elim_inl, Sum.elim_inr, jt2, jt3, jt4, jt5, jt6, jt7, jt8]
        try dsimp only [Sum.elim_inl, Sum.elim_inr, jt2, jt3, jt4, jt5, jt6, jt7, jt8]
        refine ⟨?_, ?_, ?_⟩
        · (first | assumption | omega | ((try dsimp only [jt2, jt3, jt4]); first | omega | (simp (disch := omega) only [jst_eq, jst_ne, jst_ni, jst_o, jI_i, jcpy_out, w32_id, jdiv_nn, jshr_k, jand_255] <;> first | done | omega | assumption)) | (intros; simp (disch := omega) only [jst_eq, jst_ne, jst_ni, jst_o, jI_i, jcpy_out, w32_id, jdiv_nn, *] <;> first | done | omega) | (intros; simp (disch := omega) only [jst_eq, jst_ne, jst_ni, jst_o, jI_i, jcpy_out, w32_id, jdiv_nn] at * <;> first | done | omega | assumption) | (intros; first | rfl | (exfalso; omega) | ((repeat' apply And.intro) <;> first | assumption | rfl | omega | trivial))) -- o7 e1.1
        · (intro _; refine ⟨-1, ?_, .inl ⟨by decide, RD4⟩⟩; rw [eP]; exact ⟨fun _ => ⟨p56, fun _ => ⟨rfl, rfl⟩, fun w => absurd A0 w⟩, fun w => absurd k w⟩) -- o8 e1.2
        · (intro y; exact absurd A0 y) -- o9 e1.3
      · skip
        try simp (disch := omega) only [jst_eq, jst_ne, jst_ni, jI_i, jcmp_lt, jcmp_gt, w32_id, jcpy_out, Sum.elim_inl, Sum.elim_inr, jt2, jt3, jt4, jt5, jt6, jt7, jt8] at c3
        have A1 : ¬ h (h 200 16) 19 = 0 := by { rw [← e19]; exact c3 }
        obtain ⟨AK4, d, f0, gs4⟩ := AS4 A1
        have EPe : EP = EPn E (kA K).1 (kA K).2.1 := by { rcases ep with y | y; { exact absurd y.1 A1 }; { exact y.2.2 } }
        have KA := AK4.1.2.1
        have VK := AK4.2.2.2.2.2.2.1
        have NP := AK4.1.2.2.2.1.2.1
        have TM := rd_tm (sk := false) (E := E) (kf := (kA K).2.1) (m := (kA K).1) (w := -1) st.1.2.1 st.1.2.2.2.2.2 hB T.2.1 T.1 (by omega) (fun k k0 k1 => VK.1 k k0 k1) eP (by rw [← EPe]; exact k)
        rw [← EPe] at TM
        obtain ⟨⟨TY, DE, WT, S1, D12, NV⟩, SE, _, KD, FK1, GT1, NH, -⟩ := (show _ ∧ _ ∧ _ ∧ _ ∧ _ ∧ _ ∧ _ ∧ True from ⟨TM.1, TM.2.1, TM.2.2.1, TM.2.2.2.1, TM.2.2.2.2.1, TM.2.2.2.2.2.1, TM.2.2.2.2.2.2, trivial⟩)
        have NH1 := (NH rfl).1
        have l0 : E.2.2.1 ≠ 1 := by { rw [st.1.2.2.2.2.1]; decide }
        have PL := ty_pl l0 TY NH1
        have s0 := sz_pos (rsE EP t 0)
        have TR4 : trX h4 324 0 2200 (rsE EP t 0) 0 0 := rXc_tr st.1.2.1 TY rx (by decide) (by decide) (by decide) (by decide) (by omega)
        have LN := AK4.2.2.2.2.2.2.2.2.2.1
        have C4 : capT h4 324 2200 := ⟨(LN 325 (by decide) (by decide)).2.trans (by decide), (LN 326 (by decide) (by decide)).2.trans (by decide), (LN 327 (by decide) (by decide)).2.trans (by decide), (LN 328 (by decide) (by decide)).2.trans (by decide), (LN 329 (by decide) (by decide)).2.trans (by decide), by decide, by decide, by decide⟩
        rw [v0]
        refine OK_jb (vX1_priceOf (A := kA K) (R := rsE EP t 0) _ (by exact pcXA_of AK4.1) (by exact akX_pp AK4) (by exact C4) (by exact TR4) (by omega) (by omega) (by exact ⟨E, (kA K).1, (kA K).2.1, TY⟩)) (fun v8 r2 => ?_)
        try dsimp only [Sum.elim_inl, Sum.elim_inr, jt2, jt3, jt4, jt5, jt6, jt7, jt8] at r2
        have pv2 := r2
        clear r2
        try simp (disch := omega) only [jst_eq, jst_ne, jst_ni, jI_i, jcmp_lt, jcmp_gt, w32_id, jcpy_out, Sum.elim_inl, Sum.elim_inr, jt2, jt3, jt4, jt5, jt6, jt7, jt8] at pv2
        have CR := cos_r (akX_pp AK4) NP (rsE EP t 0)
        refine OK_if (fun c4 => ?_) (fun c4 => ?_)
        · skip
          try simp (disch := omega) only [jst_eq, jst_ne, jst_ni, jI_i, jcmp_lt, jcmp_gt, w32_id, jcpy_out, Sum.elim_inl, Sum.elim_inr, jt2, jt3, jt4, jt5, jt6, jt7, jt8] at c4
          refine OK_some ?_
          try dsimp only [Sum.elim_inl, Sum.elim_inr, jt2, jt3, jt4, jt5, jt6, jt7, jt8]
          try dsimp only [Sum.elim_inl, Sum.elim_inr, jt2, jt3, jt4, jt5, jt6, jt7, jt8]
          refine ⟨?_, ?_, ?_⟩
          · (first | assumption | omega | ((try dsimp only [jt2, jt3, jt4]); first | omega | (simp (disch := omega) only [jst_eq, jst_ne, jst_ni, jst_o, jI_i, jcpy_out, w32_id, jdiv_nn, jshr_k, jand_255] <;> first | done | omega | assumption)) | (intros; simp (disch := omega) only [jst_eq, jst_ne, jst_ni, jst_o, jI_i, jcpy_out, w32_id, jdiv_nn, *] <;> first | done | omega) | (intros; simp (disch := omega) only [jst_eq, jst_ne, jst_ni, jst_o, jI_i, jcpy_out, w32_id, jdiv_nn] at * <;> first | done | omega | assumption) | (intros; first | rfl | (exfalso; omega) | ((repeat' apply And.intro) <;> first | assumption | rfl | omega | trivial))) -- o17 e2.1
          · (intro _; refine ⟨-1, ?_, .inl ⟨by decide, RD4⟩⟩; rw [eP]; exact ⟨fun _ => ⟨p56, fun w => absurd A1 w, fun _ => ⟨.inl ⟨by omega, rfl, rfl⟩, fun w => by omega⟩⟩, fun w => absurd k w⟩) -- o18 e2.2
          · exact AS4 -- o19 e2.3
        · skip
          try simp (disch := omega) only [jst_eq, jst_ne, jst_ni, jI_i, jcmp_lt, jcmp_gt, w32_id, jcpy_out, Sum.elim_inl, Sum.elim_inr, jt2, jt3, jt4, jt5, jt6, jt7, jt8] at c4
          refine OK_if (fun c5 => ?_) (fun c5 => ?_)
          · skip
            try simp (disch := omega) only [jst_eq, jst_ne, jst_ni, jI_i, jcmp_lt, jcmp_gt, w32_id, jcpy_out, Sum.elim_inl, Sum.elim_inr, jt2, jt3, jt4, jt5, jt6, jt7, jt8] at c5
            refine OK_jb2 (vX5_grow (E := E) (Rf := Rf) (W := W) (f := fun _ _ _ => 0) (A := kA K) (pts := kP K) (wh := K.1.2.2.1) (rv := K.1.2.2.2) (M := MKa E W K) (cn := cn) (d := d) (fl := f0) _ (by exact AK4.1) (by exact VK) (by exact AK4.2.2.2.2.1) (by exact AK4.2.2.2.2.2.1) (by omega) (by exact gs4)) (fun v12 h13 r3 => ?_)
            try dsimp only [Sum.elim_inl, Sum.elim_inr, jt2, jt3, jt4, jt5, jt6, jt7, jt8] at r3
            obtain ⟨gr3, fs3⟩ := r3
            try simp (disch := omega) only [jst_eq, jst_ne, jst_ni, jI_i, jcmp_lt, jcmp_gt, w32_id, jcpy_out, Sum.elim_inl, Sum.elim_inr, jt2, jt3, jt4, jt5, jt6, jt7, jt8] at gr3
            try simp (disch := omega) only [jst_eq, jst_ne, jst_ni, jI_i, jcmp_lt, jcmp_gt, w32_id, jcpy_out, Sum.elim_inl, Sum.elim_inr, jt2, jt3, jt4, jt5, jt6, jt7, jt8] at fs3
            obtain ⟨e, f1, r1, r2, r3⟩ := gr3
            have AK13 := akX_n AK4 (fS_A fs3.1) fs3.2
            have epv : ((v8.toNat : Nat) : Int) = v8 := by omega
            rw [← epv] at r1
            have LV13 := rch_lv r2.1 r1
            have RD13 := fRd_t RD4 (fS_Rd fs3.1)
            have p56b : h13 200 56 = h 200 56 := by { rw [fs3.1 _ _ (by omega) (by omega) (by omega) (by omega)]; exact p56 }
            refine OK_if (fun c6 => ?_) (fun c6 => ?_)
            · skip
              try simp (disch := omega) only [jst_eq, jst_ne, jst_ni, jI_i, jcmp_lt, jcmp_gt, w32_id, jcpy_out, Sum.elim_inl, Sum.elim_inr, jt2, jt3, jt4, jt5, jt6, jt7, jt8] at c6
              refine OK_some ?_
              try dsimp only [Sum.elim_inl, Sum.elim_inr, jt2, jt3, jt4, jt5, jt6, jt7, jt8]
              try dsimp only [Sum.elim_inl, Sum.elim_inr, jt2, jt3, jt4, jt5, jt6, jt7, jt8]
              refine ⟨?_, ?_, ?_⟩
              · (first | assumption | omega | ((try dsimp only [jt2, jt3, jt4]); first | omega | (simp (disch := omega) only [jst_eq, jst_ne, jst_ni, jst_o, jI_i, jcpy_out, w32_id, jdiv_nn, jshr_k, jand_255] <;> first | done | omega | assumption)) | (intros; simp (disch := omega) only [jst_eq, jst_ne, jst_ni, jst_o, jI_i, jcpy_out, w32_id, jdiv_nn, *] <;> first | done | omega) | (intros; simp (disch := omega) only [jst_eq, jst_ne, jst_ni, jst_o, jI_i, jcpy_out, w32_id, jdiv_nn] at * <;> first | done | omega | assumption) | (intros; first | rfl | (exfalso; omega) | ((repeat' apply And.intro) <;> first | assumption | rfl | omega | trivial))) -- o26 e3.1
              · (intro _; refine ⟨-1, ?_, .inl ⟨by decide, RD13⟩⟩; rw [eP]; exact ⟨fun _ => ⟨p56b, fun w => absurd A1 w, fun _ => ⟨.inr (.inl ⟨by omega, by (rw [← pv2]; exact fun y => by have := LV13.2 y; omega), rfl, rfl⟩), fun w => by omega⟩⟩, fun w => absurd k w⟩) -- o27 e3.2
              · exact fun _ => ⟨AK13, e, f1, r2⟩ -- o28 e3.3
            · skip
              try simp (disch := omega) only [jst_eq, jst_ne, jst_ni, jI_i, jcmp_lt, jcmp_gt, w32_id, jcpy_out, Sum.elim_inl, Sum.elim_inr, jt2, jt3, jt4, jt5, jt6, jt7, jt8] at c6
              have LVp : lvK E W (kP K) (kA K) v8.toNat := LV13.1 (by omega)
              have HAS : hasT (kP K) (LV E W (kP K) (kA K) v8.toNat) (inf (rsE EP t 0)).2.2.1 (evQ W K (fun _ => 0) (rsE EP t 0)) := ch_has st.1.2.1 VK NP (akX_GT AK13 LVp) TY PL (by omega) (by omega)
              obtain ⟨T13, xt13, keep13⟩ := GSx_T AK13 r2 (p := v8.toNat) (by omega)
              have TR13 : trX h13 324 0 2200 (rsE EP t 0) 0 0 := trX_fr (fun a s x0 x1 _ _ => fs3.1 _ _ (by omega) (by omega) (by omega) (by omega)) (fun s _ _ => fs3.1 _ _ (by omega) (by omega) (by omega) (by omega)) TR4 (Int.le_refl 0)
              have C13 : capT h13 324 2200 := capT_fr C4 (fun a x0 x1 => fs3.1 _ _ (by omega) (by omega) (by omega) (by omega))
              refine OK_jb (vX1_answer (E := E) (Rf := Rf) (W := W) (f := fun _ _ _ => 0) (N := 2200) (n := (kA K).1) (wh := K.1.2.2.1) (pts := kP K) (kf := (kA K).2.1) (rv := K.1.2.2.2) (hl := h13 270) (R := rsE EP t 0) _ _ (by exact ⟨akX_pk AK13, AK13.1.1.2.1, AK13.1.1.2.2.1, ⟨by unfold isX3; omega, C13⟩, trX_vw TR13, TY, AK13.2.1.1.2.2.1, by omega, fun c c0 c1 => by (have z := AK13.2.1.1.2.2.2.1 c c0 c1; omega), AK13.1.1.2.2.2.2.1, AK13.1.1.2.2.2.2.2, by decide⟩) (by exact fun _ => rfl)) (fun h16 r4 => ?_)
              try dsimp only [Sum.elim_inl, Sum.elim_inr, jt2, jt3, jt4, jt5, jt6, jt7, jt8] at r4
              obtain ⟨an4, fs4, z94⟩ := r4
              try simp (disch := omega) only [jst_eq, jst_ne, jst_ni, jI_i, jcmp_lt, jcmp_gt, w32_id, jcpy_out, Sum.elim_inl, Sum.elim_inr, jt2, jt3, jt4, jt5, jt6, jt7, jt8] at an4
              try simp (disch := omega) only [jst_eq, jst_ne, jst_ni, jI_i, jcmp_lt, jcmp_gt, w32_id, jcpy_out, Sum.elim_inl, Sum.elim_inr, jt2, jt3, jt4, jt5, jt6, jt7, jt8] at fs4
              try simp (disch := omega) only [jst_eq, jst_ne, jst_ni, jI_i, jcmp_lt, jcmp_gt, w32_id, jcpy_out, Sum.elim_inl, Sum.elim_inr, jt2, jt3, jt4, jt5, jt6, jt7, jt8] at z94
              have PZ := AK13.2.2.2.2.2.1
              have F16 : ∀ a s, ¬ (a = 200 ∧ (s = 9 ∨ s = 10)) → ¬ (a = 269 ∧ 0 ≤ s) → ¬ (a = 323 ∧ 0 ≤ s) → h16 a s = h13 a s := f323_A fs4 PZ.2
              have B16 : b10 h16 := z94.2
              have FI16 : fB h13 h16 := fun a s y1 y2 y3 y4 => F16 a s (by omega) y2 y3
              have AK16 := akX_n AK13 (fB_A FI16) B16
              have xt16 : XT h16 E W K v8.toNat T13 := XT_w (fun a s s0 y => F16 a s (by omega) (by omega) (by omega)) xt13
              have GS16 : GSx h16 E W (kA K) (kP K) (MKa E W K) cn e f1 := GSx_g (fun a s y => by unfold sA at y; exact F16 a s (by omega) (by omega) (by omega)) r2
              have RD16 : fRd h h16 := fRd_t RD13 (fun a s y1 y2 y3 _ _ _ => F16 a s (by omega) (by omega) (by omega))
              have EV16 : ∀ p, 0 ≤ p → p < kP K → h16 323 p = evQ W K (fun _ => 0) (rsE EP t 0) p := fun p p0 p1 => by { rw [an4 p p0 p1, ← evQ_hl (hl := h13 270) l0 TY NH1]; unfold evQ; congr 2; funext kk; exact (AK13.1.2.2.2.2 p kk).symm }
              have IX := ixT_h HAS
              have EXT := xt16.2.1
              have IE := EXT.2 _ IX.1 IX.2.1
              have EXL := EXT.1
              have DST := xt16.1.2.2.2.2
              have IXT : ixT (kP K) T13 (inf (rsE EP t 0)).2.2.1 (evQ W K (fun _ => 0) (rsE EP t 0)) = ixT (kP K) (LV E W (kP K) (kA K) v8.toNat) (inf (rsE EP t 0)).2.2.1 (evQ W K (fun _ => 0) (rsE EP t 0)) := ixT_e EXT DST HAS
              have HAST : hasT (kP K) T13 (inf (rsE EP t 0)).2.2.1 (evQ W K (fun _ => 0) (rsE EP t 0)) := ⟨_, IX.1, by omega, by rw [IE.1]; exact IX.2.2.1, by rw [IE.2.2.2.2]; exact IX.2.2.2⟩
              have TX16 := xt16.1.2.1
              refine OK_jb (vX1_cheaper_l85 (N := T13.1) (o := ixT (kP K) T13 (inf (rsE EP t 0)).2.2.1 (evQ W K (fun _ => 0) (rsE EP t 0))) (k := (inf (rsE EP t 0)).2.2.1) (pts := kP K) (kd := T13.2.1) (wt := T13.2.2.1) (hd := T13.2.2.2.1) (op := T13.2.2.2.2.1) (vl := T13.2.2.2.2.2) (u := evQ W K (fun _ => 0) (rsE EP t 0)) _ _ (by exact TX16) (by exact ⟨by decide, by decide, by (rw [F16 _ _ (by omega) (by omega) (by omega)]; exact (trX_nd TR13).2.2.2.2.1)⟩) (by exact EV16) (by exact ixT_h HAST) (by exact ix_first DST HAST) (by rfl)) (fun o17 r5 => ?_)
              try dsimp only [Sum.elim_inl, Sum.elim_inr, jt2, jt3, jt4, jt5, jt6, jt7, jt8] at r5
              have vo5 := r5
              clear r5
              try simp (disch := omega) only [jst_eq, jst_ne, jst_ni, jI_i, jcmp_lt, jcmp_gt, w32_id, jcpy_out, Sum.elim_inl, Sum.elim_inr, jt2, jt3, jt4, jt5, jt6, jt7, jt8] at vo5
              rw [IXT] at vo5
              have n120 := xt16.2.2.2.1
              have O17 : o17 < 121 := by { rw [vo5]; have := IX.2.1; omega }
              refine OK_jb (vX1_becomeFirst (E := E) (Rf := Rf) (W := W) (K := K) (p := v8.toNat) (T := T13) _ (by exact AK16) (by exact cA) (by exact xt16) (by (rw [vo5]; exact ⟨IX.1, IX.2.1⟩)) (by exact ⟨LVp, by omega⟩)) (fun h20 r6 => ?_)
              try dsimp only [Sum.elim_inl, Sum.elim_inr, jt2, jt3, jt4, jt5, jt6, jt7, jt8] at r6
              obtain ⟨fd6, fs6⟩ := r6
              try simp (disch := omega) only [jst_eq, jst_ne, jst_ni, jI_i, jcmp_lt, jcmp_gt, w32_id, jcpy_out, Sum.elim_inl, Sum.elim_inr, jt2, jt3, jt4, jt5, jt6, jt7, jt8] at fd6
              try simp (disch := omega) only [jst_eq, jst_ne, jst_ni, jI_i, jcmp_lt, jcmp_gt, w32_id, jcpy_out, Sum.elim_inl, Sum.elim_inr, jt2, jt3, jt4, jt5, jt6, jt7, jt8] at fs6
              have TX20 : h20 309 o17 = (LV E W (kP K) (kA K) v8.toNat).2.2.1 o17 := by { rw [fs6.1 _ _ (by omega) (by omega) (by omega) (by omega)]; have q := (TX16.2.2.2.2.2.2.2 o17 (by omega) (by omega)).2.1; rw [q, vo5, IE.2.1] }
              have EC : cosT (kA K) (rsE EP t 0) = v8 := pv2.symm
              have IR : o17 = ixR E W K (rsE EP t 0) := by { rw [vo5]; unfold ixR; rw [EC] }
              have p56c : h20 200 56 = h 200 56 := by { rw [fs6.1 _ _ (by omega) (by omega) (by omega) (by omega), F16 _ _ (by omega) (by omega) (by omega)]; exact p56b }
              rw [TX20]
              refine OK_jg (by (first | assumption | omega | ((try dsimp only [jt2, jt3, jt4]); first | omega | (simp (disch := omega) only [jst_eq, jst_ne, jst_ni, jst_o, jI_i, jcpy_out, w32_id, jdiv_nn, jshr_k, jand_255] <;> first | done | omega | assumption)) | (intros; simp (disch := omega) only [jst_eq, jst_ne, jst_ni, jst_o, jI_i, jcpy_out, w32_id, jdiv_nn, *] <;> first | done | omega) | (intros; simp (disch := omega) only [jst_eq, jst_ne, jst_ni, jst_o, jI_i, jcpy_out, w32_id, jdiv_nn] at * <;> first | done | omega | assumption) | (intros; first | rfl | (exfalso; omega) | ((repeat' apply And.intro) <;> first | assumption | rfl | omega | trivial)))) ?_ -- o42
              refine OK_some ?_
              try dsimp only [Sum.elim_inl, Sum.elim_inr, jt2, jt3, jt4, jt5, jt6, jt7, jt8]
              try dsimp only [Sum.elim_inl, Sum.elim_inr, jt2, jt3, jt4, jt5, jt6, jt7, jt8]
              refine ⟨?_, ?_, ?_⟩
              · (intro y; exact absurd c1 y) -- o43 e4.1
              · (intro _; refine ⟨o17, ?_, .inr ⟨by omega, fRd_BF RD16 fs6.1⟩⟩; rw [eP]; refine ⟨fun _ => ⟨p56c, fun w => absurd A1 w, fun _ => ⟨.inr (.inr ⟨by omega, by (rw [EC]; exact LVp), by omega, IR, by rw [EC]⟩), fun _ => ?_⟩⟩, fun w => absurd k w⟩; unfold chT; rw [← IR, EC]; exact fd6) -- o44 e4.2
              · exact fun _ => ⟨fs6.2, e, f1, GSx_g (fBF_S fs6.1) GS16⟩ -- o45 e4.3
          · skip
            try simp (disch := omega) only [jst_eq, jst_ne, jst_ni, jI_i, jcmp_lt, jcmp_gt, w32_id, jcpy_out, Sum.elim_inl, Sum.elim_inr, jt2, jt3, jt4, jt5, jt6, jt7, jt8] at c5
            refine OK_some ?_
            try dsimp only [Sum.elim_inl, Sum.elim_inr, jt2, jt3, jt4, jt5, jt6, jt7, jt8]
            try dsimp only [Sum.elim_inl, Sum.elim_inr, jt2, jt3, jt4, jt5, jt6, jt7, jt8]
            refine ⟨?_, ?_, ?_⟩
            · (first | assumption | omega | ((try dsimp only [jt2, jt3, jt4]); first | omega | (simp (disch := omega) only [jst_eq, jst_ne, jst_ni, jst_o, jI_i, jcpy_out, w32_id, jdiv_nn, jshr_k, jand_255] <;> first | done | omega | assumption)) | (intros; simp (disch := omega) only [jst_eq, jst_ne, jst_ni, jst_o, jI_i, jcpy_out, w32_id, jdiv_nn, *] <;> first | done | omega) | (intros; simp (disch := omega) only [jst_eq, jst_ne, jst_ni, jst_o, jI_i, jcpy_out, w32_id, jdiv_nn] at * <;> first | done | omega | assumption) | (intros; first | rfl | (exfalso; omega) | ((repeat' apply And.intro) <;> first | assumption | rfl | omega | trivial))) -- o46 e5.1
            · (intro _; refine ⟨-1, ?_, .inl ⟨by decide, RD4⟩⟩; rw [eP]; exact ⟨fun _ => ⟨p56, fun w => absurd A1 w, fun _ => ⟨.inl ⟨by omega, rfl, rfl⟩, fun w => by omega⟩⟩, fun w => absurd k w⟩) -- o47 e5.2
            · exact AS4 -- o48 e5.3
    · skip
      try simp (disch := omega) only [jst_eq, jst_ne, jst_ni, jI_i, jcmp_lt, jcmp_gt, w32_id, jcpy_out, Sum.elim_inl, Sum.elim_inr, jt2, jt3, jt4, jt5, jt6, jt7, jt8] at c2
      refine OK_some ?_
      try dsimp only [Sum.elim_inl, Sum.elim_inr, jt2, jt3, jt4, jt5, jt6, jt7, jt8]
      try dsimp only [Sum.elim_inl, Sum.elim_inr, jt2, jt3, jt4, jt5, jt6, jt7, jt8]
      refine ⟨?_, ?_, ?_⟩
      · (first | assumption | omega | ((try dsimp only [jt2, jt3, jt4]); first | omega | (simp (disch := omega) only [jst_eq, jst_ne, jst_ni, jst_o, jI_i, jcpy_out, w32_id, jdiv_nn, jshr_k, jand_255] <;> first | done | omega | assumption)) | (intros; simp (disch := omega) only [jst_eq, jst_ne, jst_ni, jst_o, jI_i, jcpy_out, w32_id, jdiv_nn, *] <;> first | done | omega) | (intros; simp (disch := omega) only [jst_eq, jst_ne, jst_ni, jst_o, jI_i, jcpy_out, w32_id, jdiv_nn] at * <;> first | done | omega | assumption) | (intros; first | rfl | (exfalso; omega) | ((repeat' apply And.intro) <;> first | assumption | rfl | omega | trivial))) -- o49 e6.1
      · (intro _; exact ⟨-1, outCh_ng o1 c2, .inl ⟨by decide, RD4⟩⟩) -- o50 e6.2
      · exact AS4 -- o51 e6.3
  · skip
    try simp (disch := omega) only [jst_eq, jst_ne, jst_ni, jI_i, jcmp_lt, jcmp_gt, w32_id, jcpy_out, Sum.elim_inl, Sum.elim_inr, jt2, jt3, jt4, jt5, jt6, jt7, jt8] at c1
    refine OK_some ?_
    try dsimp only [Sum.elim_inl, Sum.elim_inr, jt2, jt3, jt4, jt5, jt6, jt7, jt8]
    try dsimp only [Sum.elim_inl, Sum.elim_inr, jt2, jt3, jt4, jt5, jt6, jt7, jt8]
    refine ⟨?_, ?_, ?_⟩
    · exact fun _ => ⟨rfl, rfl⟩ -- o52 e7.1
    · (intro y; exact absurd y c1) -- o53 e7.2
    · exact ak -- o54 e7.3

