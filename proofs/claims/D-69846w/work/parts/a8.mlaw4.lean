/-! m: a law behind its names -/
theorem lmG_k {B : Int → Int} {n a la i m room N D : Int} {ks : List Int} {E : EV} {Rf : Int → TR} {K K' : LWt → Int} {W : Int ⊕ (LWt × Int)} {t : Int} {h' : AH} (e : ∀ r q, W = .inr (r, q) → K r = K' r) (o : lmG B n a ks la i m E Rf room N D K W t h') : lmG B n a ks la i m E Rf room N D K' W t h' := by
  cases w : W with
  | inl z => rw [w] at o; exact o
  | inr x => obtain ⟨r, q⟩ := x; rw [w] at o; exact ⟨o.1, o.2.1, o.2.2.1, o.2.2.2.1.trans (e r q w), o.2.2.2.2⟩
noncomputable def gX14_law_k1 (a1 : Int) (a3 : Int) (a4 : Int) (v32 : Int) (v42 : Int) (h : AH) : Option (Int × AH) := jb2 (gX14_weighed v32 a1 h) fun v46 h47 => jb2 (gX14_weighed v42 a1 h47) fun v49 h50 => if v46 = 32 then (gX14_law_j303 a1 a3 a4 v32 v42 h50) else (if v49 = 32 then (gX14_law_j303 a1 a3 a4 v32 v42 h50) else (if v46 = v49 then (gX14_law_j303 a1 a3 a4 v32 v42 h50) else (jg (jI v42 8800) <| jb (gX14_note 3 (h50 468 v42) h50) fun h55 => gX14_law_j303 a1 a3 a4 v32 v42 h55)))
noncomputable def gX14_law_k0 (a1 : Int) (a3 : Int) (a4 : Int) (v32 : Int) (h : AH) : Option (Int × AH) := jb3 (gX14_takeTerm 0 0 h) fun t41 v42 h43 => jq t41 (some (t41, h43)) <| gX14_law_k1 a1 a3 a4 v32 v42 h43
theorem vX14_law_k1 (a1 : Int) (a3 : Int) (a4 : Int) (v32 : Int) (v42 : Int) {h : AH} {B : Int → Int} {n q6 la i m N D : Int} {ks : List Int} {E : EV} {Rf : Int → TR} {ns : List (Int × Int)} {T1 T2 : TR} (hB : ∀ i, 0 ≤ i → i < n → 0 ≤ B i ∧ B i < 256) (lr : lmR B n a1 ks la i m E Rf h) (ms6 : MS B n q6 h) (N43 : nmM B n ns h) (rm : (a4 = 0 ∨ a4 = 1) ∧ (a4 = 1 → m < 4 ∧ a3 = m)) (tt : v32 = N ∧ v42 = N + sz T1 ∧ h 454 17 = N + sz T1 + sz T2 ∧ 0 ≤ D ∧ D ≤ 1100 ∧ D ≤ N ∧ m ≤ 4000 ∧ N + sz T1 + sz T2 ≤ D + 1100) (tw : toW h T1 N ∧ toW h T2 (N + sz T1)) (Q7 : ∀ q7, pW B n 59 q6 = .inr q7 → 2 * (N + sz T1 + sz T2 - D) ≤ q7) : OK (gX14_law_k1 a1 a3 a4 v32 v42 h) (fun r => jt2 r fun t h' => (lmG B n a1 ks la i m E Rf a4 N D (fun r => min (MK h) (min (keyE (EVA B n E ks la r.1) (-1) r.2.1) (keyE (EVA B n E ks la r.1) (kdE (EVA B n E ks la r.1) r.2.1) r.2.2))) (bS (pW B n 59 q6) fun q7 => .inr ((ns, T1, T2), q7)) t h') ∧ (frLW a1 m N D h h')) := by
  have LA : a1 = 476 ∨ a1 = 615 := lr.1.2.2.1
  have n2 := lr.1.1.2.2.1
  have x12 := lr.2.1
  have s1 := sz_pos T1
  have s2 := sz_pos T2
  obtain ⟨t1, t2, tp6, z0, z1, z2, m4, tb⟩ := tt
  rw [t1, t2]
  unfold gX14_law_k1
  refine OK_jb2 (wgE (E := EVA B n E ks la ns) (Rf := Rf) _ _ (by exact lr.1.2.1) (by exact lr.2.2.2.2.2) (by exact evM_A lr N43) (by exact ewO_A lr.2.2.2.1) (by exact lr.2.2.2.2.1) (by exact tw.1) (by omega)) (fun v46 h47 r1 => ?_)
  try dsimp only [Sum.elim_inl, Sum.elim_inr, jt2, jt3, jt4, jt5, jt6, jt7, jt8] at r1
  obtain ⟨vv1, mi1, mk1, dn1, pl1, fr1⟩ := r1
  try simp (disch := omega) only [jst_eq, jst_ne, jst_ni, jI_i, jcmp_lt, jcmp_gt, w32_id, jcpy_out, Sum.elim_inl, Sum.elim_inr, jt2, jt3, jt4, jt5, jt6, jt7, jt8] at vv1
  try simp (disch := omega) only [jst_eq, jst_ne, jst_ni, jI_i, jcmp_lt, jcmp_gt, w32_id, jcpy_out, Sum.elim_inl, Sum.elim_inr, jt2, jt3, jt4, jt5, jt6, jt7, jt8] at mi1
  try simp (disch := omega) only [jst_eq, jst_ne, jst_ni, jI_i, jcmp_lt, jcmp_gt, w32_id, jcpy_out, Sum.elim_inl, Sum.elim_inr, jt2, jt3, jt4, jt5, jt6, jt7, jt8] at mk1
  try simp (disch := omega) only [jst_eq, jst_ne, jst_ni, jI_i, jcmp_lt, jcmp_gt, w32_id, jcpy_out, Sum.elim_inl, Sum.elim_inr, jt2, jt3, jt4, jt5, jt6, jt7, jt8] at dn1
  try simp (disch := omega) only [jst_eq, jst_ne, jst_ni, jI_i, jcmp_lt, jcmp_gt, w32_id, jcpy_out, Sum.elim_inl, Sum.elim_inr, jt2, jt3, jt4, jt5, jt6, jt7, jt8] at pl1
  try simp (disch := omega) only [jst_eq, jst_ne, jst_ni, jI_i, jcmp_lt, jcmp_gt, w32_id, jcpy_out, Sum.elim_inl, Sum.elim_inr, jt2, jt3, jt4, jt5, jt6, jt7, jt8] at fr1
  have F47 : frLW a1 m N D h h47 := fun b s y1 y2 y3 y4 _ _ _ _ => fr1 b s (by omega) (by omega)
  have N47 : nmM B n ns h47 := nmM_f N43 (fr1 _ _ (by omega) (by omega)) (fun b s y1 y2 => fr1 _ _ (by omega) (by omega))
  have LR47 : lmR B n a1 ks la i m E Rf h47 := lmR_f lr (frLW_c ⟨by omega, by omega, x12.2.1⟩ F47) mi1 ⟨(fr1 _ _ (by omega) (by omega)).trans lr.1.2.2.2.2.2.1.1, lr.1.2.2.2.2.2.1.2⟩ ⟨(fr1 _ _ (by omega) (by omega)).trans lr.2.1.1, x12.2⟩ (by rw [fr1 _ _ (by omega) (by omega)]; omega)
  have TW2b : toW h47 T2 (N + sz T1) := toW_f tw.2 ⟨fun b s _ _ _ _ _ _ => fr1 _ _ (by omega) (by omega), fun s _ _ => fr1 _ _ (by omega) (by omega), fun s _ _ => fr1 _ _ (by omega) (by omega)⟩
  refine OK_jb2 (wgE (E := EVA B n E ks la ns) (Rf := Rf) _ _ (by exact mi1) (by exact LR47.2.2.2.2.2) (by exact evM_A LR47 N47) (by exact ewO_A LR47.2.2.2.1) (by exact LR47.2.2.2.2.1) (by exact TW2b) (by omega)) (fun v49 h50 r2 => ?_)
  try dsimp only [Sum.elim_inl, Sum.elim_inr, jt2, jt3, jt4, jt5, jt6, jt7, jt8] at r2
  obtain ⟨vv2, mi2, mk2, dn2, pl2, fr2⟩ := r2
  try simp (disch := omega) only [jst_eq, jst_ne, jst_ni, jI_i, jcmp_lt, jcmp_gt, w32_id, jcpy_out, Sum.elim_inl, Sum.elim_inr, jt2, jt3, jt4, jt5, jt6, jt7, jt8] at vv2
  try simp (disch := omega) only [jst_eq, jst_ne, jst_ni, jI_i, jcmp_lt, jcmp_gt, w32_id, jcpy_out, Sum.elim_inl, Sum.elim_inr, jt2, jt3, jt4, jt5, jt6, jt7, jt8] at mi2
  try simp (disch := omega) only [jst_eq, jst_ne, jst_ni, jI_i, jcmp_lt, jcmp_gt, w32_id, jcpy_out, Sum.elim_inl, Sum.elim_inr, jt2, jt3, jt4, jt5, jt6, jt7, jt8] at mk2
  try simp (disch := omega) only [jst_eq, jst_ne, jst_ni, jI_i, jcmp_lt, jcmp_gt, w32_id, jcpy_out, Sum.elim_inl, Sum.elim_inr, jt2, jt3, jt4, jt5, jt6, jt7, jt8] at dn2
  try simp (disch := omega) only [jst_eq, jst_ne, jst_ni, jI_i, jcmp_lt, jcmp_gt, w32_id, jcpy_out, Sum.elim_inl, Sum.elim_inr, jt2, jt3, jt4, jt5, jt6, jt7, jt8] at pl2
  try simp (disch := omega) only [jst_eq, jst_ne, jst_ni, jI_i, jcmp_lt, jcmp_gt, w32_id, jcpy_out, Sum.elim_inl, Sum.elim_inr, jt2, jt3, jt4, jt5, jt6, jt7, jt8] at fr2
  have F50 : frLW a1 m N D h h50 := frLW_t F47 ((fun b s y1 y2 y3 y4 _ _ _ _ => fr2 b s (by omega) (by omega)))
  have E50 : h50 454 17 = N + sz T1 + sz T2 := by { rw [fr2 _ _ (by omega) (by omega), fr1 _ _ (by omega) (by omega)]; exact tp6 }
  have N50 : nmM B n ns h50 := nmM_f N47 (fr2 _ _ (by omega) (by omega)) (fun b s y1 y2 => fr2 _ _ (by omega) (by omega))
  have D1 : dnM h50 (EVA B n E ks la ns) T1 N := dnM_f dn1 ⟨fun b s _ _ _ _ _ => fr2 _ _ (by omega) (by omega), fun s _ _ => fr2 _ _ (by omega) (by omega)⟩
  have K50 : MK h50 = min (min (MK h) (keyE (EVA B n E ks la ns) (-1) T1)) (keyE (EVA B n E ks la ns) (-1) T2) := by { rw [mk2, mk1] }
  have T50 : TM B n h50 := TM_fr LR47.1.1 (fr2 _ _ (by omega) (by omega)) (fun s => fr2 _ _ (by omega) (by omega))
  have MS50 : MS B n q6 h50 := MS_fr ms6 (fun s s0 s1 => (fr2 _ _ (by omega) (by omega)).trans (fr1 _ _ (by omega) (by omega)))
  have X12 : h50 a1 12 = m := (fr2 _ _ (by omega) (by omega)).trans LR47.2.1.1
  have KY := key0 (E := EVA B n E ks la ns) (w := kdE (EVA B n E ks la ns) T1) (K := min (MK h) (keyE (EVA B n E ks la ns) (-1) T1)) (T := T2) (by have := MK_r lr.1.2.1; omega)
  have KS : ∀ K', K' = min (min (min (MK h) (keyE (EVA B n E ks la ns) (-1) T1)) (keyE (EVA B n E ks la ns) (-1) T2)) (if kdE (EVA B n E ks la ns) T1 ≠ -1 ∧ kdE (EVA B n E ks la ns) T2 ≠ -1 ∧ kdE (EVA B n E ks la ns) T2 ≠ kdE (EVA B n E ks la ns) T1 then plT T2 * 8 + 3 else 1000000) → K' = min (MK h) (min (keyE (EVA B n E ks la ns) (-1) T1) (keyE (EVA B n E ks la ns) (kdE (EVA B n E ks la ns) T1) T2)) := fun K' e => by { rw [e, ← KY, Int.min_assoc] }
  have MR50 := MK_r mi2
  have PL2 := gT_i tw.2.1.2.1
  have FIN : ∀ (hx : AH) (t : Int) (h' : AH), (∀ b s, ¬ (b = 454 ∧ (s = 30 ∨ s = 31)) → hx b s = h50 b s) → MI hx → MK hx = min (MK h) (min (keyE (EVA B n E ks la ns) (-1) T1) (keyE (EVA B n E ks la ns) (kdE (EVA B n E ks la ns) T1) T2)) → l3M B n a1 m a4 N (N + sz T1) ns hx (pW B n 59 q6) t h' → frL3 a1 m hx h' → lmG B n a1 ks la i m E Rf a4 N D (fun r => min (MK h) (min (keyE (EVA B n E ks la r.1) (-1) r.2.1) (keyE (EVA B n E ks la r.1) (kdE (EVA B n E ks la r.1) r.2.1) r.2.2))) (bS (pW B n 59 q6) fun q7 => .inr ((ns, T1, T2), q7)) t h' ∧ frLW a1 m N D h h' := fun hx t h' fx mi mk ok f => lw_finM lr ⟨z0, z1, z2, m4⟩ F50 E50 tb Q7 D1 dn2 N50 fx mi mk ok f
  clear KY F47 LR47 N47 TW2b
  refine OK_if (fun c1 => ?_) (fun c1 => ?_)
  · skip
    try simp (disch := omega) only [jst_eq, jst_ne, jst_ni, jI_i, jcmp_lt, jcmp_gt, w32_id, jcpy_out, Sum.elim_inl, Sum.elim_inr, jt2, jt3, jt4, jt5, jt6, jt7, jt8] at c1
    refine OK_mono (vX14_law_j303 (B := B) (n := n) (q := q6) (m := m) (ns := ns) _ _ _ _ _ (by exact hB) (by exact T50) (by exact MS50) (by exact ⟨LA, X12, x12.2.1, m4⟩) (by exact rm) (by exact N50)) (fun r r3 => ?_)
    obtain ⟨y1, y2⟩ := r
    try dsimp only [Sum.elim_inl, Sum.elim_inr, jt2, jt3, jt4, jt5, jt6, jt7, jt8] at r3
    obtain ⟨ok3, fr3⟩ := r3
    try simp (disch := omega) only [jst_eq, jst_ne, jst_ni, jI_i, jcmp_lt, jcmp_gt, w32_id, jcpy_out, Sum.elim_inl, Sum.elim_inr, jt2, jt3, jt4, jt5, jt6, jt7, jt8] at ok3
    try simp (disch := omega) only [jst_eq, jst_ne, jst_ni, jI_i, jcmp_lt, jcmp_gt, w32_id, jcpy_out, Sum.elim_inl, Sum.elim_inr, jt2, jt3, jt4, jt5, jt6, jt7, jt8] at fr3
    try dsimp only [Sum.elim_inl, Sum.elim_inr, jt2, jt3, jt4, jt5, jt6, jt7, jt8]
    have Z := FIN h50 _ _ (fun _ _ _ => rfl) mi2 (KS _ (by rw [K50, if_neg (fun z => z.1 ((kch_c ⟨vv1.2.1, vv1.2.2⟩).2.2.mp (vv1.1.symm.trans c1)))]; rw [K50] at MR50; omega)) ok3 fr3
    try dsimp only [Sum.elim_inl, Sum.elim_inr, jt2, jt3, jt4, jt5, jt6, jt7, jt8]
    refine ⟨?_, ?_⟩
    · exact Z.1 -- o21 e1.1
    · exact Z.2 -- o22 e1.2
  · skip
    try simp (disch := omega) only [jst_eq, jst_ne, jst_ni, jI_i, jcmp_lt, jcmp_gt, w32_id, jcpy_out, Sum.elim_inl, Sum.elim_inr, jt2, jt3, jt4, jt5, jt6, jt7, jt8] at c1
    refine OK_if (fun c2 => ?_) (fun c2 => ?_)
    · skip
      try simp (disch := omega) only [jst_eq, jst_ne, jst_ni, jI_i, jcmp_lt, jcmp_gt, w32_id, jcpy_out, Sum.elim_inl, Sum.elim_inr, jt2, jt3, jt4, jt5, jt6, jt7, jt8] at c2
      refine OK_mono (vX14_law_j303 (B := B) (n := n) (q := q6) (m := m) (ns := ns) _ _ _ _ _ (by exact hB) (by exact T50) (by exact MS50) (by exact ⟨LA, X12, x12.2.1, m4⟩) (by exact rm) (by exact N50)) (fun r r4 => ?_)
      obtain ⟨y3, y4⟩ := r
      try dsimp only [Sum.elim_inl, Sum.elim_inr, jt2, jt3, jt4, jt5, jt6, jt7, jt8] at r4
      obtain ⟨ok4, fr4⟩ := r4
      try simp (disch := omega) only [jst_eq, jst_ne, jst_ni, jI_i, jcmp_lt, jcmp_gt, w32_id, jcpy_out, Sum.elim_inl, Sum.elim_inr, jt2, jt3, jt4, jt5, jt6, jt7, jt8] at ok4
      try simp (disch := omega) only [jst_eq, jst_ne, jst_ni, jI_i, jcmp_lt, jcmp_gt, w32_id, jcpy_out, Sum.elim_inl, Sum.elim_inr, jt2, jt3, jt4, jt5, jt6, jt7, jt8] at fr4
      try dsimp only [Sum.elim_inl, Sum.elim_inr, jt2, jt3, jt4, jt5, jt6, jt7, jt8]
      have Z := FIN h50 _ _ (fun _ _ _ => rfl) mi2 (KS _ (by rw [K50, if_neg (fun z => z.2.1 ((kch_c ⟨vv2.2.1, vv2.2.2⟩).2.2.mp (vv2.1.symm.trans c2)))]; rw [K50] at MR50; omega)) ok4 fr4
      try dsimp only [Sum.elim_inl, Sum.elim_inr, jt2, jt3, jt4, jt5, jt6, jt7, jt8]
      refine ⟨?_, ?_⟩
      · exact Z.1 -- o29 e2.1
      · exact Z.2 -- o30 e2.2
    · skip
      try simp (disch := omega) only [jst_eq, jst_ne, jst_ni, jI_i, jcmp_lt, jcmp_gt, w32_id, jcpy_out, Sum.elim_inl, Sum.elim_inr, jt2, jt3, jt4, jt5, jt6, jt7, jt8] at c2
      refine OK_if (fun c3 => ?_) (fun c3 => ?_)
      · skip
        try simp (disch := omega) only [jst_eq, jst_ne, jst_ni, jI_i, jcmp_lt, jcmp_gt, w32_id, jcpy_out, Sum.elim_inl, Sum.elim_inr, jt2, jt3, jt4, jt5, jt6, jt7, jt8] at c3
        refine OK_mono (vX14_law_j303 (B := B) (n := n) (q := q6) (m := m) (ns := ns) _ _ _ _ _ (by exact hB) (by exact T50) (by exact MS50) (by exact ⟨LA, X12, x12.2.1, m4⟩) (by exact rm) (by exact N50)) (fun r r5 => ?_)
        obtain ⟨y5, y6⟩ := r
        try dsimp only [Sum.elim_inl, Sum.elim_inr, jt2, jt3, jt4, jt5, jt6, jt7, jt8] at r5
        obtain ⟨ok5, fr5⟩ := r5
        try simp (disch := omega) only [jst_eq, jst_ne, jst_ni, jI_i, jcmp_lt, jcmp_gt, w32_id, jcpy_out, Sum.elim_inl, Sum.elim_inr, jt2, jt3, jt4, jt5, jt6, jt7, jt8] at ok5
        try simp (disch := omega) only [jst_eq, jst_ne, jst_ni, jI_i, jcmp_lt, jcmp_gt, w32_id, jcpy_out, Sum.elim_inl, Sum.elim_inr, jt2, jt3, jt4, jt5, jt6, jt7, jt8] at fr5
        try dsimp only [Sum.elim_inl, Sum.elim_inr, jt2, jt3, jt4, jt5, jt6, jt7, jt8]
        have Z := FIN h50 _ _ (fun _ _ _ => rfl) mi2 (KS _ (by rw [K50, if_neg (fun z => z.2.2 ((kch_inj ⟨vv1.2.1, vv1.2.2⟩ ⟨vv2.2.1, vv2.2.2⟩).mp (by rw [← vv1.1, ← vv2.1]; exact c3)).symm)]; rw [K50] at MR50; omega)) ok5 fr5
        try dsimp only [Sum.elim_inl, Sum.elim_inr, jt2, jt3, jt4, jt5, jt6, jt7, jt8]
        refine ⟨?_, ?_⟩
        · exact Z.1 -- o37 e3.1
        · exact Z.2 -- o38 e3.2
      · skip
        try simp (disch := omega) only [jst_eq, jst_ne, jst_ni, jI_i, jcmp_lt, jcmp_gt, w32_id, jcpy_out, Sum.elim_inl, Sum.elim_inr, jt2, jt3, jt4, jt5, jt6, jt7, jt8] at c3
        refine OK_jg (by (first | assumption | omega | ((try dsimp only [jt2, jt3, jt4]); first | omega | (simp (disch := omega) only [jst_eq, jst_ne, jst_ni, jst_o, jI_i, jcpy_out, w32_id, jdiv_nn, jshr_k, jand_255] <;> first | done | omega | assumption)) | (intros; simp (disch := omega) only [jst_eq, jst_ne, jst_ni, jst_o, jI_i, jcpy_out, w32_id, jdiv_nn, *] <;> first | done | omega) | (intros; simp (disch := omega) only [jst_eq, jst_ne, jst_ni, jst_o, jI_i, jcpy_out, w32_id, jdiv_nn] at * <;> first | done | omega | assumption) | (intros; first | rfl | (exfalso; omega) | ((repeat' apply And.intro) <;> first | assumption | rfl | omega | trivial)))) ?_ -- o39
        refine OK_jb (vX14_note _ _ (by exact mi2) (by (rw [pl2]; exact ⟨by decide, by decide, PL2.1, PL2.2.1⟩))) (fun h55 r6 => ?_)
        try dsimp only [Sum.elim_inl, Sum.elim_inr, jt2, jt3, jt4, jt5, jt6, jt7, jt8] at r6
        obtain ⟨m6, k6, fr6⟩ := r6
        try simp (disch := omega) only [jst_eq, jst_ne, jst_ni, jI_i, jcmp_lt, jcmp_gt, w32_id, jcpy_out, Sum.elim_inl, Sum.elim_inr, jt2, jt3, jt4, jt5, jt6, jt7, jt8] at m6
        try simp (disch := omega) only [jst_eq, jst_ne, jst_ni, jI_i, jcmp_lt, jcmp_gt, w32_id, jcpy_out, Sum.elim_inl, Sum.elim_inr, jt2, jt3, jt4, jt5, jt6, jt7, jt8] at k6
        try simp (disch := omega) only [jst_eq, jst_ne, jst_ni, jI_i, jcmp_lt, jcmp_gt, w32_id, jcpy_out, Sum.elim_inl, Sum.elim_inr, jt2, jt3, jt4, jt5, jt6, jt7, jt8] at fr6
        refine OK_mono (vX14_law_j303 (B := B) (n := n) (q := q6) (m := m) (ns := ns) _ _ _ _ _ (by exact hB) (by exact TM_fr T50 (fr6 _ _ (by omega)) (fun s => fr6 _ _ (by omega))) (by exact MS_fr MS50 (fun s s0 s1 => fr6 _ _ (by omega))) (by exact ⟨LA, (fr6 _ _ (by omega)).trans X12, x12.2.1, m4⟩) (by exact rm) (by exact nmM_f N50 (fr6 _ _ (by omega)) (fun b s y1 y2 => fr6 _ _ (by omega)))) (fun r r7 => ?_)
        obtain ⟨y7, y8⟩ := r
        try dsimp only [Sum.elim_inl, Sum.elim_inr, jt2, jt3, jt4, jt5, jt6, jt7, jt8] at r7
        obtain ⟨ok7, fr7⟩ := r7
        try simp (disch := omega) only [jst_eq, jst_ne, jst_ni, jI_i, jcmp_lt, jcmp_gt, w32_id, jcpy_out, Sum.elim_inl, Sum.elim_inr, jt2, jt3, jt4, jt5, jt6, jt7, jt8] at ok7
        try simp (disch := omega) only [jst_eq, jst_ne, jst_ni, jI_i, jcmp_lt, jcmp_gt, w32_id, jcpy_out, Sum.elim_inl, Sum.elim_inr, jt2, jt3, jt4, jt5, jt6, jt7, jt8] at fr7
        try dsimp only [Sum.elim_inl, Sum.elim_inr, jt2, jt3, jt4, jt5, jt6, jt7, jt8]
        have Z := FIN _ _ _ fr6 m6 (KS _ (by rw [k6, pl2, K50, if_pos ⟨fun z => c1 (vv1.1.trans ((kch_c ⟨vv1.2.1, vv1.2.2⟩).2.2.mpr z)), fun z => c2 (vv2.1.trans ((kch_c ⟨vv2.2.1, vv2.2.2⟩).2.2.mpr z)), fun z => c3 (by rw [vv1.1, vv2.1, z])⟩])) ok7 fr7
        try dsimp only [Sum.elim_inl, Sum.elim_inr, jt2, jt3, jt4, jt5, jt6, jt7, jt8]
        refine ⟨?_, ?_⟩
        · exact Z.1 -- o48 e4.1
        · exact Z.2 -- o49 e4.2
theorem lwf_m {a m N N' D : Int} {h h' : AH} (le : N ≤ N' ∧ h' 454 17 ≤ D + 1100) (f : frM N' h h') : frLW a m N D h h' := fun b s y1 y2 y3 y4 _ _ _ _ => f b s (by omega) y2 (by omega) (by omega)
theorem lwf_p {a m N D : Int} {h h' : AH} (f : ∀ b s, ¬ (b = 454 ∧ 26 ≤ s ∧ s ≤ 29) → ¬ (b = 472 ∧ (s = 6 ∨ s = 7)) → h' b s = h b s) : frLW a m N D h h' := fun b s y1 y2 _ _ _ _ _ _ => f b s (by omega) y2
theorem vX14_law_k0 (a1 : Int) (a3 : Int) (a4 : Int) (v32 : Int) {h : AH} {B : Int → Int} {n q5 la i m N D : Int} {ks : List Int} {E : EV} {Rf : Int → TR} {ns : List (Int × Int)} {T1 : TR} (hB : ∀ i, 0 ≤ i → i < n → 0 ≤ B i ∧ B i < 256) (lr : lmR B n a1 ks la i m E Rf h) (ms5 : MS B n q5 h) (nm : nmM B n ns h) (rm : (a4 = 0 ∨ a4 = 1) ∧ (a4 = 1 → m < 4 ∧ a3 = m)) (w2 : v32 = N ∧ h 454 17 = N + sz T1 ∧ 0 ≤ D ∧ D ≤ 1100 ∧ D ≤ N ∧ 2 * (N + sz T1 - D) ≤ q5 ∧ m ≤ 4000) (tw : toW h T1 N) : OK (gX14_law_k0 a1 a3 a4 v32 h) (fun r => jt2 r fun t h' => (lmG B n a1 ks la i m E Rf a4 N D (fun r => min (MK h) (min (keyE (EVA B n E ks la r.1) (-1) r.2.1) (keyE (EVA B n E ks la r.1) (kdE (EVA B n E ks la r.1) r.2.1) r.2.2))) (bS (pT B n false 13 q5) fun z => bS (pW B n 59 z.2) fun q7 => .inr ((ns, T1, z.1), q7)) t h') ∧ (frLW a1 m N D h h')) := by
  have LA : a1 = 476 ∨ a1 = 615 := lr.1.2.2.1
  have n2 := lr.1.1.2.2.1
  have qb := ms5.2
  have x12 := lr.2.1
  have s1 := sz_pos T1
  obtain ⟨v3, E38, D0, D1, DN, Q5, m4⟩ := w2
  rw [v3]
  unfold gX14_law_k0
  refine OK_jb3 (vX14_takeTerm (B := B) (n := n) (sk := false) _ _ (by exact hB) (by exact ⟨rfl, rfl⟩) (by exact lr.1.1) (by exact ms5) (by omega)) (fun t41 v42 h43 r1 => ?_)
  try dsimp only [Sum.elim_inl, Sum.elim_inr, jt2, jt3, jt4, jt5, jt6, jt7, jt8] at r1
  have pm1 := r1
  clear r1
  try simp (disch := omega) only [jst_eq, jst_ne, jst_ni, jI_i, jcmp_lt, jcmp_gt, w32_id, jcpy_out, Sum.elim_inl, Sum.elim_inr, jt2, jt3, jt4, jt5, jt6, jt7, jt8] at pm1
  obtain ⟨⟨g4, b4, b4n⟩, pm⟩ := pm1
  rw [E38] at g4 b4 b4n
  have F43 : frLW a1 m N D h h43 := lwf_m ⟨by omega, by omega⟩ g4
  refine OK_jq (fun c1 => ?_) (fun c1 => ?_)
  · skip
    refine OK_some ?_
    try dsimp only [Sum.elim_inl, Sum.elim_inr, jt2, jt3, jt4, jt5, jt6, jt7, jt8]
    try dsimp only [Sum.elim_inl, Sum.elim_inr, jt2, jt3, jt4, jt5, jt6, jt7, jt8]
    refine ⟨?_, ?_⟩
    · (cases e : pT B n false 13 q5 with | inl z => (rw [e] at pm; exact pm) | inr x => (obtain ⟨T, q6⟩ := x; rw [e] at pm; exact absurd pm.1 c1)) -- o6 e1.1
    · exact F43 -- o7 e1.2
  · skip
    obtain ⟨T2, q6, e6⟩ : ∃ T2 q6, pT B n false 13 q5 = .inr (T2, q6) := by { cases e : pT B n false 13 q5 with | inl z => (rw [e] at pm; have := pm.1; omega) | inr x => exact ⟨x.1, x.2, rfl⟩ }
    rw [e6] at pm
    obtain ⟨_, ms6, lt6, ev6, tp6, sz6, rw6⟩ := pm
    rw [E38] at ev6 tp6
    have s2 := sz_pos T2
    have qb6 := ms6.2
    rw [ev6] at rw6
    have TW2 : toW h43 T2 (N + sz T1) := toW_of hB n2 (by omega) qb.2.2 qb.1 e6 rw6 (by omega) (by omega)
    have TW1b : toW h43 T1 N := toW_f tw ⟨fun b s _ _ _ _ _ _ => g4 _ _ (by omega) (by omega) (by omega) (by omega), fun s _ _ => g4 _ _ (by omega) (by omega) (by omega) (by omega), fun s _ _ => g4 _ _ (by omega) (by omega) (by omega) (by omega)⟩
    have I43 : MI h43 := MI_fr (g4 _ _ (by omega) (by omega) (by omega) (by omega)) (g4 _ _ (by omega) (by omega) (by omega) (by omega)) lr.1.2.1
    have K43 : MK h43 = MK h := MK_fr (g4 _ _ (by omega) (by omega) (by omega) (by omega)) (g4 _ _ (by omega) (by omega) (by omega) (by omega))
    have N43 : nmM B n ns h43 := nmM_f nm (g4 _ _ (by omega) (by omega) (by omega) (by omega)) (fun b s y1 y2 => g4 _ _ (by omega) (by omega) (by omega) (by omega))
    have LR43 : lmR B n a1 ks la i m E Rf h43 := lmR_f lr (frLW_c ⟨by omega, by omega, x12.2.1⟩ F43) I43 ⟨(g4 _ _ (by omega) (by omega) (by omega) (by omega)).trans lr.1.2.2.2.2.2.1.1, lr.1.2.2.2.2.2.1.2⟩ ⟨(g4 _ _ (by omega) (by omega) (by omega) (by omega)).trans x12.1, x12.2⟩ (by omega)
    have Q7 : ∀ q7, pW B n 59 q6 = .inr q7 → 2 * (N + sz T1 + sz T2 - D) ≤ q7 := fun q7 e => by { have := pW_r hB qb6.2.1 qb6.2.2 qb6.1 e; omega }
    refine OK_mono (vX14_law_k1 (B := B) (n := n) (q6 := q6) (la := la) (i := i) (m := m) (N := N) (D := D) (ks := ks) (E := E) (Rf := Rf) (ns := ns) (T1 := T1) (T2 := T2) _ _ _ _ _ (by exact hB) (by exact LR43) (by exact ms6) (by exact N43) (by exact rm) (by exact ⟨rfl, ev6, tp6, D0, D1, DN, m4, by omega⟩) (by exact ⟨TW1b, TW2⟩) (by exact Q7)) (fun r r2 => ?_)
    obtain ⟨y1, y2⟩ := r
    try dsimp only [Sum.elim_inl, Sum.elim_inr, jt2, jt3, jt4, jt5, jt6, jt7, jt8] at r2
    obtain ⟨ok2, fr2⟩ := r2
    try simp (disch := omega) only [jst_eq, jst_ne, jst_ni, jI_i, jcmp_lt, jcmp_gt, w32_id, jcpy_out, Sum.elim_inl, Sum.elim_inr, jt2, jt3, jt4, jt5, jt6, jt7, jt8] at ok2
    try simp (disch := omega) only [jst_eq, jst_ne, jst_ni, jI_i, jcmp_lt, jcmp_gt, w32_id, jcpy_out, Sum.elim_inl, Sum.elim_inr, jt2, jt3, jt4, jt5, jt6, jt7, jt8] at fr2
    try dsimp only [Sum.elim_inl, Sum.elim_inr, jt2, jt3, jt4, jt5, jt6, jt7, jt8]
    try dsimp only [Sum.elim_inl, Sum.elim_inr, jt2, jt3, jt4, jt5, jt6, jt7, jt8]
    refine ⟨?_, ?_⟩
    · (rw [e6]; exact lmG_k (fun r q' _ => by rw [K43]) ok2) -- o16 e2.1
    · exact frLW_t F43 fr2 -- o17 e2.2
theorem vX14_law_j223 (a1 : Int) (a3 : Int) (a4 : Int) {h : AH} {B : Int → Int} {n q la i m N D : Int} {ks : List Int} {E : EV} {Rf : Int → TR} {ns : List (Int × Int)} (hB : ∀ i, 0 ≤ i → i < n → 0 ≤ B i ∧ B i < 256) (lr : lmR B n a1 ks la i m E Rf h) (ms : MS B n q h) (nm : nmM B n ns h) (rm : (a4 = 0 ∨ a4 = 1) ∧ (a4 = 1 → m < 4 ∧ a3 = m)) (w2 : h 454 17 = N ∧ 0 ≤ D ∧ D ≤ 1100 ∧ D ≤ N ∧ 2 * (N - D) ≤ q ∧ m ≤ 4000) : OK (gX14_law_j223 a1 a3 a4 h) (fun r => jt2 r fun t h' => (lmG B n a1 ks la i m E Rf a4 N D (fun r => min (MK h) (min (keyE (EVA B n E ks la r.1) (-1) r.2.1) (keyE (EVA B n E ks la r.1) (kdE (EVA B n E ks la r.1) r.2.1) r.2.2))) (pLw B n ns q) t h') ∧ (frLW a1 m N D h h')) := by
  have LA : a1 = 476 ∨ a1 = 615 := lr.1.2.2.1
  have n2 := lr.1.1.2.2.1
  have qb := ms.2
  have x12 := lr.2.1
  unfold gX14_law_j223
  refine OK_jb2 (vX14_passSign (B := B) (n := n) _ (by exact lr.1.1) (by exact hB) (by exact ms)) (fun t26 h28 r1 => ?_)
  try dsimp only [Sum.elim_inl, Sum.elim_inr, jt2, jt3, jt4, jt5, jt6, jt7, jt8] at r1
  obtain ⟨r1, fr1⟩ := r1
  try simp (disch := omega) only [jst_eq, jst_ne, jst_ni, jI_i, jcmp_lt, jcmp_gt, w32_id, jcpy_out, Sum.elim_inl, Sum.elim_inr, jt2, jt3, jt4, jt5, jt6, jt7, jt8] at r1
  try simp (disch := omega) only [jst_eq, jst_ne, jst_ni, jI_i, jcmp_lt, jcmp_gt, w32_id, jcpy_out, Sum.elim_inl, Sum.elim_inr, jt2, jt3, jt4, jt5, jt6, jt7, jt8] at fr1
  refine OK_jq (fun c1 => ?_) (fun c1 => ?_)
  · skip
    refine OK_some ?_
    try dsimp only [Sum.elim_inl, Sum.elim_inr, jt2, jt3, jt4, jt5, jt6, jt7, jt8]
    try dsimp only [Sum.elim_inl, Sum.elim_inr, jt2, jt3, jt4, jt5, jt6, jt7, jt8]
    refine ⟨?_, ?_⟩
    · (obtain ⟨z, e, t1, mf⟩ := rM_l r1 c1; unfold pLw; rw [e]; exact ⟨t1, mf⟩) -- o4 e1.1
    · exact fun b s y1 y2 _ _ _ _ _ _ => fr1 b s (by omega) y2 -- o5 e1.2
  · skip
    obtain ⟨q3, e3, ms3⟩ := rM_r r1 c1
    have L3 := pW_r hB qb.2.1 qb.2.2 qb.1 e3
    have E17 : h28 454 17 = N := (fr1 _ _ (by omega) (by omega)).trans w2.1
    have T3 : TM B n h28 := TM_fr lr.1.1 (fr1 _ _ (by omega) (by omega)) (fun s => fr1 _ _ (by omega) (by omega))
    have WP3 : pLw B n ns q = bS (pT B n false 13 q3) fun y => bS (pW B n 61 y.2) fun q5 => bS (pT B n false 13 q5) fun z => bS (pW B n 59 z.2) fun q7 => .inr ((ns, y.1, z.1), q7) := by { unfold pLw; rw [e3]; rfl }
    refine OK_jb3 (vX14_takeTerm (B := B) (n := n) (sk := false) _ _ (by exact hB) (by exact ⟨rfl, rfl⟩) (by exact T3) (by exact ms3) (by omega)) (fun t31 v32 h33 r2 => ?_)
    try dsimp only [Sum.elim_inl, Sum.elim_inr, jt2, jt3, jt4, jt5, jt6, jt7, jt8] at r2
    have pm2 := r2
    clear r2
    try simp (disch := omega) only [jst_eq, jst_ne, jst_ni, jI_i, jcmp_lt, jcmp_gt, w32_id, jcpy_out, Sum.elim_inl, Sum.elim_inr, jt2, jt3, jt4, jt5, jt6, jt7, jt8] at pm2
    obtain ⟨⟨g2, b2, b2n⟩, pm⟩ := pm2
    rw [E17] at g2 b2 b2n
    have R1 : ∀ b s, ¬ (b = 454 ∧ (s = 17 ∨ (26 ≤ s ∧ s ≤ 29))) → ¬ (b = 472 ∧ (s = 6 ∨ s = 7)) → ¬ (460 ≤ b ∧ b ≤ 470 ∧ b ≠ 464 ∧ N ≤ s ∧ s < h33 454 17) → ¬ (b = 464 ∧ 3 * N ≤ s ∧ s < 3 * h33 454 17) → h33 b s = h b s := fun b s y1 y2 y3 y4 => (g2 b s y1 y2 y3 y4).trans (fr1 b s (by omega) y2)
    refine OK_jq (fun c2 => ?_) (fun c2 => ?_)
    · skip
      refine OK_some ?_
      try dsimp only [Sum.elim_inl, Sum.elim_inr, jt2, jt3, jt4, jt5, jt6, jt7, jt8]
      try dsimp only [Sum.elim_inl, Sum.elim_inr, jt2, jt3, jt4, jt5, jt6, jt7, jt8]
      refine ⟨?_, ?_⟩
      · (rw [WP3]; cases e : pT B n false 13 q3 with | inl z => (rw [e] at pm; exact pm) | inr x => (obtain ⟨T, q4⟩ := x; rw [e] at pm; exact absurd pm.1 c2)) -- o11 e2.1
      · exact frLW_t (lwf_p fr1) (lwf_m ⟨Int.le_refl _, by omega⟩ g2) -- o12 e2.2
    · skip
      obtain ⟨T1, q4, e4⟩ : ∃ T1 q4, pT B n false 13 q3 = .inr (T1, q4) := by { cases e : pT B n false 13 q3 with | inl z => (rw [e] at pm; have := pm.1; omega) | inr x => exact ⟨x.1, x.2, rfl⟩ }
      rw [e4] at pm
      obtain ⟨_, ms4, lt4, ev4, tp4, sz4, rw4⟩ := pm
      rw [E17] at ev4 tp4
      have s1 := sz_pos T1
      have qb4 := ms4.2
      rw [ev4] at rw4
      have TW1 : toW h33 T1 N := toW_of hB n2 (by omega) L3.2.1 L3.2.2 e4 rw4 (by omega) (by omega)
      have T4 : TM B n h33 := TM_fr lr.1.1 (R1 _ _ (by omega) (by omega) (by omega) (by omega)) (fun s => R1 _ _ (by omega) (by omega) (by omega) (by omega))
      have WP4 : pLw B n ns q = bS (pW B n 61 q4) fun q5 => bS (pT B n false 13 q5) fun z => bS (pW B n 59 z.2) fun q7 => .inr ((ns, T1, z.1), q7) := by { rw [WP3, e4]; rfl }
      refine OK_jb2 (vX14_passSign (B := B) (n := n) _ (by exact T4) (by exact hB) (by exact ms4)) (fun t36 h38 r3 => ?_)
      try dsimp only [Sum.elim_inl, Sum.elim_inr, jt2, jt3, jt4, jt5, jt6, jt7, jt8] at r3
      obtain ⟨r3, fr3⟩ := r3
      try simp (disch := omega) only [jst_eq, jst_ne, jst_ni, jI_i, jcmp_lt, jcmp_gt, w32_id, jcpy_out, Sum.elim_inl, Sum.elim_inr, jt2, jt3, jt4, jt5, jt6, jt7, jt8] at r3
      try simp (disch := omega) only [jst_eq, jst_ne, jst_ni, jI_i, jcmp_lt, jcmp_gt, w32_id, jcpy_out, Sum.elim_inl, Sum.elim_inr, jt2, jt3, jt4, jt5, jt6, jt7, jt8] at fr3
      have R2 : ∀ b s, ¬ (b = 454 ∧ (s = 17 ∨ (26 ≤ s ∧ s ≤ 29))) → ¬ (b = 472 ∧ (s = 6 ∨ s = 7)) → ¬ (460 ≤ b ∧ b ≤ 470 ∧ b ≠ 464 ∧ N ≤ s ∧ s < h33 454 17) → ¬ (b = 464 ∧ 3 * N ≤ s ∧ s < 3 * h33 454 17) → h38 b s = h b s := fun b s y1 y2 y3 y4 => (fr3 b s (by omega) y2).trans (R1 b s y1 y2 y3 y4)
      refine OK_jq (fun c3 => ?_) (fun c3 => ?_)
      · skip
        refine OK_some ?_
        try dsimp only [Sum.elim_inl, Sum.elim_inr, jt2, jt3, jt4, jt5, jt6, jt7, jt8]
        try dsimp only [Sum.elim_inl, Sum.elim_inr, jt2, jt3, jt4, jt5, jt6, jt7, jt8]
        refine ⟨?_, ?_⟩
        · (rw [WP4]; obtain ⟨z, e, t1, mf⟩ := rM_l r3 c3; rw [e]; exact ⟨t1, mf⟩) -- o16 e3.1
        · exact frLW_t (lwf_p fr1) (frLW_t (lwf_m ⟨Int.le_refl _, by omega⟩ g2) (lwf_p fr3)) -- o17 e3.2
      · skip
        obtain ⟨q5, e5, ms5⟩ := rM_r r3 c3
        have L5 := pW_r hB qb4.2.1 qb4.2.2 qb4.1 e5
        have E38 : h38 454 17 = N + sz T1 := (fr3 _ _ (by omega) (by omega)).trans tp4
        have T5 : TM B n h38 := TM_fr T4 (fr3 _ _ (by omega) (by omega)) (fun s => fr3 _ _ (by omega) (by omega))
        have WP5 : pLw B n ns q = bS (pT B n false 13 q5) fun z => bS (pW B n 59 z.2) fun q7 => .inr ((ns, T1, z.1), q7) := by { rw [WP4, e5]; rfl }
        have N38 : nmM B n ns h38 := nmM_f nm (R2 _ _ (by omega) (by omega) (by omega) (by omega)) (fun b s y1 y2 => R2 _ _ (by omega) (by omega) (by omega) (by omega))
        have F38 : frLW a1 m N D h h38 := frLW_t (lwf_p fr1) (frLW_t (lwf_m ⟨Int.le_refl _, by omega⟩ g2) (lwf_p fr3))
        have I38 : MI h38 := MI_fr (R2 _ _ (by omega) (by omega) (by omega) (by omega)) (R2 _ _ (by omega) (by omega) (by omega) (by omega)) lr.1.2.1
        have K38 : MK h38 = MK h := MK_fr (R2 _ _ (by omega) (by omega) (by omega) (by omega)) (R2 _ _ (by omega) (by omega) (by omega) (by omega))
        have LR38 : lmR B n a1 ks la i m E Rf h38 := lmR_f lr (frLW_c ⟨by omega, by omega, x12.2.1⟩ F38) I38 ⟨(R2 _ _ (by omega) (by omega) (by omega) (by omega)).trans lr.1.2.2.2.2.2.1.1, lr.1.2.2.2.2.2.1.2⟩ ⟨(R2 _ _ (by omega) (by omega) (by omega) (by omega)).trans x12.1, x12.2⟩ (by omega)
        have TW38 : toW h38 T1 N := toW_f TW1 ⟨fun b s _ _ _ _ _ _ => fr3 _ _ (by omega) (by omega), fun s _ _ => fr3 _ _ (by omega) (by omega), fun s _ _ => fr3 _ _ (by omega) (by omega)⟩
        refine OK_mono (vX14_law_k0 (B := B) (n := n) (q5 := q5) (la := la) (i := i) (m := m) (N := N) (D := D) (ks := ks) (E := E) (Rf := Rf) (ns := ns) (T1 := T1) _ _ _ _ (by exact hB) (by exact LR38) (by exact ms5) (by exact N38) (by exact rm) (by exact ⟨ev4, E38, w2.2.1, w2.2.2.1, w2.2.2.2.1, by omega, w2.2.2.2.2.2⟩) (by exact TW38)) (fun r r4 => ?_)
        obtain ⟨y1, y2⟩ := r
        try dsimp only [Sum.elim_inl, Sum.elim_inr, jt2, jt3, jt4, jt5, jt6, jt7, jt8] at r4
        obtain ⟨ok4, fr4⟩ := r4
        try simp (disch := omega) only [jst_eq, jst_ne, jst_ni, jI_i, jcmp_lt, jcmp_gt, w32_id, jcpy_out, Sum.elim_inl, Sum.elim_inr, jt2, jt3, jt4, jt5, jt6, jt7, jt8] at ok4
        try simp (disch := omega) only [jst_eq, jst_ne, jst_ni, jI_i, jcmp_lt, jcmp_gt, w32_id, jcpy_out, Sum.elim_inl, Sum.elim_inr, jt2, jt3, jt4, jt5, jt6, jt7, jt8] at fr4
        try dsimp only [Sum.elim_inl, Sum.elim_inr, jt2, jt3, jt4, jt5, jt6, jt7, jt8]
        try dsimp only [Sum.elim_inl, Sum.elim_inr, jt2, jt3, jt4, jt5, jt6, jt7, jt8]
        refine ⟨?_, ?_⟩
        · (rw [WP5]; exact lmG_k (fun r q' _ => by rw [K38]) ok4) -- o25 e4.1
        · exact frLW_t F38 fr4 -- o26 e4.2

