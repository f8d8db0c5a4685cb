/-! m: a cheaper term, whole -/
theorem arN_f {h h' : AH} (ar : arN h) (f : ∀ a s, 476 ≤ a → a ≤ 754 → h' a s = h a s) : arN h' := ⟨by rw [f _ _ (by omega) (by omega), f _ _ (by omega) (by omega)]; exact ar.1, fun a y => by
  have q := ar.2 a y
  rw [f (a + 1) (-2) (by omega) (by omega), f (a + 1) (-1) (by omega) (by omega), f (a + 11) (-2) (by omega) (by omega), f (a + 11) (-1) (by omega) (by omega)]
  exact q⟩
/-- a told term, when it is read without faults: m -/
theorem mrd_ok {B : Int → Int} {n w : Int} {sk : Bool} {E EP : EV} {m : Int} {kf : Int → Int} {T : TR} {h : AH} (hB : ∀ i, 0 ≤ i → i < n → 0 ≤ B i ∧ B i < 256) (T2 : 0 ≤ n ∧ n ≤ 2000) (ac : acE E) (ew : ∀ a, 26 ≤ a → 0 ≤ E.1.2.2.2.1 a) (m0 : 0 ≤ m) (kl : ∀ k, 0 ≤ k → k < m → 0 ≤ kf k ∧ kf k ≤ 2) (eEP : EP = EPn E m kf) (eA : pA B n sk (beg B n) = .inr T) (k : keyE EP w T = 1000000) (rs0 : rawS h T 4400 0 4401 (-1)) (szT : sz T ≤ 1001) (res : fkE EP T 0 0 = 1000000 → resM h (rsE EP T 0) 4400 0) : resQ h (rgN 4400 1100) (rsE EP T 0) 4400 0 ∧ rdTm E m kf (rsE EP T 0) ∧ sz (rsE EP T 0) = sz T ∧ (w ≠ -1 → kdE EP T = w) ∧ (inf (rsE EP T 0)).2.2.1 = kdE EP T ∧ (sk = false → nhT (rsE EP T 0) ∧ hlT T = 0) := by
  subst eEP
  obtain ⟨a, b, c, d, e, f, g⟩ := rd_tm (sk := sk) (E := E) (kf := kf) (m := m) (w := w) ac ew hB T2.2 T2.1 m0 kl eA k
  have s1 := sz_pos T
  exact ⟨resQ_S (by decide) (Int.le_refl _) (by decide) (by decide) (by omega) rs0 (res e), a, b, c, d, g⟩
/-- what reading and looking change: m -/
def fMr (h h' : AH) : Prop := ∀ a s, ¬ (a = 454 ∧ (s = 17 ∨ (20 ≤ s ∧ s ≤ 22) ∨ (25 ≤ s ∧ s ≤ 31) ∨ s = 34 ∨ s = 35 ∨ s = 40 ∨ s = 51 ∨ s = 53 ∨ s = 55 ∨ s = 66 ∨ s = 71 ∨ s = 73)) → ¬ (a = 472 ∧ (s = 6 ∨ s = 7)) → ¬ (460 ≤ a ∧ a ≤ 470 ∧ a ≠ 464 ∧ 4400 ≤ s ∧ s < 5500) → ¬ (a = 464 ∧ 13200 ≤ s ∧ s < 16500) → ¬ ((a = 474 ∨ a = 475) ∧ 0 ≤ s ∧ s < 3) → ¬ (a = 473 ∧ 0 ≤ s ∧ s < 2000) → ¬ (460 ≤ a ∧ a ≤ 469 ∧ a ≠ 464 ∧ 8500 ≤ s ∧ s < 8800) → ¬ (a = 464 ∧ 25500 ≤ s ∧ s < 26400) → ¬ (476 ≤ a ∧ a ≤ 754 ∧ 0 ≤ s) → ¬ (a = 796 ∧ 0 ≤ s) → h' a s = h a s
/-- .. and finding -/
def fMq (h h' : AH) : Prop := ∀ a s, ¬ (a = 454 ∧ (s = 17 ∨ (19 ≤ s ∧ s ≤ 22) ∨ (25 ≤ s ∧ s ≤ 31) ∨ s = 34 ∨ s = 35 ∨ s = 40 ∨ s = 51 ∨ s = 53 ∨ (55 ≤ s ∧ s ≤ 63) ∨ s = 66 ∨ s = 71 ∨ s = 73)) → ¬ (a = 472 ∧ (s = 6 ∨ s = 7)) → ¬ (460 ≤ a ∧ a ≤ 470 ∧ a ≠ 464 ∧ 4400 ≤ s ∧ s < 5500) → ¬ (a = 464 ∧ 13200 ≤ s ∧ s < 16500) → ¬ ((a = 474 ∨ a = 475) ∧ 0 ≤ s ∧ s < 3) → ¬ (a = 473 ∧ 0 ≤ s ∧ s < 2000) → ¬ (460 ≤ a ∧ a ≤ 469 ∧ a ≠ 464 ∧ 7600 ≤ s ∧ s < 8800) → ¬ (a = 464 ∧ 22800 ≤ s ∧ s < 26400) → ¬ (476 ≤ a ∧ a ≤ 754 ∧ 0 ≤ s) → ¬ (a = 471 ∧ 0 ≤ s) → ¬ ((791 ≤ a ∧ a ≤ 793 ∨ a = 796) ∧ 0 ≤ s) → h' a s = h a s
theorem fMr_Mf {h h1 h2 : AH} (x : fMr h h1) (y : fMf h1 h2) : fMq h h2 := fun a s z1 z2 z3 z4 z5 z6 z7 z8 z9 z10 z11 => (y a s (by omega) z7 z8 z10 z9 (by omega)).trans (x a s (by omega) z2 z3 z4 z5 z6 (by omega) (by omega) z9 (by omega))
theorem fMr_Ml {h h1 h2 : AH} (x : fMr h h1) (y : fMl h1 h2) : fMr h h2 := fun a s z1 z2 z3 z4 z5 z6 z7 z8 z9 z10 => (y a s (by omega) z7 z8 z9).trans (x a s z1 z2 z3 z4 z5 z6 z7 z8 z9 z10)
theorem fMr_up {h h1 : AH} (x : fMr h h1) : fMq h h1 := fun a s z1 z2 z3 z4 z5 z6 z7 z8 z9 z10 z11 => x a s (by omega) z2 z3 z4 z5 z6 (by omega) (by omega) z9 (by omega)
theorem mch_fin {B : Int → Int} {n v : Int} {E EP : EV} {Rf : Int → TR} {W : Int → Int → Int → VW} {K : AK} {tp : Int} {T : TR} {h h1 h' : AH} (G : fMr h h1) (A1 : ¬ h 454 38 = 0) (P55 : h1 454 55 = h 454 55) (eA : pA B n false (beg B n) = .inr T) (k : keyE EP (-1) T = 1000000) (x : ∃ y, chR E W K (rsE EP T 0) v y ∧ (0 ≤ y → fdL h' E W K (chT E W K (rsE EP T 0))) ∧ (y < 0 → fMl h1 h') ∧ fMf h1 h' ∧ asM h' E Rf W K tp) : ∃ y, outCh E EP W K (¬ h 454 38 = 0) (pA B n false (beg B n)) (h 454 55) v (h' 454 55) y (fdL h' E W K) ∧ (y < 0 → fMr h h') ∧ fMq h h' := by
  obtain ⟨y, u1, u2, u3, u4, u5⟩ := x
  refine ⟨y, ?_, fun w => fMr_Ml G (u3 w), fMr_Mf G u4⟩
  rw [eA]
  exact ⟨fun _ => ⟨by rw [u4 _ _ (by omega) (by omega) (by omega) (by omega) (by omega) (by omega)]; exact P55, fun w => absurd A1 w, fun _ => ⟨u1, u2⟩⟩, fun w => absurd k w⟩
theorem max_ng {c v : Int} (e : v = max 0 c) (z : v = 0) : ¬ (1 ≤ c ∧ c ≤ 12) := by omega
noncomputable def gX14_cheaper_k1 (v9 : Int) (h : AH) : Option (Int × AH) := if h 454 38 = 0 then (gX14_cheaper_j51 v9 0 h) else (jb (gX14_priceOf v9 h) fun v25 => gX14_cheaper_j51 v9 v25 h)
theorem vX14_cheaper_k1 (v9 : Int) {h : AH} {E : EV} {Rf : Int → TR} {W : Int → Int → Int → VW} {K : AK} {tp : Int} {R : TR} (cA : ∀ a, 0 ≤ a → a < E.1.1 → 0 ≤ E.1.2.1 a ∧ E.1.2.1 a < 282429536481) (as : ¬ h 454 38 = 0 → asM h E Rf W K tp ∧ resQ h (rgN 4400 1100) R v9 0 ∧ rdTm E (kA K).1 (kA K).2.1 R ∧ nhT R ∧ h 454 66 = kch (inf R).2.2.1) : OK (gX14_cheaper_k1 v9 h) (fun r => jt2 r fun v h' => (h 454 38 = 0 → v = -2 ∧ h' = h) ∧ (¬ h 454 38 = 0 → ∃ y, chR E W K R v y ∧ (0 ≤ y → fdL h' E W K (chT E W K R)) ∧ (y < 0 → fMl h h') ∧ fMf h h' ∧ asM h' E Rf W K tp)) := by
  unfold gX14_cheaper_k1
  refine OK_if (fun c1 => ?_) (fun c1 => ?_)
  · skip
    try simp (disch := omega) only [jst_eq, jst_ne, jst_ni, jI_i, jcmp_lt, jcmp_gt, w32_id, jcpy_out, Sum.elim_inl, Sum.elim_inr, jt2, jt3, jt4, jt5, jt6, jt7, jt8] at c1
    refine OK_mono (vX14_cheaper_j51 (E := E) (Rf := Rf) (W := W) (K := K) (tp := tp) (R := R) _ _ (by exact Int.le_refl _) (by exact fun y => absurd rfl y)) (fun r r1 => ?_)
    obtain ⟨y1, y2⟩ := r
    try dsimp only [Sum.elim_inl, Sum.elim_inr, jt2, jt3, jt4, jt5, jt6, jt7, jt8] at r1
    obtain ⟨zr1, ot1⟩ := r1
    try simp (disch := omega) only [jst_eq, jst_ne, jst_ni, jI_i, jcmp_lt, jcmp_gt, w32_id, jcpy_out, Sum.elim_inl, Sum.elim_inr, jt2, jt3, jt4, jt5, jt6, jt7, jt8] at zr1
    try simp (disch := omega) only [jst_eq, jst_ne, jst_ni, jI_i, jcmp_lt, jcmp_gt, w32_id, jcpy_out, Sum.elim_inl, Sum.elim_inr, jt2, jt3, jt4, jt5, jt6, jt7, jt8] at ot1
    try dsimp only [Sum.elim_inl, Sum.elim_inr, jt2, jt3, jt4, jt5, jt6, jt7, jt8]
    try dsimp only [Sum.elim_inl, Sum.elim_inr, jt2, jt3, jt4, jt5, jt6, jt7, jt8]
    refine ⟨?_, ?_⟩
    · exact fun _ => (by first | exact zr1 rfl | exact zr1 trivial) -- o3 e1.1
    · exact fun y => absurd c1 y -- o4 e1.2
  · skip
    try simp (disch := omega) only [jst_eq, jst_ne, jst_ni, jI_i, jcmp_lt, jcmp_gt, w32_id, jcpy_out, Sum.elim_inl, Sum.elim_inr, jt2, jt3, jt4, jt5, jt6, jt7, jt8] at c1
    obtain ⟨AS, RQ, ⟨TY, DE, WT, S1, D12, NV⟩, NH1, K66⟩ := as c1
    have C18 := akM_0 AS.1
    have l1 : E.2.2.1 ≠ 1 := by { rw [C18.1.2.2.2]; decide }
    refine OK_jb (vX14_priceOf (A := kA K) (R := R) _ (by exact C18.1.1) (by exact C18.2.1.2.2.1) (by exact akM_pp AS.1) (by exact C18.2.1.2.2.2) (by exact resQ_M RQ) (by omega) (by omega) (by exact ⟨E, (kA K).1, (kA K).2.1, TY⟩) (by exact ty_pl l1 TY NH1)) (fun v25 r2 => ?_)
    try dsimp only [Sum.elim_inl, Sum.elim_inr, jt2, jt3, jt4, jt5, jt6, jt7, jt8] at r2
    have pv2 := r2
    clear r2
    try simp (disch := omega) only [jst_eq, jst_ne, jst_ni, jI_i, jcmp_lt, jcmp_gt, w32_id, jcpy_out, Sum.elim_inl, Sum.elim_inr, jt2, jt3, jt4, jt5, jt6, jt7, jt8] at pv2
    refine OK_mono (vX14_cheaper_j51 (E := E) (Rf := Rf) (W := W) (K := K) (tp := tp) (R := R) _ _ (by (rw [pv2]; omega)) (by (intro y; exact ⟨AS, cA, RQ, TY, NH1, DE, by omega, by omega, K66⟩))) (fun r r3 => ?_)
    obtain ⟨y3, y4⟩ := r
    try dsimp only [Sum.elim_inl, Sum.elim_inr, jt2, jt3, jt4, jt5, jt6, jt7, jt8] at r3
    obtain ⟨zr3, ot3⟩ := r3
    try simp (disch := omega) only [jst_eq, jst_ne, jst_ni, jI_i, jcmp_lt, jcmp_gt, w32_id, jcpy_out, Sum.elim_inl, Sum.elim_inr, jt2, jt3, jt4, jt5, jt6, jt7, jt8] at zr3
    try simp (disch := omega) only [jst_eq, jst_ne, jst_ni, jI_i, jcmp_lt, jcmp_gt, w32_id, jcpy_out, Sum.elim_inl, Sum.elim_inr, jt2, jt3, jt4, jt5, jt6, jt7, jt8] at ot3
    try dsimp only [Sum.elim_inl, Sum.elim_inr, jt2, jt3, jt4, jt5, jt6, jt7, jt8]
    try dsimp only [Sum.elim_inl, Sum.elim_inr, jt2, jt3, jt4, jt5, jt6, jt7, jt8]
    refine ⟨?_, ?_⟩
    · exact fun y => absurd y c1 -- o16 e2.1
    · (intro _; by_cases y : v25 = 0; { obtain ⟨u1, u2⟩ := zr3 y; rw [u2]; exact ⟨-1, .inl ⟨max_ng pv2 y, u1, rfl⟩, (fun w => absurd w (by decide)), (fun _ => fun a s y1 y2 y3 y4 => rfl), fMf_r h, AS⟩ }; { exact ot3 y }) -- o17 e2.2
theorem vX14_cheaper {h : AH} {B : Int → Int} {n : Int} {E EP : EV} {Rf : Int → TR} {W : Int → Int → Int → VW} {K : AK} {tp : Int} (hB : ∀ i, 0 ≤ i → i < n → 0 ≤ B i ∧ B i < 256) (tb : n = h 454 53 ∧ 0 ≤ n ∧ n ≤ 2000 ∧ ∀ i, 0 ≤ i → i < n → h 790 i = B i) (om : ownsM h E Rf) (l0 : E.2.2.1 = 0) (ar : arN h) (dn : h 454 54 = 0 ∨ h 454 54 = 1) (cA : ∀ a, 0 ≤ a → a < E.1.1 → 0 ≤ E.1.2.1 a ∧ E.1.2.1 a < 282429536481) (ak : ¬ h 454 38 = 0 → asM h E Rf W K tp) (ep : epM h E Rf W K tp EP) : OK (gX14_cheaper h) (fun r => jt2 r fun v h' => (¬ h 454 54 = 0 → v = -5 ∧ h' = jst h 454 51 0) ∧ (h 454 54 = 0 → ∃ y, outCh E EP W K (¬ h 454 38 = 0) (pA B n false (beg B n)) (h 454 55) v (h' 454 55) y (fdL h' E W K) ∧ (y < 0 → fMr h h') ∧ fMq h h') ∧ (¬ h 454 38 = 0 → asM h' E Rf W K tp)) := by
  have ac := om.2.1
  have ew := om.2.2.2.2.2.1
  have T1 := tb.2.1
  have T2 := tb.2.2.1
  unfold gX14_cheaper
  refine OK_jb2 (vX14_isDown (by (first | assumption | omega | ((try dsimp only [jt2, jt3, jt4]); first | omega | (simp (disch := omega) only [jst_eq, jst_ne, jst_ni, jst_o, jI_i, jcpy_out, w32_id, jdiv_nn, jshr_k, jand_255] <;> first | done | omega | assumption)) | (intros; simp (disch := omega) only [jst_eq, jst_ne, jst_ni, jst_o, jI_i, jcpy_out, w32_id, jdiv_nn, *] <;> first | done | omega) | (intros; simp (disch := omega) only [jst_eq, jst_ne, jst_ni, jst_o, jI_i, jcpy_out, w32_id, jdiv_nn] at * <;> first | done | omega | assumption) | (intros; first | rfl | (exfalso; omega) | ((repeat' apply And.intro) <;> first | assumption | rfl | omega | trivial))))) (fun v2 h3 r1 => ?_)
  try dsimp only [Sum.elim_inl, Sum.elim_inr, jt2, jt3, jt4, jt5, jt6, jt7, jt8] at r1
  obtain ⟨dv1, dh1⟩ := r1
  try simp (disch := omega) only [jst_eq, jst_ne, jst_ni, jI_i, jcmp_lt, jcmp_gt, w32_id, jcpy_out, Sum.elim_inl, Sum.elim_inr, jt2, jt3, jt4, jt5, jt6, jt7, jt8] at dv1
  try simp (disch := omega) only [jst_eq, jst_ne, jst_ni, jI_i, jcmp_lt, jcmp_gt, w32_id, jcpy_out, Sum.elim_inl, Sum.elim_inr, jt2, jt3, jt4, jt5, jt6, jt7, jt8] at dh1
  have F3 : ∀ a s, ¬ (a = 454 ∧ s = 51) → h3 a s = h a s := fun a s y => by { rw [dh1]; exact jst_o y }
  have n53 : h3 454 53 = n := by { rw [F3 _ _ (by omega)]; exact tb.1.symm }
  refine OK_if (fun c1 => ?_) (fun c1 => ?_)
  · skip
    try simp (disch := omega) only [jst_eq, jst_ne, jst_ni, jI_i, jcmp_lt, jcmp_gt, w32_id, jcpy_out, Sum.elim_inl, Sum.elim_inr, jt2, jt3, jt4, jt5, jt6, jt7, jt8] at c1
    refine OK_jb (vX14_takeTape (by (rw [n53]; exact ⟨T1, T2⟩))) (fun h6 r2 => ?_)
    try dsimp only [Sum.elim_inl, Sum.elim_inr, jt2, jt3, jt4, jt5, jt6, jt7, jt8] at r2
    obtain ⟨z2, b2, fr2⟩ := r2
    try simp (disch := omega) only [jst_eq, jst_ne, jst_ni, jI_i, jcmp_lt, jcmp_gt, w32_id, jcpy_out, Sum.elim_inl, Sum.elim_inr, jt2, jt3, jt4, jt5, jt6, jt7, jt8] at z2
    try simp (disch := omega) only [jst_eq, jst_ne, jst_ni, jI_i, jcmp_lt, jcmp_gt, w32_id, jcpy_out, Sum.elim_inl, Sum.elim_inr, jt2, jt3, jt4, jt5, jt6, jt7, jt8] at b2
    try simp (disch := omega) only [jst_eq, jst_ne, jst_ni, jI_i, jcmp_lt, jcmp_gt, w32_id, jcpy_out, Sum.elim_inl, Sum.elim_inr, jt2, jt3, jt4, jt5, jt6, jt7, jt8] at fr2
    have F6 : ∀ a s, ¬ (a = 454 ∧ (s = 25 ∨ s = 51 ∨ s = 53)) → ¬ (a = 473 ∧ 0 ≤ s ∧ s < 2000) → h6 a s = h a s := fun a s y1 y2 => by { rw [fr2 a s y1 (by omega), F3 a s (by omega)] }
    have TM6 : TM B n h6 := ⟨by { rw [z2.2.2]; exact n53 }, T1, T2, fun i i0 i1 => by { rw [b2 i i0 (by omega), F3 _ _ (by omega)]; exact tb.2.2.2 i i0 i1 }⟩
    have om6 := ownsM_fr om (F6 _ _ (by omega) (by omega)) (fun a s a0 a1 => F6 _ _ (by omega) (by omega)) ⟨fun a s a0 a1 a2 a3 a4 => F6 _ _ (by omega) (by omega), fun s s0 s1 => F6 _ _ (by omega) (by omega)⟩
    have ar6 : arN h6 := arN_f ar (fun a s _ _ => F6 a s (by omega) (by omega))
    have e38 : h6 454 38 = h 454 38 := F6 _ _ (by omega) (by omega)
    have AG6 : agN h h6 ∧ agT h h6 := ⟨fun a s y => by { unfold mA at y; exact F6 a s (by omega) (by omega) }, fun a s y => by { unfold tA at y; exact F6 a s (by omega) (by omega) }⟩
    have W6 : ¬ h 454 38 = 0 → h6 454 21 = -1 ∧ b20 h6 := fun y => by { have z := (ak y).1.2; unfold b20 at z ⊢; rw [F6 _ _ (by omega) (by omega), F6 _ _ (by omega) (by omega)]; exact z }
    have ep6 : epM h6 E Rf W K tp EP := by { rcases ep with y | y; { exact .inl ⟨by rw [e38]; exact y.1, y.2⟩ }; { exact .inr ⟨by rw [e38]; exact y.1, akM_n y.2.1 AG6.1 (W6 y.1), y.2.2⟩ } }
    refine OK_jb3 (vRM 0 (sk := false) hB TM6 rfl om6 l0 ar6 ep6) (fun t8 v9 h10 r3 => ?_)
    obtain ⟨rr3, F10⟩ := r3
    dsimp only at rr3 F10
    have G10 : ∀ a s, ¬ (a = 454 ∧ (s = 17 ∨ (25 ≤ s ∧ s ≤ 31) ∨ s = 34 ∨ s = 35 ∨ s = 51 ∨ s = 53 ∨ s = 66)) → ¬ (a = 472 ∧ (s = 6 ∨ s = 7)) → ¬ (460 ≤ a ∧ a ≤ 470 ∧ a ≠ 464 ∧ 4400 ≤ s ∧ s < 5500) → ¬ (a = 464 ∧ 13200 ≤ s ∧ s < 16500) → ¬ ((a = 474 ∨ a = 475) ∧ 0 ≤ s ∧ s < 3) → ¬ (a = 473 ∧ 0 ≤ s ∧ s < 2000) → h10 a s = h a s := fun a s y1 y2 y3 y4 y5 y6 => by { rw [F10 a s (by omega) y2 y3 y4 y5]; exact F6 a s (by omega) y6 }
    have G10' : fMr h h10 := fun a s y1 y2 y3 y4 y5 y6 _ _ _ _ => G10 a s (by omega) y2 y3 y4 y5 y6
    have AG10 : agN h h10 ∧ agT h h10 := ⟨fun a s y => by { unfold mA at y; exact G10 a s (by omega) (by omega) (by omega) (by omega) (by omega) (by omega) }, fun a s y => by { unfold tA at y; exact G10 a s (by omega) (by omega) (by omega) (by omega) (by omega) (by omega) }⟩
    have W10 : ∀ hh : AH, (∀ a s, ¬ (a = 454 ∧ s = 55) → ¬ (a = 472 ∧ (s = 6 ∨ s = 7)) → hh a s = h10 a s) → ¬ h 454 38 = 0 → asM hh E Rf W K tp := fun hh f y => by { have z := (ak y).1.2; refine asM_g (ak y) (fun a s q => ?_) (fun a s q => ?_) ?_; { rw [f a s (by unfold mA at q; omega) (by unfold mA at q; omega)]; exact AG10.1 a s q }; { rw [f a s (by unfold tA at q; omega) (by unfold tA at q; omega)]; exact AG10.2 a s q }; { unfold b20 at z ⊢; rw [f _ _ (by omega) (by omega), f _ _ (by omega) (by omega), G10 _ _ (by omega) (by omega) (by omega) (by omega) (by omega) (by omega), G10 _ _ (by omega) (by omega) (by omega) (by omega) (by omega) (by omega)]; exact z } }
    refine OK_jq (fun c2 => ?_) (fun c2 => ?_)
    · skip
      obtain ⟨z, eR, t472, mf1, mf2⟩ := resR_l rr3 c2
      refine OK_jg (by (first | assumption | omega | ((try dsimp only [jt2, jt3, jt4]); first | omega | (simp (disch := omega) only [jst_eq, jst_ne, jst_ni, jst_o, jI_i, jcpy_out, w32_id, jdiv_nn, jshr_k, jand_255] <;> first | done | omega | assumption)) | (intros; simp (disch := omega) only [jst_eq, jst_ne, jst_ni, jst_o, jI_i, jcpy_out, w32_id, jdiv_nn, *] <;> first | done | omega) | (intros; simp (disch := omega) only [jst_eq, jst_ne, jst_ni, jst_o, jI_i, jcpy_out, w32_id, jdiv_nn] at * <;> first | done | omega | assumption) | (intros; first | rfl | (exfalso; omega) | ((repeat' apply And.intro) <;> first | assumption | rfl | omega | trivial)))) ?_ -- o3
      refine OK_jb2 (vX14_faulty _ (by (first | assumption | omega | ((try dsimp only [jt2, jt3, jt4]); first | omega | (simp (disch := omega) only [jst_eq, jst_ne, jst_ni, jst_o, jI_i, jcpy_out, w32_id, jdiv_nn, jshr_k, jand_255] <;> first | done | omega | assumption)) | (intros; simp (disch := omega) only [jst_eq, jst_ne, jst_ni, jst_o, jI_i, jcpy_out, w32_id, jdiv_nn, *] <;> first | done | omega) | (intros; simp (disch := omega) only [jst_eq, jst_ne, jst_ni, jst_o, jI_i, jcpy_out, w32_id, jdiv_nn] at * <;> first | done | omega | assumption) | (intros; first | rfl | (exfalso; omega) | ((repeat' apply And.intro) <;> first | assumption | rfl | omega | trivial))))) (fun v13 h14 r4 => ?_)
      try dsimp only [Sum.elim_inl, Sum.elim_inr, jt2, jt3, jt4, jt5, jt6, jt7, jt8] at r4
      obtain ⟨vv3, fr3⟩ := r4
      try simp (disch := omega) only [jst_eq, jst_ne, jst_ni, jI_i, jcmp_lt, jcmp_gt, w32_id, jcpy_out, Sum.elim_inl, Sum.elim_inr, jt2, jt3, jt4, jt5, jt6, jt7, jt8] at vv3
      try simp (disch := omega) only [jst_eq, jst_ne, jst_ni, jI_i, jcmp_lt, jcmp_gt, w32_id, jcpy_out, Sum.elim_inl, Sum.elim_inr, jt2, jt3, jt4, jt5, jt6, jt7, jt8] at fr3
      refine OK_some ?_
      try dsimp only [Sum.elim_inl, Sum.elim_inr, jt2, jt3, jt4, jt5, jt6, jt7, jt8]
      try dsimp only [Sum.elim_inl, Sum.elim_inr, jt2, jt3, jt4, jt5, jt6, jt7, jt8]
      refine ⟨?_, ?_, ?_⟩
      · (first | assumption | omega | ((try dsimp only [jt2, jt3, jt4]); first | omega | (simp (disch := omega) only [jst_eq, jst_ne, jst_ni, jst_o, jI_i, jcpy_out, w32_id, jdiv_nn, jshr_k, jand_255] <;> first | done | omega | assumption)) | (intros; simp (disch := omega) only [jst_eq, jst_ne, jst_ni, jst_o, jI_i, jcpy_out, w32_id, jdiv_nn, *] <;> first | done | omega) | (intros; simp (disch := omega) only [jst_eq, jst_ne, jst_ni, jst_o, jI_i, jcpy_out, w32_id, jdiv_nn] at * <;> first | done | omega | assumption) | (intros; first | rfl | (exfalso; omega) | ((repeat' apply And.intro) <;> first | assumption | rfl | omega | trivial))) -- o5 e1.1
      · (intro _; refine ⟨-1, ?_, fun _ => ?_, ?_⟩; { rw [pA_l eR, fr3]; exact ⟨by omega, by rw [jst_eq]; exact mf2, rfl⟩ }; { rw [fr3]; exact fun a s y1 y2 y3 y4 y5 y6 y7 y8 y9 y10 => (by rw [jst_o (by omega)]; exact G10 a s (by omega) y2 y3 y4 y5 y6) }; { rw [fr3]; exact fun a s y1 y2 y3 y4 y5 y6 y7 y8 y9 y10 y11 => (by rw [jst_o (by omega)]; exact G10 a s (by omega) y2 y3 y4 y5 y6) }) -- o6 e1.2
      · (intro y; rw [fr3]; exact W10 _ (fun a s y1 _ => jst_o y1) y) -- o7 e1.3
    · skip
      obtain ⟨T, q1, eR, v4, ms, mi, mk, k66, h35, szT, res, pl, gt, wpt, dpt, rs0⟩ := resR_r rr3 c2
      obtain ⟨q, eb, eT⟩ := bdT_inr eR
      have eA := pA_r eR
      have kK : keyE EP (-1) T = MK h10 := by { unfold keyE; rw [toE_u gt]; exact mk.symm }
      refine OK_jb2 (vX14_finish (B := B) (n := n) (q := q1) (by (first | assumption | omega | ((try dsimp only [jt2, jt3, jt4]); first | omega | (simp (disch := omega) only [jst_eq, jst_ne, jst_ni, jst_o, jI_i, jcpy_out, w32_id, jdiv_nn, jshr_k, jand_255] <;> first | done | omega | assumption)) | (intros; simp (disch := omega) only [jst_eq, jst_ne, jst_ni, jst_o, jI_i, jcpy_out, w32_id, jdiv_nn, *] <;> first | done | omega) | (intros; simp (disch := omega) only [jst_eq, jst_ne, jst_ni, jst_o, jI_i, jcpy_out, w32_id, jdiv_nn] at * <;> first | done | omega | assumption) | (intros; first | rfl | (exfalso; omega) | ((repeat' apply And.intro) <;> first | assumption | rfl | omega | trivial)))) (by (first | assumption | omega | ((try dsimp only [jt2, jt3, jt4]); first | omega | (simp (disch := omega) only [jst_eq, jst_ne, jst_ni, jst_o, jI_i, jcpy_out, w32_id, jdiv_nn, jshr_k, jand_255] <;> first | done | omega | assumption)) | (intros; simp (disch := omega) only [jst_eq, jst_ne, jst_ni, jst_o, jI_i, jcpy_out, w32_id, jdiv_nn, *] <;> first | done | omega) | (intros; simp (disch := omega) only [jst_eq, jst_ne, jst_ni, jst_o, jI_i, jcpy_out, w32_id, jdiv_nn] at * <;> first | done | omega | assumption) | (intros; first | rfl | (exfalso; omega) | ((repeat' apply And.intro) <;> first | assumption | rfl | omega | trivial))))) (fun t16 h18 r5 => ?_)
      try dsimp only [Sum.elim_inl, Sum.elim_inr, jt2, jt3, jt4, jt5, jt6, jt7, jt8] at r5
      obtain ⟨bad4, good4, flt4, fr4⟩ := r5
      try simp (disch := omega) only [jst_eq, jst_ne, jst_ni, jI_i, jcmp_lt, jcmp_gt, w32_id, jcpy_out, Sum.elim_inl, Sum.elim_inr, jt2, jt3, jt4, jt5, jt6, jt7, jt8] at bad4
      try simp (disch := omega) only [jst_eq, jst_ne, jst_ni, jI_i, jcmp_lt, jcmp_gt, w32_id, jcpy_out, Sum.elim_inl, Sum.elim_inr, jt2, jt3, jt4, jt5, jt6, jt7, jt8] at good4
      try simp (disch := omega) only [jst_eq, jst_ne, jst_ni, jI_i, jcmp_lt, jcmp_gt, w32_id, jcpy_out, Sum.elim_inl, Sum.elim_inr, jt2, jt3, jt4, jt5, jt6, jt7, jt8] at flt4
      try simp (disch := omega) only [jst_eq, jst_ne, jst_ni, jI_i, jcmp_lt, jcmp_gt, w32_id, jcpy_out, Sum.elim_inl, Sum.elim_inr, jt2, jt3, jt4, jt5, jt6, jt7, jt8] at fr4
      refine OK_jq (fun c3 => ?_) (fun c3 => ?_)
      · skip
        have ft : t16 = 472 ∧ 1 ≤ h18 472 6 ∧ h18 472 6 ≤ 6 ∧ ((tO B n q1 ≠ 0 ∧ h18 472 6 = 1 ∧ h18 472 7 = tS B n q1) ∨ (tO B n q1 = 0 ∧ MK h10 ≠ 1000000 ∧ h18 472 6 = MK h10 % 8 ∧ h18 472 7 = MK h10 / 8)) := by { by_cases o : tO B n q1 = 0; { have nb : MK h10 ≠ 1000000 := fun y => c3 (good4 o y); have f := flt4 o nb; exact ⟨f.1, by omega, by omega, Or.inr ⟨o, nb, f.2.1, f.2.2.1⟩⟩ }; { have f := bad4 o; have f1 := f.2.1; have f2 := f.2.2; exact ⟨f.1, by omega, by omega, Or.inl ⟨o, f1, f2⟩⟩ } }
        refine OK_jg (by (first | assumption | omega | ((try dsimp only [jt2, jt3, jt4]); first | omega | (simp (disch := omega) only [jst_eq, jst_ne, jst_ni, jst_o, jI_i, jcpy_out, w32_id, jdiv_nn, jshr_k, jand_255] <;> first | done | omega | assumption)) | (intros; simp (disch := omega) only [jst_eq, jst_ne, jst_ni, jst_o, jI_i, jcpy_out, w32_id, jdiv_nn, *] <;> first | done | omega) | (intros; simp (disch := omega) only [jst_eq, jst_ne, jst_ni, jst_o, jI_i, jcpy_out, w32_id, jdiv_nn] at * <;> first | done | omega | assumption) | (intros; first | rfl | (exfalso; omega) | ((repeat' apply And.intro) <;> first | assumption | rfl | omega | trivial)))) ?_ -- o10
        refine OK_jb2 (vX14_faulty _ (by (first | assumption | omega | ((try dsimp only [jt2, jt3, jt4]); first | omega | (simp (disch := omega) only [jst_eq, jst_ne, jst_ni, jst_o, jI_i, jcpy_out, w32_id, jdiv_nn, jshr_k, jand_255] <;> first | done | omega | assumption)) | (intros; simp (disch := omega) only [jst_eq, jst_ne, jst_ni, jst_o, jI_i, jcpy_out, w32_id, jdiv_nn, *] <;> first | done | omega) | (intros; simp (disch := omega) only [jst_eq, jst_ne, jst_ni, jst_o, jI_i, jcpy_out, w32_id, jdiv_nn] at * <;> first | done | omega | assumption) | (intros; first | rfl | (exfalso; omega) | ((repeat' apply And.intro) <;> first | assumption | rfl | omega | trivial))))) (fun v21 h22 r6 => ?_)
        try dsimp only [Sum.elim_inl, Sum.elim_inr, jt2, jt3, jt4, jt5, jt6, jt7, jt8] at r6
        obtain ⟨vv5, fr5⟩ := r6
        try simp (disch := omega) only [jst_eq, jst_ne, jst_ni, jI_i, jcmp_lt, jcmp_gt, w32_id, jcpy_out, Sum.elim_inl, Sum.elim_inr, jt2, jt3, jt4, jt5, jt6, jt7, jt8] at vv5
        try simp (disch := omega) only [jst_eq, jst_ne, jst_ni, jI_i, jcmp_lt, jcmp_gt, w32_id, jcpy_out, Sum.elim_inl, Sum.elim_inr, jt2, jt3, jt4, jt5, jt6, jt7, jt8] at fr5
        refine OK_some ?_
        try dsimp only [Sum.elim_inl, Sum.elim_inr, jt2, jt3, jt4, jt5, jt6, jt7, jt8]
        try dsimp only [Sum.elim_inl, Sum.elim_inr, jt2, jt3, jt4, jt5, jt6, jt7, jt8]
        refine ⟨?_, ?_, ?_⟩
        · (first | assumption | omega | ((try dsimp only [jt2, jt3, jt4]); first | omega | (simp (disch := omega) only [jst_eq, jst_ne, jst_ni, jst_o, jI_i, jcpy_out, w32_id, jdiv_nn, jshr_k, jand_255] <;> first | done | omega | assumption)) | (intros; simp (disch := omega) only [jst_eq, jst_ne, jst_ni, jst_o, jI_i, jcpy_out, w32_id, jdiv_nn, *] <;> first | done | omega) | (intros; simp (disch := omega) only [jst_eq, jst_ne, jst_ni, jst_o, jI_i, jcpy_out, w32_id, jdiv_nn] at * <;> first | done | omega | assumption) | (intros; first | rfl | (exfalso; omega) | ((repeat' apply And.intro) <;> first | assumption | rfl | omega | trivial))) -- o12 e2.1
        · (intro _; refine ⟨-1, ?_, fun _ => ?_, ?_⟩; { rw [eA, fr5]; rcases ft.2.2.2 with ⟨o, x1, x2⟩ | ⟨o, nb, x1, x2⟩; { rw [if_neg o]; exact ⟨by omega, by rw [jst_eq]; exact x2, rfl⟩ }; { rw [if_pos o]; exact ⟨fun y => absurd (kK.symm.trans y) nb, fun _ => ⟨by rw [kK]; omega, by rw [jst_eq, kK]; exact x2, rfl⟩⟩ } }; { rw [fr5]; exact fun a s y1 y2 y3 y4 y5 y6 y7 y8 y9 y10 => (by rw [jst_o (by omega), fr4 a s (by omega)]; exact G10 a s (by omega) y2 y3 y4 y5 y6) }; { rw [fr5]; exact fun a s y1 y2 y3 y4 y5 y6 y7 y8 y9 y10 y11 => (by rw [jst_o (by omega), fr4 a s (by omega)]; exact G10 a s (by omega) y2 y3 y4 y5 y6) }) -- o13 e2.2
        · (intro y; rw [fr5]; exact W10 _ (fun a s y1 y2 => by rw [jst_o y1]; exact fr4 a s y2) y) -- o14 e2.3
      · skip
        have o0 : tO B n q1 = 0 := Classical.byContradiction fun y => by { have := (bad4 y).1; omega }
        have kB : MK h10 = 1000000 := Classical.byContradiction fun y => by { have := (flt4 o0 y).1; omega }
        clear bad4 good4 flt4
        rw [if_pos o0] at eA
        have E38 : h18 454 38 = h 454 38 := by { rw [fr4 _ _ (by omega), G10 _ _ (by omega) (by omega) (by omega) (by omega) (by omega) (by omega)] }
        have G18 : ∀ a s, ¬ (a = 454 ∧ (s = 17 ∨ (25 ≤ s ∧ s ≤ 31) ∨ s = 34 ∨ s = 35 ∨ s = 51 ∨ s = 53 ∨ s = 66)) → ¬ (a = 472 ∧ (s = 6 ∨ s = 7)) → ¬ (460 ≤ a ∧ a ≤ 470 ∧ a ≠ 464 ∧ 4400 ≤ s ∧ s < 5500) → ¬ (a = 464 ∧ 13200 ≤ s ∧ s < 16500) → ¬ ((a = 474 ∨ a = 475) ∧ 0 ≤ s ∧ s < 3) → ¬ (a = 473 ∧ 0 ≤ s ∧ s < 2000) → h18 a s = h a s := fun a s y1 y2 y3 y4 y5 y6 => by { rw [fr4 a s y2]; exact G10 a s y1 y2 y3 y4 y5 y6 }
        have P55 : h18 454 55 = h 454 55 := G18 _ _ (by omega) (by omega) (by omega) (by omega) (by omega) (by omega)
        have FR18 : fMr h h18 := fun a s y1 y2 y3 y4 y5 y6 _ _ _ _ => G18 a s (by omega) y2 y3 y4 y5 y6
        have kE : keyE EP (-1) T = 1000000 := kK.trans kB
        have RES : ¬ h18 454 38 = 0 → asM h18 E Rf W K tp ∧ resQ h18 (rgN 4400 1100) (rsE EP T 0) v9 0 ∧ rdTm E (kA K).1 (kA K).2.1 (rsE EP T 0) ∧ nhT (rsE EP T 0) ∧ h18 454 66 = kch (inf (rsE EP T 0)).2.2.1 := fun c4 => by { have A1 : ¬ h 454 38 = 0 := (by rw [← E38]; exact c4); have EPe : EP = EPn E (kA K).1 (kA K).2.1 := (by rcases ep with y | y; { exact absurd y.1 A1 }; { exact y.2.2 }); have AS18 : asM h18 E Rf W K tp := W10 _ (fun a s _ y2 => fr4 a s y2) A1; have C18 := akM_0 AS18.1; have PK := C18.2.1.1; have MR := mrd_ok (w := -1) (sk := false) (h := h10) hB ⟨T1, T2⟩ ac ew (m := (kA K).1) (kf := (kA K).2.1) (by have := PK.2.2.1; omega) (fun k k0 k1 => C18.2.2.2.2.2.2.1.1 k k0 k1) EPe eA kE rs0 szT res; obtain ⟨RQ, RD, SE, _, KD, NH⟩ := MR; exact ⟨AS18, by rw [v4]; exact resQ_fr (fun a s a0 a1 a2 q => fr4 _ _ (by omega)) (fun s j q j0 j1 => fr4 _ _ (by omega)) RQ, RD, (NH rfl).1, by rw [fr4 _ _ (by omega), k66, KD]⟩ }
        refine OK_mono (vX14_cheaper_k1 (E := E) (Rf := Rf) (W := W) (K := K) (tp := tp) (R := rsE EP T 0) _ (by exact cA) (by exact RES)) (fun r r7 => ?_)
        obtain ⟨y1, y2⟩ := r
        try dsimp only [Sum.elim_inl, Sum.elim_inr, jt2, jt3, jt4, jt5, jt6, jt7, jt8] at r7
        obtain ⟨zr6, ot6⟩ := r7
        try simp (disch := omega) only [jst_eq, jst_ne, jst_ni, jI_i, jcmp_lt, jcmp_gt, w32_id, jcpy_out, Sum.elim_inl, Sum.elim_inr, jt2, jt3, jt4, jt5, jt6, jt7, jt8] at zr6
        try simp (disch := omega) only [jst_eq, jst_ne, jst_ni, jI_i, jcmp_lt, jcmp_gt, w32_id, jcpy_out, Sum.elim_inl, Sum.elim_inr, jt2, jt3, jt4, jt5, jt6, jt7, jt8] at ot6
        try dsimp only [Sum.elim_inl, Sum.elim_inr, jt2, jt3, jt4, jt5, jt6, jt7, jt8]
        try dsimp only [Sum.elim_inl, Sum.elim_inr, jt2, jt3, jt4, jt5, jt6, jt7, jt8]
        refine ⟨?_, ?_, ?_⟩
        · (first | assumption | omega | ((try dsimp only [jt2, jt3, jt4]); first | omega | (simp (disch := omega) only [jst_eq, jst_ne, jst_ni, jst_o, jI_i, jcpy_out, w32_id, jdiv_nn, jshr_k, jand_255] <;> first | done | omega | assumption)) | (intros; simp (disch := omega) only [jst_eq, jst_ne, jst_ni, jst_o, jI_i, jcpy_out, w32_id, jdiv_nn, *] <;> first | done | omega) | (intros; simp (disch := omega) only [jst_eq, jst_ne, jst_ni, jst_o, jI_i, jcpy_out, w32_id, jdiv_nn] at * <;> first | done | omega | assumption) | (intros; first | rfl | (exfalso; omega) | ((repeat' apply And.intro) <;> first | assumption | rfl | omega | trivial))) -- o17 e3.1
        · (intro _; by_cases y : h18 454 38 = 0; { obtain ⟨u1, u2⟩ := zr6 y; rw [u2]; have A0 : h 454 38 = 0 := (by rw [← E38]; exact y); exact ⟨-1, by (rw [eA]; exact ⟨fun _ => ⟨P55, fun _ => ⟨u1, rfl⟩, fun w => absurd A0 w⟩, fun w => absurd kE w⟩), fun _ => FR18, fMr_up FR18⟩ }; { have A1 : ¬ h 454 38 = 0 := (by rw [← E38]; exact y); exact mch_fin FR18 A1 P55 eA kE (ot6 y) }) -- o18 e3.2
        · (intro y; have y2 : ¬ h18 454 38 = 0 := (by rw [E38]; exact y); obtain ⟨yy, u1, u2, u3, u4, u5⟩ := ot6 y2; exact u5) -- o19 e3.3
  · skip
    try simp (disch := omega) only [jst_eq, jst_ne, jst_ni, jI_i, jcmp_lt, jcmp_gt, w32_id, jcpy_out, Sum.elim_inl, Sum.elim_inr, jt2, jt3, jt4, jt5, jt6, jt7, jt8] at c1
    refine OK_some ?_
    try dsimp only [Sum.elim_inl, Sum.elim_inr, jt2, jt3, jt4, jt5, jt6, jt7, jt8]
    try dsimp only [Sum.elim_inl, Sum.elim_inr, jt2, jt3, jt4, jt5, jt6, jt7, jt8]
    refine ⟨?_, ?_, ?_⟩
    · (intro _; exact ⟨by omega, dh1⟩) -- o20 e4.1
    · (intro y; exfalso; omega) -- o21 e4.2
    · (intro y; refine asM_g (ak y) (fun a s q => F3 a s (by unfold mA at q; omega)) (fun a s q => F3 a s (by unfold tA at q; omega)) ?_; have z := (ak y).1.2; unfold b20 at z ⊢; rw [F3 _ _ (by omega), F3 _ _ (by omega)]; exact z) -- o22 e4.3

