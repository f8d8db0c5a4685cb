/-! m: a loop is read, the end -/
theorem fin_K {B : Int → Int} {n q K t : Int} {h' : AH} (o : tO B n q = 0) (good : tO B n q = 0 → K = 1000000 → t = 0) (flt : tO B n q = 0 → K ≠ 1000000 → t = 472 ∧ h' 472 6 = K % 8 ∧ h' 472 7 = K / 8 ∧ 1 ≤ K % 8 ∧ K % 8 ≤ 6 ∧ 0 ≤ K / 8 ∧ K / 8 ≤ 2001) : resK K t h' := ⟨good o, flt o⟩
theorem vX14_readLoop_j392 (a1 : Int) {h : AH} {B : Int → Int} {n q : Int} {E : EV} {Rf : Int → TR} {l : List Int} {g : TR} (lo : isLm a1) (wg : wgM h E Rf l) (tw : toW h g (h a1 8) ∧ h a1 8 + sz g ≤ 5500) (ms : MS B n q h ∧ tO B n q = 0) : OK (gX14_readLoop_j392 a1 h) (fun r => jt2 r fun t h' => (resK (min (MK h) (keyE (EL E l) (-1) g)) t h') ∧ (h' a1 8 = h a1 8 ∧ dnM h' (EL E l) g (h a1 8)) ∧ (∀ b s, ¬ (b = 454 ∧ (s = 30 ∨ s = 31)) → ¬ (b = 472 ∧ (s = 6 ∨ s = 7)) → ¬ (461 ≤ b ∧ b ≤ 463 ∧ h a1 8 ≤ s ∧ s < h a1 8 + sz g) → h' b s = h b s)) := by
  have LA : a1 = 805 ∨ a1 = 810 := lo
  unfold gX14_readLoop_j392
  refine OK_jb2 (vX14_weighedW (E := E) (T := g) (Rf := Rf) (l := l) _ _ (by rfl) (by exact wg) (by exact tw.1) (by exact tw.2)) (fun v85 h86 r1 => ?_)
  try dsimp only [Sum.elim_inl, Sum.elim_inr, jt2, jt3, jt4, jt5, jt6, jt7, jt8] at r1
  obtain ⟨vv1, wg1, mk1, dn1, pl1, fr1⟩ := r1
  try simp (disch := omega) only [jst_eq, jst_ne, jst_ni, jI_i, jcmp_lt, jcmp_gt, w32_id, jcpy_out, Sum.elim_inl, Sum.elim_inr, jt2, jt3, jt4, jt5, jt6, jt7, jt8] at vv1
  try simp (disch := omega) only [jst_eq, jst_ne, jst_ni, jI_i, jcmp_lt, jcmp_gt, w32_id, jcpy_out, Sum.elim_inl, Sum.elim_inr, jt2, jt3, jt4, jt5, jt6, jt7, jt8] at wg1
  try simp (disch := omega) only [jst_eq, jst_ne, jst_ni, jI_i, jcmp_lt, jcmp_gt, w32_id, jcpy_out, Sum.elim_inl, Sum.elim_inr, jt2, jt3, jt4, jt5, jt6, jt7, jt8] at mk1
  try simp (disch := omega) only [jst_eq, jst_ne, jst_ni, jI_i, jcmp_lt, jcmp_gt, w32_id, jcpy_out, Sum.elim_inl, Sum.elim_inr, jt2, jt3, jt4, jt5, jt6, jt7, jt8] at dn1
  try simp (disch := omega) only [jst_eq, jst_ne, jst_ni, jI_i, jcmp_lt, jcmp_gt, w32_id, jcpy_out, Sum.elim_inl, Sum.elim_inr, jt2, jt3, jt4, jt5, jt6, jt7, jt8] at pl1
  try simp (disch := omega) only [jst_eq, jst_ne, jst_ni, jI_i, jcmp_lt, jcmp_gt, w32_id, jcpy_out, Sum.elim_inl, Sum.elim_inr, jt2, jt3, jt4, jt5, jt6, jt7, jt8] at fr1
  have M86 : MS B n q h86 := MS_fr ms.1 (fun s s0 s1 => fr1 _ _ (by omega) (by omega))
  have D0 := toW_p tw.1
  refine OK_jb2 (vX14_finish (B := B) (n := n) (q := q) (by exact M86) (by exact wg1.1)) (fun t88 h90 r2 => ?_)
  try dsimp only [Sum.elim_inl, Sum.elim_inr, jt2, jt3, jt4, jt5, jt6, jt7, jt8] at r2
  obtain ⟨bad2, good2, flt2, fr2⟩ := r2
  try simp (disch := omega) only [jst_eq, jst_ne, jst_ni, jI_i, jcmp_lt, jcmp_gt, w32_id, jcpy_out, Sum.elim_inl, Sum.elim_inr, jt2, jt3, jt4, jt5, jt6, jt7, jt8] at bad2
  try simp (disch := omega) only [jst_eq, jst_ne, jst_ni, jI_i, jcmp_lt, jcmp_gt, w32_id, jcpy_out, Sum.elim_inl, Sum.elim_inr, jt2, jt3, jt4, jt5, jt6, jt7, jt8] at good2
  try simp (disch := omega) only [jst_eq, jst_ne, jst_ni, jI_i, jcmp_lt, jcmp_gt, w32_id, jcpy_out, Sum.elim_inl, Sum.elim_inr, jt2, jt3, jt4, jt5, jt6, jt7, jt8] at flt2
  try simp (disch := omega) only [jst_eq, jst_ne, jst_ni, jI_i, jcmp_lt, jcmp_gt, w32_id, jcpy_out, Sum.elim_inl, Sum.elim_inr, jt2, jt3, jt4, jt5, jt6, jt7, jt8] at fr2
  refine OK_jq (fun c1 => ?_) (fun c1 => ?_)
  · skip
    refine OK_some ?_
    try dsimp only [Sum.elim_inl, Sum.elim_inr, jt2, jt3, jt4, jt5, jt6, jt7, jt8]
    try dsimp only [Sum.elim_inl, Sum.elim_inr, jt2, jt3, jt4, jt5, jt6, jt7, jt8]
    refine ⟨?_, ?_, ?_⟩
    · (rw [← mk1]; exact fin_K ms.2 good2 flt2) -- o7 e1.1
    · (rw [fr2 _ _ (by omega), fr1 _ _ (by omega) (by omega)]; exact ⟨rfl, dnM_f dn1 ⟨fun a s _ _ _ _ _ => fr2 _ _ (by omega), fun s _ _ => fr2 _ _ (by omega)⟩⟩) -- o8 e1.2
    · exact fun b s y1 y2 y3 => (by rw [fr2 b s y2]; exact fr1 b s y1 y3) -- o9 e1.3
  · skip
    refine OK_some ?_
    try dsimp only [Sum.elim_inl, Sum.elim_inr, jt2, jt3, jt4, jt5, jt6, jt7, jt8]
    try dsimp only [Sum.elim_inl, Sum.elim_inr, jt2, jt3, jt4, jt5, jt6, jt7, jt8]
    refine ⟨?_, ?_, ?_⟩
    · (rw [← mk1, show (0 : Int) = t88 by omega]; exact fin_K ms.2 good2 flt2) -- o10 e2.1
    · (rw [fr2 _ _ (by omega), fr1 _ _ (by omega) (by omega)]; exact ⟨rfl, dnM_f dn1 ⟨fun a s _ _ _ _ _ => fr2 _ _ (by omega), fun s _ _ => fr2 _ _ (by omega)⟩⟩) -- o11 e2.2
    · exact fun b s y1 y2 y3 => (by rw [fr2 b s y2]; exact fr1 b s y1 y3) -- o12 e2.3
/-- the second half of a loop that was weighed -/
def loD (h : AH) (a D : Int) (E : EV) (sk : List Int) (gs : List TR) (g : TR) : Prop := (∀ i : Nat, i < 4 → ∀ t, gs[i]? = some t → i < sk.length → h (a + 4) i = D + szL (gs.take i) ∧ dnM h (EL E sk) t (D + szL (gs.take i))) ∧ h a 8 = D + szL gs ∧ dnM h (EL E sk) g (D + szL gs)
theorem vX14_readLoop_j305 (a1 : Int) (a4 : Int) {h : AH} {B : Int → Int} {n q D : Int} {E : EV} {Rf : Int → TR} {sk : List Int} {gs : List TR} {g : TR} (lo : isLm a1) (wg : wgM h E Rf sk) (ls : lsW h (a1 + 4) D (EL E sk) gs 0) (rg : 0 ≤ D ∧ D + szL gs + sz g ≤ 5500 ∧ (gs.length : Int) = a4) (kk : h a1 4 = (sk.length : Int) ∧ sk.length ≤ 3 ∧ ∀ k, 0 ≤ k → k < (sk.length : Int) → h (a1 + 2) k = kch (kL sk k) ∧ -1 ≤ kL sk k ∧ kL sk k ≤ 2) (tw : toW h g (D + szL gs) ∧ h a1 8 = D + szL gs) (ms : MS B n q h ∧ tO B n q = 0) : OK (gX14_readLoop_j305 a1 a4 h) (fun r => jt2 r fun t h' => (resK (min (MK h) (min (fkG (EL E sk) sk (gs.take sk.length) 0) (keyE (EL E sk) (-1) g))) t h') ∧ (loD h' a1 D E sk gs g) ∧ (∀ b s, ¬ (b = 454 ∧ (s = 30 ∨ s = 31)) → ¬ (b = 472 ∧ (s = 6 ∨ s = 7)) → ¬ (461 ≤ b ∧ b ≤ 463 ∧ D ≤ s ∧ s < D + szL gs + sz g) → h' b s = h b s)) := by
  have LA : a1 = 805 ∨ a1 = 810 := lo
  have st := sz_pos g
  unfold gX14_readLoop_j305
  refine OK_jb (vX14_readLoop_l308 (D := D) (E := E) (Rf := Rf) (l := sk) (sk := sk) (gs := gs) _ _ _ (by (first | assumption | omega | ((try dsimp only [jt2, jt3, jt4]); first | omega | (simp (disch := omega) only [jst_eq, jst_ne, jst_ni, jst_o, jI_i, jcpy_out, w32_id, jdiv_nn, jshr_k, jand_255] <;> first | done | omega | assumption)) | (intros; simp (disch := omega) only [jst_eq, jst_ne, jst_ni, jst_o, jI_i, jcpy_out, w32_id, jdiv_nn, *] <;> first | done | omega) | (intros; simp (disch := omega) only [jst_eq, jst_ne, jst_ni, jst_o, jI_i, jcpy_out, w32_id, jdiv_nn] at * <;> first | done | omega | assumption) | (intros; first | rfl | (exfalso; omega) | ((repeat' apply And.intro) <;> first | assumption | rfl | omega | trivial)))) (by exact wg) (by exact ls) (by omega) (by exact kk) (by (first | assumption | omega | ((try dsimp only [jt2, jt3, jt4]); first | omega | (simp (disch := omega) only [jst_eq, jst_ne, jst_ni, jst_o, jI_i, jcpy_out, w32_id, jdiv_nn, jshr_k, jand_255] <;> first | done | omega | assumption)) | (intros; simp (disch := omega) only [jst_eq, jst_ne, jst_ni, jst_o, jI_i, jcpy_out, w32_id, jdiv_nn, *] <;> first | done | omega) | (intros; simp (disch := omega) only [jst_eq, jst_ne, jst_ni, jst_o, jI_i, jcpy_out, w32_id, jdiv_nn] at * <;> first | done | omega | assumption) | (intros; first | rfl | (exfalso; omega) | ((repeat' apply And.intro) <;> first | assumption | rfl | omega | trivial))))) (fun o82 r1 => ?_)
  try dsimp only [Sum.elim_inl, Sum.elim_inr, jt2, jt3, jt4, jt5, jt6, jt7, jt8] at r1
  obtain ⟨wg1, mk1, ls1, fr1⟩ := r1
  try simp (disch := omega) only [jst_eq, jst_ne, jst_ni, jI_i, jcmp_lt, jcmp_gt, w32_id, jcpy_out, Sum.elim_inl, Sum.elim_inr, jt2, jt3, jt4, jt5, jt6, jt7, jt8] at wg1
  try simp (disch := omega) only [jst_eq, jst_ne, jst_ni, jI_i, jcmp_lt, jcmp_gt, w32_id, jcpy_out, Sum.elim_inl, Sum.elim_inr, jt2, jt3, jt4, jt5, jt6, jt7, jt8] at mk1
  try simp (disch := omega) only [jst_eq, jst_ne, jst_ni, jI_i, jcmp_lt, jcmp_gt, w32_id, jcpy_out, Sum.elim_inl, Sum.elim_inr, jt2, jt3, jt4, jt5, jt6, jt7, jt8] at ls1
  try simp (disch := omega) only [jst_eq, jst_ne, jst_ni, jI_i, jcmp_lt, jcmp_gt, w32_id, jcpy_out, Sum.elim_inl, Sum.elim_inr, jt2, jt3, jt4, jt5, jt6, jt7, jt8] at fr1
  have E8 : o82 a1 8 = D + szL gs := by { rw [fr1 _ _ (by omega) (by omega)]; exact tw.2 }
  have M82 : MS B n q o82 := MS_fr ms.1 (fun s s0 s1 => fr1 _ _ (by omega) (by omega))
  have TW : toW o82 g (D + szL gs) := toW_f tw.1 ⟨fun a s _ _ _ _ _ _ => fr1 _ _ (by omega) (by omega), fun s _ _ => fr1 _ _ (by omega) (by omega), fun s _ _ => fr1 _ _ (by omega) (by omega)⟩
  refine OK_mono (vX14_readLoop_j392 (B := B) (n := n) (q := q) (E := E) (Rf := Rf) (l := sk) (g := g) _ (by (first | assumption | omega | ((try dsimp only [jt2, jt3, jt4]); first | omega | (simp (disch := omega) only [jst_eq, jst_ne, jst_ni, jst_o, jI_i, jcpy_out, w32_id, jdiv_nn, jshr_k, jand_255] <;> first | done | omega | assumption)) | (intros; simp (disch := omega) only [jst_eq, jst_ne, jst_ni, jst_o, jI_i, jcpy_out, w32_id, jdiv_nn, *] <;> first | done | omega) | (intros; simp (disch := omega) only [jst_eq, jst_ne, jst_ni, jst_o, jI_i, jcpy_out, w32_id, jdiv_nn] at * <;> first | done | omega | assumption) | (intros; first | rfl | (exfalso; omega) | ((repeat' apply And.intro) <;> first | assumption | rfl | omega | trivial)))) (by exact wg1) (by (rw [E8]; exact ⟨TW, by omega⟩)) (by exact ⟨M82, ms.2⟩)) (fun r r2 => ?_)
  obtain ⟨y1, y2⟩ := r
  try dsimp only [Sum.elim_inl, Sum.elim_inr, jt2, jt3, jt4, jt5, jt6, jt7, jt8] at r2
  obtain ⟨rk2, dn2, fr2⟩ := r2
  try simp (disch := omega) only [jst_eq, jst_ne, jst_ni, jI_i, jcmp_lt, jcmp_gt, w32_id, jcpy_out, Sum.elim_inl, Sum.elim_inr, jt2, jt3, jt4, jt5, jt6, jt7, jt8] at rk2
  try simp (disch := omega) only [jst_eq, jst_ne, jst_ni, jI_i, jcmp_lt, jcmp_gt, w32_id, jcpy_out, Sum.elim_inl, Sum.elim_inr, jt2, jt3, jt4, jt5, jt6, jt7, jt8] at dn2
  try simp (disch := omega) only [jst_eq, jst_ne, jst_ni, jI_i, jcmp_lt, jcmp_gt, w32_id, jcpy_out, Sum.elim_inl, Sum.elim_inr, jt2, jt3, jt4, jt5, jt6, jt7, jt8] at fr2
  try dsimp only [Sum.elim_inl, Sum.elim_inr, jt2, jt3, jt4, jt5, jt6, jt7, jt8]
  try dsimp only [Sum.elim_inl, Sum.elim_inr, jt2, jt3, jt4, jt5, jt6, jt7, jt8]
  refine ⟨?_, ?_, ?_⟩
  · (rw [mk1, Int.min_assoc] at rk2; exact rk2) -- o11 e1.1
  · (rw [E8] at dn2 fr2; refine ⟨fun i i4 t e it => ?_, dn2.1, dn2.2⟩; obtain ⟨x1, x2⟩ := ls1 i i4 t e it; have s0 := szL_tk gs i t e; rw [x1] at x2; rw [fr2 _ _ (by omega) (by omega) (by omega)]; exact ⟨x1, dnM_f x2 ⟨fun a s _ _ _ _ _ => fr2 _ _ (by omega) (by omega) (by omega), fun s _ _ => fr2 _ _ (by omega) (by omega) (by omega)⟩⟩) -- o12 e1.2
  · (rw [E8] at fr2; have s0 := szL_0 gs; exact fun b s y1 y2 y3 => (by rw [fr2 b s y1 y2 (by omega)]; exact fr1 b s y1 (by omega))) -- o13 e1.3
theorem vX14_readLoop_j293 (a1 : Int) (a2 : Int) (a3 : Int) (a4 : Int) {h : AH} {B : Int → Int} {n q D : Int} {E : EV} {Rf : Int → TR} {sk : List Int} {ts gs : List TR} {g : TR} (lo : isLm a1) (wg : wgM h E Rf sk) (ls : lsW h (a1 + 4) D (EL E sk) gs 0) (rg : 0 ≤ D ∧ D + szL gs + sz g ≤ 5500 ∧ (gs.length : Int) = a4 ∧ (ts.length : Int) = a2 ∧ 0 ≤ a3 ∧ a3 ≤ 2001) (kk : h a1 4 = (sk.length : Int) ∧ sk.length ≤ 3 ∧ ∀ k, 0 ≤ k → k < (sk.length : Int) → h (a1 + 2) k = kch (kL sk k) ∧ -1 ≤ kL sk k ∧ kL sk k ≤ 2) (tw : toW h g (D + szL gs) ∧ h a1 8 = D + szL gs) (ms : MS B n q h ∧ tO B n q = 0) : OK (gX14_readLoop_j293 a1 a2 a3 a4 h) (fun r => jt2 r fun t h' => (resK (min (MK h) (min (if gs.length = ts.length then 1000000 else a3 * 8 + 4) (min (fkG (EL E sk) sk (gs.take sk.length) 0) (keyE (EL E sk) (-1) g)))) t h') ∧ (loD h' a1 D E sk gs g) ∧ (∀ b s, ¬ (b = 454 ∧ (s = 30 ∨ s = 31)) → ¬ (b = 472 ∧ (s = 6 ∨ s = 7)) → ¬ (461 ≤ b ∧ b ≤ 463 ∧ D ≤ s ∧ s < D + szL gs + sz g) → h' b s = h b s)) := by
  have LA : a1 = 805 ∨ a1 = 810 := lo
  have mi := wg.1
  have mr := MK_r mi
  unfold gX14_readLoop_j293
  refine OK_if (fun c1 => ?_) (fun c1 => ?_)
  · skip
    try simp (disch := omega) only [jst_eq, jst_ne, jst_ni, jI_i, jcmp_lt, jcmp_gt, w32_id, jcpy_out, Sum.elim_inl, Sum.elim_inr, jt2, jt3, jt4, jt5, jt6, jt7, jt8] at c1
    refine OK_mono (vX14_readLoop_j305 (B := B) (n := n) (q := q) (D := D) (E := E) (Rf := Rf) (sk := sk) (gs := gs) (g := g) _ _ (by (first | assumption | omega | ((try dsimp only [jt2, jt3, jt4]); first | omega | (simp (disch := omega) only [jst_eq, jst_ne, jst_ni, jst_o, jI_i, jcpy_out, w32_id, jdiv_nn, jshr_k, jand_255] <;> first | done | omega | assumption)) | (intros; simp (disch := omega) only [jst_eq, jst_ne, jst_ni, jst_o, jI_i, jcpy_out, w32_id, jdiv_nn, *] <;> first | done | omega) | (intros; simp (disch := omega) only [jst_eq, jst_ne, jst_ni, jst_o, jI_i, jcpy_out, w32_id, jdiv_nn] at * <;> first | done | omega | assumption) | (intros; first | rfl | (exfalso; omega) | ((repeat' apply And.intro) <;> first | assumption | rfl | omega | trivial)))) (by exact wg) (by exact ls) (by omega) (by exact kk) (by exact tw) (by exact ms)) (fun r r1 => ?_)
    obtain ⟨y1, y2⟩ := r
    try dsimp only [Sum.elim_inl, Sum.elim_inr, jt2, jt3, jt4, jt5, jt6, jt7, jt8] at r1
    obtain ⟨rk1, ld1, fr1⟩ := r1
    try simp (disch := omega) only [jst_eq, jst_ne, jst_ni, jI_i, jcmp_lt, jcmp_gt, w32_id, jcpy_out, Sum.elim_inl, Sum.elim_inr, jt2, jt3, jt4, jt5, jt6, jt7, jt8] at rk1
    try simp (disch := omega) only [jst_eq, jst_ne, jst_ni, jI_i, jcmp_lt, jcmp_gt, w32_id, jcpy_out, Sum.elim_inl, Sum.elim_inr, jt2, jt3, jt4, jt5, jt6, jt7, jt8] at ld1
    try simp (disch := omega) only [jst_eq, jst_ne, jst_ni, jI_i, jcmp_lt, jcmp_gt, w32_id, jcpy_out, Sum.elim_inl, Sum.elim_inr, jt2, jt3, jt4, jt5, jt6, jt7, jt8] at fr1
    try dsimp only [Sum.elim_inl, Sum.elim_inr, jt2, jt3, jt4, jt5, jt6, jt7, jt8]
    try dsimp only [Sum.elim_inl, Sum.elim_inr, jt2, jt3, jt4, jt5, jt6, jt7, jt8]
    refine ⟨?_, ?_, ?_⟩
    · (rw [if_pos (by omega), ← Int.min_assoc, show min (MK h) 1000000 = MK h by omega]; exact rk1) -- o8 e1.1
    · (first | assumption | omega | ((try dsimp only [jt2, jt3, jt4]); first | omega | (simp (disch := omega) only [jst_eq, jst_ne, jst_ni, jst_o, jI_i, jcpy_out, w32_id, jdiv_nn, jshr_k, jand_255] <;> first | done | omega | assumption)) | (intros; simp (disch := omega) only [jst_eq, jst_ne, jst_ni, jst_o, jI_i, jcpy_out, w32_id, jdiv_nn, *] <;> first | done | omega) | (intros; simp (disch := omega) only [jst_eq, jst_ne, jst_ni, jst_o, jI_i, jcpy_out, w32_id, jdiv_nn] at * <;> first | done | omega | assumption) | (intros; first | rfl | (exfalso; omega) | ((repeat' apply And.intro) <;> first | assumption | rfl | omega | trivial))) -- o9 e1.2
    · (first | assumption | omega | ((try dsimp only [jt2, jt3, jt4]); first | omega | (simp (disch := omega) only [jst_eq, jst_ne, jst_ni, jst_o, jI_i, jcpy_out, w32_id, jdiv_nn, jshr_k, jand_255] <;> first | done | omega | assumption)) | (intros; simp (disch := omega) only [jst_eq, jst_ne, jst_ni, jst_o, jI_i, jcpy_out, w32_id, jdiv_nn, *] <;> first | done | omega) | (intros; simp (disch := omega) only [jst_eq, jst_ne, jst_ni, jst_o, jI_i, jcpy_out, w32_id, jdiv_nn] at * <;> first | done | omega | assumption) | (intros; first | rfl | (exfalso; omega) | ((repeat' apply And.intro) <;> first | assumption | rfl | omega | trivial))) -- o10 e1.3
  · skip
    try simp (disch := omega) only [jst_eq, jst_ne, jst_ni, jI_i, jcmp_lt, jcmp_gt, w32_id, jcpy_out, Sum.elim_inl, Sum.elim_inr, jt2, jt3, jt4, jt5, jt6, jt7, jt8] at c1
    refine OK_jb (vX14_note _ _ (by (first | assumption | omega | ((try dsimp only [jt2, jt3, jt4]); first | omega | (simp (disch := omega) only [jst_eq, jst_ne, jst_ni, jst_o, jI_i, jcpy_out, w32_id, jdiv_nn, jshr_k, jand_255] <;> first | done | omega | assumption)) | (intros; simp (disch := omega) only [jst_eq, jst_ne, jst_ni, jst_o, jI_i, jcpy_out, w32_id, jdiv_nn, *] <;> first | done | omega) | (intros; simp (disch := omega) only [jst_eq, jst_ne, jst_ni, jst_o, jI_i, jcpy_out, w32_id, jdiv_nn] at * <;> first | done | omega | assumption) | (intros; first | rfl | (exfalso; omega) | ((repeat' apply And.intro) <;> first | assumption | rfl | omega | trivial)))) (by (first | assumption | omega | ((try dsimp only [jt2, jt3, jt4]); first | omega | (simp (disch := omega) only [jst_eq, jst_ne, jst_ni, jst_o, jI_i, jcpy_out, w32_id, jdiv_nn, jshr_k, jand_255] <;> first | done | omega | assumption)) | (intros; simp (disch := omega) only [jst_eq, jst_ne, jst_ni, jst_o, jI_i, jcpy_out, w32_id, jdiv_nn, *] <;> first | done | omega) | (intros; simp (disch := omega) only [jst_eq, jst_ne, jst_ni, jst_o, jI_i, jcpy_out, w32_id, jdiv_nn] at * <;> first | done | omega | assumption) | (intros; first | rfl | (exfalso; omega) | ((repeat' apply And.intro) <;> first | assumption | rfl | omega | trivial))))) (fun h81 r2 => ?_)
    try dsimp only [Sum.elim_inl, Sum.elim_inr, jt2, jt3, jt4, jt5, jt6, jt7, jt8] at r2
    obtain ⟨m2, k2, fr2⟩ := r2
    try simp (disch := omega) only [jst_eq, jst_ne, jst_ni, jI_i, jcmp_lt, jcmp_gt, w32_id, jcpy_out, Sum.elim_inl, Sum.elim_inr, jt2, jt3, jt4, jt5, jt6, jt7, jt8] at m2
    try simp (disch := omega) only [jst_eq, jst_ne, jst_ni, jI_i, jcmp_lt, jcmp_gt, w32_id, jcpy_out, Sum.elim_inl, Sum.elim_inr, jt2, jt3, jt4, jt5, jt6, jt7, jt8] at k2
    try simp (disch := omega) only [jst_eq, jst_ne, jst_ni, jI_i, jcmp_lt, jcmp_gt, w32_id, jcpy_out, Sum.elim_inl, Sum.elim_inr, jt2, jt3, jt4, jt5, jt6, jt7, jt8] at fr2
    have F81 : ∀ a s, ¬ (a = 454 ∧ (s = 30 ∨ s = 31)) → h81 a s = h a s := fr2
    have W81 : wgM h81 E Rf sk := wgM_k wg m2 (fun a s y1 _ _ => fr2 a s y1)
    refine OK_mono (vX14_readLoop_j305 (B := B) (n := n) (q := q) (D := D) (E := E) (Rf := Rf) (sk := sk) (gs := gs) (g := g) _ _ (by (first | assumption | omega | ((try dsimp only [jt2, jt3, jt4]); first | omega | (simp (disch := omega) only [jst_eq, jst_ne, jst_ni, jst_o, jI_i, jcpy_out, w32_id, jdiv_nn, jshr_k, jand_255] <;> first | done | omega | assumption)) | (intros; simp (disch := omega) only [jst_eq, jst_ne, jst_ni, jst_o, jI_i, jcpy_out, w32_id, jdiv_nn, *] <;> first | done | omega) | (intros; simp (disch := omega) only [jst_eq, jst_ne, jst_ni, jst_o, jI_i, jcpy_out, w32_id, jdiv_nn] at * <;> first | done | omega | assumption) | (intros; first | rfl | (exfalso; omega) | ((repeat' apply And.intro) <;> first | assumption | rfl | omega | trivial)))) (by exact W81) (by exact lsW_f ls (Int.le_refl _) (fun i i0 i1 => F81 _ _ (by omega)) (fun i i4 t e => ⟨fun _ => (agM_x (d := 0) (z := 0) (fun a s y1 _ _ => F81 a s y1) (Or.inr (by have := szL_0 (gs.take i); omega))).1, fun z => by omega, fun _ z => by omega⟩)) (by omega) (by (rw [F81 _ _ (by omega)]; exact ⟨kk.1, kk.2.1, fun k k0 k1 => by rw [F81 _ _ (by omega)]; exact kk.2.2 k k0 k1⟩)) (by (rw [F81 a1 8 (by omega)]; exact ⟨toW_f tw.1 (agM_x (d := 0) (z := 0) (fun a s y1 _ _ => F81 a s y1) (Or.inr (by have := szL_0 gs; omega))).1, tw.2⟩)) (by exact ⟨MS_fr ms.1 (fun s s0 s1 => F81 _ _ (by omega)), ms.2⟩)) (fun r r3 => ?_)
    obtain ⟨y3, y4⟩ := r
    try dsimp only [Sum.elim_inl, Sum.elim_inr, jt2, jt3, jt4, jt5, jt6, jt7, jt8] at r3
    obtain ⟨rk3, ld3, fr3⟩ := r3
    try simp (disch := omega) only [jst_eq, jst_ne, jst_ni, jI_i, jcmp_lt, jcmp_gt, w32_id, jcpy_out, Sum.elim_inl, Sum.elim_inr, jt2, jt3, jt4, jt5, jt6, jt7, jt8] at rk3
    try simp (disch := omega) only [jst_eq, jst_ne, jst_ni, jI_i, jcmp_lt, jcmp_gt, w32_id, jcpy_out, Sum.elim_inl, Sum.elim_inr, jt2, jt3, jt4, jt5, jt6, jt7, jt8] at ld3
    try simp (disch := omega) only [jst_eq, jst_ne, jst_ni, jI_i, jcmp_lt, jcmp_gt, w32_id, jcpy_out, Sum.elim_inl, Sum.elim_inr, jt2, jt3, jt4, jt5, jt6, jt7, jt8] at fr3
    try dsimp only [Sum.elim_inl, Sum.elim_inr, jt2, jt3, jt4, jt5, jt6, jt7, jt8]
    try dsimp only [Sum.elim_inl, Sum.elim_inr, jt2, jt3, jt4, jt5, jt6, jt7, jt8]
    refine ⟨?_, ?_, ?_⟩
    · (rw [if_neg (by omega), ← Int.min_assoc, ← k2]; exact rk3) -- o20 e2.1
    · (first | assumption | omega | ((try dsimp only [jt2, jt3, jt4]); first | omega | (simp (disch := omega) only [jst_eq, jst_ne, jst_ni, jst_o, jI_i, jcpy_out, w32_id, jdiv_nn, jshr_k, jand_255] <;> first | done | omega | assumption)) | (intros; simp (disch := omega) only [jst_eq, jst_ne, jst_ni, jst_o, jI_i, jcpy_out, w32_id, jdiv_nn, *] <;> first | done | omega) | (intros; simp (disch := omega) only [jst_eq, jst_ne, jst_ni, jst_o, jI_i, jcpy_out, w32_id, jdiv_nn] at * <;> first | done | omega | assumption) | (intros; first | rfl | (exfalso; omega) | ((repeat' apply And.intro) <;> first | assumption | rfl | omega | trivial))) -- o21 e2.2
    · exact fun b s y1 y2 y3 => (by rw [fr3 b s y1 y2 y3]; exact F81 b s y1) -- o22 e2.3
theorem lsW_o {h h' : AH} {a D : Int} {E E' : EV} {l : List TR} (x : lsW h a D E l 0) (ea : ∀ i, 0 ≤ i → i < 4 → h' a i = h a i) (f : ∀ i : Nat, i < 4 → ∀ t, l[i]? = some t → agM (D + szL (l.take i)) (D + szL (l.take i) + sz t) h h') : lsW h' a D E' l 0 := fun i i4 t e => by
  obtain ⟨x1, x2⟩ := x i i4 t e
  rw [ea i (by omega) (by omega)]
  refine ⟨x1, Or.inl ⟨by omega, ?_⟩⟩
  rcases x2 with y | y
  · have := toW_f (h' := h') y.2 (by rw [x1]; exact f i i4 t e)
    exact this
  · omega
theorem kA232 {E : EV} {K : Int} {c : TR} (k : K ≤ 1000000) (e : kdE E c = 1 ∨ kdE E c = -1) : min K (keyE E (-1) c) = min K (keyE E 1 c) := by
  rw [key0 (w := 1) k, if_neg (fun z => e.elim z.2.2 z.2.1)]
  omega
theorem kB232 {E : EV} {K : Int} {c : TR} (k : K ≤ 1000000) (a : kdE E c ≠ -1) (b : kdE E c ≠ 1) : min (min K (keyE E (-1) c)) (plT c * 8 + 3) = min K (keyE E 1 c) := by
  rw [key0 (w := 1) k, if_pos ⟨by decide, a, b⟩]
theorem ST232 {B : Int → Int} {n q D Dc a1 a2 : Int} {E : EV} {Rf : Int → TR} {l sk : List Int} {gs : List TR} {c g : TR} {h h74 h' : AH} (LA : a1 = 805 ∨ a1 = 810) (rg : 0 ≤ Dc ∧ D = Dc + sz c ∧ D + szL gs + sz g ≤ 5500) (ls : lsW h (a1 + 4) D (EL E l) gs 0) (ks : (sk.length : Int) = min 3 a2 ∧ sk.length ≤ 3 ∧ (∀ k, 0 ≤ k → k < (sk.length : Int) → h (a1 + 2) k = kch (kL sk k) ∧ -1 ≤ kL sk k ∧ kL sk k ≤ 2) ∧ h (a1 + 2) (-2) = 101 ∧ h (a1 + 2) (-1) = 3) (tw : toW h g (D + szL gs) ∧ h a1 8 = D + szL gs) (ms : MS B n q h ∧ tO B n q = 0) (wg2 : wgM h74 E Rf sk) (V74 : h74 a1 4 = (sk.length : Int)) (F74 : ∀ a s, ¬ (a = a1 ∧ s = 4) → ¬ (a = 454 ∧ (s = 30 ∨ s = 31 ∨ s = 34)) → ¬ ((a = 474 ∨ a = 475) ∧ 0 ≤ s ∧ s < 3) → ¬ (461 ≤ a ∧ a ≤ 463 ∧ Dc ≤ s ∧ s < Dc + sz c) → h74 a s = h a s) (mi : MI h') (f : ∀ a s, ¬ (a = 454 ∧ (s = 30 ∨ s = 31)) → h' a s = h74 a s) : wgM h' E Rf sk ∧ lsW h' (a1 + 4) D (EL E sk) gs 0 ∧ (h' a1 4 = (sk.length : Int) ∧ sk.length ≤ 3 ∧ ∀ k, 0 ≤ k → k < (sk.length : Int) → h' (a1 + 2) k = kch (kL sk k) ∧ -1 ≤ kL sk k ∧ kL sk k ≤ 2) ∧ (toW h' g (D + szL gs) ∧ h' a1 8 = D + szL gs) ∧ (MS B n q h' ∧ tO B n q = 0) := by
  have sc := sz_pos c
  have sgs := szL_0 gs
  have sg := sz_pos g
  have G : ∀ a s, ¬ (a = a1 ∧ s = 4) → ¬ (a = 454 ∧ (s = 30 ∨ s = 31 ∨ s = 34)) → ¬ ((a = 474 ∨ a = 475) ∧ 0 ≤ s ∧ s < 3) → ¬ (461 ≤ a ∧ a ≤ 463 ∧ Dc ≤ s ∧ s < Dc + sz c) → h' a s = h a s := fun a s y1 y2 y3 y4 => by
    rw [f a s (by omega)]; exact F74 a s y1 y2 y3 y4
  refine ⟨wgM_k wg2 mi (fun a s y1 _ _ => f a s y1), lsW_o ls (fun i i0 i1 => G _ _ (by omega) (by omega) (by omega) (by omega)) (fun i i4 t e => ?_), ⟨by rw [f _ _ (by omega)]; exact V74, ks.2.1, fun k k0 k1 => by rw [G _ _ (by omega) (by omega) (by omega) (by omega)]; exact ks.2.2.1 k k0 k1⟩, ⟨toW_f tw.1 ?_, by rw [G _ _ (by omega) (by omega) (by omega) (by omega)]; exact tw.2⟩, MS_fr ms.1 (fun s s0 s1 => G _ _ (by omega) (by omega) (by omega) (by omega)), ms.2⟩
  · have s1 := szL_0 (gs.take i)
    exact ⟨fun a s _ _ _ _ _ _ => G _ _ (by omega) (by omega) (by omega) (by omega), fun s _ _ => G _ _ (by omega) (by omega) (by omega) (by omega), fun s _ _ => G _ _ (by omega) (by omega) (by omega) (by omega)⟩
  · exact ⟨fun a s _ _ _ _ _ _ => G _ _ (by omega) (by omega) (by omega) (by omega), fun s _ _ => G _ _ (by omega) (by omega) (by omega) (by omega), fun s _ _ => G _ _ (by omega) (by omega) (by omega) (by omega)⟩
theorem EN232 {D Dc a1 a3 t K1 K : Int} {E : EV} {sk : List Int} {gs ts : List TR} {c g : TR} {h h74 h1 h' : AH} (LA : a1 = 805 ∨ a1 = 810) (rg : 0 ≤ Dc ∧ D = Dc + sz c ∧ D + szL gs + sz g ≤ 5500) (E74 : h74 a1 6 = Dc) (V74 : h74 a1 4 = (sk.length : Int)) (dn2 : dnM h74 (EL E sk) c Dc) (F74 : ∀ a s, ¬ (a = a1 ∧ s = 4) → ¬ (a = 454 ∧ (s = 30 ∨ s = 31 ∨ s = 34)) → ¬ ((a = 474 ∨ a = 475) ∧ 0 ≤ s ∧ s < 3) → ¬ (461 ≤ a ∧ a ≤ 463 ∧ Dc ≤ s ∧ s < Dc + sz c) → h74 a s = h a s) (e : K1 = min K (keyE (EL E sk) 1 c)) (f : ∀ a s, ¬ (a = 454 ∧ (s = 30 ∨ s = 31)) → h1 a s = h74 a s) (rk : resK (min K1 (min (if gs.length = ts.length then 1000000 else a3 * 8 + 4) (min (fkG (EL E sk) sk (gs.take sk.length) 0) (keyE (EL E sk) (-1) g)))) t h') (ld : loD h' a1 D E sk gs g) (fr : ∀ b s, ¬ (b = 454 ∧ (s = 30 ∨ s = 31)) → ¬ (b = 472 ∧ (s = 6 ∨ s = 7)) → ¬ (461 ≤ b ∧ b ≤ 463 ∧ D ≤ s ∧ s < D + szL gs + sz g) → h' b s = h1 b s) : resK (min K (min (min (keyE (EL E sk) 1 c) (if gs.length = ts.length then 1000000 else a3 * 8 + 4)) (min (fkG (EL E sk) sk (gs.take sk.length) 0) (keyE (EL E sk) (-1) g)))) t h' ∧ (loD h' a1 D E sk gs g ∧ h' a1 6 = Dc ∧ dnM h' (EL E sk) c Dc ∧ h' a1 4 = (sk.length : Int)) ∧ ∀ b s, ¬ (b = 454 ∧ (s = 30 ∨ s = 31 ∨ s = 34)) → ¬ (b = 472 ∧ (s = 6 ∨ s = 7)) → ¬ (461 ≤ b ∧ b ≤ 463 ∧ Dc ≤ s ∧ s < D + szL gs + sz g) → ¬ ((b = 474 ∨ b = 475) ∧ 0 ≤ s ∧ s < 3) → ¬ (b = a1 ∧ s = 4) → h' b s = h b s := by
  have sc := sz_pos c
  have sgs := szL_0 gs
  have sg := sz_pos g
  rw [e, Int.min_assoc, ← Int.min_assoc (keyE (EL E sk) 1 c)] at rk
  have G : ∀ b s, ¬ (b = 454 ∧ (s = 30 ∨ s = 31)) → ¬ (b = 472 ∧ (s = 6 ∨ s = 7)) → ¬ (461 ≤ b ∧ b ≤ 463 ∧ D ≤ s ∧ s < D + szL gs + sz g) → h' b s = h74 b s := fun b s y1 y2 y3 => by
    rw [fr b s y1 y2 y3]; exact f b s y1
  refine ⟨rk, ⟨ld, by rw [G _ _ (by omega) (by omega) (by omega)]; exact E74, dnM_f dn2 ⟨fun a s _ _ _ _ _ => G _ _ (by omega) (by omega) (by omega), fun s _ _ => G _ _ (by omega) (by omega) (by omega)⟩, by rw [G _ _ (by omega) (by omega) (by omega)]; exact V74⟩, fun b s y1 y2 y3 y4 y5 => ?_⟩
  rw [G b s (by omega) y2 (by omega)]
  exact F74 b s y5 (by omega) y4 (by omega)
theorem vX14_readLoop_j232 (a1 : Int) (a2 : Int) (a3 : Int) (a4 : Int) {h : AH} {B : Int → Int} {n q D Dc : Int} {E : EV} {Rf : Int → TR} {l sk : List Int} {ts gs : List TR} {c g : TR} (lo : isLm a1) (wg : wgM h E Rf l) (rg : 0 ≤ Dc ∧ D = Dc + sz c ∧ D + szL gs + sz g ≤ 5500 ∧ (gs.length : Int) = a4 ∧ (ts.length : Int) = a2 ∧ 0 ≤ a3 ∧ a3 ≤ 2001) (ls : lsW h (a1 + 4) D (EL E l) gs 0) (ks : (sk.length : Int) = min 3 a2 ∧ sk.length ≤ 3 ∧ (∀ k, 0 ≤ k → k < (sk.length : Int) → h (a1 + 2) k = kch (kL sk k) ∧ -1 ≤ kL sk k ∧ kL sk k ≤ 2) ∧ h (a1 + 2) (-2) = 101 ∧ h (a1 + 2) (-1) = 3) (tc : toW h c Dc ∧ h a1 6 = Dc) (tw : toW h g (D + szL gs) ∧ h a1 8 = D + szL gs) (ms : MS B n q h ∧ tO B n q = 0) : OK (gX14_readLoop_j232 a1 a2 a3 a4 h) (fun r => jt2 r fun t h' => (resK (min (MK h) (min (min (keyE (EL E sk) 1 c) (if gs.length = ts.length then 1000000 else a3 * 8 + 4)) (min (fkG (EL E sk) sk (gs.take sk.length) 0) (keyE (EL E sk) (-1) g)))) t h') ∧ (loD h' a1 D E sk gs g ∧ h' a1 6 = Dc ∧ dnM h' (EL E sk) c Dc ∧ h' a1 4 = (sk.length : Int)) ∧ (∀ b s, ¬ (b = 454 ∧ (s = 30 ∨ s = 31 ∨ s = 34)) → ¬ (b = 472 ∧ (s = 6 ∨ s = 7)) → ¬ (461 ≤ b ∧ b ≤ 463 ∧ Dc ≤ s ∧ s < D + szL gs + sz g) → ¬ ((b = 474 ∨ b = 475) ∧ 0 ≤ s ∧ s < 3) → ¬ (b = a1 ∧ s = 4) → h' b s = h b s)) := by
  have LA : a1 = 805 ∨ a1 = 810 := lo
  have sc := sz_pos c
  have sgs := szL_0 gs
  have sg := sz_pos g
  unfold gX14_readLoop_j232
  refine OK_jl ?_
  have F69 : ∀ a s, ¬ (a = a1 ∧ s = 4) → jst h a1 4 (min 3 a2) a s = h a s := fun a s y => jst_o y
  have V69 : jst h a1 4 (min 3 a2) a1 4 = min 3 a2 := jst_eq
  generalize jst h a1 4 (min 3 a2) = g69 at *
  rw [V69]
  refine OK_jb (vX14_parameters _ _ _ (by omega) (by (rw [F69 _ _ (by omega), F69 _ _ (by omega)]; have := ks.2.2.2; omega))) (fun h71 r1 => ?_)
  try dsimp only [Sum.elim_inl, Sum.elim_inr, jt2, jt3, jt4, jt5, jt6, jt7, jt8] at r1
  obtain ⟨pp1, fr1⟩ := r1
  try simp (disch := omega) only [jst_eq, jst_ne, jst_ni, jI_i, jcmp_lt, jcmp_gt, w32_id, jcpy_out, Sum.elim_inl, Sum.elim_inr, jt2, jt3, jt4, jt5, jt6, jt7, jt8] at pp1
  try simp (disch := omega) only [jst_eq, jst_ne, jst_ni, jI_i, jcmp_lt, jcmp_gt, w32_id, jcpy_out, Sum.elim_inl, Sum.elim_inr, jt2, jt3, jt4, jt5, jt6, jt7, jt8] at fr1
  have F71 : ∀ a s, ¬ (a = a1 ∧ s = 4) → ¬ (a = 454 ∧ s = 34) → ¬ ((a = 474 ∨ a = 475) ∧ 0 ≤ s ∧ s < 3) → h71 a s = h a s := fun a s y1 y2 y3 => by { rw [fr1 a s y2 y3]; exact F69 a s y1 }
  have V71 : h71 a1 4 = (sk.length : Int) := by { rw [fr1 _ _ (by omega) (by omega), V69]; exact ks.1.symm }
  have W71 : wgM h71 E Rf sk := by { obtain ⟨w1, w2, w3, w4, w5, w6, w7⟩ := wg; refine ⟨MI_fr (F71 _ _ (by omega) (by omega) (by omega)) (F71 _ _ (by omega) (by omega) (by omega)) w1, by rw [F71 _ _ (by omega) (by omega) (by omega)]; exact w2, actM_fr w3 (F71 _ _ (by omega) (by omega) (by omega)) (fun a s a0 a1 => F71 _ _ (by omega) (by omega) (by omega)), ⟨by { rw [pp1.1]; show min 3 a2 = (sk.length : Int); omega }, by { show 0 ≤ (sk.length : Int); omega }, by { show (sk.length : Int) ≤ 3; omega }, fun k k0 k1 => by { have k1' : k < (sk.length : Int) := k1; have p := pp1.2 k k0 (by omega); have y := ks.2.2.1 k k0 k1'; refine ⟨p.1, ?_, y.2.1, y.2.2⟩; rw [p.2, F69 _ _ (by omega), Int.zero_add]; exact y.1 }⟩, w5, w6, ownM_fr w7 ⟨fun a s a0 a1 a2 s0 s1 => F71 _ _ (by omega) (by omega) (by omega), fun s s0 s1 => F71 _ _ (by omega) (by omega) (by omega)⟩ (fun a a0 a1 => F71 _ _ (by omega) (by omega) (by omega))⟩ }
  have AG1 : ∀ lo hi, agM lo hi h h71 := fun lo hi => ⟨fun a s _ _ _ _ _ _ => F71 _ _ (by omega) (by omega) (by omega), fun s _ _ => F71 _ _ (by omega) (by omega) (by omega), fun s _ _ => F71 _ _ (by omega) (by omega) (by omega)⟩
  have E6 : h71 a1 6 = Dc := by { rw [F71 _ _ (by omega) (by omega) (by omega)]; exact tc.2 }
  rw [E6]
  refine OK_jb2 (vX14_weighedW (E := E) (T := c) (Rf := Rf) (l := sk) _ _ (by rfl) (by exact W71) (by exact toW_f tc.1 (AG1 _ _)) (by omega)) (fun v73 h74 r2 => ?_)
  try dsimp only [Sum.elim_inl, Sum.elim_inr, jt2, jt3, jt4, jt5, jt6, jt7, jt8] at r2
  obtain ⟨vv2, wg2, mk2, dn2, pl2, fr2⟩ := r2
  try simp (disch := omega) only [jst_eq, jst_ne, jst_ni, jI_i, jcmp_lt, jcmp_gt, w32_id, jcpy_out, Sum.elim_inl, Sum.elim_inr, jt2, jt3, jt4, jt5, jt6, jt7, jt8] at vv2
  try simp (disch := omega) only [jst_eq, jst_ne, jst_ni, jI_i, jcmp_lt, jcmp_gt, w32_id, jcpy_out, Sum.elim_inl, Sum.elim_inr, jt2, jt3, jt4, jt5, jt6, jt7, jt8] at wg2
  try simp (disch := omega) only [jst_eq, jst_ne, jst_ni, jI_i, jcmp_lt, jcmp_gt, w32_id, jcpy_out, Sum.elim_inl, Sum.elim_inr, jt2, jt3, jt4, jt5, jt6, jt7, jt8] at mk2
  try simp (disch := omega) only [jst_eq, jst_ne, jst_ni, jI_i, jcmp_lt, jcmp_gt, w32_id, jcpy_out, Sum.elim_inl, Sum.elim_inr, jt2, jt3, jt4, jt5, jt6, jt7, jt8] at dn2
  try simp (disch := omega) only [jst_eq, jst_ne, jst_ni, jI_i, jcmp_lt, jcmp_gt, w32_id, jcpy_out, Sum.elim_inl, Sum.elim_inr, jt2, jt3, jt4, jt5, jt6, jt7, jt8] at pl2
  try simp (disch := omega) only [jst_eq, jst_ne, jst_ni, jI_i, jcmp_lt, jcmp_gt, w32_id, jcpy_out, Sum.elim_inl, Sum.elim_inr, jt2, jt3, jt4, jt5, jt6, jt7, jt8] at fr2
  have F74 : ∀ a s, ¬ (a = a1 ∧ s = 4) → ¬ (a = 454 ∧ (s = 30 ∨ s = 31 ∨ s = 34)) → ¬ ((a = 474 ∨ a = 475) ∧ 0 ≤ s ∧ s < 3) → ¬ (461 ≤ a ∧ a ≤ 463 ∧ Dc ≤ s ∧ s < Dc + sz c) → h74 a s = h a s := fun a s y1 y2 y3 y4 => by { rw [fr2 a s (by omega) y4]; exact F71 a s y1 (by omega) y3 }
  have MK71 : MK h71 = MK h := MK_fr (F71 _ _ (by omega) (by omega) (by omega)) (F71 _ _ (by omega) (by omega) (by omega))
  have mr := MK_r wg.1
  have V74 : h74 a1 4 = (sk.length : Int) := by { rw [fr2 _ _ (by omega) (by omega)]; exact V71 }
  have E74 : h74 a1 6 = Dc := by { rw [fr2 _ _ (by omega) (by omega)]; exact E6 }
  have RG : 0 ≤ Dc ∧ D = Dc + sz c ∧ D + szL gs + sz g ≤ 5500 := ⟨rg.1, rg.2.1, rg.2.2.1⟩
  refine OK_if (fun c1 => ?_) (fun c1 => ?_)
  · skip
    try simp (disch := omega) only [jst_eq, jst_ne, jst_ni, jI_i, jcmp_lt, jcmp_gt, w32_id, jcpy_out, Sum.elim_inl, Sum.elim_inr, jt2, jt3, jt4, jt5, jt6, jt7, jt8] at c1
    have K1 := (kch_c vv2.2).2.1.mp (by omega)
    have S1 := ST232 (h' := h74) LA RG ls ks tw ms wg2 V74 F74 wg2.1 (fun _ _ _ => rfl)
    refine OK_mono (vX14_readLoop_j293 (B := B) (n := n) (q := q) (D := D) (E := E) (Rf := Rf) (sk := sk) (ts := ts) (gs := gs) (g := g) _ _ _ _ (by (first | assumption | omega | ((try dsimp only [jt2, jt3, jt4]); first | omega | (simp (disch := omega) only [jst_eq, jst_ne, jst_ni, jst_o, jI_i, jcpy_out, w32_id, jdiv_nn, jshr_k, jand_255] <;> first | done | omega | assumption)) | (intros; simp (disch := omega) only [jst_eq, jst_ne, jst_ni, jst_o, jI_i, jcpy_out, w32_id, jdiv_nn, *] <;> first | done | omega) | (intros; simp (disch := omega) only [jst_eq, jst_ne, jst_ni, jst_o, jI_i, jcpy_out, w32_id, jdiv_nn] at * <;> first | done | omega | assumption) | (intros; first | rfl | (exfalso; omega) | ((repeat' apply And.intro) <;> first | assumption | rfl | omega | trivial)))) (by exact S1.1) (by exact S1.2.1) (by omega) (by exact S1.2.2.1) (by exact S1.2.2.2.1) (by exact S1.2.2.2.2)) (fun r r3 => ?_)
    obtain ⟨y1, y2⟩ := r
    try dsimp only [Sum.elim_inl, Sum.elim_inr, jt2, jt3, jt4, jt5, jt6, jt7, jt8] at r3
    obtain ⟨rk3, ld3, fr3⟩ := r3
    try simp (disch := omega) only [jst_eq, jst_ne, jst_ni, jI_i, jcmp_lt, jcmp_gt, w32_id, jcpy_out, Sum.elim_inl, Sum.elim_inr, jt2, jt3, jt4, jt5, jt6, jt7, jt8] at rk3
    try simp (disch := omega) only [jst_eq, jst_ne, jst_ni, jI_i, jcmp_lt, jcmp_gt, w32_id, jcpy_out, Sum.elim_inl, Sum.elim_inr, jt2, jt3, jt4, jt5, jt6, jt7, jt8] at ld3
    try simp (disch := omega) only [jst_eq, jst_ne, jst_ni, jI_i, jcmp_lt, jcmp_gt, w32_id, jcpy_out, Sum.elim_inl, Sum.elim_inr, jt2, jt3, jt4, jt5, jt6, jt7, jt8] at fr3
    try dsimp only [Sum.elim_inl, Sum.elim_inr, jt2, jt3, jt4, jt5, jt6, jt7, jt8]
    try dsimp only [Sum.elim_inl, Sum.elim_inr, jt2, jt3, jt4, jt5, jt6, jt7, jt8]
    refine ⟨?_, ?_, ?_⟩
    · exact (EN232 LA RG E74 V74 dn2 F74 (by rw [mk2, MK71]; exact kA232 mr.2 (Or.inl K1)) (fun _ _ _ => rfl) rk3 ld3 fr3).1 -- o14 e1.1
    · exact (EN232 LA RG E74 V74 dn2 F74 (by rw [mk2, MK71]; exact kA232 mr.2 (Or.inl K1)) (fun _ _ _ => rfl) rk3 ld3 fr3).2.1 -- o15 e1.2
    · exact (EN232 LA RG E74 V74 dn2 F74 (by rw [mk2, MK71]; exact kA232 mr.2 (Or.inl K1)) (fun _ _ _ => rfl) rk3 ld3 fr3).2.2 -- o16 e1.3
  · skip
    try simp (disch := omega) only [jst_eq, jst_ne, jst_ni, jI_i, jcmp_lt, jcmp_gt, w32_id, jcpy_out, Sum.elim_inl, Sum.elim_inr, jt2, jt3, jt4, jt5, jt6, jt7, jt8] at c1
    refine OK_if (fun c2 => ?_) (fun c2 => ?_)
    · skip
      try simp (disch := omega) only [jst_eq, jst_ne, jst_ni, jI_i, jcmp_lt, jcmp_gt, w32_id, jcpy_out, Sum.elim_inl, Sum.elim_inr, jt2, jt3, jt4, jt5, jt6, jt7, jt8] at c2
      have K1 := (kch_c vv2.2).2.2.mp (by omega)
      have S1 := ST232 (h' := h74) LA RG ls ks tw ms wg2 V74 F74 wg2.1 (fun _ _ _ => rfl)
      refine OK_mono (vX14_readLoop_j293 (B := B) (n := n) (q := q) (D := D) (E := E) (Rf := Rf) (sk := sk) (ts := ts) (gs := gs) (g := g) _ _ _ _ (by (first | assumption | omega | ((try dsimp only [jt2, jt3, jt4]); first | omega | (simp (disch := omega) only [jst_eq, jst_ne, jst_ni, jst_o, jI_i, jcpy_out, w32_id, jdiv_nn, jshr_k, jand_255] <;> first | done | omega | assumption)) | (intros; simp (disch := omega) only [jst_eq, jst_ne, jst_ni, jst_o, jI_i, jcpy_out, w32_id, jdiv_nn, *] <;> first | done | omega) | (intros; simp (disch := omega) only [jst_eq, jst_ne, jst_ni, jst_o, jI_i, jcpy_out, w32_id, jdiv_nn] at * <;> first | done | omega | assumption) | (intros; first | rfl | (exfalso; omega) | ((repeat' apply And.intro) <;> first | assumption | rfl | omega | trivial)))) (by exact S1.1) (by exact S1.2.1) (by omega) (by exact S1.2.2.1) (by exact S1.2.2.2.1) (by exact S1.2.2.2.2)) (fun r r4 => ?_)
      obtain ⟨y3, y4⟩ := r
      try dsimp only [Sum.elim_inl, Sum.elim_inr, jt2, jt3, jt4, jt5, jt6, jt7, jt8] at r4
      obtain ⟨rk4, ld4, fr4⟩ := r4
      try simp (disch := omega) only [jst_eq, jst_ne, jst_ni, jI_i, jcmp_lt, jcmp_gt, w32_id, jcpy_out, Sum.elim_inl, Sum.elim_inr, jt2, jt3, jt4, jt5, jt6, jt7, jt8] at rk4
      try simp (disch := omega) only [jst_eq, jst_ne, jst_ni, jI_i, jcmp_lt, jcmp_gt, w32_id, jcpy_out, Sum.elim_inl, Sum.elim_inr, jt2, jt3, jt4, jt5, jt6, jt7, jt8] at ld4
      try simp (disch := omega) only [jst_eq, jst_ne, jst_ni, jI_i, jcmp_lt, jcmp_gt, w32_id, jcpy_out, Sum.elim_inl, Sum.elim_inr, jt2, jt3, jt4, jt5, jt6, jt7, jt8] at fr4
      try dsimp only [Sum.elim_inl, Sum.elim_inr, jt2, jt3, jt4, jt5, jt6, jt7, jt8]
      try dsimp only [Sum.elim_inl, Sum.elim_inr, jt2, jt3, jt4, jt5, jt6, jt7, jt8]
      refine ⟨?_, ?_, ?_⟩
      · exact (EN232 LA RG E74 V74 dn2 F74 (by rw [mk2, MK71]; exact kA232 mr.2 (Or.inr K1)) (fun _ _ _ => rfl) rk4 ld4 fr4).1 -- o24 e2.1
      · exact (EN232 LA RG E74 V74 dn2 F74 (by rw [mk2, MK71]; exact kA232 mr.2 (Or.inr K1)) (fun _ _ _ => rfl) rk4 ld4 fr4).2.1 -- o25 e2.2
      · exact (EN232 LA RG E74 V74 dn2 F74 (by rw [mk2, MK71]; exact kA232 mr.2 (Or.inr K1)) (fun _ _ _ => rfl) rk4 ld4 fr4).2.2 -- o26 e2.3
    · skip
      try simp (disch := omega) only [jst_eq, jst_ne, jst_ni, jI_i, jcmp_lt, jcmp_gt, w32_id, jcpy_out, Sum.elim_inl, Sum.elim_inr, jt2, jt3, jt4, jt5, jt6, jt7, jt8] at c2
      have PC := toW_p tc.1
      refine OK_jg (by (first | assumption | omega | ((try dsimp only [jt2, jt3, jt4]); first | omega | (simp (disch := omega) only [jst_eq, jst_ne, jst_ni, jst_o, jI_i, jcpy_out, w32_id, jdiv_nn, jshr_k, jand_255] <;> first | done | omega | assumption)) | (intros; simp (disch := omega) only [jst_eq, jst_ne, jst_ni, jst_o, jI_i, jcpy_out, w32_id, jdiv_nn, *] <;> first | done | omega) | (intros; simp (disch := omega) only [jst_eq, jst_ne, jst_ni, jst_o, jI_i, jcpy_out, w32_id, jdiv_nn] at * <;> first | done | omega | assumption) | (intros; first | rfl | (exfalso; omega) | ((repeat' apply And.intro) <;> first | assumption | rfl | omega | trivial)))) ?_ -- o27
      refine OK_jb (vX14_note _ _ (by exact wg2.1) (by (rw [E74, pl2]; omega))) (fun h78 r5 => ?_)
      try dsimp only [Sum.elim_inl, Sum.elim_inr, jt2, jt3, jt4, jt5, jt6, jt7, jt8] at r5
      obtain ⟨m5, k5, fr5⟩ := r5
      try simp (disch := omega) only [jst_eq, jst_ne, jst_ni, jI_i, jcmp_lt, jcmp_gt, w32_id, jcpy_out, Sum.elim_inl, Sum.elim_inr, jt2, jt3, jt4, jt5, jt6, jt7, jt8] at m5
      try simp (disch := omega) only [jst_eq, jst_ne, jst_ni, jI_i, jcmp_lt, jcmp_gt, w32_id, jcpy_out, Sum.elim_inl, Sum.elim_inr, jt2, jt3, jt4, jt5, jt6, jt7, jt8] at k5
      try simp (disch := omega) only [jst_eq, jst_ne, jst_ni, jI_i, jcmp_lt, jcmp_gt, w32_id, jcpy_out, Sum.elim_inl, Sum.elim_inr, jt2, jt3, jt4, jt5, jt6, jt7, jt8] at fr5
      have S1 := ST232 (h' := h78) LA RG ls ks tw ms wg2 V74 F74 m5 fr5
      have KK : MK h78 = min (MK h) (keyE (EL E sk) 1 c) := by { rw [k5, mk2, MK71, E74, pl2]; exact kB232 mr.2 (fun z => c2 (by rw [vv2.1]; exact (kch_c vv2.2).2.2.mpr z)) (fun z => c1 (by rw [vv2.1]; exact (kch_c vv2.2).2.1.mpr z)) }
      refine OK_mono (vX14_readLoop_j293 (B := B) (n := n) (q := q) (D := D) (E := E) (Rf := Rf) (sk := sk) (ts := ts) (gs := gs) (g := g) _ _ _ _ (by (first | assumption | omega | ((try dsimp only [jt2, jt3, jt4]); first | omega | (simp (disch := omega) only [jst_eq, jst_ne, jst_ni, jst_o, jI_i, jcpy_out, w32_id, jdiv_nn, jshr_k, jand_255] <;> first | done | omega | assumption)) | (intros; simp (disch := omega) only [jst_eq, jst_ne, jst_ni, jst_o, jI_i, jcpy_out, w32_id, jdiv_nn, *] <;> first | done | omega) | (intros; simp (disch := omega) only [jst_eq, jst_ne, jst_ni, jst_o, jI_i, jcpy_out, w32_id, jdiv_nn] at * <;> first | done | omega | assumption) | (intros; first | rfl | (exfalso; omega) | ((repeat' apply And.intro) <;> first | assumption | rfl | omega | trivial)))) (by exact S1.1) (by exact S1.2.1) (by omega) (by exact S1.2.2.1) (by exact S1.2.2.2.1) (by exact S1.2.2.2.2)) (fun r r6 => ?_)
      obtain ⟨y5, y6⟩ := r
      try dsimp only [Sum.elim_inl, Sum.elim_inr, jt2, jt3, jt4, jt5, jt6, jt7, jt8] at r6
      obtain ⟨rk6, ld6, fr6⟩ := r6
      try simp (disch := omega) only [jst_eq, jst_ne, jst_ni, jI_i, jcmp_lt, jcmp_gt, w32_id, jcpy_out, Sum.elim_inl, Sum.elim_inr, jt2, jt3, jt4, jt5, jt6, jt7, jt8] at rk6
      try simp (disch := omega) only [jst_eq, jst_ne, jst_ni, jI_i, jcmp_lt, jcmp_gt, w32_id, jcpy_out, Sum.elim_inl, Sum.elim_inr, jt2, jt3, jt4, jt5, jt6, jt7, jt8] at ld6
      try simp (disch := omega) only [jst_eq, jst_ne, jst_ni, jI_i, jcmp_lt, jcmp_gt, w32_id, jcpy_out, Sum.elim_inl, Sum.elim_inr, jt2, jt3, jt4, jt5, jt6, jt7, jt8] at fr6
      try dsimp only [Sum.elim_inl, Sum.elim_inr, jt2, jt3, jt4, jt5, jt6, jt7, jt8]
      try dsimp only [Sum.elim_inl, Sum.elim_inr, jt2, jt3, jt4, jt5, jt6, jt7, jt8]
      refine ⟨?_, ?_, ?_⟩
      · exact (EN232 LA RG E74 V74 dn2 F74 KK fr5 rk6 ld6 fr6).1 -- o37 e3.1
      · exact (EN232 LA RG E74 V74 dn2 F74 KK fr5 rk6 ld6 fr6).2.1 -- o38 e3.2
      · exact (EN232 LA RG E74 V74 dn2 F74 KK fr5 rk6 ld6 fr6).2.2 -- o39 e3.3

