/-! m: a row is read, its end -/
theorem vX14_row_j294 (a1 : Int) {h : AH} {m : Int} (m9 : h a1 9 = m ∧ 0 ≤ m ∧ m ≤ 5000) : OK (gX14_row_j294 a1 h) (fun r => jt2 r fun t h' => (t = 0) ∧ (h' a1 9 = m + 1) ∧ (∀ b s, ¬ (b = a1 ∧ s = 9) → h' b s = h b s)) := by
  unfold gX14_row_j294
  refine OK_jl ?_
  refine OK_some ?_
  try dsimp only [Sum.elim_inl, Sum.elim_inr, jt2, jt3, jt4, jt5, jt6, jt7, jt8]
  try dsimp only [Sum.elim_inl, Sum.elim_inr, jt2, jt3, jt4, jt5, jt6, jt7, jt8]
  refine ⟨?_, ?_, ?_⟩
  · (first | assumption | omega | ((try dsimp only [jt2, jt3, jt4]); first | omega | (simp (disch := omega) only [jst_eq, jst_ne, jst_ni, jst_o, jI_i, jcpy_out, w32_id, jdiv_nn, jshr_k, jand_255] <;> first | done | omega | assumption)) | (intros; simp (disch := omega) only [jst_eq, jst_ne, jst_ni, jst_o, jI_i, jcpy_out, w32_id, jdiv_nn, *] <;> first | done | omega) | (intros; simp (disch := omega) only [jst_eq, jst_ne, jst_ni, jst_o, jI_i, jcpy_out, w32_id, jdiv_nn] at * <;> first | done | omega | assumption) | (intros; first | rfl | (exfalso; omega) | ((repeat' apply And.intro) <;> first | assumption | rfl | omega | trivial))) -- o1 e1.1
  · (rw [jst_eq, m9.1]; exact w32_id (by omega) (by omega)) -- o2 e1.2
  · exact fun b s y => jst_o y -- o3 e1.3
def frRm (a m : Int) (h h' : AH) : Prop := ∀ b s, ¬ (b = 454 ∧ 26 ≤ s ∧ s ≤ 29) → ¬ (b = 472 ∧ (s = 6 ∨ s = 7)) → ¬ (b = a ∧ s = 9) → ¬ (b = a + 6 ∧ s = m) → h' b s = h b s
def rwE (B : Int → Int) (n a m room a6 : Int) (P : Int ⊕ Int) (t : Int) (h' : AH) : Prop := match P with
  | .inl z => t = 472 ∧ MF z h'
  | .inr q => t = 0 ∧ MS B n q h' ∧ h' a 9 = m + 1 ∧ (room = 1 → h' (a + 6) m = a6)
theorem vX14_row_j273 (a1 : Int) (a3 : Int) (a6 : Int) {h : AH} {B : Int → Int} {n w m : Int} (hB : ∀ i, 0 ≤ i → i < n → 0 ≤ B i ∧ B i < 256) (t : TM B n h) (ms : MS B n w h) (lo : isX16 a1 ∧ h a1 9 = m ∧ 0 ≤ m ∧ m ≤ 5000) (rm : (a3 = 0 ∨ a3 = 1) ∧ (a3 = 1 → m < 12)) : OK (gX14_row_j273 a1 a3 a6 h) (fun r => jt2 r fun t h' => (rwE B n a1 m a3 a6 (pW B n 59 w) t h') ∧ (frRm a1 m h h')) := by
  have LA : a1 = 476 ∨ a1 = 615 := lo.1
  unfold gX14_row_j273
  refine OK_jb2 (vX14_passSign (B := B) (n := n) (q := w) _ (by exact t) (by exact hB) (by exact ms)) (fun t53 h55 r1 => ?_)
  try dsimp only [Sum.elim_inl, Sum.elim_inr, jt2, jt3, jt4, jt5, jt6, jt7, jt8] at r1
  obtain ⟨r1, fr1⟩ := r1
  try simp (disch := omega) only [jst_eq, jst_ne, jst_ni, jI_i, jcmp_lt, jcmp_gt, w32_id, jcpy_out, Sum.elim_inl, Sum.elim_inr, jt2, jt3, jt4, jt5, jt6, jt7, jt8] at r1
  try simp (disch := omega) only [jst_eq, jst_ne, jst_ni, jI_i, jcmp_lt, jcmp_gt, w32_id, jcpy_out, Sum.elim_inl, Sum.elim_inr, jt2, jt3, jt4, jt5, jt6, jt7, jt8] at fr1
  refine OK_jq (fun c1 => ?_) (fun c1 => ?_)
  · skip
    refine OK_some ?_
    try dsimp only [Sum.elim_inl, Sum.elim_inr, jt2, jt3, jt4, jt5, jt6, jt7, jt8]
    try dsimp only [Sum.elim_inl, Sum.elim_inr, jt2, jt3, jt4, jt5, jt6, jt7, jt8]
    refine ⟨?_, ?_⟩
    · (obtain ⟨z, e, t1, mf⟩ := rM_l r1 c1; rw [e]; exact ⟨t1, mf⟩) -- o4 e1.1
    · exact fun b s y1 y2 _ _ => fr1 b s y1 y2 -- o5 e1.2
  · skip
    obtain ⟨u, eu, msu⟩ := rM_r r1 c1
    have M9 : h55 a1 9 = m := (fr1 _ _ (by omega) (by omega)).trans lo.2.1
    refine OK_if (fun c2 => ?_) (fun c2 => ?_)
    · skip
      try simp (disch := omega) only [jst_eq, jst_ne, jst_ni, jI_i, jcmp_lt, jcmp_gt, w32_id, jcpy_out, Sum.elim_inl, Sum.elim_inr, jt2, jt3, jt4, jt5, jt6, jt7, jt8] at c2
      refine OK_mono (vX14_row_j294 (m := m) _ (by exact ⟨M9, lo.2.2⟩)) (fun r r2 => ?_)
      obtain ⟨y1, y2⟩ := r
      try dsimp only [Sum.elim_inl, Sum.elim_inr, jt2, jt3, jt4, jt5, jt6, jt7, jt8] at r2
      obtain ⟨t02, v2, fr2⟩ := r2
      try simp (disch := omega) only [jst_eq, jst_ne, jst_ni, jI_i, jcmp_lt, jcmp_gt, w32_id, jcpy_out, Sum.elim_inl, Sum.elim_inr, jt2, jt3, jt4, jt5, jt6, jt7, jt8] at t02
      try simp (disch := omega) only [jst_eq, jst_ne, jst_ni, jI_i, jcmp_lt, jcmp_gt, w32_id, jcpy_out, Sum.elim_inl, Sum.elim_inr, jt2, jt3, jt4, jt5, jt6, jt7, jt8] at v2
      try simp (disch := omega) only [jst_eq, jst_ne, jst_ni, jI_i, jcmp_lt, jcmp_gt, w32_id, jcpy_out, Sum.elim_inl, Sum.elim_inr, jt2, jt3, jt4, jt5, jt6, jt7, jt8] at fr2
      try dsimp only [Sum.elim_inl, Sum.elim_inr, jt2, jt3, jt4, jt5, jt6, jt7, jt8]
      try dsimp only [Sum.elim_inl, Sum.elim_inr, jt2, jt3, jt4, jt5, jt6, jt7, jt8]
      refine ⟨?_, ?_⟩
      · (rw [eu]; exact ⟨t02, MS_fr msu (fun s s0 s1 => fr2 _ _ (by omega)), v2, fun z => by omega⟩) -- o7 e2.1
      · exact fun b s y1 y2 y3 y4 => (fr2 b s y3).trans (fr1 b s y1 y2) -- o8 e2.2
    · skip
      try simp (disch := omega) only [jst_eq, jst_ne, jst_ni, jI_i, jcmp_lt, jcmp_gt, w32_id, jcpy_out, Sum.elim_inl, Sum.elim_inr, jt2, jt3, jt4, jt5, jt6, jt7, jt8] at c2
      rw [M9]
      refine OK_jg (by (first | assumption | omega | ((try dsimp only [jt2, jt3, jt4]); first | omega | (simp (disch := omega) only [jst_eq, jst_ne, jst_ni, jst_o, jI_i, jcpy_out, w32_id, jdiv_nn, jshr_k, jand_255] <;> first | done | omega | assumption)) | (intros; simp (disch := omega) only [jst_eq, jst_ne, jst_ni, jst_o, jI_i, jcpy_out, w32_id, jdiv_nn, *] <;> first | done | omega) | (intros; simp (disch := omega) only [jst_eq, jst_ne, jst_ni, jst_o, jI_i, jcpy_out, w32_id, jdiv_nn] at * <;> first | done | omega | assumption) | (intros; first | rfl | (exfalso; omega) | ((repeat' apply And.intro) <;> first | assumption | rfl | omega | trivial)))) ?_ -- o9
      refine OK_jl ?_
      have F58 : ∀ b s, ¬ (b = a1 + 6 ∧ s = m) → jst h55 (a1 + 6) m a6 b s = h55 b s := fun b s y => jst_o y
      have V58 : jst h55 (a1 + 6) m a6 (a1 + 6) m = a6 := jst_eq
      generalize jst h55 (a1 + 6) m a6 = g58 at *
      refine OK_mono (vX14_row_j294 (m := m) _ (by exact ⟨(F58 _ _ (by omega)).trans M9, lo.2.2⟩)) (fun r r3 => ?_)
      obtain ⟨y3, y4⟩ := r
      try dsimp only [Sum.elim_inl, Sum.elim_inr, jt2, jt3, jt4, jt5, jt6, jt7, jt8] at r3
      obtain ⟨t03, v3, fr3⟩ := r3
      try simp (disch := omega) only [jst_eq, jst_ne, jst_ni, jI_i, jcmp_lt, jcmp_gt, w32_id, jcpy_out, Sum.elim_inl, Sum.elim_inr, jt2, jt3, jt4, jt5, jt6, jt7, jt8] at t03
      try simp (disch := omega) only [jst_eq, jst_ne, jst_ni, jI_i, jcmp_lt, jcmp_gt, w32_id, jcpy_out, Sum.elim_inl, Sum.elim_inr, jt2, jt3, jt4, jt5, jt6, jt7, jt8] at v3
      try simp (disch := omega) only [jst_eq, jst_ne, jst_ni, jI_i, jcmp_lt, jcmp_gt, w32_id, jcpy_out, Sum.elim_inl, Sum.elim_inr, jt2, jt3, jt4, jt5, jt6, jt7, jt8] at fr3
      try dsimp only [Sum.elim_inl, Sum.elim_inr, jt2, jt3, jt4, jt5, jt6, jt7, jt8]
      try dsimp only [Sum.elim_inl, Sum.elim_inr, jt2, jt3, jt4, jt5, jt6, jt7, jt8]
      refine ⟨?_, ?_⟩
      · (rw [eu]; exact ⟨t03, MS_fr msu (fun s s0 s1 => (fr3 _ _ (by omega)).trans (F58 _ _ (by omega))), v3, fun _ => (fr3 _ _ (by omega)).trans V58⟩) -- o11 e3.1
      · exact fun b s y1 y2 y3 y4 => (fr3 b s y3).trans ((F58 b s y4).trans (fr1 b s y1 y2)) -- o12 e3.2
/-- a row's end at m -/
def rwF (B : Int → Int) (n a la m room N K : Int) (vs : List Int) (P : Int ⊕ (RWt × Int)) (t : Int) (h' : AH) : Prop := match P with
  | .inl z => t = 472 ∧ MF z h'
  | .inr (r, q) => r.1 = vs ∧ t = 0 ∧ MS B n q h' ∧ MI h' ∧ MK h' = min K (laK B n la r) ∧ h' a 9 = m + 1 ∧ (room = 1 → h' (a + 6) m = rwV B n r) ∧ h' 454 17 = N
theorem rwF_of {B : Int → Int} {n a la m room N K q3 a6 w : Int} {vs : List Int} {t : Int} {h' : AH} (g : isN B n q3 3025044 ∨ isVl B n q3) (ew : nx B n q3 = .inr w) (o : rwE B n a m room a6 (pW B n 59 w) t h') (v : a6 = rwV B n (vs, q3)) (mi : MI h') (k : MK h' = min K (laK B n la (vs, q3))) (e : h' 454 17 = N) : rwF B n a la m room N K vs (pRw B n vs q3) t h' := by
  rw [pRw_v g, ew]
  show rwF B n a la m room N K vs (bS (pW B n 59 w) fun q5 => .inr ((vs, q3), q5)) t h'
  cases e5 : pW B n 59 w with
  | inl z => rw [e5] at o; exact o
  | inr q5 =>
    rw [e5] at o
    obtain ⟨o1, o2, o3, o4⟩ := o
    exact ⟨rfl, o1, o2, mi, k, o3, fun z => (o4 z).trans v, e⟩
theorem vX14_row_j202 (a1 : Int) (a3 : Int) (a5 : Int) {h : AH} {B : Int → Int} {n q la m N : Int} {ks vs : List Int} (hB : ∀ i, 0 ≤ i → i < n → 0 ≤ B i ∧ B i < 256) (rk : rdR B n a1 ks la m h) (ms : MS B n q h ∧ isSg B n q 61) (rm : (a3 = 0 ∨ a3 = 1) ∧ (a3 = 1 → m < 12)) (nn : h 454 17 = N ∧ a5 = N) : OK (gX14_row_j202 a1 a3 a5 h) (fun r => jt2 r fun t h' => (rwF B n a1 la m a3 N (MK h) vs (bS (nx B n q) (pRw B n vs)) t h') ∧ (∀ b s, ¬ (b = 454 ∧ (s = 17 ∨ (26 ≤ s ∧ s ≤ 31))) → ¬ (b = 472 ∧ (s = 6 ∨ s = 7)) → ¬ (460 ≤ b ∧ b ≤ 469 ∧ b ≠ 464 ∧ s = N) → ¬ (b = a1 ∧ s = 9) → ¬ (b = a1 + 6 ∧ s = m) → h' b s = h b s)) := by
  obtain ⟨x1, x2, x3, x4, x8, x9, x10⟩ := id rk
  have LA : a1 = 476 ∨ a1 = 615 := x3
  unfold gX14_row_j202
  refine OK_jb2 (vX14_nextS (B := B) (n := n) (by exact x1) (by exact hB) (by exact ms.1)) (fun t30 h32 r1 => ?_)
  try dsimp only [Sum.elim_inl, Sum.elim_inr, jt2, jt3, jt4, jt5, jt6, jt7, jt8] at r1
  obtain ⟨nx1, fr1⟩ := r1
  try simp (disch := omega) only [jst_eq, jst_ne, jst_ni, jI_i, jcmp_lt, jcmp_gt, w32_id, jcpy_out, Sum.elim_inl, Sum.elim_inr, jt2, jt3, jt4, jt5, jt6, jt7, jt8] at nx1
  try simp (disch := omega) only [jst_eq, jst_ne, jst_ni, jI_i, jcmp_lt, jcmp_gt, w32_id, jcpy_out, Sum.elim_inl, Sum.elim_inr, jt2, jt3, jt4, jt5, jt6, jt7, jt8] at fr1
  refine OK_jq (fun c1 => ?_) (fun c1 => ?_)
  · skip
    refine OK_some ?_
    try dsimp only [Sum.elim_inl, Sum.elim_inr, jt2, jt3, jt4, jt5, jt6, jt7, jt8]
    try dsimp only [Sum.elim_inl, Sum.elim_inr, jt2, jt3, jt4, jt5, jt6, jt7, jt8]
    refine ⟨?_, ?_⟩
    · (obtain ⟨z, e, t1, mf⟩ := rM_l nx1 c1; rw [e]; exact ⟨t1, mf⟩) -- o4 e1.1
    · exact fun b s y1 y2 y3 y4 y5 => fr1 b s (by omega) y2 -- o5 e1.2
  · skip
    obtain ⟨w, ew, msw⟩ := rM_r nx1 c1
    have PW : bS (nx B n q) (pRw B n vs) = pRw B n vs w := by { rw [ew]; rfl }
    have T32 : TM B n h32 := TM_fr x1 (fr1 _ _ (by omega) (by omega)) (fun s => fr1 _ _ (by omega) (by omega))
    have e17 : h32 454 17 = N := (fr1 _ _ (by omega) (by omega)).trans nn.1
    have I32 : MI h32 := MI_fr (fr1 _ _ (by omega) (by omega)) (fr1 _ _ (by omega) (by omega)) x2
    have K32 : MK h32 = MK h := MK_fr (fr1 _ _ (by omega) (by omega)) (fr1 _ _ (by omega) (by omega))
    have mr := MK_r x2
    refine OK_jb (vX14_isName (B := B) (n := n) (q := w) _ (by exact msw)) (fun v35 r2 => ?_)
    try dsimp only [Sum.elim_inl, Sum.elim_inr, jt2, jt3, jt4, jt5, jt6, jt7, jt8] at r2
    have v2 := r2
    clear r2
    try simp (disch := omega) only [jst_eq, jst_ne, jst_ni, jI_i, jcmp_lt, jcmp_gt, w32_id, jcpy_out, Sum.elim_inl, Sum.elim_inr, jt2, jt3, jt4, jt5, jt6, jt7, jt8] at v2
    refine OK_if (fun c2 => ?_) (fun c2 => ?_)
    · skip
      try simp (disch := omega) only [jst_eq, jst_ne, jst_ni, jI_i, jcmp_lt, jcmp_gt, w32_id, jcpy_out, Sum.elim_inl, Sum.elim_inr, jt2, jt3, jt4, jt5, jt6, jt7, jt8] at c2
      have NE : ¬ isN B n w 3025044 := fun z => by { rw [if_pos z] at v2; omega }
      refine OK_jb3 (vX14_takeValue (B := B) (n := n) (q := w) (by exact T32) (by exact hB) (by exact msw) (by omega)) (fun t38 v39 h40 r3 => ?_)
      try dsimp only [Sum.elim_inl, Sum.elim_inr, jt2, jt3, jt4, jt5, jt6, jt7, jt8] at r3
      obtain ⟨no3, r3, nd3, tv3, fr3⟩ := r3
      try simp (disch := omega) only [jst_eq, jst_ne, jst_ni, jI_i, jcmp_lt, jcmp_gt, w32_id, jcpy_out, Sum.elim_inl, Sum.elim_inr, jt2, jt3, jt4, jt5, jt6, jt7, jt8] at no3
      try simp (disch := omega) only [jst_eq, jst_ne, jst_ni, jI_i, jcmp_lt, jcmp_gt, w32_id, jcpy_out, Sum.elim_inl, Sum.elim_inr, jt2, jt3, jt4, jt5, jt6, jt7, jt8] at r3
      try simp (disch := omega) only [jst_eq, jst_ne, jst_ni, jI_i, jcmp_lt, jcmp_gt, w32_id, jcpy_out, Sum.elim_inl, Sum.elim_inr, jt2, jt3, jt4, jt5, jt6, jt7, jt8] at nd3
      try simp (disch := omega) only [jst_eq, jst_ne, jst_ni, jI_i, jcmp_lt, jcmp_gt, w32_id, jcpy_out, Sum.elim_inl, Sum.elim_inr, jt2, jt3, jt4, jt5, jt6, jt7, jt8] at tv3
      try simp (disch := omega) only [jst_eq, jst_ne, jst_ni, jI_i, jcmp_lt, jcmp_gt, w32_id, jcpy_out, Sum.elim_inl, Sum.elim_inr, jt2, jt3, jt4, jt5, jt6, jt7, jt8] at fr3
      refine OK_jq (fun c3 => ?_) (fun c3 => ?_)
      · skip
        refine OK_some ?_
        try dsimp only [Sum.elim_inl, Sum.elim_inr, jt2, jt3, jt4, jt5, jt6, jt7, jt8]
        try dsimp only [Sum.elim_inl, Sum.elim_inr, jt2, jt3, jt4, jt5, jt6, jt7, jt8]
        refine ⟨?_, ?_⟩
        · (rw [PW]; by_cases VL : isVl B n w; { obtain ⟨z, e, t1, mf⟩ := rM_l (r3 VL) c3; rw [pRw_v (Or.inr VL), e]; exact ⟨t1, mf⟩ }; { have e : pRw B n vs w = .inl (tS B n w) := if_neg (fun z => z.elim NE VL); rw [e]; exact no3 VL }) -- o11 e2.1
        · exact fun b s y1 y2 y3 y4 y5 => (fr3 b s (by omega) y2 (by omega)).trans (fr1 b s (by omega) y2) -- o12 e2.2
      · skip
        have VL : isVl B n w := Classical.byContradiction fun z => by { have := (no3 z).1; omega }
        obtain ⟨u, eu, msu⟩ := rM_r (r3 VL) c3
        have V39 : v39 = N := (tv3 c3).trans e17
        obtain ⟨n1, ⟨n2a, _, _, _, n2e⟩, n3, n4⟩ := nd3 VL
        have N2 := n2a rfl
        rw [e17] at N2 n2e fr3
        refine OK_jl ?_
        have F42 : ∀ b s, ¬ (b = 454 ∧ s = 17) → jst h40 454 17 a5 b s = h40 b s := fun b s y => jst_o y
        have V42 : jst h40 454 17 a5 454 17 = N := jst_eq.trans nn.2
        generalize jst h40 454 17 a5 = g42 at *
        have G42 : ∀ b s, ¬ (b = 454 ∧ (s = 17 ∨ (26 ≤ s ∧ s ≤ 29))) → ¬ (b = 472 ∧ (s = 6 ∨ s = 7)) → ¬ (460 ≤ b ∧ b ≤ 469 ∧ b ≠ 464 ∧ s = N) → g42 b s = h b s := fun b s y1 y2 y3 => (F42 b s (by omega)).trans ((fr3 b s y1 y2 y3).trans (fr1 b s (by omega) y2))
        have T42 : TM B n g42 := TM_fr x1 (G42 _ _ (by omega) (by omega) (by omega)) (fun s => G42 _ _ (by omega) (by omega) (by omega))
        have I42 : MI g42 := MI_fr (G42 _ _ (by omega) (by omega) (by omega)) (G42 _ _ (by omega) (by omega) (by omega)) x2
        have K42 : MK g42 = MK h := MK_fr (G42 _ _ (by omega) (by omega) (by omega)) (G42 _ _ (by omega) (by omega) (by omega))
        have S42 : MS B n u g42 := MS_fr msu (fun s s0 s1 => F42 _ _ (by omega))
        have A4 : g42 461 v39 = kch (vlK B n w) := by { rw [V39, F42 _ _ (by omega)]; exact N2.2.1 }
        have A6 : g42 462 v39 = vlV B n w := by { rw [V39, F42 _ _ (by omega)]; exact N2.2.2 }
        have A8 : g42 468 v39 = tS B n w := by { rw [V39, F42 _ _ (by omega)]; exact n2e }
        have A1 : g42 a1 4 = kch la := (G42 _ _ (by omega) (by omega) (by omega)).trans x8.1
        have RV : rwV B n (vs, w) = vlV B n w := if_neg NE
        refine OK_jg (by (first | assumption | omega | ((try dsimp only [jt2, jt3, jt4]); first | omega | (simp (disch := omega) only [jst_eq, jst_ne, jst_ni, jst_o, jI_i, jcpy_out, w32_id, jdiv_nn, jshr_k, jand_255] <;> first | done | omega | assumption)) | (intros; simp (disch := omega) only [jst_eq, jst_ne, jst_ni, jst_o, jI_i, jcpy_out, w32_id, jdiv_nn, *] <;> first | done | omega) | (intros; simp (disch := omega) only [jst_eq, jst_ne, jst_ni, jst_o, jI_i, jcpy_out, w32_id, jdiv_nn] at * <;> first | done | omega | assumption) | (intros; first | rfl | (exfalso; omega) | ((repeat' apply And.intro) <;> first | assumption | rfl | omega | trivial)))) ?_ -- o13
        refine OK_if (fun c4 => ?_) (fun c4 => ?_)
        · skip
          try simp (disch := omega) only [jst_eq, jst_ne, jst_ni, jI_i, jcmp_lt, jcmp_gt, w32_id, jcpy_out, Sum.elim_inl, Sum.elim_inr, jt2, jt3, jt4, jt5, jt6, jt7, jt8] at c4
          have EK : vlK B n w = la := (kch_inj (vlK_r B n w) ⟨by omega, x8.2.2⟩).mp (by rw [← A4, ← A1]; exact c4)
          unfold gX14_row_j264
          refine OK_jg (by (first | assumption | omega | ((try dsimp only [jt2, jt3, jt4]); first | omega | (simp (disch := omega) only [jst_eq, jst_ne, jst_ni, jst_o, jI_i, jcpy_out, w32_id, jdiv_nn, jshr_k, jand_255] <;> first | done | omega | assumption)) | (intros; simp (disch := omega) only [jst_eq, jst_ne, jst_ni, jst_o, jI_i, jcpy_out, w32_id, jdiv_nn, *] <;> first | done | omega) | (intros; simp (disch := omega) only [jst_eq, jst_ne, jst_ni, jst_o, jI_i, jcpy_out, w32_id, jdiv_nn] at * <;> first | done | omega | assumption) | (intros; first | rfl | (exfalso; omega) | ((repeat' apply And.intro) <;> first | assumption | rfl | omega | trivial)))) ?_ -- o14
          refine OK_jlx (fun x51 ex51 => ?_)
          try simp (disch := omega) only [jst_eq, jst_ne, jst_ni, jI_i, jcmp_lt, jcmp_gt, w32_id, jcpy_out, Sum.elim_inl, Sum.elim_inr, jt2, jt3, jt4, jt5, jt6, jt7, jt8] at ex51
          refine OK_mono (vX14_row_j273 (B := B) (n := n) (m := m) _ _ _ (by exact hB) (by exact T42) (by exact S42) (by exact ⟨x3, (G42 _ _ (by omega) (by omega) (by omega)).trans x9.1, x9.2⟩) (by exact rm)) (fun r r4 => ?_)
          obtain ⟨y1, y2⟩ := r
          try dsimp only [Sum.elim_inl, Sum.elim_inr, jt2, jt3, jt4, jt5, jt6, jt7, jt8] at r4
          obtain ⟨ok4, fr4⟩ := r4
          try simp (disch := omega) only [jst_eq, jst_ne, jst_ni, jI_i, jcmp_lt, jcmp_gt, w32_id, jcpy_out, Sum.elim_inl, Sum.elim_inr, jt2, jt3, jt4, jt5, jt6, jt7, jt8] at ok4
          try simp (disch := omega) only [jst_eq, jst_ne, jst_ni, jI_i, jcmp_lt, jcmp_gt, w32_id, jcpy_out, Sum.elim_inl, Sum.elim_inr, jt2, jt3, jt4, jt5, jt6, jt7, jt8] at fr4
          try dsimp only [Sum.elim_inl, Sum.elim_inr, jt2, jt3, jt4, jt5, jt6, jt7, jt8]
          try dsimp only [Sum.elim_inl, Sum.elim_inr, jt2, jt3, jt4, jt5, jt6, jt7, jt8]
          refine ⟨?_, ?_⟩
          · (rw [PW]; exact rwF_of (Or.inr VL) eu ok4 (by rw [RV]; exact ex51.trans A6) (MI_fr (fr4 _ _ (by omega) (by omega) (by omega) (by omega)) (fr4 _ _ (by omega) (by omega) (by omega) (by omega)) I42) (by rw [MK_fr (fr4 _ _ (by omega) (by omega) (by omega) (by omega)) (fr4 _ _ (by omega) (by omega) (by omega) (by omega)), K42]; unfold laK; rw [if_neg (fun z => z.2 EK)]; omega) ((fr4 _ _ (by omega) (by omega) (by omega) (by omega)).trans V42)) -- o20 e3.1
          · exact fun b s y1 y2 y3 y4 y5 => (fr4 b s (by omega) y2 y4 y5).trans (G42 b s (by omega) y2 y3) -- o21 e3.2
        · skip
          try simp (disch := omega) only [jst_eq, jst_ne, jst_ni, jI_i, jcmp_lt, jcmp_gt, w32_id, jcpy_out, Sum.elim_inl, Sum.elim_inr, jt2, jt3, jt4, jt5, jt6, jt7, jt8] at c4
          have EK : vlK B n w ≠ la := fun z => c4 (by rw [A4, A1, z])
          refine OK_jb (vX14_note _ _ (by exact I42) (by (rw [A8]; have := tS_r (B := B) msw.2.2.2; have := msw.2.2; have := x1.2.2.1; omega))) (fun h45 r5 => ?_)
          try dsimp only [Sum.elim_inl, Sum.elim_inr, jt2, jt3, jt4, jt5, jt6, jt7, jt8] at r5
          obtain ⟨m5, k5, fr5⟩ := r5
          try simp (disch := omega) only [jst_eq, jst_ne, jst_ni, jI_i, jcmp_lt, jcmp_gt, w32_id, jcpy_out, Sum.elim_inl, Sum.elim_inr, jt2, jt3, jt4, jt5, jt6, jt7, jt8] at m5
          try simp (disch := omega) only [jst_eq, jst_ne, jst_ni, jI_i, jcmp_lt, jcmp_gt, w32_id, jcpy_out, Sum.elim_inl, Sum.elim_inr, jt2, jt3, jt4, jt5, jt6, jt7, jt8] at k5
          try simp (disch := omega) only [jst_eq, jst_ne, jst_ni, jI_i, jcmp_lt, jcmp_gt, w32_id, jcpy_out, Sum.elim_inl, Sum.elim_inr, jt2, jt3, jt4, jt5, jt6, jt7, jt8] at fr5
          unfold gX14_row_j264
          refine OK_jg (by (first | assumption | omega | ((try dsimp only [jt2, jt3, jt4]); first | omega | (simp (disch := omega) only [jst_eq, jst_ne, jst_ni, jst_o, jI_i, jcpy_out, w32_id, jdiv_nn, jshr_k, jand_255] <;> first | done | omega | assumption)) | (intros; simp (disch := omega) only [jst_eq, jst_ne, jst_ni, jst_o, jI_i, jcpy_out, w32_id, jdiv_nn, *] <;> first | done | omega) | (intros; simp (disch := omega) only [jst_eq, jst_ne, jst_ni, jst_o, jI_i, jcpy_out, w32_id, jdiv_nn] at * <;> first | done | omega | assumption) | (intros; first | rfl | (exfalso; omega) | ((repeat' apply And.intro) <;> first | assumption | rfl | omega | trivial)))) ?_ -- o24
          refine OK_jlx (fun x51 ex51 => ?_)
          try simp (disch := omega) only [jst_eq, jst_ne, jst_ni, jI_i, jcmp_lt, jcmp_gt, w32_id, jcpy_out, Sum.elim_inl, Sum.elim_inr, jt2, jt3, jt4, jt5, jt6, jt7, jt8] at ex51
          refine OK_mono (vX14_row_j273 (B := B) (n := n) (m := m) _ _ _ (by exact hB) (by exact TM_fr T42 (fr5 _ _ (by omega)) (fun s => fr5 _ _ (by omega))) (by exact MS_fr S42 (fun s s0 s1 => fr5 _ _ (by omega))) (by exact ⟨x3, (fr5 _ _ (by omega)).trans ((G42 _ _ (by omega) (by omega) (by omega)).trans x9.1), x9.2⟩) (by exact rm)) (fun r r6 => ?_)
          obtain ⟨y3, y4⟩ := r
          try dsimp only [Sum.elim_inl, Sum.elim_inr, jt2, jt3, jt4, jt5, jt6, jt7, jt8] at r6
          obtain ⟨ok6, fr6⟩ := r6
          try simp (disch := omega) only [jst_eq, jst_ne, jst_ni, jI_i, jcmp_lt, jcmp_gt, w32_id, jcpy_out, Sum.elim_inl, Sum.elim_inr, jt2, jt3, jt4, jt5, jt6, jt7, jt8] at ok6
          try simp (disch := omega) only [jst_eq, jst_ne, jst_ni, jI_i, jcmp_lt, jcmp_gt, w32_id, jcpy_out, Sum.elim_inl, Sum.elim_inr, jt2, jt3, jt4, jt5, jt6, jt7, jt8] at fr6
          try dsimp only [Sum.elim_inl, Sum.elim_inr, jt2, jt3, jt4, jt5, jt6, jt7, jt8]
          try dsimp only [Sum.elim_inl, Sum.elim_inr, jt2, jt3, jt4, jt5, jt6, jt7, jt8]
          refine ⟨?_, ?_⟩
          · (rw [PW]; exact rwF_of (Or.inr VL) eu ok6 (by rw [RV]; exact ex51.trans ((fr5 _ _ (by omega)).trans A6)) (MI_fr (fr6 _ _ (by omega) (by omega) (by omega) (by omega)) (fr6 _ _ (by omega) (by omega) (by omega) (by omega)) m5) (by rw [MK_fr (fr6 _ _ (by omega) (by omega) (by omega) (by omega)) (fr6 _ _ (by omega) (by omega) (by omega) (by omega)), k5, A8, K42]; unfold laK; rw [if_pos ⟨NE, EK⟩]) ((fr6 _ _ (by omega) (by omega) (by omega) (by omega)).trans ((fr5 _ _ (by omega)).trans V42))) -- o30 e4.1
          · exact fun b s y1 y2 y3 y4 y5 => (fr6 b s (by omega) y2 y4 y5).trans ((fr5 b s (by omega)).trans (G42 b s (by omega) y2 y3)) -- o31 e4.2
    · skip
      try simp (disch := omega) only [jst_eq, jst_ne, jst_ni, jI_i, jcmp_lt, jcmp_gt, w32_id, jcpy_out, Sum.elim_inl, Sum.elim_inr, jt2, jt3, jt4, jt5, jt6, jt7, jt8] at c2
      have NE : isN B n w 3025044 := Classical.byContradiction fun z => by { rw [if_neg z] at v2; omega }
      refine OK_jb2 (vX14_nextS (B := B) (n := n) (by exact T32) (by exact hB) (by exact msw)) (fun t47 h49 r7 => ?_)
      try dsimp only [Sum.elim_inl, Sum.elim_inr, jt2, jt3, jt4, jt5, jt6, jt7, jt8] at r7
      obtain ⟨nx7, fr7⟩ := r7
      try simp (disch := omega) only [jst_eq, jst_ne, jst_ni, jI_i, jcmp_lt, jcmp_gt, w32_id, jcpy_out, Sum.elim_inl, Sum.elim_inr, jt2, jt3, jt4, jt5, jt6, jt7, jt8] at nx7
      try simp (disch := omega) only [jst_eq, jst_ne, jst_ni, jI_i, jcmp_lt, jcmp_gt, w32_id, jcpy_out, Sum.elim_inl, Sum.elim_inr, jt2, jt3, jt4, jt5, jt6, jt7, jt8] at fr7
      refine OK_jq (fun c5 => ?_) (fun c5 => ?_)
      · skip
        refine OK_some ?_
        try dsimp only [Sum.elim_inl, Sum.elim_inr, jt2, jt3, jt4, jt5, jt6, jt7, jt8]
        try dsimp only [Sum.elim_inl, Sum.elim_inr, jt2, jt3, jt4, jt5, jt6, jt7, jt8]
        refine ⟨?_, ?_⟩
        · (rw [PW]; obtain ⟨z, e, t1, mf⟩ := rM_l nx7 c5; rw [pRw_v (Or.inl NE), e]; exact ⟨t1, mf⟩) -- o35 e5.1
        · exact fun b s y1 y2 y3 y4 y5 => (fr7 b s (by omega) y2).trans (fr1 b s (by omega) y2) -- o36 e5.2
      · skip
        obtain ⟨u, eu, msu⟩ := rM_r nx7 c5
        refine OK_mono (vX14_row_j273 (B := B) (n := n) (m := m) _ _ _ (by exact hB) (by exact TM_fr T32 (fr7 _ _ (by omega) (by omega)) (fun s => fr7 _ _ (by omega) (by omega))) (by exact msu) (by exact ⟨x3, (fr7 _ _ (by omega) (by omega)).trans ((fr1 _ _ (by omega) (by omega)).trans x9.1), x9.2⟩) (by exact rm)) (fun r r8 => ?_)
        obtain ⟨y5, y6⟩ := r
        try dsimp only [Sum.elim_inl, Sum.elim_inr, jt2, jt3, jt4, jt5, jt6, jt7, jt8] at r8
        obtain ⟨ok8, fr8⟩ := r8
        try simp (disch := omega) only [jst_eq, jst_ne, jst_ni, jI_i, jcmp_lt, jcmp_gt, w32_id, jcpy_out, Sum.elim_inl, Sum.elim_inr, jt2, jt3, jt4, jt5, jt6, jt7, jt8] at ok8
        try simp (disch := omega) only [jst_eq, jst_ne, jst_ni, jI_i, jcmp_lt, jcmp_gt, w32_id, jcpy_out, Sum.elim_inl, Sum.elim_inr, jt2, jt3, jt4, jt5, jt6, jt7, jt8] at fr8
        try dsimp only [Sum.elim_inl, Sum.elim_inr, jt2, jt3, jt4, jt5, jt6, jt7, jt8]
        try dsimp only [Sum.elim_inl, Sum.elim_inr, jt2, jt3, jt4, jt5, jt6, jt7, jt8]
        refine ⟨?_, ?_⟩
        · (rw [PW]; exact rwF_of (Or.inl NE) eu ok8 (if_pos NE).symm (MI_fr (fr8 _ _ (by omega) (by omega) (by omega) (by omega)) (fr8 _ _ (by omega) (by omega) (by omega) (by omega)) (MI_fr (fr7 _ _ (by omega) (by omega)) (fr7 _ _ (by omega) (by omega)) I32)) (by rw [MK_fr (fr8 _ _ (by omega) (by omega) (by omega) (by omega)) (fr8 _ _ (by omega) (by omega) (by omega) (by omega)), MK_fr (fr7 _ _ (by omega) (by omega)) (fr7 _ _ (by omega) (by omega)), K32]; unfold laK; rw [if_neg (fun z => z.1 NE)]; omega) ((fr8 _ _ (by omega) (by omega) (by omega) (by omega)).trans ((fr7 _ _ (by omega) (by omega)).trans e17))) -- o42 e6.1
        · exact fun b s y1 y2 y3 y4 y5 => (fr8 b s (by omega) y2 y4 y5).trans ((fr7 b s (by omega) y2).trans (fr1 b s (by omega) y2)) -- o43 e6.2
theorem vX14_row_l45 (i1 : Int) (i2 : Int) (i3 : Int) (i4 : Int) (a50 : Int) {h0 : AH} {m : Int} (lo : isX16 i1 ∧ h0 i1 9 = m ∧ 0 ≤ m) (rm : (i3 = 0 ∨ i3 = 1) ∧ (i3 = 1 → m < 12)) (h1 : a50 = 0) : OK (gX14_row_l45 i1 i2 i3 i4 a50 h0) (fun h' => ∀ b s, ¬ (b = i1 + 5 ∧ 3 * m ≤ s ∧ s < 3 * m + 3) → h' b s = h0 b s) := by
  have LA : i1 = 476 ∨ i1 = 615 := lo.1
  unfold gX14_row_l45
  refine OK_jit (I := (fun (s : Int × AH) => jt2 s fun a5 h => (0 ≤ a5 ∧ a5 ≤ 3) ∧ (∀ b s, ¬ (b = i1 + 5 ∧ 3 * m ≤ s ∧ s < 3 * m + 3) → h b s = h0 b s))) (m := (fun (s : Int × AH) => jt2 s fun a5 h => (3 - a5).toNat)) ?_ ?_
  · intro s hs
    obtain ⟨a5, h⟩ := s
    dsimp only [Sum.elim_inl, Sum.elim_inr, jt2, jt3, jt4, jt5, jt6, jt7, jt8] at hs
    obtain ⟨q0, fr⟩ := hs
    unfold gX14_row_b45
    refine OK_jt2 ?_
    have E9 : h i1 9 = m := (fr _ _ (by omega)).trans lo.2.1
    refine OK_if (fun c1 => ?_) (fun c1 => ?_)
    · skip
      try simp (disch := omega) only [jst_eq, jst_ne, jst_ni, jI_i, jcmp_lt, jcmp_gt, w32_id, jcpy_out, Sum.elim_inl, Sum.elim_inr, jt2, jt3, jt4, jt5, jt6, jt7, jt8] at c1
      refine OK_ir ?_
      (first | assumption | omega | ((try dsimp only [jt2, jt3, jt4]); first | omega | (simp (disch := omega) only [jst_eq, jst_ne, jst_ni, jst_o, jI_i, jcpy_out, w32_id, jdiv_nn, jshr_k, jand_255] <;> first | done | omega | assumption)) | (intros; simp (disch := omega) only [jst_eq, jst_ne, jst_ni, jst_o, jI_i, jcpy_out, w32_id, jdiv_nn, *] <;> first | done | omega) | (intros; simp (disch := omega) only [jst_eq, jst_ne, jst_ni, jst_o, jI_i, jcpy_out, w32_id, jdiv_nn] at * <;> first | done | omega | assumption) | (intros; first | rfl | (exfalso; omega) | ((repeat' apply And.intro) <;> first | assumption | rfl | omega | trivial))) -- o1 e1
    · skip
      try simp (disch := omega) only [jst_eq, jst_ne, jst_ni, jI_i, jcmp_lt, jcmp_gt, w32_id, jcpy_out, Sum.elim_inl, Sum.elim_inr, jt2, jt3, jt4, jt5, jt6, jt7, jt8] at c1
      refine OK_if (fun c2 => ?_) (fun c2 => ?_)
      · skip
        try simp (disch := omega) only [jst_eq, jst_ne, jst_ni, jI_i, jcmp_lt, jcmp_gt, w32_id, jcpy_out, Sum.elim_inl, Sum.elim_inr, jt2, jt3, jt4, jt5, jt6, jt7, jt8] at c2
        refine OK_ir ?_
        (first | assumption | omega | ((try dsimp only [jt2, jt3, jt4]); first | omega | (simp (disch := omega) only [jst_eq, jst_ne, jst_ni, jst_o, jI_i, jcpy_out, w32_id, jdiv_nn, jshr_k, jand_255] <;> first | done | omega | assumption)) | (intros; simp (disch := omega) only [jst_eq, jst_ne, jst_ni, jst_o, jI_i, jcpy_out, w32_id, jdiv_nn, *] <;> first | done | omega) | (intros; simp (disch := omega) only [jst_eq, jst_ne, jst_ni, jst_o, jI_i, jcpy_out, w32_id, jdiv_nn] at * <;> first | done | omega | assumption) | (intros; first | rfl | (exfalso; omega) | ((repeat' apply And.intro) <;> first | assumption | rfl | omega | trivial))) -- o2 e2
      · skip
        try simp (disch := omega) only [jst_eq, jst_ne, jst_ni, jI_i, jcmp_lt, jcmp_gt, w32_id, jcpy_out, Sum.elim_inl, Sum.elim_inr, jt2, jt3, jt4, jt5, jt6, jt7, jt8] at c2
        have W1 : w32 (w32 (3 * h i1 9) + a5) = 3 * m + a5 := by { rw [E9, w32_id (x := 3 * m) (by omega) (by omega)]; exact w32_id (by omega) (by omega) }
        rw [W1]
        refine OK_jg (by (first | assumption | omega | ((try dsimp only [jt2, jt3, jt4]); first | omega | (simp (disch := omega) only [jst_eq, jst_ne, jst_ni, jst_o, jI_i, jcpy_out, w32_id, jdiv_nn, jshr_k, jand_255] <;> first | done | omega | assumption)) | (intros; simp (disch := omega) only [jst_eq, jst_ne, jst_ni, jst_o, jI_i, jcpy_out, w32_id, jdiv_nn, *] <;> first | done | omega) | (intros; simp (disch := omega) only [jst_eq, jst_ne, jst_ni, jst_o, jI_i, jcpy_out, w32_id, jdiv_nn] at * <;> first | done | omega | assumption) | (intros; first | rfl | (exfalso; omega) | ((repeat' apply And.intro) <;> first | assumption | rfl | omega | trivial)))) ?_ -- o3
        refine OK_jl ?_
        refine OK_jlx (fun x79 ex79 => ?_)
        try simp (disch := omega) only [jst_eq, jst_ne, jst_ni, jI_i, jcmp_lt, jcmp_gt, w32_id, jcpy_out, Sum.elim_inl, Sum.elim_inr, jt2, jt3, jt4, jt5, jt6, jt7, jt8] at ex79
        refine OK_il ?_ ?_
        · try dsimp only [Sum.elim_inl, Sum.elim_inr, jt2, jt3, jt4, jt5, jt6, jt7, jt8]
          refine ⟨?_, ?_⟩
          · omega -- o4 e3i.1
          · exact fun b s y => (jst_o (by omega)).trans (fr b s y) -- o5 e3i.2
        · (dsimp only [jt2]; omega) -- o6 e3m
  · try dsimp only [Sum.elim_inl, Sum.elim_inr, jt2, jt3, jt4, jt5, jt6, jt7, jt8]
    refine ⟨?_, ?_⟩
    · (first | assumption | omega | ((try dsimp only [jt2, jt3, jt4]); first | omega | (simp (disch := omega) only [jst_eq, jst_ne, jst_ni, jst_o, jI_i, jcpy_out, w32_id, jdiv_nn, jshr_k, jand_255] <;> first | done | omega | assumption)) | (intros; simp (disch := omega) only [jst_eq, jst_ne, jst_ni, jst_o, jI_i, jcpy_out, w32_id, jdiv_nn, *] <;> first | done | omega) | (intros; simp (disch := omega) only [jst_eq, jst_ne, jst_ni, jst_o, jI_i, jcpy_out, w32_id, jdiv_nn] at * <;> first | done | omega | assumption) | (intros; first | rfl | (exfalso; omega) | ((repeat' apply And.intro) <;> first | assumption | rfl | omega | trivial))) -- o7 init.1
    · exact fun _ _ _ => rfl -- o8 init.2
def rwkM (B : Int → Int) (n a m : Int) (ks : List Int) (r : RWt) (h : AH) : Prop := h (a + 6) m = rwV B n r ∧ ∀ j : Nat, j < ks.length → ∀ q, r.1[j]? = some q → h (a + 5) (3 * m + j) = vlV B n q
/-- a row at m -/
def rwG (B : Int → Int) (n a la m room N : Int) (K : RWt → Int) (ks : List Int) (P : Int ⊕ (RWt × Int)) (t : Int) (h' : AH) : Prop := match P with
  | .inl z => t = 472 ∧ MF z h'
  | .inr (r, q) => t = 0 ∧ MS B n q h' ∧ rdR B n a ks la (m + 1) h' ∧ MK h' = K r ∧ (room = 1 → rwkM B n a m ks r h') ∧ h' 454 17 = N
def frRr (a m N : Int) (h h' : AH) : Prop := ∀ b s, ¬ (b = 454 ∧ (s = 17 ∨ (26 ≤ s ∧ s ≤ 31))) → ¬ (b = 472 ∧ (s = 6 ∨ s = 7)) → ¬ (460 ≤ b ∧ b ≤ 469 ∧ b ≠ 464 ∧ s = N) → ¬ (b = a + 5 ∧ 3 * m ≤ s ∧ s < 3 * m + 3) → ¬ (b = a ∧ s = 9) → ¬ (b = a + 6 ∧ s = m) → h' b s = h b s
theorem rwG_of {B : Int → Int} {n a la m room N K0 q : Int} {ks vs : List Int} {K : RWt → Int} {W : Int ⊕ (RWt × Int)} {t : Int} {h1 h' : AH} (LA : a = 476 ∨ a = 615) (w : W = bS (nx B n q) (pRw B n vs)) (rk : rdR B n a ks la m h1) (m5 : m ≤ 4000) (o : rwF B n a la m room N K0 vs (bS (nx B n q) (pRw B n vs)) t h') (f : ∀ b s, ¬ (b = 454 ∧ (s = 17 ∨ (26 ≤ s ∧ s ≤ 31))) → ¬ (b = 472 ∧ (s = 6 ∨ s = 7)) → ¬ (460 ≤ b ∧ b ≤ 469 ∧ b ≠ 464 ∧ s = N) → ¬ (b = a ∧ s = 9) → ¬ (b = a + 6 ∧ s = m) → h' b s = h1 b s) (v : vsM B n a m ks vs room h1) (k : ∀ r : RWt, r.1 = vs → min K0 (laK B n la r) = K r) (N8 : 0 ≤ N ∧ N < 8800) : rwG B n a la m room N K ks W t h' := by
  rw [w]
  cases e : bS (nx B n q) (pRw B n vs) with
  | inl z => rw [e] at o; exact o
  | inr x =>
    obtain ⟨r, q'⟩ := x
    rw [e] at o
    obtain ⟨o1, o2, o3, o4, o5, o6, o7, o8⟩ := o
    have m9 := rk.2.2.2.2.2.1
    refine ⟨o2, o3, rdR_f rk (fun b s y1 y2 y3 y4 y5 => f b s y1 y2 (by omega) (by omega) (by omega)) o4 ⟨o6, by omega, by omega⟩ (by omega), o5.trans (k r o1), fun z => ⟨o7 z, fun j jk u eu => ?_⟩, o8⟩
    rw [f _ _ (by omega) (by omega) (by omega) (by omega) (by omega)]
    exact v z j jk u (by rw [← o1]; exact eu)
theorem vsM_a0 {B : Int → Int} {n a m i : Int} {ks vs : List Int} {h h' : AH} (x : vsM B n a m ks vs i h) (f : ∀ s, h' (a + 5) s = h (a + 5) s) : vsM B n a m ks vs i h' := fun z j jk q e => by { rw [f]; exact x z j jk q e }
theorem vX14_row_j76 (a1 : Int) (a2 : Int) (a3 : Int) (a4 : Int) {h : AH} {B : Int → Int} {n q0 la m N : Int} {ks : List Int} (hB : ∀ i, 0 ≤ i → i < n → 0 ≤ B i ∧ B i < 256) (rk : rdR B n a1 ks la m h) (ms : MS B n q0 h) (rm : (a3 = 0 ∨ a3 = 1) ∧ (a3 = 1 → m < 12)) (w2 : 0 ≤ a2 ∧ a2 ≤ 2001 ∧ a4 = 0 ∧ h 454 17 = N ∧ m ≤ 4000) : OK (gX14_row_j76 a1 a2 a3 a4 h) (fun r => jt2 r fun t h' => (rwG B n a1 la m a3 N (fun r => min (MK h) (min (vkL B n ks 0 r.1) (min (if r.1.length = ks.length then 1000000 else a2 * 8 + 4) (laK B n la r)))) ks (bS (pVs B n 2002 [] q0) fun x => bS (pW B n 61 x.2) fun q3 => pRw B n x.1 q3) t h') ∧ (frRr a1 m N h h')) := by
  have LA : a1 = 476 ∨ a1 = 615 := rk.2.2.1
  have mr := MK_r rk.2.1
  have N8 := rk.2.2.2.2.2.2
  unfold gX14_row_j76
  refine OK_jlx (fun x13 ex13 => ?_)
  try simp (disch := omega) only [jst_eq, jst_ne, jst_ni, jI_i, jcmp_lt, jcmp_gt, w32_id, jcpy_out, Sum.elim_inl, Sum.elim_inr, jt2, jt3, jt4, jt5, jt6, jt7, jt8] at ex13
  refine OK_jb (vX14_row_l82 (B := B) (n := n) (la := la) (m := m) (K := MK h) (N := N) (q0 := q0) (ks := ks) (WV := pVs B n 2002 [] q0) _ _ _ _ _ (by exact hB) (by exact rk) (by exact ms) (by rfl) (by exact rm) (by omega) (by exact ⟨w2.2.2.2.1, by omega, rfl⟩) (by exact w2.2.2.1)) (fun o14 r1 => ?_)
  rcases o14 with o16 | o17
  · skip
    have r2 := r1; clear r1
    dsimp only [Sum.elim_inl, Sum.elim_inr] at r2
    refine OK_jml ?_
    obtain ⟨y18, h19⟩ := o16
    refine OK_jt2 ?_
    try dsimp only [Sum.elim_inl, Sum.elim_inr, jt2, jt3, jt4, jt5, jt6, jt7, jt8] at r2
    obtain ⟨ok1, rk1, fr1⟩ := r2
    try simp (disch := omega) only [jst_eq, jst_ne, jst_ni, jI_i, jcmp_lt, jcmp_gt, w32_id, jcpy_out, Sum.elim_inl, Sum.elim_inr, jt2, jt3, jt4, jt5, jt6, jt7, jt8] at ok1
    try simp (disch := omega) only [jst_eq, jst_ne, jst_ni, jI_i, jcmp_lt, jcmp_gt, w32_id, jcpy_out, Sum.elim_inl, Sum.elim_inr, jt2, jt3, jt4, jt5, jt6, jt7, jt8] at rk1
    try simp (disch := omega) only [jst_eq, jst_ne, jst_ni, jI_i, jcmp_lt, jcmp_gt, w32_id, jcpy_out, Sum.elim_inl, Sum.elim_inr, jt2, jt3, jt4, jt5, jt6, jt7, jt8] at fr1
    obtain ⟨q, vs, g, M1, L1, N1, N2, K1, S1, L0, L9⟩ := ok1
    have m5 : m ≤ 4000 := w2.2.2.2.2
    have NN : 0 ≤ N ∧ N < 8800 := by rw [← w2.2.2.2.1]; exact N8
    have E3 : h19 a1 3 = (ks.length : Int) := rk1.1.2.2.2.1.1
    have S2 : h19 454 29 = tS B n q := M1.1.1
    refine OK_if (fun c1 => ?_) (fun c1 => ?_)
    · skip
      try simp (disch := omega) only [jst_eq, jst_ne, jst_ni, jI_i, jcmp_lt, jcmp_gt, w32_id, jcpy_out, Sum.elim_inl, Sum.elim_inr, jt2, jt3, jt4, jt5, jt6, jt7, jt8] at c1
      refine OK_jb2 (vX14_fail _ _) (fun v22 h23 r3 => ?_)
      try dsimp only [Sum.elim_inl, Sum.elim_inr, jt2, jt3, jt4, jt5, jt6, jt7, jt8] at r3
      obtain ⟨fv2, fh2⟩ := r3
      try simp (disch := omega) only [jst_eq, jst_ne, jst_ni, jI_i, jcmp_lt, jcmp_gt, w32_id, jcpy_out, Sum.elim_inl, Sum.elim_inr, jt2, jt3, jt4, jt5, jt6, jt7, jt8] at fv2
      try simp (disch := omega) only [jst_eq, jst_ne, jst_ni, jI_i, jcmp_lt, jcmp_gt, w32_id, jcpy_out, Sum.elim_inl, Sum.elim_inr, jt2, jt3, jt4, jt5, jt6, jt7, jt8] at fh2
      refine OK_jg (by (first | assumption | omega | ((try dsimp only [jt2, jt3, jt4]); first | omega | (simp (disch := omega) only [jst_eq, jst_ne, jst_ni, jst_o, jI_i, jcpy_out, w32_id, jdiv_nn, jshr_k, jand_255] <;> first | done | omega | assumption)) | (intros; simp (disch := omega) only [jst_eq, jst_ne, jst_ni, jst_o, jI_i, jcpy_out, w32_id, jdiv_nn, *] <;> first | done | omega) | (intros; simp (disch := omega) only [jst_eq, jst_ne, jst_ni, jst_o, jI_i, jcpy_out, w32_id, jdiv_nn] at * <;> first | done | omega | assumption) | (intros; first | rfl | (exfalso; omega) | ((repeat' apply And.intro) <;> first | assumption | rfl | omega | trivial)))) ?_ -- o9
      refine OK_some ?_
      try dsimp only [Sum.elim_inl, Sum.elim_inr, jt2, jt3, jt4, jt5, jt6, jt7, jt8]
      try dsimp only [Sum.elim_inl, Sum.elim_inr, jt2, jt3, jt4, jt5, jt6, jt7, jt8]
      refine ⟨?_, ?_⟩
      · (rw [N1 c1]; refine ⟨rfl, ?_, ?_⟩; { rw [fh2]; (try simp (disch := omega) only [jst_eq, jst_ne, jst_ni, jI_i, jcmp_lt, jcmp_gt, w32_id, jcpy_out, Sum.elim_inl, Sum.elim_inr, jt2, jt3, jt4, jt5, jt6, jt7, jt8]) }; { rw [fh2, jst_eq]; exact S2 }) -- o10 e1.1
      · (rw [fh2]; exact fun b s y1 y2 y3 y4 _ _ => (by rw [jst_o (by omega), jst_o (by omega)]; exact fr1 b s y1 y2 y3 y4)) -- o11 e1.2
    · skip
      try simp (disch := omega) only [jst_eq, jst_ne, jst_ni, jI_i, jcmp_lt, jcmp_gt, w32_id, jcpy_out, Sum.elim_inl, Sum.elim_inr, jt2, jt3, jt4, jt5, jt6, jt7, jt8] at c1
      have WE : (bS (pVs B n 2002 [] q0) fun x => bS (pW B n 61 x.2) fun q3 => pRw B n x.1 q3) = bS (nx B n q) (pRw B n vs) := by { rw [N2 c1]; show bS (pW B n 61 q) _ = _; rw [show pW B n 61 q = nx B n q from if_pos g] }
      have FR : ∀ (h1 h2 : AH), (∀ b s, ¬ (b = 454 ∧ (s = 30 ∨ s = 31)) → h1 b s = h19 b s) → (∀ b s, ¬ (b = 454 ∧ (s = 17 ∨ (26 ≤ s ∧ s ≤ 31))) → ¬ (b = 472 ∧ (s = 6 ∨ s = 7)) → ¬ (460 ≤ b ∧ b ≤ 469 ∧ b ≠ 464 ∧ s = N) → ¬ (b = a1 ∧ s = 9) → ¬ (b = a1 + 6 ∧ s = m) → h2 b s = h1 b s) → frRr a1 m N h h2 := fun h1 h2 f1 f2 b s y1 y2 y3 y4 y5 y6 => (f2 b s y1 y2 y3 y5 y6).trans ((f1 b s (by omega)).trans (fr1 b s y1 y2 y3 y4))
      refine OK_if (fun c2 => ?_) (fun c2 => ?_)
      · skip
        try simp (disch := omega) only [jst_eq, jst_ne, jst_ni, jI_i, jcmp_lt, jcmp_gt, w32_id, jcpy_out, Sum.elim_inl, Sum.elim_inr, jt2, jt3, jt4, jt5, jt6, jt7, jt8] at c2
        have LE : vs.length = ks.length := by { rw [E3] at c2; omega }
        refine OK_mono (vX14_row_j202 (B := B) (n := n) (q := q) (la := la) (m := m) (N := N) (ks := ks) (vs := vs) _ _ _ (by exact hB) (by exact rk1.1) (by exact ⟨M1, g⟩) (by exact rm) (by exact ⟨rk1.2, ex13.trans w2.2.2.2.1⟩)) (fun r r4 => ?_)
        obtain ⟨y1, y2⟩ := r
        try dsimp only [Sum.elim_inl, Sum.elim_inr, jt2, jt3, jt4, jt5, jt6, jt7, jt8] at r4
        obtain ⟨ok3, fr3⟩ := r4
        try simp (disch := omega) only [jst_eq, jst_ne, jst_ni, jI_i, jcmp_lt, jcmp_gt, w32_id, jcpy_out, Sum.elim_inl, Sum.elim_inr, jt2, jt3, jt4, jt5, jt6, jt7, jt8] at ok3
        try simp (disch := omega) only [jst_eq, jst_ne, jst_ni, jI_i, jcmp_lt, jcmp_gt, w32_id, jcpy_out, Sum.elim_inl, Sum.elim_inr, jt2, jt3, jt4, jt5, jt6, jt7, jt8] at fr3
        try dsimp only [Sum.elim_inl, Sum.elim_inr, jt2, jt3, jt4, jt5, jt6, jt7, jt8]
        try dsimp only [Sum.elim_inl, Sum.elim_inr, jt2, jt3, jt4, jt5, jt6, jt7, jt8]
        refine ⟨?_, ?_⟩
        · exact rwG_of LA WE rk1.1 m5 ok3 (fun b s y1 y2 y3 y4 y5 => fr3 b s y1 y2 y3 y4 y5) S1 (fun r er => by (rw [K1, er, if_pos LE]; have := MK_r rk1.1.2.1; omega)) NN -- o17 e2.1
        · exact FR h19 _ (fun _ _ _ => rfl) fr3 -- o18 e2.2
      · skip
        try simp (disch := omega) only [jst_eq, jst_ne, jst_ni, jI_i, jcmp_lt, jcmp_gt, w32_id, jcpy_out, Sum.elim_inl, Sum.elim_inr, jt2, jt3, jt4, jt5, jt6, jt7, jt8] at c2
        have LE : ¬ vs.length = ks.length := fun z => c2 (by rw [E3, ← L1, z])
        refine OK_jb (vX14_note _ _ (by exact rk1.1.2.1) (by omega)) (fun h26 r5 => ?_)
        try dsimp only [Sum.elim_inl, Sum.elim_inr, jt2, jt3, jt4, jt5, jt6, jt7, jt8] at r5
        obtain ⟨m4, k4, fr4⟩ := r5
        try simp (disch := omega) only [jst_eq, jst_ne, jst_ni, jI_i, jcmp_lt, jcmp_gt, w32_id, jcpy_out, Sum.elim_inl, Sum.elim_inr, jt2, jt3, jt4, jt5, jt6, jt7, jt8] at m4
        try simp (disch := omega) only [jst_eq, jst_ne, jst_ni, jI_i, jcmp_lt, jcmp_gt, w32_id, jcpy_out, Sum.elim_inl, Sum.elim_inr, jt2, jt3, jt4, jt5, jt6, jt7, jt8] at k4
        try simp (disch := omega) only [jst_eq, jst_ne, jst_ni, jI_i, jcmp_lt, jcmp_gt, w32_id, jcpy_out, Sum.elim_inl, Sum.elim_inr, jt2, jt3, jt4, jt5, jt6, jt7, jt8] at fr4
        have S4 : vsM B n a1 m ks vs a3 h26 := vsM_a0 S1 (fun s => fr4 _ _ (by omega))
        refine OK_mono (vX14_row_j202 (B := B) (n := n) (q := q) (la := la) (m := m) (N := N) (ks := ks) (vs := vs) _ _ _ (by exact hB) (by exact rdR_f rk1.1 (fun b s y1 y2 y3 y4 y5 => fr4 b s (by omega)) m4 ⟨(fr4 _ _ (by omega)).trans rk1.1.2.2.2.2.2.1.1, rk1.1.2.2.2.2.2.1.2⟩ (by rw [fr4 _ _ (by omega)]; exact rk1.1.2.2.2.2.2.2)) (by exact ⟨MS_fr M1 (fun s s0 s1 => fr4 _ _ (by omega)), g⟩) (by exact rm) (by exact ⟨(fr4 _ _ (by omega)).trans rk1.2, ex13.trans w2.2.2.2.1⟩)) (fun r r6 => ?_)
        obtain ⟨y3, y4⟩ := r
        try dsimp only [Sum.elim_inl, Sum.elim_inr, jt2, jt3, jt4, jt5, jt6, jt7, jt8] at r6
        obtain ⟨ok5, fr5⟩ := r6
        try simp (disch := omega) only [jst_eq, jst_ne, jst_ni, jI_i, jcmp_lt, jcmp_gt, w32_id, jcpy_out, Sum.elim_inl, Sum.elim_inr, jt2, jt3, jt4, jt5, jt6, jt7, jt8] at ok5
        try simp (disch := omega) only [jst_eq, jst_ne, jst_ni, jI_i, jcmp_lt, jcmp_gt, w32_id, jcpy_out, Sum.elim_inl, Sum.elim_inr, jt2, jt3, jt4, jt5, jt6, jt7, jt8] at fr5
        try dsimp only [Sum.elim_inl, Sum.elim_inr, jt2, jt3, jt4, jt5, jt6, jt7, jt8]
        try dsimp only [Sum.elim_inl, Sum.elim_inr, jt2, jt3, jt4, jt5, jt6, jt7, jt8]
        refine ⟨?_, ?_⟩
        · exact rwG_of LA WE (rdR_f rk1.1 (fun b s y1 y2 y3 y4 y5 => fr4 b s (by omega)) m4 ⟨(fr4 _ _ (by omega)).trans rk1.1.2.2.2.2.2.1.1, rk1.1.2.2.2.2.2.1.2⟩ (by rw [fr4 _ _ (by omega)]; exact rk1.1.2.2.2.2.2.2)) m5 ok5 (fun b s y1 y2 y3 y4 y5 => fr5 b s y1 y2 y3 y4 y5) S4 (fun r er => by (rw [k4, K1, er, if_neg LE]; omega)) NN -- o26 e3.1
        · exact FR _ _ fr4 fr5 -- o27 e3.2
  · skip
    have r7 := r1; clear r1
    dsimp only [Sum.elim_inl, Sum.elim_inr] at r7
    refine OK_jmr ?_
    obtain ⟨y27, h28⟩ := o17
    refine OK_jt2 ?_
    try dsimp only [Sum.elim_inl, Sum.elim_inr, jt2, jt3, jt4, jt5, jt6, jt7, jt8] at r7
    obtain ⟨bz6, fr6⟩ := r7
    try simp (disch := omega) only [jst_eq, jst_ne, jst_ni, jI_i, jcmp_lt, jcmp_gt, w32_id, jcpy_out, Sum.elim_inl, Sum.elim_inr, jt2, jt3, jt4, jt5, jt6, jt7, jt8] at bz6
    try simp (disch := omega) only [jst_eq, jst_ne, jst_ni, jI_i, jcmp_lt, jcmp_gt, w32_id, jcpy_out, Sum.elim_inl, Sum.elim_inr, jt2, jt3, jt4, jt5, jt6, jt7, jt8] at fr6
    refine OK_jg (by (first | assumption | omega | ((try dsimp only [jt2, jt3, jt4]); first | omega | (simp (disch := omega) only [jst_eq, jst_ne, jst_ni, jst_o, jI_i, jcpy_out, w32_id, jdiv_nn, jshr_k, jand_255] <;> first | done | omega | assumption)) | (intros; simp (disch := omega) only [jst_eq, jst_ne, jst_ni, jst_o, jI_i, jcpy_out, w32_id, jdiv_nn, *] <;> first | done | omega) | (intros; simp (disch := omega) only [jst_eq, jst_ne, jst_ni, jst_o, jI_i, jcpy_out, w32_id, jdiv_nn] at * <;> first | done | omega | assumption) | (intros; first | rfl | (exfalso; omega) | ((repeat' apply And.intro) <;> first | assumption | rfl | omega | trivial)))) ?_ -- o28
    refine OK_some ?_
    try dsimp only [Sum.elim_inl, Sum.elim_inr, jt2, jt3, jt4, jt5, jt6, jt7, jt8]
    try dsimp only [Sum.elim_inl, Sum.elim_inr, jt2, jt3, jt4, jt5, jt6, jt7, jt8]
    refine ⟨?_, ?_⟩
    · (obtain ⟨z, e, t1, mf⟩ := bz6; have WZ : (bS (pVs B n 2002 [] q0) fun x => bS (pW B n 61 x.2) fun q3 => pRw B n x.1 q3) = .inl z := (by cases ev : pVs B n 2002 [] q0 with | inl z' => (rw [ev] at e; have ez : z' = z := Sum.inl.inj e; rw [ez]; rfl) | inr x => (rw [ev] at e; have e' : pW B n 61 x.2 = .inl z := e; show bS (pW B n 61 x.2) _ = _; rw [e']; rfl)); rw [WZ]; exact ⟨t1, mf⟩) -- o29 e4.1
    · exact fun b s y1 y2 y3 y4 _ _ => fr6 b s y1 y2 y3 y4 -- o30 e4.2
theorem rwG_k {B : Int → Int} {n a la m room N : Int} {ks : List Int} {W : Int ⊕ (RWt × Int)} {K K' : RWt → Int} {t : Int} {h : AH} (e : ∀ r, K r = K' r) (o : rwG B n a la m room N K ks W t h) : rwG B n a la m room N K' ks W t h := by
  cases W with
  | inl z => exact o
  | inr x => obtain ⟨r, q⟩ := x; exact ⟨o.1, o.2.1, o.2.2.1, o.2.2.2.1.trans (e r), o.2.2.2.2⟩
theorem vX14_row_j34 (a1 : Int) (a2 : Int) (t0 : Int) {h : AH} {B : Int → Int} {n q la m N : Int} {ks : List Int} (hB : ∀ i, 0 ≤ i → i < n → 0 ≤ B i ∧ B i < 256) (rk : rdR B n a1 ks la m h) (ms : MS B n q h) (rm : (t0 = 0 ∨ t0 = 1) ∧ (t0 = 1 → m < 12)) (w2 : a2 = tS B n q ∧ h 454 17 = N ∧ m ≤ 4000) : OK (gX14_row_j34 a1 a2 t0 h) (fun r => jt2 r fun t h' => (rwG B n a1 la m t0 N (fun r => min (MK h) (min (vkL B n ks 0 r.1) (min (if r.1.length = ks.length then 1000000 else tS B n q * 8 + 4) (laK B n la r)))) ks (pRow B n q) t h') ∧ (frRr a1 m N h h')) := by
  obtain ⟨x1, x2, x3, x4, x8, x9, x10⟩ := id rk
  have LA : a1 = 476 ∨ a1 = 615 := x3
  have SR := tS_r (B := B) ms.2.2.2
  have qr := ms.2.2
  have nr := x1.2.2.1
  unfold gX14_row_j34
  refine OK_jb2 (vX14_nextS (B := B) (n := n) (by exact x1) (by exact hB) (by exact ms)) (fun t7 h9 r1 => ?_)
  try dsimp only [Sum.elim_inl, Sum.elim_inr, jt2, jt3, jt4, jt5, jt6, jt7, jt8] at r1
  obtain ⟨nx1, fr1⟩ := r1
  try simp (disch := omega) only [jst_eq, jst_ne, jst_ni, jI_i, jcmp_lt, jcmp_gt, w32_id, jcpy_out, Sum.elim_inl, Sum.elim_inr, jt2, jt3, jt4, jt5, jt6, jt7, jt8] at nx1
  try simp (disch := omega) only [jst_eq, jst_ne, jst_ni, jI_i, jcmp_lt, jcmp_gt, w32_id, jcpy_out, Sum.elim_inl, Sum.elim_inr, jt2, jt3, jt4, jt5, jt6, jt7, jt8] at fr1
  refine OK_jq (fun c1 => ?_) (fun c1 => ?_)
  · skip
    refine OK_some ?_
    try dsimp only [Sum.elim_inl, Sum.elim_inr, jt2, jt3, jt4, jt5, jt6, jt7, jt8]
    try dsimp only [Sum.elim_inl, Sum.elim_inr, jt2, jt3, jt4, jt5, jt6, jt7, jt8]
    refine ⟨?_, ?_⟩
    · (obtain ⟨z, e, t1, mf⟩ := rM_l nx1 c1; unfold pRow; rw [e]; exact ⟨t1, mf⟩) -- o4 e1.1
    · exact fun b s y1 y2 y3 y4 y5 y6 => fr1 b s (by omega) y2 -- o5 e1.2
  · skip
    obtain ⟨w, ew, msw⟩ := rM_r nx1 c1
    have I9 : MI h9 := MI_fr (fr1 _ _ (by omega) (by omega)) (fr1 _ _ (by omega) (by omega)) x2
    have K9 : MK h9 = MK h := MK_fr (fr1 _ _ (by omega) (by omega)) (fr1 _ _ (by omega) (by omega))
    have E17 : h9 454 17 = N := (fr1 _ _ (by omega) (by omega)).trans w2.2.1
    have R9 : rdR B n a1 ks la m h9 := rdR_f rk (fun b s y1 y2 y3 y4 y5 => fr1 b s (by omega) y2) I9 ⟨(fr1 _ _ (by omega) (by omega)).trans x9.1, x9.2⟩ (by rw [fr1 _ _ (by omega) (by omega)]; exact x10)
    refine OK_jb (vX14_row_l45 (m := m) _ _ _ _ _ (by exact ⟨x3, R9.2.2.2.2.2.1.1, x9.2.1⟩) (by exact rm) (by rfl)) (fun o11 r2 => ?_)
    try dsimp only [Sum.elim_inl, Sum.elim_inr, jt2, jt3, jt4, jt5, jt6, jt7, jt8] at r2
    have fr2 := r2
    clear r2
    try simp (disch := omega) only [jst_eq, jst_ne, jst_ni, jI_i, jcmp_lt, jcmp_gt, w32_id, jcpy_out, Sum.elim_inl, Sum.elim_inr, jt2, jt3, jt4, jt5, jt6, jt7, jt8] at fr2
    have K11 : MK o11 = MK h := (MK_fr (fr2 _ _ (by omega)) (fr2 _ _ (by omega))).trans K9
    refine OK_mono (vX14_row_j76 (B := B) (n := n) (q0 := w) (la := la) (m := m) (N := N) (ks := ks) _ _ _ _ (by exact hB) (by exact rdR_f R9 (fun b s y1 y2 y3 y4 y5 => fr2 b s (by omega)) (MI_fr (fr2 _ _ (by omega)) (fr2 _ _ (by omega)) I9) ⟨(fr2 _ _ (by omega)).trans R9.2.2.2.2.2.1.1, x9.2⟩ (by rw [fr2 _ _ (by omega)]; exact R9.2.2.2.2.2.2)) (by exact MS_fr msw (fun s s0 s1 => fr2 _ _ (by omega))) (by exact rm) (by exact ⟨by omega, by omega, rfl, (fr2 _ _ (by omega)).trans E17, w2.2.2⟩)) (fun r r3 => ?_)
    obtain ⟨y1, y2⟩ := r
    try dsimp only [Sum.elim_inl, Sum.elim_inr, jt2, jt3, jt4, jt5, jt6, jt7, jt8] at r3
    obtain ⟨ok3, fr3⟩ := r3
    try simp (disch := omega) only [jst_eq, jst_ne, jst_ni, jI_i, jcmp_lt, jcmp_gt, w32_id, jcpy_out, Sum.elim_inl, Sum.elim_inr, jt2, jt3, jt4, jt5, jt6, jt7, jt8] at ok3
    try simp (disch := omega) only [jst_eq, jst_ne, jst_ni, jI_i, jcmp_lt, jcmp_gt, w32_id, jcpy_out, Sum.elim_inl, Sum.elim_inr, jt2, jt3, jt4, jt5, jt6, jt7, jt8] at fr3
    try dsimp only [Sum.elim_inl, Sum.elim_inr, jt2, jt3, jt4, jt5, jt6, jt7, jt8]
    try dsimp only [Sum.elim_inl, Sum.elim_inr, jt2, jt3, jt4, jt5, jt6, jt7, jt8]
    refine ⟨?_, ?_⟩
    · (unfold pRow; rw [ew]; exact rwG_k (fun r => by rw [K11, w2.1]) ok3) -- o14 e2.1
    · exact fun b s y1 y2 y3 y4 y5 y6 => (fr3 b s y1 y2 y3 y4 y5 y6).trans ((fr2 b s y4).trans (fr1 b s (by omega) y2)) -- o15 e2.2
theorem vX14_row_j20 (a1 : Int) (a2 : Int) {h : AH} {B : Int → Int} {n q la m N : Int} {ks : List Int} (hB : ∀ i, 0 ≤ i → i < n → 0 ≤ B i ∧ B i < 256) (rk : rdR B n a1 ks la m h) (ms : MS B n q h) (w2 : a2 = tS B n q ∧ h 454 17 = N ∧ m ≤ 4000) : OK (gX14_row_j20 a1 a2 h) (fun r => jt2 r fun t h' => (rwG B n a1 la m (if m < 12 then 1 else 0) N (fun r => min (MK h) (min (vkL B n ks 0 r.1) (min (if r.1.length = ks.length then 1000000 else tS B n q * 8 + 4) (laK B n la r)))) ks (pRow B n q) t h') ∧ (frRr a1 m N h h')) := by
  have E9 : h a1 9 = m := rk.2.2.2.2.2.1.1
  unfold gX14_row_j20
  refine OK_if (fun c1 => ?_) (fun c1 => ?_)
  · skip
    try simp (disch := omega) only [jst_eq, jst_ne, jst_ni, jI_i, jcmp_lt, jcmp_gt, w32_id, jcpy_out, Sum.elim_inl, Sum.elim_inr, jt2, jt3, jt4, jt5, jt6, jt7, jt8] at c1
    refine OK_mono (vX14_row_j34 (B := B) (n := n) (q := q) (la := la) (m := m) (N := N) (ks := ks) _ _ _ (by exact hB) (by exact rk) (by exact ms) (by exact ⟨Or.inl rfl, fun z => by omega⟩) (by exact w2)) (fun r r1 => ?_)
    obtain ⟨y1, y2⟩ := r
    try dsimp only [Sum.elim_inl, Sum.elim_inr, jt2, jt3, jt4, jt5, jt6, jt7, jt8] at r1
    obtain ⟨ok1, fr1⟩ := r1
    try simp (disch := omega) only [jst_eq, jst_ne, jst_ni, jI_i, jcmp_lt, jcmp_gt, w32_id, jcpy_out, Sum.elim_inl, Sum.elim_inr, jt2, jt3, jt4, jt5, jt6, jt7, jt8] at ok1
    try simp (disch := omega) only [jst_eq, jst_ne, jst_ni, jI_i, jcmp_lt, jcmp_gt, w32_id, jcpy_out, Sum.elim_inl, Sum.elim_inr, jt2, jt3, jt4, jt5, jt6, jt7, jt8] at fr1
    try dsimp only [Sum.elim_inl, Sum.elim_inr, jt2, jt3, jt4, jt5, jt6, jt7, jt8]
    try dsimp only [Sum.elim_inl, Sum.elim_inr, jt2, jt3, jt4, jt5, jt6, jt7, jt8]
    refine ⟨?_, ?_⟩
    · (rw [if_neg (show ¬ m < 12 by omega)]; exact ok1) -- o6 e1.1
    · (first | assumption | omega | ((try dsimp only [jt2, jt3, jt4]); first | omega | (simp (disch := omega) only [jst_eq, jst_ne, jst_ni, jst_o, jI_i, jcpy_out, w32_id, jdiv_nn, jshr_k, jand_255] <;> first | done | omega | assumption)) | (intros; simp (disch := omega) only [jst_eq, jst_ne, jst_ni, jst_o, jI_i, jcpy_out, w32_id, jdiv_nn, *] <;> first | done | omega) | (intros; simp (disch := omega) only [jst_eq, jst_ne, jst_ni, jst_o, jI_i, jcpy_out, w32_id, jdiv_nn] at * <;> first | done | omega | assumption) | (intros; first | rfl | (exfalso; omega) | ((repeat' apply And.intro) <;> first | assumption | rfl | omega | trivial))) -- o7 e1.2
  · skip
    try simp (disch := omega) only [jst_eq, jst_ne, jst_ni, jI_i, jcmp_lt, jcmp_gt, w32_id, jcpy_out, Sum.elim_inl, Sum.elim_inr, jt2, jt3, jt4, jt5, jt6, jt7, jt8] at c1
    refine OK_mono (vX14_row_j34 (B := B) (n := n) (q := q) (la := la) (m := m) (N := N) (ks := ks) _ _ _ (by exact hB) (by exact rk) (by exact ms) (by exact ⟨Or.inr rfl, fun _ => by omega⟩) (by exact w2)) (fun r r2 => ?_)
    obtain ⟨y3, y4⟩ := r
    try dsimp only [Sum.elim_inl, Sum.elim_inr, jt2, jt3, jt4, jt5, jt6, jt7, jt8] at r2
    obtain ⟨ok2, fr2⟩ := r2
    try simp (disch := omega) only [jst_eq, jst_ne, jst_ni, jI_i, jcmp_lt, jcmp_gt, w32_id, jcpy_out, Sum.elim_inl, Sum.elim_inr, jt2, jt3, jt4, jt5, jt6, jt7, jt8] at ok2
    try simp (disch := omega) only [jst_eq, jst_ne, jst_ni, jI_i, jcmp_lt, jcmp_gt, w32_id, jcpy_out, Sum.elim_inl, Sum.elim_inr, jt2, jt3, jt4, jt5, jt6, jt7, jt8] at fr2
    try dsimp only [Sum.elim_inl, Sum.elim_inr, jt2, jt3, jt4, jt5, jt6, jt7, jt8]
    try dsimp only [Sum.elim_inl, Sum.elim_inr, jt2, jt3, jt4, jt5, jt6, jt7, jt8]
    refine ⟨?_, ?_⟩
    · (rw [if_pos (show m < 12 by omega)]; exact ok2) -- o13 e2.1
    · (first | assumption | omega | ((try dsimp only [jt2, jt3, jt4]); first | omega | (simp (disch := omega) only [jst_eq, jst_ne, jst_ni, jst_o, jI_i, jcpy_out, w32_id, jdiv_nn, jshr_k, jand_255] <;> first | done | omega | assumption)) | (intros; simp (disch := omega) only [jst_eq, jst_ne, jst_ni, jst_o, jI_i, jcpy_out, w32_id, jdiv_nn, *] <;> first | done | omega) | (intros; simp (disch := omega) only [jst_eq, jst_ne, jst_ni, jst_o, jI_i, jcpy_out, w32_id, jdiv_nn] at * <;> first | done | omega | assumption) | (intros; first | rfl | (exfalso; omega) | ((repeat' apply And.intro) <;> first | assumption | rfl | omega | trivial))) -- o14 e2.2
theorem vX14_row (a1 : Int) {h : AH} {B : Int → Int} {n q la m N : Int} {ks : List Int} (hB : ∀ i, 0 ≤ i → i < n → 0 ≤ B i ∧ B i < 256) (rk : rdR B n a1 ks la m h) (ms : MS B n q h) (w2 : h 454 17 = N ∧ m ≤ 4000 ∧ (12 < m → MK h ≤ tS B n q * 8 + 5)) : OK (gX14_row a1 h) (fun r => jt2 r fun t h' => (rwG B n a1 la m (if m < 12 then 1 else 0) N (fun r => min (MK h) (rwK B n ks la m q r)) ks (pRow B n q) t h') ∧ (frRr a1 m N h h')) := by
  obtain ⟨x1, x2, x3, x4, x8, x9, x10⟩ := id rk
  have LA : a1 = 476 ∨ a1 = 615 := x3
  have SR := tS_r (B := B) ms.2.2.2
  have qr := ms.2.2
  have nr := x1.2.2.1
  have Q29 : h 454 29 = tS B n q := ms.1.1
  have mk := MK_r x2
  unfold gX14_row
  refine OK_jlx (fun x1 ex1 => ?_)
  try simp (disch := omega) only [jst_eq, jst_ne, jst_ni, jI_i, jcmp_lt, jcmp_gt, w32_id, jcpy_out, Sum.elim_inl, Sum.elim_inr, jt2, jt3, jt4, jt5, jt6, jt7, jt8] at ex1
  refine OK_if (fun c1 => ?_) (fun c1 => ?_)
  · skip
    try simp (disch := omega) only [jst_eq, jst_ne, jst_ni, jI_i, jcmp_lt, jcmp_gt, w32_id, jcpy_out, Sum.elim_inl, Sum.elim_inr, jt2, jt3, jt4, jt5, jt6, jt7, jt8] at c1
    refine OK_jb (vX14_note _ _ (by exact x2) (by omega)) (fun h4 r1 => ?_)
    try dsimp only [Sum.elim_inl, Sum.elim_inr, jt2, jt3, jt4, jt5, jt6, jt7, jt8] at r1
    obtain ⟨m1, k1, fr1⟩ := r1
    try simp (disch := omega) only [jst_eq, jst_ne, jst_ni, jI_i, jcmp_lt, jcmp_gt, w32_id, jcpy_out, Sum.elim_inl, Sum.elim_inr, jt2, jt3, jt4, jt5, jt6, jt7, jt8] at m1
    try simp (disch := omega) only [jst_eq, jst_ne, jst_ni, jI_i, jcmp_lt, jcmp_gt, w32_id, jcpy_out, Sum.elim_inl, Sum.elim_inr, jt2, jt3, jt4, jt5, jt6, jt7, jt8] at k1
    try simp (disch := omega) only [jst_eq, jst_ne, jst_ni, jI_i, jcmp_lt, jcmp_gt, w32_id, jcpy_out, Sum.elim_inl, Sum.elim_inr, jt2, jt3, jt4, jt5, jt6, jt7, jt8] at fr1
    refine OK_mono (vX14_row_j20 (B := B) (n := n) (q := q) (la := la) (m := m) (N := N) (ks := ks) _ _ (by exact hB) (by exact rdR_f rk (fun b s y1 y2 y3 y4 y5 => fr1 b s (by omega)) m1 ⟨(fr1 _ _ (by omega)).trans x9.1, x9.2⟩ (by rw [fr1 _ _ (by omega)]; exact x10)) (by exact MS_fr ms (fun s s0 s1 => fr1 _ _ (by omega))) (by exact ⟨by omega, (fr1 _ _ (by omega)).trans w2.1, w2.2.1⟩)) (fun r r2 => ?_)
    obtain ⟨y1, y2⟩ := r
    try dsimp only [Sum.elim_inl, Sum.elim_inr, jt2, jt3, jt4, jt5, jt6, jt7, jt8] at r2
    obtain ⟨ok2, fr2⟩ := r2
    try simp (disch := omega) only [jst_eq, jst_ne, jst_ni, jI_i, jcmp_lt, jcmp_gt, w32_id, jcpy_out, Sum.elim_inl, Sum.elim_inr, jt2, jt3, jt4, jt5, jt6, jt7, jt8] at ok2
    try simp (disch := omega) only [jst_eq, jst_ne, jst_ni, jI_i, jcmp_lt, jcmp_gt, w32_id, jcpy_out, Sum.elim_inl, Sum.elim_inr, jt2, jt3, jt4, jt5, jt6, jt7, jt8] at fr2
    try dsimp only [Sum.elim_inl, Sum.elim_inr, jt2, jt3, jt4, jt5, jt6, jt7, jt8]
    try dsimp only [Sum.elim_inl, Sum.elim_inr, jt2, jt3, jt4, jt5, jt6, jt7, jt8]
    refine ⟨?_, ?_⟩
    · exact rwG_k (fun r => by (rw [k1]; unfold rwK; rw [if_pos (show 12 ≤ m by omega), show x1 = tS B n q by omega]; exact Int.min_assoc _ _ _)) ok2 -- o7 e1.1
    · exact fun b s y1 y2 y3 y4 y5 y6 => (fr2 b s y1 y2 y3 y4 y5 y6).trans (fr1 b s (by omega)) -- o8 e1.2
  · skip
    try simp (disch := omega) only [jst_eq, jst_ne, jst_ni, jI_i, jcmp_lt, jcmp_gt, w32_id, jcpy_out, Sum.elim_inl, Sum.elim_inr, jt2, jt3, jt4, jt5, jt6, jt7, jt8] at c1
    refine OK_mono (vX14_row_j20 (B := B) (n := n) (q := q) (la := la) (m := m) (N := N) (ks := ks) _ _ (by exact hB) (by exact rk) (by exact ms) (by exact ⟨by omega, w2.1, w2.2.1⟩)) (fun r r3 => ?_)
    obtain ⟨y3, y4⟩ := r
    try dsimp only [Sum.elim_inl, Sum.elim_inr, jt2, jt3, jt4, jt5, jt6, jt7, jt8] at r3
    obtain ⟨ok3, fr3⟩ := r3
    try simp (disch := omega) only [jst_eq, jst_ne, jst_ni, jI_i, jcmp_lt, jcmp_gt, w32_id, jcpy_out, Sum.elim_inl, Sum.elim_inr, jt2, jt3, jt4, jt5, jt6, jt7, jt8] at ok3
    try simp (disch := omega) only [jst_eq, jst_ne, jst_ni, jI_i, jcmp_lt, jcmp_gt, w32_id, jcpy_out, Sum.elim_inl, Sum.elim_inr, jt2, jt3, jt4, jt5, jt6, jt7, jt8] at fr3
    try dsimp only [Sum.elim_inl, Sum.elim_inr, jt2, jt3, jt4, jt5, jt6, jt7, jt8]
    try dsimp only [Sum.elim_inl, Sum.elim_inr, jt2, jt3, jt4, jt5, jt6, jt7, jt8]
    refine ⟨?_, ?_⟩
    · exact rwG_k (fun r => by (show _ = min (MK h) (min (if 12 ≤ m then tS B n q * 8 + 5 else 1000000) (min (vkL B n ks 0 r.1) (min (if r.1.length = ks.length then 1000000 else tS B n q * 8 + 4) (laK B n la r)))); have ov := w2.2.2; split <;> omega)) ok3 -- o13 e2.1
    · (first | assumption | omega | ((try dsimp only [jt2, jt3, jt4]); first | omega | (simp (disch := omega) only [jst_eq, jst_ne, jst_ni, jst_o, jI_i, jcpy_out, w32_id, jdiv_nn, jshr_k, jand_255] <;> first | done | omega | assumption)) | (intros; simp (disch := omega) only [jst_eq, jst_ne, jst_ni, jst_o, jI_i, jcpy_out, w32_id, jdiv_nn, *] <;> first | done | omega) | (intros; simp (disch := omega) only [jst_eq, jst_ne, jst_ni, jst_o, jI_i, jcpy_out, w32_id, jdiv_nn] at * <;> first | done | omega | assumption) | (intros; first | rfl | (exfalso; omega) | ((repeat' apply And.intro) <;> first | assumption | rfl | omega | trivial))) -- o14 e2.2

