/-! m: a row is read -/
/-- what m's reader of rows has -/
def rdR (B : Int → Int) (n a : Int) (ks : List Int) (la m : Int) (h : AH) : Prop := TM B n h ∧ MI h ∧ isX16 a ∧ (h a 3 = (ks.length : Int) ∧ 1 ≤ ks.length ∧ ks.length ≤ 3 ∧ ∀ k, 0 ≤ k → k < (ks.length : Int) → h (a + 1) k = kch (kL ks k) ∧ 0 ≤ kL ks k ∧ kL ks k ≤ 2) ∧ (h a 4 = kch la ∧ 0 ≤ la ∧ la ≤ 2) ∧ (h a 9 = m ∧ 0 ≤ m ∧ m ≤ 5000) ∧ (0 ≤ h 454 17 ∧ h 454 17 < 8800)
theorem rdR_f {B : Int → Int} {n a la m m' : Int} {ks : List Int} {h h' : AH} (x : rdR B n a ks la m h) (f : ∀ b s, ¬ (b = 454 ∧ (s = 17 ∨ (26 ≤ s ∧ s ≤ 31))) → ¬ (b = 472 ∧ (s = 6 ∨ s = 7)) → ¬ (460 ≤ b ∧ b ≤ 470) → ¬ (a + 2 ≤ b ∧ b ≤ a + 10) → ¬ (b = a ∧ (s = 5 ∨ s = 9 ∨ s = 12)) → h' b s = h b s) (mi : MI h') (m9 : h' a 9 = m' ∧ 0 ≤ m' ∧ m' ≤ 5000) (e : 0 ≤ h' 454 17 ∧ h' 454 17 < 8800) : rdR B n a ks la m' h' := by
  obtain ⟨x1, x2, x3, ⟨x4, x5, x6, x7⟩, x8, x9, x10⟩ := x
  have LA : a = 476 ∨ a = 615 := x3
  exact ⟨TM_fr x1 (f _ _ (by omega) (by omega) (by omega) (by omega) (by omega)) (fun s => f _ _ (by omega) (by omega) (by omega) (by omega) (by omega)), mi, x3, ⟨by rw [f _ _ (by omega) (by omega) (by omega) (by omega) (by omega)]; exact x4, x5, x6, fun k k0 k1 => by rw [f _ _ (by omega) (by omega) (by omega) (by omega) (by omega)]; exact x7 k k0 k1⟩, by rw [f _ _ (by omega) (by omega) (by omega) (by omega) (by omega)]; exact x8, m9, e⟩
def vsM (B : Int → Int) (n a m : Int) (ks vs : List Int) (room : Int) (h : AH) : Prop := room = 1 → ∀ j : Nat, j < ks.length → ∀ q, vs[j]? = some q → h (a + 5) (3 * m + j) = vlV B n q
/-- what reading values may change -/
def frVm (a m N : Int) (h h' : AH) : Prop := ∀ b s, ¬ (b = 454 ∧ (s = 17 ∨ (26 ≤ s ∧ s ≤ 31))) → ¬ (b = 472 ∧ (s = 6 ∨ s = 7)) → ¬ (460 ≤ b ∧ b ≤ 469 ∧ b ≠ 464 ∧ s = N) → ¬ (b = a + 5 ∧ 3 * m ≤ s ∧ s < 3 * m + 3) → h' b s = h b s
theorem frVm_t {a m N : Int} {h h1 h2 : AH} (x : frVm a m N h h1) (y : frVm a m N h1 h2) : frVm a m N h h2 := fun b s y1 y2 y3 y4 => (y b s y1 y2 y3 y4).trans (x b s y1 y2 y3 y4)
theorem vX14_row_j166_82 (a1 : Int) (a2 : Int) (a3 : Int) (a4 : Int) (a5 : Int) {h : AH} (b : 0 ≤ a4 ∧ a4 ≤ 5000) : OK (gX14_row_j166_82 a1 a2 a3 a4 a5 h) (Sum.elim (fun r => jt2 r fun y h' => y = a4 + 1 ∧ h' = h) (Sum.elim (fun r => jt2 r fun y h' => (0 : Int) = 1) (fun r => jt2 r fun t h' => (0 : Int) = 1))) := by
  unfold gX14_row_j166_82
  refine OK_jlx (fun x73 ex73 => ?_)
  try simp (disch := omega) only [jst_eq, jst_ne, jst_ni, jI_i, jcmp_lt, jcmp_gt, w32_id, jcpy_out, Sum.elim_inl, Sum.elim_inr, jt2, jt3, jt4, jt5, jt6, jt7, jt8] at ex73
  refine OK_some ?_
  try dsimp only [Sum.elim_inl, Sum.elim_inr, jt2, jt3, jt4, jt5, jt6, jt7, jt8]
  (first | assumption | omega | ((try dsimp only [jt2, jt3, jt4]); first | omega | (simp (disch := omega) only [jst_eq, jst_ne, jst_ni, jst_o, jI_i, jcpy_out, w32_id, jdiv_nn, jshr_k, jand_255] <;> first | done | omega | assumption)) | (intros; simp (disch := omega) only [jst_eq, jst_ne, jst_ni, jst_o, jI_i, jcpy_out, w32_id, jdiv_nn, *] <;> first | done | omega) | (intros; simp (disch := omega) only [jst_eq, jst_ne, jst_ni, jst_o, jI_i, jcpy_out, w32_id, jdiv_nn] at * <;> first | done | omega | assumption) | (intros; first | rfl | (exfalso; omega) | ((repeat' apply And.intro) <;> first | assumption | rfl | omega | trivial))) -- o1 e1
theorem vX14_row_j141_82 (a1 : Int) (a2 : Int) (a3 : Int) (a4 : Int) (a5 : Int) (a6 : Int) {h : AH} {m : Int} (b : 0 ≤ a4 ∧ a4 < 3) (tz : (a3 = 0 ∨ a3 = 1) ∧ (a3 = 1 → m < 12)) (lo : isX16 a1 ∧ h a1 9 = m ∧ 0 ≤ m ∧ 0 ≤ a6 ∧ a6 < 8800) : OK (gX14_row_j141_82 a1 a2 a3 a4 a5 a6 h) (Sum.elim (fun r => jt2 r fun y h' => (y = a4 + 1) ∧ (a3 = 1 → h' (a1 + 5) (3 * m + a4) = h 462 a6) ∧ (∀ b s, ¬ (b = a1 + 5 ∧ s = 3 * m + a4) → h' b s = h b s)) (Sum.elim (fun r => jt2 r fun y h' => (0 : Int) = 1) (fun r => jt2 r fun t h' => (0 : Int) = 1))) := by
  have LA : a1 = 476 ∨ a1 = 615 := lo.1
  unfold gX14_row_j141_82
  refine OK_if (fun c1 => ?_) (fun c1 => ?_)
  · skip
    try simp (disch := omega) only [jst_eq, jst_ne, jst_ni, jI_i, jcmp_lt, jcmp_gt, w32_id, jcpy_out, Sum.elim_inl, Sum.elim_inr, jt2, jt3, jt4, jt5, jt6, jt7, jt8] at c1
    refine OK_mono (vX14_row_j166_82 _ _ _ _ _ (by omega)) (fun r r1 => ?_)
    rcases r with r | r
    · skip
      have r2 := r1; clear r1; dsimp only [Sum.elim_inl, Sum.elim_inr] at r2
      obtain ⟨y1, y2⟩ := r
      try dsimp only [Sum.elim_inl, Sum.elim_inr, jt2, jt3, jt4, jt5, jt6, jt7, jt8] at r2
      have cc1 := r2
      clear r2
      try simp (disch := omega) only [jst_eq, jst_ne, jst_ni, jI_i, jcmp_lt, jcmp_gt, w32_id, jcpy_out, Sum.elim_inl, Sum.elim_inr, jt2, jt3, jt4, jt5, jt6, jt7, jt8] at cc1
      try dsimp only [Sum.elim_inl, Sum.elim_inr, jt2, jt3, jt4, jt5, jt6, jt7, jt8]
      try dsimp only [Sum.elim_inl, Sum.elim_inr, jt2, jt3, jt4, jt5, jt6, jt7, jt8]
      refine ⟨?_, ?_, ?_⟩
      · exact cc1.1 -- o2 e1.1
      · (intro z; omega) -- o3 e1.2
      · (rw [cc1.2]; exact fun _ _ _ => rfl) -- o4 e1.3
    · skip
      have r3 := r1; clear r1; dsimp only [Sum.elim_inl, Sum.elim_inr] at r3
      rcases r with r | r
      · skip
        have r4 := r3; clear r3; dsimp only [Sum.elim_inl, Sum.elim_inr] at r4
        obtain ⟨y3, y4⟩ := r
        try dsimp only [Sum.elim_inl, Sum.elim_inr, jt2, jt3, jt4, jt5, jt6, jt7, jt8] at r4
        have no2 := r4
        clear r4
        try simp (disch := omega) only [jst_eq, jst_ne, jst_ni, jI_i, jcmp_lt, jcmp_gt, w32_id, jcpy_out, Sum.elim_inl, Sum.elim_inr, jt2, jt3, jt4, jt5, jt6, jt7, jt8] at no2
        try dsimp only [Sum.elim_inl, Sum.elim_inr, jt2, jt3, jt4, jt5, jt6, jt7, jt8]
        exact absurd no2 (by decide) -- o5 e2
      · skip
        have r5 := r3; clear r3; dsimp only [Sum.elim_inl, Sum.elim_inr] at r5
        obtain ⟨y5, y6⟩ := r
        try dsimp only [Sum.elim_inl, Sum.elim_inr, jt2, jt3, jt4, jt5, jt6, jt7, jt8] at r5
        have no3 := r5
        clear r5
        try simp (disch := omega) only [jst_eq, jst_ne, jst_ni, jI_i, jcmp_lt, jcmp_gt, w32_id, jcpy_out, Sum.elim_inl, Sum.elim_inr, jt2, jt3, jt4, jt5, jt6, jt7, jt8] at no3
        try dsimp only [Sum.elim_inl, Sum.elim_inr, jt2, jt3, jt4, jt5, jt6, jt7, jt8]
        exact absurd no3 (by decide) -- o6 e3
  · skip
    try simp (disch := omega) only [jst_eq, jst_ne, jst_ni, jI_i, jcmp_lt, jcmp_gt, w32_id, jcpy_out, Sum.elim_inl, Sum.elim_inr, jt2, jt3, jt4, jt5, jt6, jt7, jt8] at c1
    have W1 : w32 (w32 (3 * h a1 9) + a4) = 3 * m + a4 := by { rw [lo.2.1, w32_id (x := 3 * m) (by omega) (by omega)]; exact w32_id (by omega) (by omega) }
    rw [W1]
    refine OK_jg (by (first | assumption | omega | ((try dsimp only [jt2, jt3, jt4]); first | omega | (simp (disch := omega) only [jst_eq, jst_ne, jst_ni, jst_o, jI_i, jcpy_out, w32_id, jdiv_nn, jshr_k, jand_255] <;> first | done | omega | assumption)) | (intros; simp (disch := omega) only [jst_eq, jst_ne, jst_ni, jst_o, jI_i, jcpy_out, w32_id, jdiv_nn, *] <;> first | done | omega) | (intros; simp (disch := omega) only [jst_eq, jst_ne, jst_ni, jst_o, jI_i, jcpy_out, w32_id, jdiv_nn] at * <;> first | done | omega | assumption) | (intros; first | rfl | (exfalso; omega) | ((repeat' apply And.intro) <;> first | assumption | rfl | omega | trivial)))) ?_ -- o7
    refine OK_jg (by (first | assumption | omega | ((try dsimp only [jt2, jt3, jt4]); first | omega | (simp (disch := omega) only [jst_eq, jst_ne, jst_ni, jst_o, jI_i, jcpy_out, w32_id, jdiv_nn, jshr_k, jand_255] <;> first | done | omega | assumption)) | (intros; simp (disch := omega) only [jst_eq, jst_ne, jst_ni, jst_o, jI_i, jcpy_out, w32_id, jdiv_nn, *] <;> first | done | omega) | (intros; simp (disch := omega) only [jst_eq, jst_ne, jst_ni, jst_o, jI_i, jcpy_out, w32_id, jdiv_nn] at * <;> first | done | omega | assumption) | (intros; first | rfl | (exfalso; omega) | ((repeat' apply And.intro) <;> first | assumption | rfl | omega | trivial)))) ?_ -- o8
    refine OK_jl ?_
    have F75 : ∀ b s, ¬ (b = a1 + 5 ∧ s = 3 * m + a4) → jst h (a1 + 5) (3 * m + a4) (h 462 a6) b s = h b s := fun b s y => jst_o y
    have V75 : jst h (a1 + 5) (3 * m + a4) (h 462 a6) (a1 + 5) (3 * m + a4) = h 462 a6 := jst_eq
    generalize jst h (a1 + 5) (3 * m + a4) (h 462 a6) = g75 at *
    refine OK_mono (vX14_row_j166_82 _ _ _ _ _ (by omega)) (fun r r6 => ?_)
    rcases r with r | r
    · skip
      have r7 := r6; clear r6; dsimp only [Sum.elim_inl, Sum.elim_inr] at r7
      obtain ⟨y7, y8⟩ := r
      try dsimp only [Sum.elim_inl, Sum.elim_inr, jt2, jt3, jt4, jt5, jt6, jt7, jt8] at r7
      have cc4 := r7
      clear r7
      try simp (disch := omega) only [jst_eq, jst_ne, jst_ni, jI_i, jcmp_lt, jcmp_gt, w32_id, jcpy_out, Sum.elim_inl, Sum.elim_inr, jt2, jt3, jt4, jt5, jt6, jt7, jt8] at cc4
      try dsimp only [Sum.elim_inl, Sum.elim_inr, jt2, jt3, jt4, jt5, jt6, jt7, jt8]
      try dsimp only [Sum.elim_inl, Sum.elim_inr, jt2, jt3, jt4, jt5, jt6, jt7, jt8]
      refine ⟨?_, ?_, ?_⟩
      · exact cc4.1 -- o10 e4.1
      · (intro z; rw [cc4.2]; exact V75) -- o11 e4.2
      · (rw [cc4.2]; exact F75) -- o12 e4.3
    · skip
      have r8 := r6; clear r6; dsimp only [Sum.elim_inl, Sum.elim_inr] at r8
      rcases r with r | r
      · skip
        have r9 := r8; clear r8; dsimp only [Sum.elim_inl, Sum.elim_inr] at r9
        obtain ⟨y9, y10⟩ := r
        try dsimp only [Sum.elim_inl, Sum.elim_inr, jt2, jt3, jt4, jt5, jt6, jt7, jt8] at r9
        have no5 := r9
        clear r9
        try simp (disch := omega) only [jst_eq, jst_ne, jst_ni, jI_i, jcmp_lt, jcmp_gt, w32_id, jcpy_out, Sum.elim_inl, Sum.elim_inr, jt2, jt3, jt4, jt5, jt6, jt7, jt8] at no5
        try dsimp only [Sum.elim_inl, Sum.elim_inr, jt2, jt3, jt4, jt5, jt6, jt7, jt8]
        exact absurd no5 (by decide) -- o13 e5
      · skip
        have r10 := r8; clear r8; dsimp only [Sum.elim_inl, Sum.elim_inr] at r10
        obtain ⟨y11, y12⟩ := r
        try dsimp only [Sum.elim_inl, Sum.elim_inr, jt2, jt3, jt4, jt5, jt6, jt7, jt8] at r10
        have no6 := r10
        clear r10
        try simp (disch := omega) only [jst_eq, jst_ne, jst_ni, jI_i, jcmp_lt, jcmp_gt, w32_id, jcpy_out, Sum.elim_inl, Sum.elim_inr, jt2, jt3, jt4, jt5, jt6, jt7, jt8] at no6
        try dsimp only [Sum.elim_inl, Sum.elim_inr, jt2, jt3, jt4, jt5, jt6, jt7, jt8]
        exact absurd no6 (by decide) -- o14 e6
/-- in the middle of values -/
def vlI (B : Int → Int) (n q0 : Int) (WV : Int ⊕ (List Int × Int)) (q : Int) (vs : List Int) : Prop := ∃ k : Nat, 2002 ≤ (k : Int) + q - q0 ∧ (vs = [] → q = q0 ∧ WV = pVs B n k vs q) ∧ (vs ≠ [] → (isVl B n q → WV = pVs B n k vs q) ∧ (¬ isVl B n q → WV = .inr (vs, q)))
theorem vlI_s {B : Int → Int} {n q0 q q1 : Int} {WV : Int ⊕ (List Int × Int)} {vs : List Int} (hB : ∀ i, 0 ≤ i → i < n → 0 ≤ B i ∧ B i < 256) (i : vlI B n q0 WV q vs) (r : 0 ≤ q0 ∧ 0 ≤ q ∧ q ≤ n ∧ n ≤ 2000 ∧ tO B n q ≠ 5) (g : isVl B n q) : (∀ z, nx B n q = .inl z → WV = .inl z) ∧ (nx B n q = .inr q1 → vlI B n q0 WV q1 (vs ++ [q]) ∧ q < q1) := by
  obtain ⟨k, k1, k2, k3⟩ := i
  have W : WV = pVs B n k vs q := by
    by_cases c : vs = []
    · exact (k2 c).2
    · exact (k3 c).1 g
  obtain ⟨m, rfl⟩ : ∃ m : Nat, k = m + 1 := ⟨k - 1, by omega⟩
  refine ⟨fun z e => W.trans (pVs_l g e), fun e => ?_⟩
  have nr := nx_r hB r.2.1 r.2.2.1 r.2.2.2.2 (isVl_0 g) e
  refine ⟨⟨m, by omega, fun z => ?_, fun _ => ⟨fun g2 => W.trans ((pVs_r g e).1 g2), fun g2 => W.trans ((pVs_r g e).2 g2)⟩⟩, nr.2.1⟩
  cases vs <;> cases z
theorem vlI_n {B : Int → Int} {n q0 q : Int} {WV : Int ⊕ (List Int × Int)} {vs : List Int} (i : vlI B n q0 WV q vs) (r : q ≤ 2000 ∧ 0 ≤ q0) (g : ¬ isVl B n q) : (vs = [] → WV = .inl (tS B n q)) ∧ (vs ≠ [] → WV = .inr (vs, q)) := by
  obtain ⟨k, k1, k2, k3⟩ := i
  refine ⟨fun c => ?_, fun c => (k3 c).2 g⟩
  obtain ⟨m, rfl⟩ : ∃ m : Nat, k = m + 1 := ⟨k - 1, by omega⟩
  exact (k2 c).2.trans (pVs_n g)
theorem vsM_a {B : Int → Int} {n a m room q : Int} {ks vs : List Int} {h h' : AH} (x : vsM B n a m ks vs room h) (f : ∀ s, s ≠ 3 * m + (vs.length : Int) → h' (a + 5) s = h (a + 5) s) (v : room = 1 → vs.length < ks.length → h' (a + 5) (3 * m + (vs.length : Int)) = vlV B n q) : vsM B n a m ks (vs ++ [q]) room h' := fun z j jk u eu => by
  rcases app_ixg eu with ⟨y1, y2⟩ | ⟨y1, y2⟩
  · rw [f _ (by omega)]; exact x z j jk u y2
  · rw [y2, y1]; exact v z (by omega)
theorem vlM_st {B : Int → Int} {n a m K q u q0 a4 room : Int} {ks vs : List Int} {WV : Int ⊕ (List Int × Int)} {hx : AH} (hB : ∀ i, 0 ≤ i → i < n → 0 ≤ B i ∧ B i < 256) (V1 : vlI B n q0 WV q vs) (r : 0 ≤ q0 ∧ 0 ≤ q ∧ q ≤ n ∧ n ≤ 2000 ∧ tO B n q ≠ 5) (g : isVl B n q) (e : nx B n q = .inr u) (ms : MS B n u hx) (L1 : (vs.length : Int) = a4) (L2 : a4 ≤ q - q0) (k : MK hx = min K (vkL B n ks 0 (vs ++ [q]))) (s : vsM B n a m ks (vs ++ [q]) room hx) : ∃ q vs, MS B n q hx ∧ vlI B n q0 WV q vs ∧ (vs.length : Int) = a4 + 1 ∧ a4 + 1 ≤ q - q0 ∧ 0 ≤ a4 + 1 ∧ MK hx = min K (vkL B n ks 0 vs) ∧ vsM B n a m ks vs room hx := by
  obtain ⟨v1, v2⟩ := (vlI_s hB V1 r g).2 e
  exact ⟨u, vs ++ [q], ms, v1, by rw [List.length_append]; show ((vs.length + 1 : Nat) : Int) = a4 + 1; omega, by omega, by omega, k, s⟩
theorem vlK_r (B : Int → Int) (n q : Int) : -1 ≤ vlK B n q ∧ vlK B n q ≤ 2 := by unfold vlK; split <;> (try split) <;> omega
theorem vlM_all {B : Int → Int} {n a la m K q u q0 a4 room N : Int} {ks vs : List Int} {WV : Int ⊕ (List Int × Int)} {h0 h g68 hx : AH} (LA : a = 476 ∨ a = 615) (hB : ∀ i, 0 ≤ i → i < n → 0 ≤ B i ∧ B i < 256) (V1 : vlI B n q0 WV q vs) (r : 0 ≤ q0 ∧ 0 ≤ q ∧ q ≤ n ∧ n ≤ 2000 ∧ tO B n q ≠ 5) (g : isVl B n q) (e : nx B n q = .inr u) (L1 : (vs.length : Int) = a4) (L2 : a4 ≤ q - q0) (K1 : MK h = min K (vkL B n ks 0 vs)) (S1 : vsM B n a m ks vs room h) (rk : rdR B n a ks la m h ∧ h 454 17 = N) (fr : frVm a m N h0 h) (G68 : ∀ b s, ¬ (b = 454 ∧ (s = 17 ∨ (26 ≤ s ∧ s ≤ 29))) → ¬ (b = 472 ∧ (s = 6 ∨ s = 7)) → ¬ (460 ≤ b ∧ b ≤ 469 ∧ b ≠ 464 ∧ s = N) → g68 b s = h b s) (V68 : g68 454 17 = N) (ms : MS B n u g68) (rm : Unit → room = 1 → m < 12) (f : ∀ b s, ¬ (b = 454 ∧ (s = 30 ∨ s = 31)) → ¬ (b = a + 5 ∧ s = 3 * m + a4 ∧ a4 < 3) → hx b s = g68 b s) (mi : MI hx) (mk : MK hx = min (MK h) (if a4 < (ks.length : Int) ∧ vlK B n q ≠ kL ks a4 then tS B n q * 8 + 3 else 1000000)) (v : Unit → room = 1 → a4 < (ks.length : Int) → hx (a + 5) (3 * m + a4) = vlV B n q) : (∃ q vs, MS B n q hx ∧ vlI B n q0 WV q vs ∧ (vs.length : Int) = a4 + 1 ∧ a4 + 1 ≤ q - q0 ∧ 0 ≤ a4 + 1 ∧ MK hx = min K (vkL B n ks 0 vs) ∧ vsM B n a m ks vs room hx) ∧ (rdR B n a ks la m hx ∧ hx 454 17 = N) ∧ frVm a m N h0 hx := by
  have x9 := rk.1.2.2.2.2.2.1
  have l3 := rk.1.2.2.2.1.2.2.1
  have x10 := rk.1.2.2.2.2.2.2
  have VK := vkL_app (B := B) (n := n) (ks := ks) (q := q) 0 vs
  rw [Int.zero_add, L1] at VK
  generalize (if a4 < (ks.length : Int) ∧ vlK B n q ≠ kL ks a4 then tS B n q * 8 + 3 else 1000000) = X at VK mk
  refine ⟨vlM_st hB V1 r g e (MS_fr ms (fun s s0 s1 => f _ _ (by omega) (by omega))) L1 L2 ?_ (vsM_a S1 (fun s y => ?_) (fun z y => by rw [L1]; exact v () z (by omega))), ⟨rdR_f rk.1 (fun b s y1 y2 y3 y4 y5 => (f b s (by omega) (by omega)).trans (G68 b s (by omega) y2 (by omega))) mi ⟨(f _ _ (by omega) (by omega)).trans ((G68 _ _ (by omega) (by omega) (by omega)).trans x9.1), x9.2⟩ ?_, (f _ _ (by omega) (by omega)).trans V68⟩, fun b s y1 y2 y3 y4 => (f b s (by omega) (by omega)).trans ((G68 b s (by omega) y2 y3).trans (fr b s y1 y2 y3 y4))⟩
  · rw [VK, mk, K1]; exact Int.min_assoc _ _ _
  · rw [L1] at y
    exact (f _ _ (by omega) (by omega)).trans (G68 _ _ (by omega) (by omega) (by omega))
  · rw [f _ _ (by omega) (by omega), V68]; omega
def rmP (i m : Int) : Prop := (i = 0 ∨ i = 1) ∧ (i = 1 → m < 12)
theorem vX14_row_l82 (i1 : Int) (i2 : Int) (i3 : Int) (i5 : Int) (a40 : Int) {h0 : AH} {B : Int → Int} {n la m K N q0 : Int} {ks : List Int} {WV : Int ⊕ (List Int × Int)} (hB : ∀ i, 0 ≤ i → i < n → 0 ≤ B i ∧ B i < 256) (rk : rdR B n i1 ks la m h0) (ms : MS B n q0 h0) (wv : WV = pVs B n 2002 [] q0) (rm : rmP i3 m) (kk : MK h0 = min K 1000000) (nn : h0 454 17 = N ∧ i5 = N ∧ i2 = i2) (h1 : a40 = 0) : OK (gX14_row_l82 i1 i2 i3 i5 a40 h0) (Sum.elim (fun r => jt2 r fun y h' => (∃ q vs, isSg B n q 61 ∧ MS B n q h' ∧ (vs.length : Int) = y ∧ (y = 0 → WV = .inl (tS B n q)) ∧ (y ≠ 0 → WV = .inr (vs, q)) ∧ MK h' = min K (vkL B n ks 0 vs) ∧ vsM B n i1 m ks vs i3 h' ∧ 0 ≤ y ∧ y ≤ 2001) ∧ (rdR B n i1 ks la m h' ∧ h' 454 17 = N) ∧ (frVm i1 m N h0 h')) (fun r => jt2 r fun t h' => (∃ z, (bS WV fun x => pW B n 61 x.2) = .inl z ∧ t = 472 ∧ MF z h') ∧ (frVm i1 m N h0 h'))) := by
  have LA : i1 = 476 ∨ i1 = 615 := rk.2.2.1
  have n2 := rk.1.2.2.1
  have q00 := ms.2.2
  unfold gX14_row_l82
  refine OK_jit (I := (fun (s : Int × AH) => jt2 s fun a4 h => (∃ q vs, MS B n q h ∧ vlI B n q0 WV q vs ∧ (vs.length : Int) = a4 ∧ a4 ≤ q - q0 ∧ 0 ≤ a4 ∧ MK h = min K (vkL B n ks 0 vs) ∧ vsM B n i1 m ks vs i3 h) ∧ (rdR B n i1 ks la m h ∧ h 454 17 = N) ∧ (frVm i1 m N h0 h))) (m := (fun (s : Int × AH) => jt2 s fun a4 h => (3000 - a4).toNat)) ?_ ?_
  · intro s hs
    obtain ⟨a4, h⟩ := s
    dsimp only [Sum.elim_inl, Sum.elim_inr, jt2, jt3, jt4, jt5, jt6, jt7, jt8] at hs
    obtain ⟨q1, rk, fr⟩ := hs
    unfold gX14_row_b82
    refine OK_jt2 ?_
    obtain ⟨q, vs, M1, V1, L1, L2, L0, K1, S1⟩ := q1
    obtain ⟨⟨x1, x2, x3, ⟨x4, x5, x6, x7⟩, x8, x9, x10⟩, x17⟩ := id rk
    have qr := M1.2.2
    refine OK_jb (vX14_isSign (B := B) (n := n) (q := q) _ (by exact M1)) (fun v61 r1 => ?_)
    try dsimp only [Sum.elim_inl, Sum.elim_inr, jt2, jt3, jt4, jt5, jt6, jt7, jt8] at r1
    have v1 := r1
    clear r1
    try simp (disch := omega) only [jst_eq, jst_ne, jst_ni, jI_i, jcmp_lt, jcmp_gt, w32_id, jcpy_out, Sum.elim_inl, Sum.elim_inr, jt2, jt3, jt4, jt5, jt6, jt7, jt8] at v1
    refine OK_if (fun c1 => ?_) (fun c1 => ?_)
    · skip
      try simp (disch := omega) only [jst_eq, jst_ne, jst_ni, jI_i, jcmp_lt, jcmp_gt, w32_id, jcpy_out, Sum.elim_inl, Sum.elim_inr, jt2, jt3, jt4, jt5, jt6, jt7, jt8] at c1
      refine OK_jb3 (vX14_takeValue (B := B) (n := n) (q := q) (by exact x1) (by exact hB) (by exact M1) (by omega)) (fun t64 v65 h66 r2 => ?_)
      try dsimp only [Sum.elim_inl, Sum.elim_inr, jt2, jt3, jt4, jt5, jt6, jt7, jt8] at r2
      obtain ⟨no2, r2, nd2, tv2, fr2⟩ := r2
      try simp (disch := omega) only [jst_eq, jst_ne, jst_ni, jI_i, jcmp_lt, jcmp_gt, w32_id, jcpy_out, Sum.elim_inl, Sum.elim_inr, jt2, jt3, jt4, jt5, jt6, jt7, jt8] at no2
      try simp (disch := omega) only [jst_eq, jst_ne, jst_ni, jI_i, jcmp_lt, jcmp_gt, w32_id, jcpy_out, Sum.elim_inl, Sum.elim_inr, jt2, jt3, jt4, jt5, jt6, jt7, jt8] at r2
      try simp (disch := omega) only [jst_eq, jst_ne, jst_ni, jI_i, jcmp_lt, jcmp_gt, w32_id, jcpy_out, Sum.elim_inl, Sum.elim_inr, jt2, jt3, jt4, jt5, jt6, jt7, jt8] at nd2
      try simp (disch := omega) only [jst_eq, jst_ne, jst_ni, jI_i, jcmp_lt, jcmp_gt, w32_id, jcpy_out, Sum.elim_inl, Sum.elim_inr, jt2, jt3, jt4, jt5, jt6, jt7, jt8] at tv2
      try simp (disch := omega) only [jst_eq, jst_ne, jst_ni, jI_i, jcmp_lt, jcmp_gt, w32_id, jcpy_out, Sum.elim_inl, Sum.elim_inr, jt2, jt3, jt4, jt5, jt6, jt7, jt8] at fr2
      refine OK_jq (fun c2 => ?_) (fun c2 => ?_)
      · skip
        refine OK_ir ?_
        try dsimp only [Sum.elim_inl, Sum.elim_inr, jt2, jt3, jt4, jt5, jt6, jt7, jt8]
        refine ⟨?_, ?_⟩
        · (by_cases VL : isVl B n q; { obtain ⟨z, e, t1, mf⟩ := rM_l (r2 VL) c2; have w := (vlI_s (q1 := 0) hB V1 ⟨q00.1, qr.1, qr.2, n2, M1.2.1⟩ VL).1 z e; exact ⟨z, by rw [w]; rfl, t1, mf⟩ }; { obtain ⟨t1, mf⟩ := no2 VL; have NI := vlI_n V1 ⟨by omega, q00.1⟩ VL; refine ⟨tS B n q, ?_, t1, mf⟩; by_cases c : vs = []; { rw [NI.1 c]; rfl }; { rw [NI.2 c]; have ns : ¬ (tO B n q = 4 ∧ tV B n q = 61) := (fun z => by rw [if_pos z] at v1; omega); exact if_neg ns } }) -- o6 e1.1
        · exact fun b s y1 y2 y3 y4 => (fr2 b s (by omega) y2 (by omega)).trans (fr b s y1 y2 y3 y4) -- o7 e1.2
      · skip
        have VL : isVl B n q := Classical.byContradiction fun z => by { have := (no2 z).1; omega }
        obtain ⟨u, eu, msu⟩ := rM_r (r2 VL) c2
        have V65 : v65 = N := (tv2 c2).trans x17
        obtain ⟨n1, ⟨n2a, _, _, _, n2e⟩, n3, n4⟩ := nd2 VL
        have N2 := n2a rfl
        rw [x17] at N2 n2e fr2
        clear no2 r2 tv2 nd2 n3
        refine OK_jl ?_
        have F68 : ∀ b s, ¬ (b = 454 ∧ s = 17) → jst h66 454 17 i5 b s = h66 b s := fun b s y => jst_o y
        have V68 : jst h66 454 17 i5 454 17 = N := jst_eq.trans nn.2.1
        generalize jst h66 454 17 i5 = g68 at *
        have G68 : ∀ b s, ¬ (b = 454 ∧ (s = 17 ∨ (26 ≤ s ∧ s ≤ 29))) → ¬ (b = 472 ∧ (s = 6 ∨ s = 7)) → ¬ (460 ≤ b ∧ b ≤ 469 ∧ b ≠ 464 ∧ s = N) → g68 b s = h b s := fun b s y1 y2 y3 => (F68 b s (by omega)).trans (fr2 b s y1 y2 y3)
        have MI68 : MI g68 := MI_fr (G68 _ _ (by omega) (by omega) (by omega)) (G68 _ _ (by omega) (by omega) (by omega)) x2
        have MK68 : MK g68 = MK h := MK_fr (G68 _ _ (by omega) (by omega) (by omega)) (G68 _ _ (by omega) (by omega) (by omega))
        have MS68 : MS B n u g68 := MS_fr msu (fun s s0 s1 => F68 _ _ (by omega))
        have E3 : g68 i1 3 = (ks.length : Int) := (G68 _ _ (by omega) (by omega) (by omega)).trans x4
        have mr := MK_r x2
        rw [E3]
        refine OK_if (fun c3 => ?_) (fun c3 => ?_)
        · skip
          try simp (disch := omega) only [jst_eq, jst_ne, jst_ni, jI_i, jcmp_lt, jcmp_gt, w32_id, jcpy_out, Sum.elim_inl, Sum.elim_inr, jt2, jt3, jt4, jt5, jt6, jt7, jt8] at c3
          refine OK_mono (vX14_row_j166_82 _ _ _ _ _ (by omega)) (fun r r3 => ?_)
          rcases r with r | r
          · skip
            have r4 := r3; clear r3; dsimp only [Sum.elim_inl, Sum.elim_inr] at r4
            obtain ⟨y1, y2⟩ := r
            try dsimp only [Sum.elim_inl, Sum.elim_inr, jt2, jt3, jt4, jt5, jt6, jt7, jt8] at r4
            have cc3 := r4
            clear r4
            try simp (disch := omega) only [jst_eq, jst_ne, jst_ni, jI_i, jcmp_lt, jcmp_gt, w32_id, jcpy_out, Sum.elim_inl, Sum.elim_inr, jt2, jt3, jt4, jt5, jt6, jt7, jt8] at cc3
            have ST := vlM_all (hx := g68) LA hB V1 ⟨q00.1, qr.1, qr.2, n2, M1.2.1⟩ VL eu L1 L2 K1 S1 rk fr G68 V68 MS68 (fun _ => rm.2) (fun _ _ _ _ => rfl) MI68 (by rw [if_neg (fun z => by omega), MK68]; omega) (fun _ _ z => by omega)
            try dsimp only [Sum.elim_inl, Sum.elim_inr, jt2, jt3, jt4, jt5, jt6, jt7, jt8]
            refine ⟨?_, ?_⟩
            · try dsimp only [Sum.elim_inl, Sum.elim_inr, jt2, jt3, jt4, jt5, jt6, jt7, jt8]
              refine ⟨?_, ?_, ?_⟩
              · (rw [cc3.1, cc3.2]; exact ST.1) -- o9 e2i.1
              · (rw [cc3.2]; exact ST.2.1) -- o10 e2i.2
              · (rw [cc3.2]; exact ST.2.2) -- o11 e2i.3
            · (rw [cc3.1]; omega) -- o12 e2m
          · skip
            have r5 := r3; clear r3; dsimp only [Sum.elim_inl, Sum.elim_inr] at r5
            rcases r with r | r
            · skip
              have r6 := r5; clear r5; dsimp only [Sum.elim_inl, Sum.elim_inr] at r6
              obtain ⟨y3, y4⟩ := r
              try dsimp only [Sum.elim_inl, Sum.elim_inr, jt2, jt3, jt4, jt5, jt6, jt7, jt8] at r6
              have no4 := r6
              clear r6
              try simp (disch := omega) only [jst_eq, jst_ne, jst_ni, jI_i, jcmp_lt, jcmp_gt, w32_id, jcpy_out, Sum.elim_inl, Sum.elim_inr, jt2, jt3, jt4, jt5, jt6, jt7, jt8] at no4
              try dsimp only [Sum.elim_inl, Sum.elim_inr, jt2, jt3, jt4, jt5, jt6, jt7, jt8]
              exact absurd no4 (by decide) -- e3
            · skip
              have r7 := r5; clear r5; dsimp only [Sum.elim_inl, Sum.elim_inr] at r7
              obtain ⟨y5, y6⟩ := r
              try dsimp only [Sum.elim_inl, Sum.elim_inr, jt2, jt3, jt4, jt5, jt6, jt7, jt8] at r7
              have no5 := r7
              clear r7
              try simp (disch := omega) only [jst_eq, jst_ne, jst_ni, jI_i, jcmp_lt, jcmp_gt, w32_id, jcpy_out, Sum.elim_inl, Sum.elim_inr, jt2, jt3, jt4, jt5, jt6, jt7, jt8] at no5
              try dsimp only [Sum.elim_inl, Sum.elim_inr, jt2, jt3, jt4, jt5, jt6, jt7, jt8]
              exact absurd no5 (by decide) -- e4
        · skip
          try simp (disch := omega) only [jst_eq, jst_ne, jst_ni, jI_i, jcmp_lt, jcmp_gt, w32_id, jcpy_out, Sum.elim_inl, Sum.elim_inr, jt2, jt3, jt4, jt5, jt6, jt7, jt8] at c3
          have KD := x7 a4 L0 (by omega)
          have A4 : g68 461 v65 = kch (vlK B n q) := by { rw [V65, F68 _ _ (by omega)]; exact N2.2.1 }
          have A5 : g68 (i1 + 1) a4 = kch (kL ks a4) := (G68 _ _ (by omega) (by omega) (by omega)).trans KD.1
          have A6 : g68 462 v65 = vlV B n q := by { rw [V65, F68 _ _ (by omega)]; exact N2.2.2 }
          have A8 : g68 468 v65 = tS B n q := by { rw [V65, F68 _ _ (by omega)]; exact n2e }
          have KI := kch_inj (a := vlK B n q) (b := kL ks a4) (vlK_r B n q) ⟨by omega, KD.2.2⟩
          refine OK_jg (by (first | assumption | omega | ((try dsimp only [jt2, jt3, jt4]); first | omega | (simp (disch := omega) only [jst_eq, jst_ne, jst_ni, jst_o, jI_i, jcpy_out, w32_id, jdiv_nn, jshr_k, jand_255] <;> first | done | omega | assumption)) | (intros; simp (disch := omega) only [jst_eq, jst_ne, jst_ni, jst_o, jI_i, jcpy_out, w32_id, jdiv_nn, *] <;> first | done | omega) | (intros; simp (disch := omega) only [jst_eq, jst_ne, jst_ni, jst_o, jI_i, jcpy_out, w32_id, jdiv_nn] at * <;> first | done | omega | assumption) | (intros; first | rfl | (exfalso; omega) | ((repeat' apply And.intro) <;> first | assumption | rfl | omega | trivial)))) ?_ -- o13
          refine OK_jg (by (first | assumption | omega | ((try dsimp only [jt2, jt3, jt4]); first | omega | (simp (disch := omega) only [jst_eq, jst_ne, jst_ni, jst_o, jI_i, jcpy_out, w32_id, jdiv_nn, jshr_k, jand_255] <;> first | done | omega | assumption)) | (intros; simp (disch := omega) only [jst_eq, jst_ne, jst_ni, jst_o, jI_i, jcpy_out, w32_id, jdiv_nn, *] <;> first | done | omega) | (intros; simp (disch := omega) only [jst_eq, jst_ne, jst_ni, jst_o, jI_i, jcpy_out, w32_id, jdiv_nn] at * <;> first | done | omega | assumption) | (intros; first | rfl | (exfalso; omega) | ((repeat' apply And.intro) <;> first | assumption | rfl | omega | trivial)))) ?_ -- o14
          refine OK_if (fun c4 => ?_) (fun c4 => ?_)
          · skip
            try simp (disch := omega) only [jst_eq, jst_ne, jst_ni, jI_i, jcmp_lt, jcmp_gt, w32_id, jcpy_out, Sum.elim_inl, Sum.elim_inr, jt2, jt3, jt4, jt5, jt6, jt7, jt8] at c4
            have EK : vlK B n q = kL ks a4 := KI.mp (by rw [← A4, ← A5]; exact c4)
            clear KI
            refine OK_mono (vX14_row_j141_82 (m := m) _ _ _ _ _ _ (by omega) (by exact rm) (by exact ⟨x3, (G68 _ _ (by omega) (by omega) (by omega)).trans x9.1, x9.2.1, by omega, by omega⟩)) (fun r r8 => ?_)
            rcases r with r | r
            · skip
              have r9 := r8; clear r8; dsimp only [Sum.elim_inl, Sum.elim_inr] at r9
              obtain ⟨y7, y8⟩ := r
              try dsimp only [Sum.elim_inl, Sum.elim_inr, jt2, jt3, jt4, jt5, jt6, jt7, jt8] at r9
              obtain ⟨cc6, v6, fr6⟩ := r9
              try simp (disch := omega) only [jst_eq, jst_ne, jst_ni, jI_i, jcmp_lt, jcmp_gt, w32_id, jcpy_out, Sum.elim_inl, Sum.elim_inr, jt2, jt3, jt4, jt5, jt6, jt7, jt8] at cc6
              try simp (disch := omega) only [jst_eq, jst_ne, jst_ni, jI_i, jcmp_lt, jcmp_gt, w32_id, jcpy_out, Sum.elim_inl, Sum.elim_inr, jt2, jt3, jt4, jt5, jt6, jt7, jt8] at v6
              try simp (disch := omega) only [jst_eq, jst_ne, jst_ni, jI_i, jcmp_lt, jcmp_gt, w32_id, jcpy_out, Sum.elim_inl, Sum.elim_inr, jt2, jt3, jt4, jt5, jt6, jt7, jt8] at fr6
              have ST := vlM_all LA hB V1 ⟨q00.1, qr.1, qr.2, n2, M1.2.1⟩ VL eu L1 L2 K1 S1 rk fr G68 V68 MS68 (fun _ => rm.2) (fun b s y1 y2 => fr6 b s (by omega)) (MI_fr (fr6 _ _ (by omega)) (fr6 _ _ (by omega)) MI68) (by rw [if_neg (fun z => z.2 EK), MK_fr (fr6 _ _ (by omega)) (fr6 _ _ (by omega)), MK68]; omega) (fun _ z _ => (v6 z).trans A6)
              try dsimp only [Sum.elim_inl, Sum.elim_inr, jt2, jt3, jt4, jt5, jt6, jt7, jt8]
              refine ⟨?_, ?_⟩
              · try dsimp only [Sum.elim_inl, Sum.elim_inr, jt2, jt3, jt4, jt5, jt6, jt7, jt8]
                refine ⟨?_, ?_, ?_⟩
                · (rw [cc6]; exact ST.1) -- o18 e5i.1
                · exact ST.2.1 -- o19 e5i.2
                · exact ST.2.2 -- o20 e5i.3
              · (rw [cc6]; omega) -- o21 e5m
            · skip
              have r10 := r8; clear r8; dsimp only [Sum.elim_inl, Sum.elim_inr] at r10
              rcases r with r | r
              · skip
                have r11 := r10; clear r10; dsimp only [Sum.elim_inl, Sum.elim_inr] at r11
                obtain ⟨y9, y10⟩ := r
                try dsimp only [Sum.elim_inl, Sum.elim_inr, jt2, jt3, jt4, jt5, jt6, jt7, jt8] at r11
                have no7 := r11
                clear r11
                try simp (disch := omega) only [jst_eq, jst_ne, jst_ni, jI_i, jcmp_lt, jcmp_gt, w32_id, jcpy_out, Sum.elim_inl, Sum.elim_inr, jt2, jt3, jt4, jt5, jt6, jt7, jt8] at no7
                try dsimp only [Sum.elim_inl, Sum.elim_inr, jt2, jt3, jt4, jt5, jt6, jt7, jt8]
                exact absurd no7 (by decide) -- e6
              · skip
                have r12 := r10; clear r10; dsimp only [Sum.elim_inl, Sum.elim_inr] at r12
                obtain ⟨y11, y12⟩ := r
                try dsimp only [Sum.elim_inl, Sum.elim_inr, jt2, jt3, jt4, jt5, jt6, jt7, jt8] at r12
                have no8 := r12
                clear r12
                try simp (disch := omega) only [jst_eq, jst_ne, jst_ni, jI_i, jcmp_lt, jcmp_gt, w32_id, jcpy_out, Sum.elim_inl, Sum.elim_inr, jt2, jt3, jt4, jt5, jt6, jt7, jt8] at no8
                try dsimp only [Sum.elim_inl, Sum.elim_inr, jt2, jt3, jt4, jt5, jt6, jt7, jt8]
                exact absurd no8 (by decide) -- e7
          · skip
            try simp (disch := omega) only [jst_eq, jst_ne, jst_ni, jI_i, jcmp_lt, jcmp_gt, w32_id, jcpy_out, Sum.elim_inl, Sum.elim_inr, jt2, jt3, jt4, jt5, jt6, jt7, jt8] at c4
            have EK : vlK B n q ≠ kL ks a4 := fun z => c4 (by rw [A4, A5, z])
            clear KI
            refine OK_jb (vX14_note _ _ (by exact MI68) (by (rw [A8]; have := tS_r (B := B) qr.2; omega))) (fun h72 r13 => ?_)
            try dsimp only [Sum.elim_inl, Sum.elim_inr, jt2, jt3, jt4, jt5, jt6, jt7, jt8] at r13
            obtain ⟨m9, k9, fr9⟩ := r13
            try simp (disch := omega) only [jst_eq, jst_ne, jst_ni, jI_i, jcmp_lt, jcmp_gt, w32_id, jcpy_out, Sum.elim_inl, Sum.elim_inr, jt2, jt3, jt4, jt5, jt6, jt7, jt8] at m9
            try simp (disch := omega) only [jst_eq, jst_ne, jst_ni, jI_i, jcmp_lt, jcmp_gt, w32_id, jcpy_out, Sum.elim_inl, Sum.elim_inr, jt2, jt3, jt4, jt5, jt6, jt7, jt8] at k9
            try simp (disch := omega) only [jst_eq, jst_ne, jst_ni, jI_i, jcmp_lt, jcmp_gt, w32_id, jcpy_out, Sum.elim_inl, Sum.elim_inr, jt2, jt3, jt4, jt5, jt6, jt7, jt8] at fr9
            refine OK_mono (vX14_row_j141_82 (m := m) _ _ _ _ _ _ (by omega) (by exact rm) (by exact ⟨x3, (fr9 _ _ (by omega)).trans ((G68 _ _ (by omega) (by omega) (by omega)).trans x9.1), x9.2.1, by omega, by omega⟩)) (fun r r14 => ?_)
            rcases r with r | r
            · skip
              have r15 := r14; clear r14; dsimp only [Sum.elim_inl, Sum.elim_inr] at r15
              obtain ⟨y13, y14⟩ := r
              try dsimp only [Sum.elim_inl, Sum.elim_inr, jt2, jt3, jt4, jt5, jt6, jt7, jt8] at r15
              obtain ⟨cc10, v10, fr10⟩ := r15
              try simp (disch := omega) only [jst_eq, jst_ne, jst_ni, jI_i, jcmp_lt, jcmp_gt, w32_id, jcpy_out, Sum.elim_inl, Sum.elim_inr, jt2, jt3, jt4, jt5, jt6, jt7, jt8] at cc10
              try simp (disch := omega) only [jst_eq, jst_ne, jst_ni, jI_i, jcmp_lt, jcmp_gt, w32_id, jcpy_out, Sum.elim_inl, Sum.elim_inr, jt2, jt3, jt4, jt5, jt6, jt7, jt8] at v10
              try simp (disch := omega) only [jst_eq, jst_ne, jst_ni, jI_i, jcmp_lt, jcmp_gt, w32_id, jcpy_out, Sum.elim_inl, Sum.elim_inr, jt2, jt3, jt4, jt5, jt6, jt7, jt8] at fr10
              have ST := vlM_all LA hB V1 ⟨q00.1, qr.1, qr.2, n2, M1.2.1⟩ VL eu L1 L2 K1 S1 rk fr G68 V68 MS68 (fun _ => rm.2) (fun b s y1 y2 => (fr10 b s (by omega)).trans (fr9 b s y1)) (MI_fr (fr10 _ _ (by omega)) (fr10 _ _ (by omega)) m9) (by rw [if_pos ⟨by omega, EK⟩, MK_fr (fr10 _ _ (by omega)) (fr10 _ _ (by omega)), k9, A8, MK68]) (fun _ z _ => (v10 z).trans ((fr9 _ _ (by omega)).trans A6))
              try dsimp only [Sum.elim_inl, Sum.elim_inr, jt2, jt3, jt4, jt5, jt6, jt7, jt8]
              refine ⟨?_, ?_⟩
              · try dsimp only [Sum.elim_inl, Sum.elim_inr, jt2, jt3, jt4, jt5, jt6, jt7, jt8]
                refine ⟨?_, ?_, ?_⟩
                · (rw [cc10]; exact ST.1) -- o27 e8i.1
                · exact ST.2.1 -- o28 e8i.2
                · exact ST.2.2 -- o29 e8i.3
              · (rw [cc10]; omega) -- o30 e8m
            · skip
              have r16 := r14; clear r14; dsimp only [Sum.elim_inl, Sum.elim_inr] at r16
              rcases r with r | r
              · skip
                have r17 := r16; clear r16; dsimp only [Sum.elim_inl, Sum.elim_inr] at r17
                obtain ⟨y15, y16⟩ := r
                try dsimp only [Sum.elim_inl, Sum.elim_inr, jt2, jt3, jt4, jt5, jt6, jt7, jt8] at r17
                have no11 := r17
                clear r17
                try simp (disch := omega) only [jst_eq, jst_ne, jst_ni, jI_i, jcmp_lt, jcmp_gt, w32_id, jcpy_out, Sum.elim_inl, Sum.elim_inr, jt2, jt3, jt4, jt5, jt6, jt7, jt8] at no11
                try dsimp only [Sum.elim_inl, Sum.elim_inr, jt2, jt3, jt4, jt5, jt6, jt7, jt8]
                exact absurd no11 (by decide) -- e9
              · skip
                have r18 := r16; clear r16; dsimp only [Sum.elim_inl, Sum.elim_inr] at r18
                obtain ⟨y17, y18⟩ := r
                try dsimp only [Sum.elim_inl, Sum.elim_inr, jt2, jt3, jt4, jt5, jt6, jt7, jt8] at r18
                have no12 := r18
                clear r18
                try simp (disch := omega) only [jst_eq, jst_ne, jst_ni, jI_i, jcmp_lt, jcmp_gt, w32_id, jcpy_out, Sum.elim_inl, Sum.elim_inr, jt2, jt3, jt4, jt5, jt6, jt7, jt8] at no12
                try dsimp only [Sum.elim_inl, Sum.elim_inr, jt2, jt3, jt4, jt5, jt6, jt7, jt8]
                exact absurd no12 (by decide) -- e10
    · skip
      try simp (disch := omega) only [jst_eq, jst_ne, jst_ni, jI_i, jcmp_lt, jcmp_gt, w32_id, jcpy_out, Sum.elim_inl, Sum.elim_inr, jt2, jt3, jt4, jt5, jt6, jt7, jt8] at c1
      refine OK_ir ?_
      try dsimp only [Sum.elim_inl, Sum.elim_inr, jt2, jt3, jt4, jt5, jt6, jt7, jt8]
      refine ⟨?_, ?_, ?_⟩
      · (have g : isSg B n q 61 := Classical.byContradiction (fun z => by rw [if_neg z] at v1; omega); have nv : ¬ isVl B n q := (fun z => by rcases z with w | w | w | w <;> (first | (have := g.1; omega) | (have := w.1; have := g.1; omega))); have NI := vlI_n V1 ⟨by omega, q00.1⟩ nv; exact ⟨q, vs, g, M1, L1, fun z => NI.1 (List.length_eq_zero_iff.mp (by omega)), fun z => NI.2 (fun w => by rw [w] at L1; exact z L1.symm), K1, S1, L0, by omega⟩) -- o31 e11.1
      · exact rk -- o32 e11.2
      · exact fr -- o33 e11.3
  · try dsimp only [Sum.elim_inl, Sum.elim_inr, jt2, jt3, jt4, jt5, jt6, jt7, jt8]
    refine ⟨?_, ?_, ?_⟩
    · (rw [h1]; exact ⟨q0, [], ms, ⟨2002, by omega, fun _ => ⟨rfl, wv⟩, fun z => absurd rfl z⟩, rfl, by omega, Int.le_refl _, kk, fun _ j _ q e => by cases e⟩) -- o34 init.1
    · exact ⟨rk, nn.1⟩ -- o35 init.2
    · exact fun _ _ _ _ _ _ => rfl -- o36 init.3

