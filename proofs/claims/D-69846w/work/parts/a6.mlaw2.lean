/-! m: the names of a law, the loop -/
theorem vX14_law_j141_84 (a1 : Int) (a3 : Int) (a4 : Int) (a5 : Int) (a6 : Int) {h : AH} {B : Int → Int} {n q q1 : Int} {ns : List (Int × Int)} (hB : ∀ i, 0 ≤ i → i < n → 0 ≤ B i ∧ B i < 256) (t : TM B n h) (ms : MS B n q1 h) (mi : MI h) (nm : nmM B n ns h) (ln : ns.length < 2 ∧ a6 = tV B n q ∧ 0 ≤ a5 ∧ a5 ≤ 2001) : OK (gX14_law_j141_84 a1 a3 a4 a5 a6 h) (Sum.elim (fun h' => (nmY B n a5 (min (MK h) (a5 * 8 + 2)) ns (pN2 B n q q1) True h') ∧ (frNm h h')) (Sum.elim (fun h' => (nmY B n a5 (min (MK h) (a5 * 8 + 2)) ns (pN2 B n q q1) False h') ∧ (frNm h h')) (fun r => jt2 r fun t h' => (∃ z, pN2 B n q q1 = .inl z ∧ t = 472 ∧ MF z h') ∧ (frNm h h')))) := by
  unfold gX14_law_j141_84
  refine OK_jb (vX14_note _ _ (by exact mi) (by omega)) (fun h82 r1 => ?_)
  try dsimp only [Sum.elim_inl, Sum.elim_inr, jt2, jt3, jt4, jt5, jt6, jt7, jt8] at r1
  obtain ⟨m1, k1, fr1⟩ := r1
  try simp (disch := omega) only [jst_eq, jst_ne, jst_ni, jI_i, jcmp_lt, jcmp_gt, w32_id, jcpy_out, Sum.elim_inl, Sum.elim_inr, jt2, jt3, jt4, jt5, jt6, jt7, jt8] at m1
  try simp (disch := omega) only [jst_eq, jst_ne, jst_ni, jI_i, jcmp_lt, jcmp_gt, w32_id, jcpy_out, Sum.elim_inl, Sum.elim_inr, jt2, jt3, jt4, jt5, jt6, jt7, jt8] at k1
  try simp (disch := omega) only [jst_eq, jst_ne, jst_ni, jI_i, jcmp_lt, jcmp_gt, w32_id, jcpy_out, Sum.elim_inl, Sum.elim_inr, jt2, jt3, jt4, jt5, jt6, jt7, jt8] at fr1
  refine OK_mono (vX14_law_j148_84 (B := B) (n := n) (q := q) (q1 := q1) (ns := ns) _ _ _ _ _ (by exact hB) (by exact TM_fr t (fr1 _ _ (by omega)) (fun s => fr1 _ _ (by omega))) (by exact MS_fr ms (fun s s0 s1 => fr1 _ _ (by omega))) (by exact m1) (by exact nmM_f nm (fr1 _ _ (by omega)) (fun b s y1 y2 => fr1 _ _ (by omega))) (by exact ln)) (fun r r2 => ?_)
  rcases r with r | r
  · skip
    have r3 := r2; clear r2; dsimp only [Sum.elim_inl, Sum.elim_inr] at r3
    try dsimp only [Sum.elim_inl, Sum.elim_inr, jt2, jt3, jt4, jt5, jt6, jt7, jt8] at r3
    obtain ⟨ok2, fr2⟩ := r3
    try simp (disch := omega) only [jst_eq, jst_ne, jst_ni, jI_i, jcmp_lt, jcmp_gt, w32_id, jcpy_out, Sum.elim_inl, Sum.elim_inr, jt2, jt3, jt4, jt5, jt6, jt7, jt8] at ok2
    try simp (disch := omega) only [jst_eq, jst_ne, jst_ni, jI_i, jcmp_lt, jcmp_gt, w32_id, jcpy_out, Sum.elim_inl, Sum.elim_inr, jt2, jt3, jt4, jt5, jt6, jt7, jt8] at fr2
    try dsimp only [Sum.elim_inl, Sum.elim_inr, jt2, jt3, jt4, jt5, jt6, jt7, jt8]
    try dsimp only [Sum.elim_inl, Sum.elim_inr, jt2, jt3, jt4, jt5, jt6, jt7, jt8]
    refine ⟨?_, ?_⟩
    · (rw [k1] at ok2; exact ok2) -- o9 e1.1
    · exact fun b s y1 y2 y3 => (fr2 b s y1 y2 y3).trans (fr1 b s (by omega)) -- o10 e1.2
  · skip
    have r4 := r2; clear r2; dsimp only [Sum.elim_inl, Sum.elim_inr] at r4
    rcases r with r | r
    · skip
      have r5 := r4; clear r4; dsimp only [Sum.elim_inl, Sum.elim_inr] at r5
      try dsimp only [Sum.elim_inl, Sum.elim_inr, jt2, jt3, jt4, jt5, jt6, jt7, jt8] at r5
      obtain ⟨ok3, fr3⟩ := r5
      try simp (disch := omega) only [jst_eq, jst_ne, jst_ni, jI_i, jcmp_lt, jcmp_gt, w32_id, jcpy_out, Sum.elim_inl, Sum.elim_inr, jt2, jt3, jt4, jt5, jt6, jt7, jt8] at ok3
      try simp (disch := omega) only [jst_eq, jst_ne, jst_ni, jI_i, jcmp_lt, jcmp_gt, w32_id, jcpy_out, Sum.elim_inl, Sum.elim_inr, jt2, jt3, jt4, jt5, jt6, jt7, jt8] at fr3
      try dsimp only [Sum.elim_inl, Sum.elim_inr, jt2, jt3, jt4, jt5, jt6, jt7, jt8]
      try dsimp only [Sum.elim_inl, Sum.elim_inr, jt2, jt3, jt4, jt5, jt6, jt7, jt8]
      refine ⟨?_, ?_⟩
      · (rw [k1] at ok3; exact ok3) -- o11 e2.1
      · exact fun b s y1 y2 y3 => (fr3 b s y1 y2 y3).trans (fr1 b s (by omega)) -- o12 e2.2
    · skip
      have r6 := r4; clear r4; dsimp only [Sum.elim_inl, Sum.elim_inr] at r6
      obtain ⟨y1, y2⟩ := r
      try dsimp only [Sum.elim_inl, Sum.elim_inr, jt2, jt3, jt4, jt5, jt6, jt7, jt8] at r6
      obtain ⟨ok4, fr4⟩ := r6
      try simp (disch := omega) only [jst_eq, jst_ne, jst_ni, jI_i, jcmp_lt, jcmp_gt, w32_id, jcpy_out, Sum.elim_inl, Sum.elim_inr, jt2, jt3, jt4, jt5, jt6, jt7, jt8] at ok4
      try simp (disch := omega) only [jst_eq, jst_ne, jst_ni, jI_i, jcmp_lt, jcmp_gt, w32_id, jcpy_out, Sum.elim_inl, Sum.elim_inr, jt2, jt3, jt4, jt5, jt6, jt7, jt8] at fr4
      try dsimp only [Sum.elim_inl, Sum.elim_inr, jt2, jt3, jt4, jt5, jt6, jt7, jt8]
      try dsimp only [Sum.elim_inl, Sum.elim_inr, jt2, jt3, jt4, jt5, jt6, jt7, jt8]
      refine ⟨?_, ?_⟩
      · exact ok4 -- o13 e3.1
      · exact fun b s y1 y2 y3 => (fr4 b s y1 y2 y3).trans (fr1 b s (by omega)) -- o14 e3.2
def nsR (B : Int → Int) (n : Int) : List (Int × Int) → Int → Int ⊕ (List (Int × Int) × Int)
  | [], q => pNs B n q
  | u :: l, q => bS (pNm B n q) fun y => .inr (u :: l ++ [y.1], y.2)
def nmI (B : Int → Int) (n K q0 : Int) (WV : Int ⊕ (List (Int × Int) × Int)) (h : AH) : Prop := ∃ ns q, nmM B n ns h ∧ MS B n q h ∧ ns.length < 2 ∧ WV = nsR B n ns q ∧ MI h ∧ MK h = min K (nmL B n [] ns) ∧ q0 ≤ q
def nmO (B : Int → Int) (n K q0 : Int) (WV : Int ⊕ (List (Int × Int) × Int)) (h : AH) : Prop := ∃ ns q, WV = .inr (ns, q) ∧ nmM B n ns h ∧ MS B n q h ∧ MI h ∧ MK h = min K (nmL B n [] ns) ∧ q0 ≤ q
theorem nsR_l {B : Int → Int} {n q z : Int} {ns : List (Int × Int)} (e : pNm B n q = .inl z) : nsR B n ns q = .inl z := by
  cases ns with
  | nil => show pNs B n q = _; unfold pNs; rw [e]; rfl
  | cons u l => show bS (pNm B n q) _ = _; rw [e]; rfl
theorem nsR_r {B : Int → Int} {n q q3 : Int} {p : Int × Int} {ns : List (Int × Int)} (l : ns.length < 2) (e : pNm B n q = .inr (p, q3)) : (((ns.length : Int) + 1 < 2 ∧ tO B n q3 = 1) → nsR B n ns q = nsR B n (ns ++ [p]) q3) ∧ (¬ ((ns.length : Int) + 1 < 2 ∧ tO B n q3 = 1) → nsR B n ns q = .inr (ns ++ [p], q3)) := by
  cases ns with
  | nil =>
    have w : nsR B n [] q = if tO B n q3 = 1 then bS (pNm B n q3) fun y => .inr ([p, y.1], y.2) else .inr ([p], q3) := by
      show pNs B n q = _
      unfold pNs; rw [e]; rfl
    constructor
    · intro g
      rw [w, if_pos g.2]; rfl
    · intro g
      rw [w, if_neg (fun z => g ⟨by decide, z⟩)]; rfl
  | cons u l' =>
    have l0 : l' = [] := List.length_eq_zero_iff.mp (by have : l'.length + 1 < 2 := l; omega)
    subst l0
    constructor
    · intro g
      have g1 := g.1
      have e1 : (([u] : List (Int × Int)).length : Int) = 1 := rfl
      omega
    · intro g
      show bS (pNm B n q) _ = _
      rw [e]; rfl
theorem nmY_s {B : Int → Int} {n K K' q0 q q1 : Int} {ns : List (Int × Int)} {WV : Int ⊕ (List (Int × Int) × Int)} {go : Prop} {h' : AH} (hB : ∀ i, 0 ≤ i → i < n → 0 ≤ B i ∧ B i < 256) (i : WV = nsR B n ns q) (o : tO B n q = 1) (e : nx B n q = .inr q1) (qb : 0 ≤ q ∧ q ≤ n) (l : ns.length < 2) (le : q0 ≤ q) (KK : K' = min (min K (nmL B n [] ns)) (cif (badN B n q ∨ ∃ u, u ∈ ns ∧ tV B n u.1 = tV B n q) (tS B n q * 8 + 2) 1000000)) (y : nmY B n (tS B n q) K' ns (pN2 B n q q1) go h') : (go → nmI B n K q0 WV h' ∧ h' 454 34 = (ns.length : Int) + 1) ∧ (¬ go → nmO B n K q0 WV h') := by
  obtain ⟨p, q3, w, nm, ms, g, mi, mk⟩ := y
  have W : pNm B n q = .inr (p, q3) := by rw [pNm_2 o, e]; exact w
  have PE : p.1 = q := by
    obtain ⟨_, q2, _, _, z, _⟩ := pNm_r W
    rw [z]
  have LE := (pNm_le hB qb.1 qb.2 (by omega) W).1
  have MKE : MK h' = min K (nmL B n [] (ns ++ [p])) := by
    rw [mk, KK, nmL_app]
    show _ = min K (min (nmL B n [] ns) (nm1 B n ns p))
    unfold nm1
    rw [PE]
    generalize cif (badN B n q ∨ ∃ u, u ∈ ns ∧ tV B n u.1 = tV B n q) (tS B n q * 8 + 2) 1000000 = c
    generalize (if p.2 = 2 then tS B n q * 8 + 6 else 1000000) = d
    omega
  have R := nsR_r (ns := ns) l W
  refine ⟨fun z => ?_, fun z => ?_⟩
  · have gg := g.mp z
    have E34 : h' 454 34 = (ns.length : Int) + 1 := by rw [nm.1, List.length_append]; rfl
    refine ⟨⟨ns ++ [p], q3, nm, ms, by rw [List.length_append]; show ns.length + 1 < 2; omega, i.trans (R.1 gg), mi, MKE, by omega⟩, E34⟩
  · exact ⟨ns ++ [p], q3, i.trans (R.2 (fun y => z (g.mpr y))), nm, ms, mi, MKE, by omega⟩
theorem vX14_law_l84 (i1 : Int) (i3 : Int) (i4 : Int) {h0 : AH} {B : Int → Int} {n K q0 : Int} {WV : Int ⊕ (List (Int × Int) × Int)} (hB : ∀ i, 0 ≤ i → i < n → 0 ≤ B i ∧ B i < 256) (t : TM B n h0) (ni : nmI B n K q0 WV h0) : OK (gX14_law_l84 i1 i3 i4 h0) (Sum.elim (fun h' => (nmO B n K q0 WV h') ∧ (frNm h0 h')) (fun r => jt2 r fun t h' => (∃ z, WV = .inl z ∧ t = 472 ∧ MF z h') ∧ (frNm h0 h'))) := by
  unfold gX14_law_l84
  refine OK_jit (I := (fun (h : AH) => (nmI B n K q0 WV h) ∧ (frNm h0 h))) (m := (fun (h : AH) => (2 - h 454 34).toNat)) ?_ ?_
  · intro h hs
    try dsimp only at hs
    obtain ⟨q1, fr⟩ := hs
    unfold gX14_law_b84
    obtain ⟨ns, q, N1, M1, L1, W1, I1, K1, Q1⟩ := q1
    have T1 : TM B n h := TM_fr t (fr _ _ (by omega) (by omega) (by omega)) (fun s => fr _ _ (by omega) (by omega) (by omega))
    have n2 := T1.2.2.1
    have qb := M1.2.2
    have SR := tS_r (B := B) qb.2
    have E34 := N1.1
    have PM := nmM_p (E := ((26, (fun _ => 0), (fun _ => 0), (fun _ => 0), fun _ _ => 0), (0, (fun _ => 0), fun _ => 0), (0, 0, (fun _ => 0), 0))) (la := 0) (ks := []) N1
    refine OK_jlx (fun x68 ex68 => ?_)
    try simp (disch := omega) only [jst_eq, jst_ne, jst_ni, jI_i, jcmp_lt, jcmp_gt, w32_id, jcpy_out, Sum.elim_inl, Sum.elim_inr, jt2, jt3, jt4, jt5, jt6, jt7, jt8] at ex68
    have X68 : x68 = tS B n q := ex68.trans M1.1.1
    refine OK_jb3 (vX14_takeName (B := B) (n := n) (q := q) (by exact T1) (by exact hB) (by exact M1)) (fun t70 v71 h72 r1 => ?_)
    try dsimp only [Sum.elim_inl, Sum.elim_inr, jt2, jt3, jt4, jt5, jt6, jt7, jt8] at r1
    obtain ⟨no1, r1, v11, fr1⟩ := r1
    try simp (disch := omega) only [jst_eq, jst_ne, jst_ni, jI_i, jcmp_lt, jcmp_gt, w32_id, jcpy_out, Sum.elim_inl, Sum.elim_inr, jt2, jt3, jt4, jt5, jt6, jt7, jt8] at no1
    try simp (disch := omega) only [jst_eq, jst_ne, jst_ni, jI_i, jcmp_lt, jcmp_gt, w32_id, jcpy_out, Sum.elim_inl, Sum.elim_inr, jt2, jt3, jt4, jt5, jt6, jt7, jt8] at r1
    try simp (disch := omega) only [jst_eq, jst_ne, jst_ni, jI_i, jcmp_lt, jcmp_gt, w32_id, jcpy_out, Sum.elim_inl, Sum.elim_inr, jt2, jt3, jt4, jt5, jt6, jt7, jt8] at v11
    try simp (disch := omega) only [jst_eq, jst_ne, jst_ni, jI_i, jcmp_lt, jcmp_gt, w32_id, jcpy_out, Sum.elim_inl, Sum.elim_inr, jt2, jt3, jt4, jt5, jt6, jt7, jt8] at fr1
    refine OK_jq (fun c1 => ?_) (fun c1 => ?_)
    · skip
      refine OK_ir ?_
      try dsimp only [Sum.elim_inl, Sum.elim_inr, jt2, jt3, jt4, jt5, jt6, jt7, jt8]
      refine ⟨?_, ?_⟩
      · (by_cases o : tO B n q = 1; { obtain ⟨z, e, t1, mf⟩ := rM_l (r1 o) c1; exact ⟨z, W1.trans (nsR_l (by rw [pNm_2 o, e]; rfl)), t1, mf⟩ }; { exact ⟨tS B n q, W1.trans (nsR_l (if_neg o)), no1 o⟩ }) -- o4 e1.1
      · exact fun b s y1 y2 y3 => (fr1 b s (by omega) y2).trans (fr b s y1 y2 y3) -- o5 e1.2
    · skip
      have o : tO B n q = 1 := Classical.byContradiction fun z => by { have := (no1 z).1; omega }
      obtain ⟨q2, eq, ms2⟩ := rM_r (r1 o) c1
      have V71 := v11 o c1
      have T2 : TM B n h72 := TM_fr T1 (fr1 _ _ (by omega) (by omega)) (fun s => fr1 _ _ (by omega) (by omega))
      have I2 : MI h72 := MI_fr (fr1 _ _ (by omega) (by omega)) (fr1 _ _ (by omega) (by omega)) I1
      have K2 : MK h72 = min K (nmL B n [] ns) := (MK_fr (fr1 _ _ (by omega) (by omega)) (fr1 _ _ (by omega) (by omega))).trans K1
      have N2 : nmM B n ns h72 := nmM_f N1 (fr1 _ _ (by omega) (by omega)) (fun b s y1 y2 => fr1 _ _ (by omega) (by omega))
      have mk := MK_r I2
      have LN : ns.length < 2 ∧ v71 = tV B n q ∧ 0 ≤ x68 ∧ x68 ≤ 2001 := ⟨L1, V71, by omega, by omega⟩
      have FB : ∀ (K' : Int) (go : Prop) (h' : AH), K' = min (MK h72) (x68 * 8 + 2) → (badN B n q ∨ ∃ u, u ∈ ns ∧ tV B n u.1 = tV B n q) → nmY B n x68 K' ns (pN2 B n q q2) go h' → (go → nmI B n K q0 WV h' ∧ h' 454 34 = (ns.length : Int) + 1) ∧ (¬ go → nmO B n K q0 WV h') := fun K' go h' e bd y => by { rw [X68] at y; exact nmY_s hB W1 o eq qb L1 Q1 (by rw [cif_p bd, e, K2, X68]) y }
      have FZ : ∀ (t : Int) (h' : AH), (∃ z, pN2 B n q q2 = .inl z ∧ t = 472 ∧ MF z h') → ∃ z, WV = .inl z ∧ t = 472 ∧ MF z h' := fun t h' y => by { obtain ⟨z, e, t1, mf⟩ := y; exact ⟨z, W1.trans (nsR_l (by rw [pNm_2 o, eq]; exact e)), t1, mf⟩ }
      have FR : ∀ h' : AH, frNm h72 h' → frNm h0 h' := fun h' f b s y1 y2 y3 => (f b s y1 y2 y3).trans ((fr1 b s (by omega) y2).trans (fr b s y1 y2 y3))
      refine OK_if (fun c2 => ?_) (fun c2 => ?_)
      · skip
        try simp (disch := omega) only [jst_eq, jst_ne, jst_ni, jI_i, jcmp_lt, jcmp_gt, w32_id, jcpy_out, Sum.elim_inl, Sum.elim_inr, jt2, jt3, jt4, jt5, jt6, jt7, jt8] at c2
        have BD : badN B n q ∨ ∃ u, u ∈ ns ∧ tV B n u.1 = tV B n q := Or.inl (Or.inl (V71.symm.trans ((jcmp_0 _ _).mp c2)))
        refine OK_mono (vX14_law_j141_84 (B := B) (n := n) (q := q) (q1 := q2) (ns := ns) _ _ _ _ _ (by exact hB) (by exact T2) (by exact ms2) (by exact I2) (by exact N2) (by exact LN)) (fun r r2 => ?_)
        rcases r with r | r
        · skip
          have r3 := r2; clear r2; dsimp only [Sum.elim_inl, Sum.elim_inr] at r3
          try dsimp only [Sum.elim_inl, Sum.elim_inr, jt2, jt3, jt4, jt5, jt6, jt7, jt8] at r3
          obtain ⟨ok2, fr2⟩ := r3
          try simp (disch := omega) only [jst_eq, jst_ne, jst_ni, jI_i, jcmp_lt, jcmp_gt, w32_id, jcpy_out, Sum.elim_inl, Sum.elim_inr, jt2, jt3, jt4, jt5, jt6, jt7, jt8] at ok2
          try simp (disch := omega) only [jst_eq, jst_ne, jst_ni, jI_i, jcmp_lt, jcmp_gt, w32_id, jcpy_out, Sum.elim_inl, Sum.elim_inr, jt2, jt3, jt4, jt5, jt6, jt7, jt8] at fr2
          try dsimp only [Sum.elim_inl, Sum.elim_inr, jt2, jt3, jt4, jt5, jt6, jt7, jt8]
          refine ⟨?_, ?_⟩
          · try dsimp only [Sum.elim_inl, Sum.elim_inr, jt2, jt3, jt4, jt5, jt6, jt7, jt8]
            refine ⟨?_, ?_⟩
            · exact ((FB _ _ _ rfl BD ok2).1 trivial).1 -- o12 e2i.1
            · exact FR _ fr2 -- o13 e2i.2
          · (have z := ((FB _ _ _ rfl BD ok2).1 trivial).2; rw [z, E34]; omega) -- o14 e2m
        · skip
          have r4 := r2; clear r2; dsimp only [Sum.elim_inl, Sum.elim_inr] at r4
          rcases r with r | r
          · skip
            have r5 := r4; clear r4; dsimp only [Sum.elim_inl, Sum.elim_inr] at r5
            try dsimp only [Sum.elim_inl, Sum.elim_inr, jt2, jt3, jt4, jt5, jt6, jt7, jt8] at r5
            obtain ⟨ok3, fr3⟩ := r5
            try simp (disch := omega) only [jst_eq, jst_ne, jst_ni, jI_i, jcmp_lt, jcmp_gt, w32_id, jcpy_out, Sum.elim_inl, Sum.elim_inr, jt2, jt3, jt4, jt5, jt6, jt7, jt8] at ok3
            try simp (disch := omega) only [jst_eq, jst_ne, jst_ni, jI_i, jcmp_lt, jcmp_gt, w32_id, jcpy_out, Sum.elim_inl, Sum.elim_inr, jt2, jt3, jt4, jt5, jt6, jt7, jt8] at fr3
            try dsimp only [Sum.elim_inl, Sum.elim_inr, jt2, jt3, jt4, jt5, jt6, jt7, jt8]
            try dsimp only [Sum.elim_inl, Sum.elim_inr, jt2, jt3, jt4, jt5, jt6, jt7, jt8]
            refine ⟨?_, ?_⟩
            · exact (FB _ _ _ rfl BD ok3).2 id -- o15 e3.1
            · exact FR _ fr3 -- o16 e3.2
          · skip
            have r6 := r4; clear r4; dsimp only [Sum.elim_inl, Sum.elim_inr] at r6
            obtain ⟨y1, y2⟩ := r
            try dsimp only [Sum.elim_inl, Sum.elim_inr, jt2, jt3, jt4, jt5, jt6, jt7, jt8] at r6
            obtain ⟨ok4, fr4⟩ := r6
            try simp (disch := omega) only [jst_eq, jst_ne, jst_ni, jI_i, jcmp_lt, jcmp_gt, w32_id, jcpy_out, Sum.elim_inl, Sum.elim_inr, jt2, jt3, jt4, jt5, jt6, jt7, jt8] at ok4
            try simp (disch := omega) only [jst_eq, jst_ne, jst_ni, jI_i, jcmp_lt, jcmp_gt, w32_id, jcpy_out, Sum.elim_inl, Sum.elim_inr, jt2, jt3, jt4, jt5, jt6, jt7, jt8] at fr4
            try dsimp only [Sum.elim_inl, Sum.elim_inr, jt2, jt3, jt4, jt5, jt6, jt7, jt8]
            try dsimp only [Sum.elim_inl, Sum.elim_inr, jt2, jt3, jt4, jt5, jt6, jt7, jt8]
            refine ⟨?_, ?_⟩
            · exact FZ _ _ ok4 -- o17 e4.1
            · exact FR _ fr4 -- o18 e4.2
      · skip
        try simp (disch := omega) only [jst_eq, jst_ne, jst_ni, jI_i, jcmp_lt, jcmp_gt, w32_id, jcpy_out, Sum.elim_inl, Sum.elim_inr, jt2, jt3, jt4, jt5, jt6, jt7, jt8] at c2
        refine OK_if (fun c3 => ?_) (fun c3 => ?_)
        · skip
          try simp (disch := omega) only [jst_eq, jst_ne, jst_ni, jI_i, jcmp_lt, jcmp_gt, w32_id, jcpy_out, Sum.elim_inl, Sum.elim_inr, jt2, jt3, jt4, jt5, jt6, jt7, jt8] at c3
          have BD : badN B n q ∨ ∃ u, u ∈ ns ∧ tV B n u.1 = tV B n q := Or.inl (Or.inr (Or.inl (V71.symm.trans ((jcmp_0 _ _).mp c3))))
          refine OK_mono (vX14_law_j141_84 (B := B) (n := n) (q := q) (q1 := q2) (ns := ns) _ _ _ _ _ (by exact hB) (by exact T2) (by exact ms2) (by exact I2) (by exact N2) (by exact LN)) (fun r r7 => ?_)
          rcases r with r | r
          · skip
            have r8 := r7; clear r7; dsimp only [Sum.elim_inl, Sum.elim_inr] at r8
            try dsimp only [Sum.elim_inl, Sum.elim_inr, jt2, jt3, jt4, jt5, jt6, jt7, jt8] at r8
            obtain ⟨ok5, fr5⟩ := r8
            try simp (disch := omega) only [jst_eq, jst_ne, jst_ni, jI_i, jcmp_lt, jcmp_gt, w32_id, jcpy_out, Sum.elim_inl, Sum.elim_inr, jt2, jt3, jt4, jt5, jt6, jt7, jt8] at ok5
            try simp (disch := omega) only [jst_eq, jst_ne, jst_ni, jI_i, jcmp_lt, jcmp_gt, w32_id, jcpy_out, Sum.elim_inl, Sum.elim_inr, jt2, jt3, jt4, jt5, jt6, jt7, jt8] at fr5
            try dsimp only [Sum.elim_inl, Sum.elim_inr, jt2, jt3, jt4, jt5, jt6, jt7, jt8]
            refine ⟨?_, ?_⟩
            · try dsimp only [Sum.elim_inl, Sum.elim_inr, jt2, jt3, jt4, jt5, jt6, jt7, jt8]
              refine ⟨?_, ?_⟩
              · exact ((FB _ _ _ rfl BD ok5).1 trivial).1 -- o25 e5i.1
              · exact FR _ fr5 -- o26 e5i.2
            · (have z := ((FB _ _ _ rfl BD ok5).1 trivial).2; rw [z, E34]; omega) -- o27 e5m
          · skip
            have r9 := r7; clear r7; dsimp only [Sum.elim_inl, Sum.elim_inr] at r9
            rcases r with r | r
            · skip
              have r10 := r9; clear r9; dsimp only [Sum.elim_inl, Sum.elim_inr] at r10
              try dsimp only [Sum.elim_inl, Sum.elim_inr, jt2, jt3, jt4, jt5, jt6, jt7, jt8] at r10
              obtain ⟨ok6, fr6⟩ := r10
              try simp (disch := omega) only [jst_eq, jst_ne, jst_ni, jI_i, jcmp_lt, jcmp_gt, w32_id, jcpy_out, Sum.elim_inl, Sum.elim_inr, jt2, jt3, jt4, jt5, jt6, jt7, jt8] at ok6
              try simp (disch := omega) only [jst_eq, jst_ne, jst_ni, jI_i, jcmp_lt, jcmp_gt, w32_id, jcpy_out, Sum.elim_inl, Sum.elim_inr, jt2, jt3, jt4, jt5, jt6, jt7, jt8] at fr6
              try dsimp only [Sum.elim_inl, Sum.elim_inr, jt2, jt3, jt4, jt5, jt6, jt7, jt8]
              try dsimp only [Sum.elim_inl, Sum.elim_inr, jt2, jt3, jt4, jt5, jt6, jt7, jt8]
              refine ⟨?_, ?_⟩
              · exact (FB _ _ _ rfl BD ok6).2 id -- o28 e6.1
              · exact FR _ fr6 -- o29 e6.2
            · skip
              have r11 := r9; clear r9; dsimp only [Sum.elim_inl, Sum.elim_inr] at r11
              obtain ⟨y3, y4⟩ := r
              try dsimp only [Sum.elim_inl, Sum.elim_inr, jt2, jt3, jt4, jt5, jt6, jt7, jt8] at r11
              obtain ⟨ok7, fr7⟩ := r11
              try simp (disch := omega) only [jst_eq, jst_ne, jst_ni, jI_i, jcmp_lt, jcmp_gt, w32_id, jcpy_out, Sum.elim_inl, Sum.elim_inr, jt2, jt3, jt4, jt5, jt6, jt7, jt8] at ok7
              try simp (disch := omega) only [jst_eq, jst_ne, jst_ni, jI_i, jcmp_lt, jcmp_gt, w32_id, jcpy_out, Sum.elim_inl, Sum.elim_inr, jt2, jt3, jt4, jt5, jt6, jt7, jt8] at fr7
              try dsimp only [Sum.elim_inl, Sum.elim_inr, jt2, jt3, jt4, jt5, jt6, jt7, jt8]
              try dsimp only [Sum.elim_inl, Sum.elim_inr, jt2, jt3, jt4, jt5, jt6, jt7, jt8]
              refine ⟨?_, ?_⟩
              · exact FZ _ _ ok7 -- o30 e7.1
              · exact FR _ fr7 -- o31 e7.2
        · skip
          try simp (disch := omega) only [jst_eq, jst_ne, jst_ni, jI_i, jcmp_lt, jcmp_gt, w32_id, jcpy_out, Sum.elim_inl, Sum.elim_inr, jt2, jt3, jt4, jt5, jt6, jt7, jt8] at c3
          refine OK_if (fun c4 => ?_) (fun c4 => ?_)
          · skip
            try simp (disch := omega) only [jst_eq, jst_ne, jst_ni, jI_i, jcmp_lt, jcmp_gt, w32_id, jcpy_out, Sum.elim_inl, Sum.elim_inr, jt2, jt3, jt4, jt5, jt6, jt7, jt8] at c4
            have BD : badN B n q ∨ ∃ u, u ∈ ns ∧ tV B n u.1 = tV B n q := Or.inl (Or.inr (Or.inr (Or.inl (V71.symm.trans ((jcmp_0 _ _).mp c4)))))
            refine OK_mono (vX14_law_j141_84 (B := B) (n := n) (q := q) (q1 := q2) (ns := ns) _ _ _ _ _ (by exact hB) (by exact T2) (by exact ms2) (by exact I2) (by exact N2) (by exact LN)) (fun r r12 => ?_)
            rcases r with r | r
            · skip
              have r13 := r12; clear r12; dsimp only [Sum.elim_inl, Sum.elim_inr] at r13
              try dsimp only [Sum.elim_inl, Sum.elim_inr, jt2, jt3, jt4, jt5, jt6, jt7, jt8] at r13
              obtain ⟨ok8, fr8⟩ := r13
              try simp (disch := omega) only [jst_eq, jst_ne, jst_ni, jI_i, jcmp_lt, jcmp_gt, w32_id, jcpy_out, Sum.elim_inl, Sum.elim_inr, jt2, jt3, jt4, jt5, jt6, jt7, jt8] at ok8
              try simp (disch := omega) only [jst_eq, jst_ne, jst_ni, jI_i, jcmp_lt, jcmp_gt, w32_id, jcpy_out, Sum.elim_inl, Sum.elim_inr, jt2, jt3, jt4, jt5, jt6, jt7, jt8] at fr8
              try dsimp only [Sum.elim_inl, Sum.elim_inr, jt2, jt3, jt4, jt5, jt6, jt7, jt8]
              refine ⟨?_, ?_⟩
              · try dsimp only [Sum.elim_inl, Sum.elim_inr, jt2, jt3, jt4, jt5, jt6, jt7, jt8]
                refine ⟨?_, ?_⟩
                · exact ((FB _ _ _ rfl BD ok8).1 trivial).1 -- o38 e8i.1
                · exact FR _ fr8 -- o39 e8i.2
              · (have z := ((FB _ _ _ rfl BD ok8).1 trivial).2; rw [z, E34]; omega) -- o40 e8m
            · skip
              have r14 := r12; clear r12; dsimp only [Sum.elim_inl, Sum.elim_inr] at r14
              rcases r with r | r
              · skip
                have r15 := r14; clear r14; dsimp only [Sum.elim_inl, Sum.elim_inr] at r15
                try dsimp only [Sum.elim_inl, Sum.elim_inr, jt2, jt3, jt4, jt5, jt6, jt7, jt8] at r15
                obtain ⟨ok9, fr9⟩ := r15
                try simp (disch := omega) only [jst_eq, jst_ne, jst_ni, jI_i, jcmp_lt, jcmp_gt, w32_id, jcpy_out, Sum.elim_inl, Sum.elim_inr, jt2, jt3, jt4, jt5, jt6, jt7, jt8] at ok9
                try simp (disch := omega) only [jst_eq, jst_ne, jst_ni, jI_i, jcmp_lt, jcmp_gt, w32_id, jcpy_out, Sum.elim_inl, Sum.elim_inr, jt2, jt3, jt4, jt5, jt6, jt7, jt8] at fr9
                try dsimp only [Sum.elim_inl, Sum.elim_inr, jt2, jt3, jt4, jt5, jt6, jt7, jt8]
                try dsimp only [Sum.elim_inl, Sum.elim_inr, jt2, jt3, jt4, jt5, jt6, jt7, jt8]
                refine ⟨?_, ?_⟩
                · exact (FB _ _ _ rfl BD ok9).2 id -- o41 e9.1
                · exact FR _ fr9 -- o42 e9.2
              · skip
                have r16 := r14; clear r14; dsimp only [Sum.elim_inl, Sum.elim_inr] at r16
                obtain ⟨y5, y6⟩ := r
                try dsimp only [Sum.elim_inl, Sum.elim_inr, jt2, jt3, jt4, jt5, jt6, jt7, jt8] at r16
                obtain ⟨ok10, fr10⟩ := r16
                try simp (disch := omega) only [jst_eq, jst_ne, jst_ni, jI_i, jcmp_lt, jcmp_gt, w32_id, jcpy_out, Sum.elim_inl, Sum.elim_inr, jt2, jt3, jt4, jt5, jt6, jt7, jt8] at ok10
                try simp (disch := omega) only [jst_eq, jst_ne, jst_ni, jI_i, jcmp_lt, jcmp_gt, w32_id, jcpy_out, Sum.elim_inl, Sum.elim_inr, jt2, jt3, jt4, jt5, jt6, jt7, jt8] at fr10
                try dsimp only [Sum.elim_inl, Sum.elim_inr, jt2, jt3, jt4, jt5, jt6, jt7, jt8]
                try dsimp only [Sum.elim_inl, Sum.elim_inr, jt2, jt3, jt4, jt5, jt6, jt7, jt8]
                refine ⟨?_, ?_⟩
                · exact FZ _ _ ok10 -- o43 e10.1
                · exact FR _ fr10 -- o44 e10.2
          · skip
            try simp (disch := omega) only [jst_eq, jst_ne, jst_ni, jI_i, jcmp_lt, jcmp_gt, w32_id, jcpy_out, Sum.elim_inl, Sum.elim_inr, jt2, jt3, jt4, jt5, jt6, jt7, jt8] at c4
            refine OK_if (fun c5 => ?_) (fun c5 => ?_)
            · skip
              try simp (disch := omega) only [jst_eq, jst_ne, jst_ni, jI_i, jcmp_lt, jcmp_gt, w32_id, jcpy_out, Sum.elim_inl, Sum.elim_inr, jt2, jt3, jt4, jt5, jt6, jt7, jt8] at c5
              have BD : badN B n q ∨ ∃ u, u ∈ ns ∧ tV B n u.1 = tV B n q := Or.inl (Or.inr (Or.inr (Or.inr (V71.symm.trans ((jcmp_0 _ _).mp c5)))))
              refine OK_mono (vX14_law_j141_84 (B := B) (n := n) (q := q) (q1 := q2) (ns := ns) _ _ _ _ _ (by exact hB) (by exact T2) (by exact ms2) (by exact I2) (by exact N2) (by exact LN)) (fun r r17 => ?_)
              rcases r with r | r
              · skip
                have r18 := r17; clear r17; dsimp only [Sum.elim_inl, Sum.elim_inr] at r18
                try dsimp only [Sum.elim_inl, Sum.elim_inr, jt2, jt3, jt4, jt5, jt6, jt7, jt8] at r18
                obtain ⟨ok11, fr11⟩ := r18
                try simp (disch := omega) only [jst_eq, jst_ne, jst_ni, jI_i, jcmp_lt, jcmp_gt, w32_id, jcpy_out, Sum.elim_inl, Sum.elim_inr, jt2, jt3, jt4, jt5, jt6, jt7, jt8] at ok11
                try simp (disch := omega) only [jst_eq, jst_ne, jst_ni, jI_i, jcmp_lt, jcmp_gt, w32_id, jcpy_out, Sum.elim_inl, Sum.elim_inr, jt2, jt3, jt4, jt5, jt6, jt7, jt8] at fr11
                try dsimp only [Sum.elim_inl, Sum.elim_inr, jt2, jt3, jt4, jt5, jt6, jt7, jt8]
                refine ⟨?_, ?_⟩
                · try dsimp only [Sum.elim_inl, Sum.elim_inr, jt2, jt3, jt4, jt5, jt6, jt7, jt8]
                  refine ⟨?_, ?_⟩
                  · exact ((FB _ _ _ rfl BD ok11).1 trivial).1 -- o51 e11i.1
                  · exact FR _ fr11 -- o52 e11i.2
                · (have z := ((FB _ _ _ rfl BD ok11).1 trivial).2; rw [z, E34]; omega) -- o53 e11m
              · skip
                have r19 := r17; clear r17; dsimp only [Sum.elim_inl, Sum.elim_inr] at r19
                rcases r with r | r
                · skip
                  have r20 := r19; clear r19; dsimp only [Sum.elim_inl, Sum.elim_inr] at r20
                  try dsimp only [Sum.elim_inl, Sum.elim_inr, jt2, jt3, jt4, jt5, jt6, jt7, jt8] at r20
                  obtain ⟨ok12, fr12⟩ := r20
                  try simp (disch := omega) only [jst_eq, jst_ne, jst_ni, jI_i, jcmp_lt, jcmp_gt, w32_id, jcpy_out, Sum.elim_inl, Sum.elim_inr, jt2, jt3, jt4, jt5, jt6, jt7, jt8] at ok12
                  try simp (disch := omega) only [jst_eq, jst_ne, jst_ni, jI_i, jcmp_lt, jcmp_gt, w32_id, jcpy_out, Sum.elim_inl, Sum.elim_inr, jt2, jt3, jt4, jt5, jt6, jt7, jt8] at fr12
                  try dsimp only [Sum.elim_inl, Sum.elim_inr, jt2, jt3, jt4, jt5, jt6, jt7, jt8]
                  try dsimp only [Sum.elim_inl, Sum.elim_inr, jt2, jt3, jt4, jt5, jt6, jt7, jt8]
                  refine ⟨?_, ?_⟩
                  · exact (FB _ _ _ rfl BD ok12).2 id -- o54 e12.1
                  · exact FR _ fr12 -- o55 e12.2
                · skip
                  have r21 := r19; clear r19; dsimp only [Sum.elim_inl, Sum.elim_inr] at r21
                  obtain ⟨y7, y8⟩ := r
                  try dsimp only [Sum.elim_inl, Sum.elim_inr, jt2, jt3, jt4, jt5, jt6, jt7, jt8] at r21
                  obtain ⟨ok13, fr13⟩ := r21
                  try simp (disch := omega) only [jst_eq, jst_ne, jst_ni, jI_i, jcmp_lt, jcmp_gt, w32_id, jcpy_out, Sum.elim_inl, Sum.elim_inr, jt2, jt3, jt4, jt5, jt6, jt7, jt8] at ok13
                  try simp (disch := omega) only [jst_eq, jst_ne, jst_ni, jI_i, jcmp_lt, jcmp_gt, w32_id, jcpy_out, Sum.elim_inl, Sum.elim_inr, jt2, jt3, jt4, jt5, jt6, jt7, jt8] at fr13
                  try dsimp only [Sum.elim_inl, Sum.elim_inr, jt2, jt3, jt4, jt5, jt6, jt7, jt8]
                  try dsimp only [Sum.elim_inl, Sum.elim_inr, jt2, jt3, jt4, jt5, jt6, jt7, jt8]
                  refine ⟨?_, ?_⟩
                  · exact FZ _ _ ok13 -- o56 e13.1
                  · exact FR _ fr13 -- o57 e13.2
            · skip
              try simp (disch := omega) only [jst_eq, jst_ne, jst_ni, jI_i, jcmp_lt, jcmp_gt, w32_id, jcpy_out, Sum.elim_inl, Sum.elim_inr, jt2, jt3, jt4, jt5, jt6, jt7, jt8] at c5
              refine OK_jb (vX14_nameAt (E := EVA B n ((26, (fun _ => 0), (fun _ => 0), (fun _ => 0), fun _ _ => 0), (0, (fun _ => 0), fun _ => 0), (0, 0, (fun _ => 0), 0)) [] 0 ns) _ (by exact nmM_p N2)) (fun v79 r22 => ?_)
              try dsimp only [Sum.elim_inl, Sum.elim_inr, jt2, jt3, jt4, jt5, jt6, jt7, jt8] at r22
              have v14 := r22
              clear r22
              try simp (disch := omega) only [jst_eq, jst_ne, jst_ni, jI_i, jcmp_lt, jcmp_gt, w32_id, jcpy_out, Sum.elim_inl, Sum.elim_inr, jt2, jt3, jt4, jt5, jt6, jt7, jt8] at v14
              have NA := nmA_n (B := B) (n := n) (ns := ns) v14.1 v14.2
              refine OK_if (fun c6 => ?_) (fun c6 => ?_)
              · skip
                try simp (disch := omega) only [jst_eq, jst_ne, jst_ni, jI_i, jcmp_lt, jcmp_gt, w32_id, jcpy_out, Sum.elim_inl, Sum.elim_inr, jt2, jt3, jt4, jt5, jt6, jt7, jt8] at c6
                have NB : ¬ (badN B n q ∨ ∃ u, u ∈ ns ∧ tV B n u.1 = tV B n q) := by { rintro (z | z); { rcases z with z | z | z | z; { exact c2 ((jcmp_0 _ _).mpr (V71.trans z)) }; { exact c3 ((jcmp_0 _ _).mpr (V71.trans z)) }; { exact c4 ((jcmp_0 _ _).mpr (V71.trans z)) }; { exact c5 ((jcmp_0 _ _).mpr (V71.trans z)) } }; { rw [← V71] at z; exact NA.1 c6 z } }
                have FG : ∀ (go : Prop) (h' : AH), nmY B n x68 (MK h72) ns (pN2 B n q q2) go h' → (go → nmI B n K q0 WV h' ∧ h' 454 34 = (ns.length : Int) + 1) ∧ (¬ go → nmO B n K q0 WV h') := fun go h' y => by { rw [X68] at y; exact nmY_s hB W1 o eq qb L1 Q1 (by rw [cif_n NB]; omega) y }
                refine OK_mono (vX14_law_j148_84 (B := B) (n := n) (q := q) (q1 := q2) (ns := ns) _ _ _ _ _ (by exact hB) (by exact T2) (by exact ms2) (by exact I2) (by exact N2) (by exact LN)) (fun r r23 => ?_)
                rcases r with r | r
                · skip
                  have r24 := r23; clear r23; dsimp only [Sum.elim_inl, Sum.elim_inr] at r24
                  try dsimp only [Sum.elim_inl, Sum.elim_inr, jt2, jt3, jt4, jt5, jt6, jt7, jt8] at r24
                  obtain ⟨ok15, fr15⟩ := r24
                  try simp (disch := omega) only [jst_eq, jst_ne, jst_ni, jI_i, jcmp_lt, jcmp_gt, w32_id, jcpy_out, Sum.elim_inl, Sum.elim_inr, jt2, jt3, jt4, jt5, jt6, jt7, jt8] at ok15
                  try simp (disch := omega) only [jst_eq, jst_ne, jst_ni, jI_i, jcmp_lt, jcmp_gt, w32_id, jcpy_out, Sum.elim_inl, Sum.elim_inr, jt2, jt3, jt4, jt5, jt6, jt7, jt8] at fr15
                  try dsimp only [Sum.elim_inl, Sum.elim_inr, jt2, jt3, jt4, jt5, jt6, jt7, jt8]
                  refine ⟨?_, ?_⟩
                  · try dsimp only [Sum.elim_inl, Sum.elim_inr, jt2, jt3, jt4, jt5, jt6, jt7, jt8]
                    refine ⟨?_, ?_⟩
                    · exact ((FG _ _ ok15).1 trivial).1 -- o65 e14i.1
                    · exact FR _ fr15 -- o66 e14i.2
                  · (have z := ((FG _ _ ok15).1 trivial).2; rw [z, E34]; omega) -- o67 e14m
                · skip
                  have r25 := r23; clear r23; dsimp only [Sum.elim_inl, Sum.elim_inr] at r25
                  rcases r with r | r
                  · skip
                    have r26 := r25; clear r25; dsimp only [Sum.elim_inl, Sum.elim_inr] at r26
                    try dsimp only [Sum.elim_inl, Sum.elim_inr, jt2, jt3, jt4, jt5, jt6, jt7, jt8] at r26
                    obtain ⟨ok16, fr16⟩ := r26
                    try simp (disch := omega) only [jst_eq, jst_ne, jst_ni, jI_i, jcmp_lt, jcmp_gt, w32_id, jcpy_out, Sum.elim_inl, Sum.elim_inr, jt2, jt3, jt4, jt5, jt6, jt7, jt8] at ok16
                    try simp (disch := omega) only [jst_eq, jst_ne, jst_ni, jI_i, jcmp_lt, jcmp_gt, w32_id, jcpy_out, Sum.elim_inl, Sum.elim_inr, jt2, jt3, jt4, jt5, jt6, jt7, jt8] at fr16
                    try dsimp only [Sum.elim_inl, Sum.elim_inr, jt2, jt3, jt4, jt5, jt6, jt7, jt8]
                    try dsimp only [Sum.elim_inl, Sum.elim_inr, jt2, jt3, jt4, jt5, jt6, jt7, jt8]
                    refine ⟨?_, ?_⟩
                    · exact (FG _ _ ok16).2 id -- o68 e15.1
                    · exact FR _ fr16 -- o69 e15.2
                  · skip
                    have r27 := r25; clear r25; dsimp only [Sum.elim_inl, Sum.elim_inr] at r27
                    obtain ⟨y9, y10⟩ := r
                    try dsimp only [Sum.elim_inl, Sum.elim_inr, jt2, jt3, jt4, jt5, jt6, jt7, jt8] at r27
                    obtain ⟨ok17, fr17⟩ := r27
                    try simp (disch := omega) only [jst_eq, jst_ne, jst_ni, jI_i, jcmp_lt, jcmp_gt, w32_id, jcpy_out, Sum.elim_inl, Sum.elim_inr, jt2, jt3, jt4, jt5, jt6, jt7, jt8] at ok17
                    try simp (disch := omega) only [jst_eq, jst_ne, jst_ni, jI_i, jcmp_lt, jcmp_gt, w32_id, jcpy_out, Sum.elim_inl, Sum.elim_inr, jt2, jt3, jt4, jt5, jt6, jt7, jt8] at fr17
                    try dsimp only [Sum.elim_inl, Sum.elim_inr, jt2, jt3, jt4, jt5, jt6, jt7, jt8]
                    try dsimp only [Sum.elim_inl, Sum.elim_inr, jt2, jt3, jt4, jt5, jt6, jt7, jt8]
                    refine ⟨?_, ?_⟩
                    · exact FZ _ _ ok17 -- o70 e16.1
                    · exact FR _ fr17 -- o71 e16.2
              · skip
                try simp (disch := omega) only [jst_eq, jst_ne, jst_ni, jI_i, jcmp_lt, jcmp_gt, w32_id, jcpy_out, Sum.elim_inl, Sum.elim_inr, jt2, jt3, jt4, jt5, jt6, jt7, jt8] at c6
                have BD : badN B n q ∨ ∃ u, u ∈ ns ∧ tV B n u.1 = tV B n q := by { have z := NA.2 c6; rw [V71] at z; exact Or.inr z }
                refine OK_mono (vX14_law_j141_84 (B := B) (n := n) (q := q) (q1 := q2) (ns := ns) _ _ _ _ _ (by exact hB) (by exact T2) (by exact ms2) (by exact I2) (by exact N2) (by exact LN)) (fun r r28 => ?_)
                rcases r with r | r
                · skip
                  have r29 := r28; clear r28; dsimp only [Sum.elim_inl, Sum.elim_inr] at r29
                  try dsimp only [Sum.elim_inl, Sum.elim_inr, jt2, jt3, jt4, jt5, jt6, jt7, jt8] at r29
                  obtain ⟨ok18, fr18⟩ := r29
                  try simp (disch := omega) only [jst_eq, jst_ne, jst_ni, jI_i, jcmp_lt, jcmp_gt, w32_id, jcpy_out, Sum.elim_inl, Sum.elim_inr, jt2, jt3, jt4, jt5, jt6, jt7, jt8] at ok18
                  try simp (disch := omega) only [jst_eq, jst_ne, jst_ni, jI_i, jcmp_lt, jcmp_gt, w32_id, jcpy_out, Sum.elim_inl, Sum.elim_inr, jt2, jt3, jt4, jt5, jt6, jt7, jt8] at fr18
                  try dsimp only [Sum.elim_inl, Sum.elim_inr, jt2, jt3, jt4, jt5, jt6, jt7, jt8]
                  refine ⟨?_, ?_⟩
                  · try dsimp only [Sum.elim_inl, Sum.elim_inr, jt2, jt3, jt4, jt5, jt6, jt7, jt8]
                    refine ⟨?_, ?_⟩
                    · exact ((FB _ _ _ rfl BD ok18).1 trivial).1 -- o78 e17i.1
                    · exact FR _ fr18 -- o79 e17i.2
                  · (have z := ((FB _ _ _ rfl BD ok18).1 trivial).2; rw [z, E34]; omega) -- o80 e17m
                · skip
                  have r30 := r28; clear r28; dsimp only [Sum.elim_inl, Sum.elim_inr] at r30
                  rcases r with r | r
                  · skip
                    have r31 := r30; clear r30; dsimp only [Sum.elim_inl, Sum.elim_inr] at r31
                    try dsimp only [Sum.elim_inl, Sum.elim_inr, jt2, jt3, jt4, jt5, jt6, jt7, jt8] at r31
                    obtain ⟨ok19, fr19⟩ := r31
                    try simp (disch := omega) only [jst_eq, jst_ne, jst_ni, jI_i, jcmp_lt, jcmp_gt, w32_id, jcpy_out, Sum.elim_inl, Sum.elim_inr, jt2, jt3, jt4, jt5, jt6, jt7, jt8] at ok19
                    try simp (disch := omega) only [jst_eq, jst_ne, jst_ni, jI_i, jcmp_lt, jcmp_gt, w32_id, jcpy_out, Sum.elim_inl, Sum.elim_inr, jt2, jt3, jt4, jt5, jt6, jt7, jt8] at fr19
                    try dsimp only [Sum.elim_inl, Sum.elim_inr, jt2, jt3, jt4, jt5, jt6, jt7, jt8]
                    try dsimp only [Sum.elim_inl, Sum.elim_inr, jt2, jt3, jt4, jt5, jt6, jt7, jt8]
                    refine ⟨?_, ?_⟩
                    · exact (FB _ _ _ rfl BD ok19).2 id -- o81 e18.1
                    · exact FR _ fr19 -- o82 e18.2
                  · skip
                    have r32 := r30; clear r30; dsimp only [Sum.elim_inl, Sum.elim_inr] at r32
                    obtain ⟨y11, y12⟩ := r
                    try dsimp only [Sum.elim_inl, Sum.elim_inr, jt2, jt3, jt4, jt5, jt6, jt7, jt8] at r32
                    obtain ⟨ok20, fr20⟩ := r32
                    try simp (disch := omega) only [jst_eq, jst_ne, jst_ni, jI_i, jcmp_lt, jcmp_gt, w32_id, jcpy_out, Sum.elim_inl, Sum.elim_inr, jt2, jt3, jt4, jt5, jt6, jt7, jt8] at ok20
                    try simp (disch := omega) only [jst_eq, jst_ne, jst_ni, jI_i, jcmp_lt, jcmp_gt, w32_id, jcpy_out, Sum.elim_inl, Sum.elim_inr, jt2, jt3, jt4, jt5, jt6, jt7, jt8] at fr20
                    try dsimp only [Sum.elim_inl, Sum.elim_inr, jt2, jt3, jt4, jt5, jt6, jt7, jt8]
                    try dsimp only [Sum.elim_inl, Sum.elim_inr, jt2, jt3, jt4, jt5, jt6, jt7, jt8]
                    refine ⟨?_, ?_⟩
                    · exact FZ _ _ ok20 -- o83 e19.1
                    · exact FR _ fr20 -- o84 e19.2
  · try dsimp only [Sum.elim_inl, Sum.elim_inr, jt2, jt3, jt4, jt5, jt6, jt7, jt8]
    refine ⟨?_, ?_⟩
    · exact ni -- o85 init.1
    · exact fun _ _ _ _ _ => rfl -- o86 init.2

