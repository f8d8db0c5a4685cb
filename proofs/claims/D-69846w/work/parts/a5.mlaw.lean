/-! m: a law is read (under way) -/
theorem vX14_hasWords_j45_17 (a0 : Int) (a2 : Int) (t0 : Int) {h : AH} (b : 0 ≤ a2 ∧ a2 ≤ 3) : OK (gX14_hasWords_j45_17 a0 a2 t0 h) (Sum.elim (fun r => jt2 r fun y z => y = t0 ∧ z = a2 + 1) (fun y => (0 : Int) = 1)) := by
  unfold gX14_hasWords_j45_17
  refine OK_jlx (fun x7 ex7 => ?_)
  try simp (disch := omega) only [jst_eq, jst_ne, jst_ni, jI_i, jcmp_lt, jcmp_gt, w32_id, jcpy_out, Sum.elim_inl, Sum.elim_inr, jt2, jt3, jt4, jt5, jt6, jt7, jt8] at ex7
  refine OK_some ?_
  try dsimp only [Sum.elim_inl, Sum.elim_inr, jt2, jt3, jt4, jt5, jt6, jt7, jt8]
  exact ⟨rfl, by (first | exact ex7 | rfl | (rw [ex7]; exact w32_id (by omega) (by omega)))⟩ -- o1 e1
theorem vX14_hasWords_l17 (i0 : Int) (a10 : Int) (a20 : Int) {h : AH} {ks : List Int} (kd : isX16 i0 ∧ h i0 3 = (ks.length : Int) ∧ ks.length ≤ 3 ∧ ∀ k, 0 ≤ k → k < (ks.length : Int) → h (i0 + 1) k = kch (kL ks k) ∧ 0 ≤ kL ks k ∧ kL ks k ≤ 2) (h1 : a20 = 0 ∧ (a10 = 0 ∨ a10 = 1)) : OK (gX14_hasWords_l17 i0 a10 a20 h) (fun r => (r = 0 ∨ r = 1) ∧ (r = 1 ↔ (a10 = 1 ∨ 2 ∈ ks))) := by
  unfold gX14_hasWords_l17
  refine OK_jit (I := (fun (s : Int × Int) => jt2 s fun a1 a2 => (0 ≤ a2 ∧ a2 ≤ (ks.length : Int) ∧ (a1 = 0 ∨ a1 = 1)) ∧ (a1 = 1 ↔ (a10 = 1 ∨ 2 ∈ ks.take a2.toNat)))) (m := (fun (s : Int × Int) => jt2 s fun a1 a2 => (3 - a2).toNat)) ?_ ?_
  · intro s hs
    obtain ⟨a1, a2⟩ := s
    dsimp only [Sum.elim_inl, Sum.elim_inr, jt2, jt3, jt4, jt5, jt6, jt7, jt8] at hs
    obtain ⟨q0, q1⟩ := hs
    unfold gX14_hasWords_b17
    refine OK_jt2 ?_
    refine OK_if (fun c1 => ?_) (fun c1 => ?_)
    · skip
      try simp (disch := omega) only [jst_eq, jst_ne, jst_ni, jI_i, jcmp_lt, jcmp_gt, w32_id, jcpy_out, Sum.elim_inl, Sum.elim_inr, jt2, jt3, jt4, jt5, jt6, jt7, jt8] at c1
      refine OK_ir ?_
      (refine ⟨q0.2.2, ?_⟩; rw [q1, List.take_of_length_le (by omega)]) -- o1 e1
    · skip
      try simp (disch := omega) only [jst_eq, jst_ne, jst_ni, jI_i, jcmp_lt, jcmp_gt, w32_id, jcpy_out, Sum.elim_inl, Sum.elim_inr, jt2, jt3, jt4, jt5, jt6, jt7, jt8] at c1
      have KD := kd.2.2.2 a2 q0.1 (by omega)
      have KI : kch (kL ks a2) = 115 ↔ kL ks a2 = 2 := kch_inj (b := 2) ⟨by omega, KD.2.2⟩ ⟨by decide, by decide⟩
      have TK : ks.take (a2 + 1).toNat = ks.take a2.toNat ++ [kL ks a2] := by { rw [show (a2 + 1).toNat = a2.toNat + 1 by omega, List.take_add_one, List.getElem?_eq_getElem (by omega)]; unfold kL; rw [List.getD_eq_getElem?_getD, List.getElem?_eq_getElem (by omega)]; rfl }
      refine OK_if (fun c2 => ?_) (fun c2 => ?_)
      · skip
        try simp (disch := omega) only [jst_eq, jst_ne, jst_ni, jI_i, jcmp_lt, jcmp_gt, w32_id, jcpy_out, Sum.elim_inl, Sum.elim_inr, jt2, jt3, jt4, jt5, jt6, jt7, jt8] at c2
        refine OK_jg (by (first | assumption | omega | ((try dsimp only [jt2, jt3, jt4]); first | omega | (simp (disch := omega) only [jst_eq, jst_ne, jst_ni, jst_o, jI_i, jcpy_out, w32_id, jdiv_nn, jshr_k, jand_255] <;> first | done | omega | assumption)) | (intros; simp (disch := omega) only [jst_eq, jst_ne, jst_ni, jst_o, jI_i, jcpy_out, w32_id, jdiv_nn, *] <;> first | done | omega) | (intros; simp (disch := omega) only [jst_eq, jst_ne, jst_ni, jst_o, jI_i, jcpy_out, w32_id, jdiv_nn] at * <;> first | done | omega | assumption) | (intros; first | rfl | (exfalso; omega) | ((repeat' apply And.intro) <;> first | assumption | rfl | omega | trivial)))) ?_ -- o2
        refine OK_if (fun c3 => ?_) (fun c3 => ?_)
        · skip
          try simp (disch := omega) only [jst_eq, jst_ne, jst_ni, jI_i, jcmp_lt, jcmp_gt, w32_id, jcpy_out, Sum.elim_inl, Sum.elim_inr, jt2, jt3, jt4, jt5, jt6, jt7, jt8] at c3
          refine OK_mono (vX14_hasWords_j45_17 _ _ _ (by omega)) (fun r r1 => ?_)
          rcases r with r | r
          · skip
            have r2 := r1; clear r1; dsimp only [Sum.elim_inl, Sum.elim_inr] at r2
            obtain ⟨y1, y2⟩ := r
            try dsimp only [Sum.elim_inl, Sum.elim_inr, jt2, jt3, jt4, jt5, jt6, jt7, jt8] at r2
            have v1 := r2
            clear r2
            try simp (disch := omega) only [jst_eq, jst_ne, jst_ni, jI_i, jcmp_lt, jcmp_gt, w32_id, jcpy_out, Sum.elim_inl, Sum.elim_inr, jt2, jt3, jt4, jt5, jt6, jt7, jt8] at v1
            try dsimp only [Sum.elim_inl, Sum.elim_inr, jt2, jt3, jt4, jt5, jt6, jt7, jt8]
            refine ⟨?_, ?_⟩
            · try dsimp only [Sum.elim_inl, Sum.elim_inr, jt2, jt3, jt4, jt5, jt6, jt7, jt8]
              refine ⟨?_, ?_⟩
              · (obtain ⟨z1, z2⟩ := v1; omega) -- o4 e2i.1
              · (rw [v1.1, v1.2, TK, KI.mp (KD.1.symm.trans c3)]; exact ⟨fun _ => Or.inr (List.mem_append.mpr (Or.inr (List.mem_singleton.mpr rfl))), fun _ => rfl⟩) -- o5 e2i.2
            · (obtain ⟨z1, z2⟩ := v1; omega) -- o6 e2m
          · skip
            have r3 := r1; clear r1; dsimp only [Sum.elim_inl, Sum.elim_inr] at r3
            try dsimp only [Sum.elim_inl, Sum.elim_inr, jt2, jt3, jt4, jt5, jt6, jt7, jt8] at r3
            have no2 := r3
            clear r3
            try simp (disch := omega) only [jst_eq, jst_ne, jst_ni, jI_i, jcmp_lt, jcmp_gt, w32_id, jcpy_out, Sum.elim_inl, Sum.elim_inr, jt2, jt3, jt4, jt5, jt6, jt7, jt8] at no2
            try dsimp only [Sum.elim_inl, Sum.elim_inr, jt2, jt3, jt4, jt5, jt6, jt7, jt8]
            exact absurd no2 (by decide) -- o7 e3
        · skip
          try simp (disch := omega) only [jst_eq, jst_ne, jst_ni, jI_i, jcmp_lt, jcmp_gt, w32_id, jcpy_out, Sum.elim_inl, Sum.elim_inr, jt2, jt3, jt4, jt5, jt6, jt7, jt8] at c3
          refine OK_mono (vX14_hasWords_j45_17 _ _ _ (by omega)) (fun r r4 => ?_)
          rcases r with r | r
          · skip
            have r5 := r4; clear r4; dsimp only [Sum.elim_inl, Sum.elim_inr] at r5
            obtain ⟨y3, y4⟩ := r
            try dsimp only [Sum.elim_inl, Sum.elim_inr, jt2, jt3, jt4, jt5, jt6, jt7, jt8] at r5
            have v3 := r5
            clear r5
            try simp (disch := omega) only [jst_eq, jst_ne, jst_ni, jI_i, jcmp_lt, jcmp_gt, w32_id, jcpy_out, Sum.elim_inl, Sum.elim_inr, jt2, jt3, jt4, jt5, jt6, jt7, jt8] at v3
            try dsimp only [Sum.elim_inl, Sum.elim_inr, jt2, jt3, jt4, jt5, jt6, jt7, jt8]
            refine ⟨?_, ?_⟩
            · try dsimp only [Sum.elim_inl, Sum.elim_inr, jt2, jt3, jt4, jt5, jt6, jt7, jt8]
              refine ⟨?_, ?_⟩
              · (obtain ⟨z1, z2⟩ := v3; omega) -- o9 e4i.1
              · (rw [v3.1, v3.2, TK]; constructor; { exact fun y => absurd y (by decide) }; { rintro (y | y); { have := q1.mpr (Or.inl y); omega }; { rcases List.mem_append.mp y with z | z; { have := q1.mpr (Or.inr z); omega }; { exact absurd (KD.1.trans (KI.mpr (List.mem_singleton.mp z).symm)) c3 } } }) -- o10 e4i.2
            · (obtain ⟨z1, z2⟩ := v3; omega) -- o11 e4m
          · skip
            have r6 := r4; clear r4; dsimp only [Sum.elim_inl, Sum.elim_inr] at r6
            try dsimp only [Sum.elim_inl, Sum.elim_inr, jt2, jt3, jt4, jt5, jt6, jt7, jt8] at r6
            have no4 := r6
            clear r6
            try simp (disch := omega) only [jst_eq, jst_ne, jst_ni, jI_i, jcmp_lt, jcmp_gt, w32_id, jcpy_out, Sum.elim_inl, Sum.elim_inr, jt2, jt3, jt4, jt5, jt6, jt7, jt8] at no4
            try dsimp only [Sum.elim_inl, Sum.elim_inr, jt2, jt3, jt4, jt5, jt6, jt7, jt8]
            exact absurd no4 (by decide) -- o12 e5
      · skip
        try simp (disch := omega) only [jst_eq, jst_ne, jst_ni, jI_i, jcmp_lt, jcmp_gt, w32_id, jcpy_out, Sum.elim_inl, Sum.elim_inr, jt2, jt3, jt4, jt5, jt6, jt7, jt8] at c2
        refine OK_mono (vX14_hasWords_j45_17 _ _ _ (by omega)) (fun r r7 => ?_)
        rcases r with r | r
        · skip
          have r8 := r7; clear r7; dsimp only [Sum.elim_inl, Sum.elim_inr] at r8
          obtain ⟨y5, y6⟩ := r
          try dsimp only [Sum.elim_inl, Sum.elim_inr, jt2, jt3, jt4, jt5, jt6, jt7, jt8] at r8
          have v5 := r8
          clear r8
          try simp (disch := omega) only [jst_eq, jst_ne, jst_ni, jI_i, jcmp_lt, jcmp_gt, w32_id, jcpy_out, Sum.elim_inl, Sum.elim_inr, jt2, jt3, jt4, jt5, jt6, jt7, jt8] at v5
          try dsimp only [Sum.elim_inl, Sum.elim_inr, jt2, jt3, jt4, jt5, jt6, jt7, jt8]
          refine ⟨?_, ?_⟩
          · try dsimp only [Sum.elim_inl, Sum.elim_inr, jt2, jt3, jt4, jt5, jt6, jt7, jt8]
            refine ⟨?_, ?_⟩
            · (obtain ⟨z1, z2⟩ := v5; omega) -- o14 e6i.1
            · (rw [v5.1, v5.2, TK]; exact ⟨fun _ => (q1.mp (by omega)).imp id (fun z => List.mem_append.mpr (Or.inl z)), fun _ => rfl⟩) -- o15 e6i.2
          · (obtain ⟨z1, z2⟩ := v5; omega) -- o16 e6m
        · skip
          have r9 := r7; clear r7; dsimp only [Sum.elim_inl, Sum.elim_inr] at r9
          try dsimp only [Sum.elim_inl, Sum.elim_inr, jt2, jt3, jt4, jt5, jt6, jt7, jt8] at r9
          have no6 := r9
          clear r9
          try simp (disch := omega) only [jst_eq, jst_ne, jst_ni, jI_i, jcmp_lt, jcmp_gt, w32_id, jcpy_out, Sum.elim_inl, Sum.elim_inr, jt2, jt3, jt4, jt5, jt6, jt7, jt8] at no6
          try dsimp only [Sum.elim_inl, Sum.elim_inr, jt2, jt3, jt4, jt5, jt6, jt7, jt8]
          exact absurd no6 (by decide) -- o17 e7
  · try dsimp only [Sum.elim_inl, Sum.elim_inr, jt2, jt3, jt4, jt5, jt6, jt7, jt8]
    refine ⟨?_, ?_⟩
    · omega -- o18 init.1
    · (rw [h1.1]; exact ⟨Or.inl, fun y => y.elim id (fun z => by cases z)⟩) -- o19 init.2
theorem vX14_hasWords_j14 (a0 : Int) (t0 : Int) {h : AH} {ks : List Int} (kd : isX16 a0 ∧ h a0 3 = (ks.length : Int) ∧ ks.length ≤ 3 ∧ ∀ k, 0 ≤ k → k < (ks.length : Int) → h (a0 + 1) k = kch (kL ks k) ∧ 0 ≤ kL ks k ∧ kL ks k ≤ 2) (tz : t0 = 0 ∨ t0 = 1) : OK (gX14_hasWords_j14 a0 t0 h) (fun r => (r = 0 ∨ r = 1) ∧ (r = 1 ↔ (t0 = 1 ∨ 2 ∈ ks))) := by
  unfold gX14_hasWords_j14
  refine OK_jb (vX14_hasWords_l17 (ks := ks) _ _ _ (by exact kd) (by exact ⟨rfl, tz⟩)) (fun o2 r1 => ?_)
  try dsimp only [Sum.elim_inl, Sum.elim_inr, jt2, jt3, jt4, jt5, jt6, jt7, jt8] at r1
  have v1 := r1
  clear r1
  try simp (disch := omega) only [jst_eq, jst_ne, jst_ni, jI_i, jcmp_lt, jcmp_gt, w32_id, jcpy_out, Sum.elim_inl, Sum.elim_inr, jt2, jt3, jt4, jt5, jt6, jt7, jt8] at v1
  refine OK_jg (by (first | ((unfold jZ; omega)) | (first | assumption | omega | ((try dsimp only [jt2, jt3, jt4]); first | omega | (simp (disch := omega) only [jst_eq, jst_ne, jst_ni, jst_o, jI_i, jcpy_out, w32_id, jdiv_nn, jshr_k, jand_255] <;> first | done | omega | assumption)) | (intros; simp (disch := omega) only [jst_eq, jst_ne, jst_ni, jst_o, jI_i, jcpy_out, w32_id, jdiv_nn, *] <;> first | done | omega) | (intros; simp (disch := omega) only [jst_eq, jst_ne, jst_ni, jst_o, jI_i, jcpy_out, w32_id, jdiv_nn] at * <;> first | done | omega | assumption) | (intros; first | rfl | (exfalso; omega) | ((repeat' apply And.intro) <;> first | assumption | rfl | omega | trivial))))) ?_ -- o3
  refine OK_some ?_
  try dsimp only [Sum.elim_inl, Sum.elim_inr, jt2, jt3, jt4, jt5, jt6, jt7, jt8]
  (first | ((unfold jZ; omega)) | (first | assumption | omega | ((try dsimp only [jt2, jt3, jt4]); first | omega | (simp (disch := omega) only [jst_eq, jst_ne, jst_ni, jst_o, jI_i, jcpy_out, w32_id, jdiv_nn, jshr_k, jand_255] <;> first | done | omega | assumption)) | (intros; simp (disch := omega) only [jst_eq, jst_ne, jst_ni, jst_o, jI_i, jcpy_out, w32_id, jdiv_nn, *] <;> first | done | omega) | (intros; simp (disch := omega) only [jst_eq, jst_ne, jst_ni, jst_o, jI_i, jcpy_out, w32_id, jdiv_nn] at * <;> first | done | omega | assumption) | (intros; first | rfl | (exfalso; omega) | ((repeat' apply And.intro) <;> first | assumption | rfl | omega | trivial)))) -- o4 e1
theorem vX14_hasWords (a0 : Int) {h : AH} {ks : List Int} {la : Int} (kd : isX16 a0 ∧ h a0 3 = (ks.length : Int) ∧ ks.length ≤ 3 ∧ ∀ k, 0 ≤ k → k < (ks.length : Int) → h (a0 + 1) k = kch (kL ks k) ∧ 0 ≤ kL ks k ∧ kL ks k ≤ 2) (ld : h a0 4 = kch la ∧ 0 ≤ la ∧ la ≤ 2) : OK (gX14_hasWords a0 h) (fun r => (r = 0 ∨ r = 1) ∧ (r = 1 ↔ (la = 2 ∨ 2 ∈ ks))) := by
  have KI : kch la = 115 ↔ la = 2 := kch_inj (b := 2) ⟨by omega, ld.2.2⟩ ⟨by decide, by decide⟩
  unfold gX14_hasWords
  refine OK_if (fun c1 => ?_) (fun c1 => ?_)
  · skip
    try simp (disch := omega) only [jst_eq, jst_ne, jst_ni, jI_i, jcmp_lt, jcmp_gt, w32_id, jcpy_out, Sum.elim_inl, Sum.elim_inr, jt2, jt3, jt4, jt5, jt6, jt7, jt8] at c1
    refine OK_mono (vX14_hasWords_j14 (ks := ks) _ _ (by exact kd) (by exact Or.inr rfl)) (fun r r1 => ?_)
    try dsimp only [Sum.elim_inl, Sum.elim_inr, jt2, jt3, jt4, jt5, jt6, jt7, jt8] at r1
    have v1 := r1
    clear r1
    try simp (disch := omega) only [jst_eq, jst_ne, jst_ni, jI_i, jcmp_lt, jcmp_gt, w32_id, jcpy_out, Sum.elim_inl, Sum.elim_inr, jt2, jt3, jt4, jt5, jt6, jt7, jt8] at v1
    try dsimp only [Sum.elim_inl, Sum.elim_inr, jt2, jt3, jt4, jt5, jt6, jt7, jt8]
    exact ⟨v1.1, v1.2.trans ⟨fun _ => Or.inl (KI.mp (ld.1.symm.trans c1)), fun _ => Or.inl (by first | rfl | trivial)⟩⟩ -- o3 e1
  · skip
    try simp (disch := omega) only [jst_eq, jst_ne, jst_ni, jI_i, jcmp_lt, jcmp_gt, w32_id, jcpy_out, Sum.elim_inl, Sum.elim_inr, jt2, jt3, jt4, jt5, jt6, jt7, jt8] at c1
    refine OK_mono (vX14_hasWords_j14 (ks := ks) _ _ (by exact kd) (by exact Or.inl rfl)) (fun r r2 => ?_)
    try dsimp only [Sum.elim_inl, Sum.elim_inr, jt2, jt3, jt4, jt5, jt6, jt7, jt8] at r2
    have v2 := r2
    clear r2
    try simp (disch := omega) only [jst_eq, jst_ne, jst_ni, jI_i, jcmp_lt, jcmp_gt, w32_id, jcpy_out, Sum.elim_inl, Sum.elim_inr, jt2, jt3, jt4, jt5, jt6, jt7, jt8] at v2
    try dsimp only [Sum.elim_inl, Sum.elim_inr, jt2, jt3, jt4, jt5, jt6, jt7, jt8]
    exact ⟨v2.1, v2.2.trans ⟨fun y => y.elim (fun z => (by first | exact absurd z (by decide) | exact z.elim)) Or.inr, fun y => y.elim (fun z => absurd (ld.1.trans (KI.mpr z)) c1) Or.inr⟩⟩ -- o6 e2
/-! m: the names of a law -/
theorem fA_no {c : Int → Int} {w : Int} : ∀ {k : Nat} {a : Int}, 0 ≤ a → fA c w k a < 0 → ∀ j, a ≤ j → j < a + k → c j ≠ w
  | 0, a, _, _, j, j0, j1 => by omega
  | k + 1, a, a0, e, j, j0, j1 => by
    have e : (if c a = w then a else fA c w k (a + 1)) < 0 := e
    by_cases z : c a = w
    · rw [if_pos z] at e; omega
    · rw [if_neg z] at e
      by_cases y : j = a
      · rw [y]; exact z
      · exact fA_no (by omega) e j (by omega) (by omega)
def nmM (B : Int → Int) (n : Int) (ns : List (Int × Int)) (h : AH) : Prop := h 454 34 = (ns.length : Int) ∧ ns.length ≤ 2 ∧ ∀ k : Nat, ∀ p, ns[k]? = some p → h 474 k = tV B n p.1 ∧ h 475 k = kch p.2 ∧ 0 ≤ p.2 ∧ p.2 ≤ 2
theorem nmM_f {B : Int → Int} {n : Int} {ns : List (Int × Int)} {h h' : AH} (x : nmM B n ns h) (f0 : h' 454 34 = h 454 34) (f : ∀ b s, 474 ≤ b → b ≤ 475 → h' b s = h b s) : nmM B n ns h' := by
  obtain ⟨x1, x2, x3⟩ := x
  refine ⟨f0.trans x1, x2, fun k p e => ?_⟩
  rw [f 474 k (by omega) (by omega), f 475 k (by omega) (by omega)]
  exact x3 k p e
theorem nmN_g {ns : List (Int × Int)} {k : Int} (k0 : 0 ≤ k) (k1 : k < (ns.length : Int)) : ns[k.toNat]? = some (nmN ns k) := by
  unfold nmN
  rw [List.getD_eq_getElem?_getD, List.getElem?_eq_getElem (by omega)]; rfl
theorem nmM_p {B : Int → Int} {n la : Int} {E : EV} {ks : List Int} {ns : List (Int × Int)} {h : AH} (x : nmM B n ns h) : parM h (EVA B n E ks la ns) := by
  obtain ⟨x1, x2, x3⟩ := x
  refine ⟨x1, by show 0 ≤ (ns.length : Int); omega, by show (ns.length : Int) ≤ 3; omega, fun k k0 k1 => ?_⟩
  have k1' : k < (ns.length : Int) := k1
  have y := x3 k.toNat (nmN ns k) (nmN_g k0 k1')
  rw [show ((k.toNat : Nat) : Int) = k by omega] at y
  exact ⟨y.1, y.2.1, by show -1 ≤ (nmN ns k).2; omega, y.2.2.2⟩
theorem nmA_n {B : Int → Int} {n w v : Int} {ns : List (Int × Int)} (e : v = mky (ns.length : Int) (fun k => tV B n (nmN ns k).1) w) (r : v = -1 ∨ (0 ≤ v ∧ v < (ns.length : Int))) : (v < 0 → ¬ ∃ u, u ∈ ns ∧ tV B n u.1 = w) ∧ (¬ v < 0 → ∃ u, u ∈ ns ∧ tV B n u.1 = w) := by
  have e' : v = fA (fun k => tV B n (nmN ns k).1) w (ns.length : Int).toNat 0 := e
  constructor
  · rintro v0 ⟨u, um, ue⟩
    obtain ⟨k, kl, ke⟩ := List.getElem_of_mem um
    have z := fA_no (c := fun k => tV B n (nmN ns k).1) (w := w) (k := (ns.length : Int).toNat) (a := 0) (by omega) (by omega) (k : Int) (by omega) (by omega)
    have g := nmN_g (ns := ns) (k := (k : Int)) (by omega) (by omega)
    rw [show ((k : Int)).toNat = k by omega, List.getElem?_eq_getElem kl, ke] at g
    have g' : u = nmN ns k := Option.some.inj g
    exact z (by show tV B n (nmN ns k).1 = w; rw [← g']; exact ue)
  · intro v0
    have z := fA_0 (c := fun k => tV B n (nmN ns k).1) (w := w) (n := (ns.length : Int))
    have vr := r.resolve_left (by omega)
    rcases z with z | z
    · omega
    · rw [← e'] at z
      exact ⟨nmN ns v, List.mem_of_getElem? (nmN_g vr.1 vr.2), z.2.2⟩
theorem nmM_a {B : Int → Int} {n : Int} {ns : List (Int × Int)} {p : Int × Int} {h h' : AH} (x : nmM B n ns h) (l : ns.length < 2) (f : ∀ b s, 474 ≤ b → b ≤ 475 → s ≠ (ns.length : Int) → h' b s = h b s) (e : h' 454 34 = (ns.length : Int) + 1) (a : h' 474 ns.length = tV B n p.1 ∧ h' 475 ns.length = kch p.2 ∧ 0 ≤ p.2 ∧ p.2 ≤ 2) : nmM B n (ns ++ [p]) h' := by
  obtain ⟨x1, x2, x3⟩ := x
  refine ⟨by rw [e, List.length_append]; rfl, by rw [List.length_append]; show ns.length + 1 ≤ 2; omega, fun k u eu => ?_⟩
  rcases app_ixg eu with ⟨y1, y2⟩ | ⟨y1, y2⟩
  · rw [f 474 k (by omega) (by omega) (by omega), f 475 k (by omega) (by omega) (by omega)]; exact x3 k u y2
  · rw [y2, y1]; exact a
/-- a name is kept -/
theorem vX14_law_j175_84 (a1 : Int) (a3 : Int) (a4 : Int) (a6 : Int) (a8 : Int) {h : AH} {B : Int → Int} {n q k : Int} {ns : List (Int × Int)} (nm : nmM B n ns h) (ln : ns.length < 2 ∧ a6 = tV B n q ∧ a8 = kch k ∧ 0 ≤ k ∧ k ≤ 2) : OK (gX14_law_j175_84 a1 a3 a4 a6 a8 h) (Sum.elim (fun h' => (nmM B n (ns ++ [(q, k)]) h') ∧ ((ns.length : Int) + 1 < 2 ∧ h' 454 27 = 1) ∧ (∀ b s, ¬ (b = 454 ∧ s = 34) → ¬ ((b = 474 ∨ b = 475) ∧ 0 ≤ s ∧ s < 3) → h' b s = h b s)) (Sum.elim (fun h' => (nmM B n (ns ++ [(q, k)]) h') ∧ (¬ ((ns.length : Int) + 1 < 2 ∧ h' 454 27 = 1)) ∧ (∀ b s, ¬ (b = 454 ∧ s = 34) → ¬ ((b = 474 ∨ b = 475) ∧ 0 ≤ s ∧ s < 3) → h' b s = h b s)) (fun r => jt2 r fun t h' => (0 : Int) = 1))) := by
  have E34 := nm.1
  unfold gX14_law_j175_84
  refine OK_jg (by (first | assumption | omega | ((try dsimp only [jt2, jt3, jt4]); first | omega | (simp (disch := omega) only [jst_eq, jst_ne, jst_ni, jst_o, jI_i, jcpy_out, w32_id, jdiv_nn, jshr_k, jand_255] <;> first | done | omega | assumption)) | (intros; simp (disch := omega) only [jst_eq, jst_ne, jst_ni, jst_o, jI_i, jcpy_out, w32_id, jdiv_nn, *] <;> first | done | omega) | (intros; simp (disch := omega) only [jst_eq, jst_ne, jst_ni, jst_o, jI_i, jcpy_out, w32_id, jdiv_nn] at * <;> first | done | omega | assumption) | (intros; first | rfl | (exfalso; omega) | ((repeat' apply And.intro) <;> first | assumption | rfl | omega | trivial)))) ?_ -- o1
  refine OK_jl ?_
  have F96 : ∀ b s, ¬ (b = 474 ∧ s = (ns.length : Int)) → jst h 474 (h 454 34) a6 b s = h b s := fun b s y => jst_o (by omega)
  have V96 : jst h 474 (h 454 34) a6 474 (ns.length : Int) = a6 := by { rw [E34]; exact jst_eq }
  generalize jst h 474 (h 454 34) a6 = g96 at *
  have K96 : g96 454 34 = (ns.length : Int) := (F96 _ _ (by omega)).trans E34
  refine OK_jg (by (first | assumption | omega | ((try dsimp only [jt2, jt3, jt4]); first | omega | (simp (disch := omega) only [jst_eq, jst_ne, jst_ni, jst_o, jI_i, jcpy_out, w32_id, jdiv_nn, jshr_k, jand_255] <;> first | done | omega | assumption)) | (intros; simp (disch := omega) only [jst_eq, jst_ne, jst_ni, jst_o, jI_i, jcpy_out, w32_id, jdiv_nn, *] <;> first | done | omega) | (intros; simp (disch := omega) only [jst_eq, jst_ne, jst_ni, jst_o, jI_i, jcpy_out, w32_id, jdiv_nn] at * <;> first | done | omega | assumption) | (intros; first | rfl | (exfalso; omega) | ((repeat' apply And.intro) <;> first | assumption | rfl | omega | trivial)))) ?_ -- o2
  refine OK_jl ?_
  have F97 : ∀ b s, ¬ (b = 475 ∧ s = (ns.length : Int)) → jst g96 475 (g96 454 34) a8 b s = g96 b s := fun b s y => jst_o (by omega)
  have V97 : jst g96 475 (g96 454 34) a8 475 (ns.length : Int) = a8 := by { rw [K96]; exact jst_eq }
  generalize jst g96 475 (g96 454 34) a8 = g97 at *
  have K97 : g97 454 34 = (ns.length : Int) := (F97 _ _ (by omega)).trans K96
  refine OK_jl ?_
  have F98 : ∀ b s, ¬ (b = 454 ∧ s = 34) → jst g97 454 34 (w32 (g97 454 34 + 1)) b s = g97 b s := fun b s y => jst_o (by omega)
  have V98 : jst g97 454 34 (w32 (g97 454 34 + 1)) 454 34 = (ns.length : Int) + 1 := by { rw [jst_eq, K97]; exact w32_id (by omega) (by omega) }
  generalize jst g97 454 34 (w32 (g97 454 34 + 1)) = g98 at *
  have NM : nmM B n (ns ++ [(q, k)]) g98 := nmM_a nm ln.1 (fun b s y1 y2 y3 => (F98 _ _ (by omega)).trans ((F97 _ _ (by omega)).trans (F96 _ _ (by omega)))) V98 ⟨by { rw [F98 _ _ (by omega), F97 _ _ (by omega), V96]; exact ln.2.1 }, by { rw [F98 _ _ (by omega), V97]; exact ln.2.2.1 }, ln.2.2.2⟩
  have FA : ∀ b s, ¬ (b = 454 ∧ s = 34) → ¬ ((b = 474 ∨ b = 475) ∧ 0 ≤ s ∧ s < 3) → g98 b s = h b s := fun b s y1 y2 => (F98 _ _ (by omega)).trans ((F97 _ _ (by omega)).trans (F96 _ _ (by omega)))
  refine OK_if (fun c1 => ?_) (fun c1 => ?_)
  · skip
    try simp (disch := omega) only [jst_eq, jst_ne, jst_ni, jI_i, jcmp_lt, jcmp_gt, w32_id, jcpy_out, Sum.elim_inl, Sum.elim_inr, jt2, jt3, jt4, jt5, jt6, jt7, jt8] at c1
    refine OK_some ?_
    try dsimp only [Sum.elim_inl, Sum.elim_inr, jt2, jt3, jt4, jt5, jt6, jt7, jt8]
    try dsimp only [Sum.elim_inl, Sum.elim_inr, jt2, jt3, jt4, jt5, jt6, jt7, jt8]
    refine ⟨?_, ?_, ?_⟩
    · exact NM -- o3 e1.1
    · exact fun z => by omega -- o4 e1.2
    · exact FA -- o5 e1.3
  · skip
    try simp (disch := omega) only [jst_eq, jst_ne, jst_ni, jI_i, jcmp_lt, jcmp_gt, w32_id, jcpy_out, Sum.elim_inl, Sum.elim_inr, jt2, jt3, jt4, jt5, jt6, jt7, jt8] at c1
    refine OK_if (fun c2 => ?_) (fun c2 => ?_)
    · skip
      try simp (disch := omega) only [jst_eq, jst_ne, jst_ni, jI_i, jcmp_lt, jcmp_gt, w32_id, jcpy_out, Sum.elim_inl, Sum.elim_inr, jt2, jt3, jt4, jt5, jt6, jt7, jt8] at c2
      refine OK_some ?_
      try dsimp only [Sum.elim_inl, Sum.elim_inr, jt2, jt3, jt4, jt5, jt6, jt7, jt8]
      try dsimp only [Sum.elim_inl, Sum.elim_inr, jt2, jt3, jt4, jt5, jt6, jt7, jt8]
      refine ⟨?_, ?_, ?_⟩
      · exact NM -- o6 e2.1
      · exact ⟨by omega, c2⟩ -- o7 e2.2
      · exact FA -- o8 e2.3
    · skip
      try simp (disch := omega) only [jst_eq, jst_ne, jst_ni, jI_i, jcmp_lt, jcmp_gt, w32_id, jcpy_out, Sum.elim_inl, Sum.elim_inr, jt2, jt3, jt4, jt5, jt6, jt7, jt8] at c2
      refine OK_some ?_
      try dsimp only [Sum.elim_inl, Sum.elim_inr, jt2, jt3, jt4, jt5, jt6, jt7, jt8]
      try dsimp only [Sum.elim_inl, Sum.elim_inr, jt2, jt3, jt4, jt5, jt6, jt7, jt8]
      refine ⟨?_, ?_, ?_⟩
      · exact NM -- o9 e3.1
      · exact fun z => c2 z.2 -- o10 e3.2
      · exact FA -- o11 e3.3
/-- a name behind its letters -/
def pN2 (B : Int → Int) (n q q1 : Int) : Int ⊕ ((Int × Int) × Int) := bS (pW B n 58 q1) fun q2 => if isKd B n q2 then bS (nx B n q2) fun q3 => .inr ((q, kdv B n q2), q3) else .inl (tS B n q2)
theorem pNm_2 {B : Int → Int} {n q : Int} (o : tO B n q = 1) : pNm B n q = bS (nx B n q) (pN2 B n q) := if_pos o
def nmY (B : Int → Int) (n a5 K : Int) (ns : List (Int × Int)) (W : Int ⊕ ((Int × Int) × Int)) (go : Prop) (h' : AH) : Prop := ∃ p q3, W = .inr (p, q3) ∧ nmM B n (ns ++ [p]) h' ∧ MS B n q3 h' ∧ (go ↔ ((ns.length : Int) + 1 < 2 ∧ tO B n q3 = 1)) ∧ MI h' ∧ MK h' = min K (if p.2 = 2 then a5 * 8 + 6 else 1000000)
def frNm (h h' : AH) : Prop := ∀ b s, ¬ (b = 454 ∧ ((26 ≤ s ∧ s ≤ 31) ∨ s = 34)) → ¬ (b = 472 ∧ (s = 6 ∨ s = 7)) → ¬ ((b = 474 ∨ b = 475) ∧ 0 ≤ s ∧ s < 3) → h' b s = h b s
theorem frNm_t {h h1 h2 : AH} (x : frNm h h1) (y : frNm h1 h2) : frNm h h2 := fun b s y1 y2 y3 => (y b s y1 y2 y3).trans (x b s y1 y2 y3)
theorem vX14_law_j148_84 (a1 : Int) (a3 : Int) (a4 : Int) (a5 : Int) (a6 : Int) {h : AH} {B : Int → Int} {n q q1 : Int} {ns : List (Int × Int)} (hB : ∀ i, 0 ≤ i → i < n → 0 ≤ B i ∧ B i < 256) (t : TM B n h) (ms : MS B n q1 h) (mi : MI h) (nm : nmM B n ns h) (ln : ns.length < 2 ∧ a6 = tV B n q ∧ 0 ≤ a5 ∧ a5 ≤ 2001) : OK (gX14_law_j148_84 a1 a3 a4 a5 a6 h) (Sum.elim (fun h' => (nmY B n a5 (MK h) ns (pN2 B n q q1) True h') ∧ (frNm h h')) (Sum.elim (fun h' => (nmY B n a5 (MK h) ns (pN2 B n q q1) False h') ∧ (frNm h h')) (fun r => jt2 r fun t h' => (∃ z, pN2 B n q q1 = .inl z ∧ t = 472 ∧ MF z h') ∧ (frNm h h')))) := by
  unfold gX14_law_j148_84
  refine OK_jb2 (vX14_passSign (B := B) (n := n) (q := q1) _ (by exact t) (by exact hB) (by exact ms)) (fun t84 h86 r1 => ?_)
  try dsimp only [Sum.elim_inl, Sum.elim_inr, jt2, jt3, jt4, jt5, jt6, jt7, jt8] at r1
  obtain ⟨r1, fr1⟩ := r1
  try simp (disch := omega) only [jst_eq, jst_ne, jst_ni, jI_i, jcmp_lt, jcmp_gt, w32_id, jcpy_out, Sum.elim_inl, Sum.elim_inr, jt2, jt3, jt4, jt5, jt6, jt7, jt8] at r1
  try simp (disch := omega) only [jst_eq, jst_ne, jst_ni, jI_i, jcmp_lt, jcmp_gt, w32_id, jcpy_out, Sum.elim_inl, Sum.elim_inr, jt2, jt3, jt4, jt5, jt6, jt7, jt8] at fr1
  refine OK_jq (fun c1 => ?_) (fun c1 => ?_)
  · skip
    refine OK_some ?_
    try dsimp only [Sum.elim_inl, Sum.elim_inr, jt2, jt3, jt4, jt5, jt6, jt7, jt8]
    try dsimp only [Sum.elim_inl, Sum.elim_inr, jt2, jt3, jt4, jt5, jt6, jt7, jt8]
    refine ⟨?_, ?_⟩
    · (obtain ⟨z, e, t1, mf⟩ := rM_l r1 c1; exact ⟨z, by unfold pN2; rw [e]; rfl, t1, mf⟩) -- o4 e1.1
    · exact fun b s y1 y2 y3 => fr1 b s (by omega) y2 -- o5 e1.2
  · skip
    obtain ⟨w, ew, ms2⟩ := rM_r r1 c1
    have T2 : TM B n h86 := TM_fr t (fr1 _ _ (by omega) (by omega)) (fun s => fr1 _ _ (by omega) (by omega))
    have P2 : pN2 B n q q1 = if isKd B n w then bS (nx B n w) fun q3 => .inr ((q, kdv B n w), q3) else .inl (tS B n w) := by { unfold pN2; rw [ew]; rfl }
    refine OK_jb3 (vX14_takeKind (B := B) (n := n) (q := w) (by exact T2) (by exact hB) (by exact ms2)) (fun t89 v90 h91 r2 => ?_)
    try dsimp only [Sum.elim_inl, Sum.elim_inr, jt2, jt3, jt4, jt5, jt6, jt7, jt8] at r2
    obtain ⟨no2, r2, vk2, fr2⟩ := r2
    try simp (disch := omega) only [jst_eq, jst_ne, jst_ni, jI_i, jcmp_lt, jcmp_gt, w32_id, jcpy_out, Sum.elim_inl, Sum.elim_inr, jt2, jt3, jt4, jt5, jt6, jt7, jt8] at no2
    try simp (disch := omega) only [jst_eq, jst_ne, jst_ni, jI_i, jcmp_lt, jcmp_gt, w32_id, jcpy_out, Sum.elim_inl, Sum.elim_inr, jt2, jt3, jt4, jt5, jt6, jt7, jt8] at r2
    try simp (disch := omega) only [jst_eq, jst_ne, jst_ni, jI_i, jcmp_lt, jcmp_gt, w32_id, jcpy_out, Sum.elim_inl, Sum.elim_inr, jt2, jt3, jt4, jt5, jt6, jt7, jt8] at vk2
    try simp (disch := omega) only [jst_eq, jst_ne, jst_ni, jI_i, jcmp_lt, jcmp_gt, w32_id, jcpy_out, Sum.elim_inl, Sum.elim_inr, jt2, jt3, jt4, jt5, jt6, jt7, jt8] at fr2
    refine OK_jq (fun c2 => ?_) (fun c2 => ?_)
    · skip
      have FZ : ∃ z, pN2 B n q q1 = .inl z ∧ t89 = 472 ∧ MF z h91 := by { by_cases g : isKd B n w; { obtain ⟨z, e, t1, mf⟩ := rM_l (r2 g) c2; exact ⟨z, by rw [P2, if_pos g, e]; rfl, t1, mf⟩ }; { exact ⟨tS B n w, by rw [P2, if_neg g], no2 g⟩ } }
      refine OK_some ?_
      try dsimp only [Sum.elim_inl, Sum.elim_inr, jt2, jt3, jt4, jt5, jt6, jt7, jt8]
      try dsimp only [Sum.elim_inl, Sum.elim_inr, jt2, jt3, jt4, jt5, jt6, jt7, jt8]
      refine ⟨?_, ?_⟩
      · exact FZ -- o9 e2.1
      · exact fun b s y1 y2 y3 => (fr2 b s (by omega) y2).trans (fr1 b s (by omega) y2) -- o10 e2.2
    · skip
      have g : isKd B n w := Classical.byContradiction fun z => by { have := (no2 z).1; omega }
      obtain ⟨u, eu, ms3⟩ := rM_r (r2 g) c2
      have V90 := vk2 g c2
      have P3 : pN2 B n q q1 = .inr ((q, kdv B n w), u) := by { rw [P2, if_pos g, eu]; rfl }
      have KR : 0 ≤ kdv B n w ∧ kdv B n w ≤ 2 := by { unfold kdv; split <;> (try split) <;> omega }
      have G : ∀ b s, ¬ (b = 454 ∧ 26 ≤ s ∧ s ≤ 29) → ¬ (b = 472 ∧ (s = 6 ∨ s = 7)) → h91 b s = h b s := fun b s y1 y2 => (fr2 b s y1 y2).trans (fr1 b s y1 y2)
      have I3 : MI h91 := MI_fr (G _ _ (by omega) (by omega)) (G _ _ (by omega) (by omega)) mi
      have K3 : MK h91 = MK h := MK_fr (G _ _ (by omega) (by omega)) (G _ _ (by omega) (by omega))
      have N3 : nmM B n ns h91 := nmM_f nm (G _ _ (by omega) (by omega)) (fun b s y1 y2 => G _ _ (by omega) (by omega))
      have mr := MK_r mi
      have KI := (kch_c ⟨by omega, KR.2⟩).1
      refine OK_if (fun c3 => ?_) (fun c3 => ?_)
      · skip
        try simp (disch := omega) only [jst_eq, jst_ne, jst_ni, jI_i, jcmp_lt, jcmp_gt, w32_id, jcpy_out, Sum.elim_inl, Sum.elim_inr, jt2, jt3, jt4, jt5, jt6, jt7, jt8] at c3
        have K2 : kdv B n w = 2 := KI.mp (V90.symm.trans c3)
        refine OK_jb (vX14_note _ _ (by exact I3) (by omega)) (fun h95 r3 => ?_)
        try dsimp only [Sum.elim_inl, Sum.elim_inr, jt2, jt3, jt4, jt5, jt6, jt7, jt8] at r3
        obtain ⟨m3, k3, fr3⟩ := r3
        try simp (disch := omega) only [jst_eq, jst_ne, jst_ni, jI_i, jcmp_lt, jcmp_gt, w32_id, jcpy_out, Sum.elim_inl, Sum.elim_inr, jt2, jt3, jt4, jt5, jt6, jt7, jt8] at m3
        try simp (disch := omega) only [jst_eq, jst_ne, jst_ni, jI_i, jcmp_lt, jcmp_gt, w32_id, jcpy_out, Sum.elim_inl, Sum.elim_inr, jt2, jt3, jt4, jt5, jt6, jt7, jt8] at k3
        try simp (disch := omega) only [jst_eq, jst_ne, jst_ni, jI_i, jcmp_lt, jcmp_gt, w32_id, jcpy_out, Sum.elim_inl, Sum.elim_inr, jt2, jt3, jt4, jt5, jt6, jt7, jt8] at fr3
        refine OK_mono (vX14_law_j175_84 (B := B) (n := n) (q := q) (k := kdv B n w) (ns := ns) _ _ _ _ _ (by exact nmM_f N3 (fr3 _ _ (by omega)) (fun b s y1 y2 => fr3 _ _ (by omega))) (by exact ⟨ln.1, ln.2.1, V90, KR⟩)) (fun r r4 => ?_)
        rcases r with r | r
        · skip
          have r5 := r4; clear r4; dsimp only [Sum.elim_inl, Sum.elim_inr] at r5
          try dsimp only [Sum.elim_inl, Sum.elim_inr, jt2, jt3, jt4, jt5, jt6, jt7, jt8] at r5
          obtain ⟨nm4, go4, fr4⟩ := r5
          try simp (disch := omega) only [jst_eq, jst_ne, jst_ni, jI_i, jcmp_lt, jcmp_gt, w32_id, jcpy_out, Sum.elim_inl, Sum.elim_inr, jt2, jt3, jt4, jt5, jt6, jt7, jt8] at nm4
          try simp (disch := omega) only [jst_eq, jst_ne, jst_ni, jI_i, jcmp_lt, jcmp_gt, w32_id, jcpy_out, Sum.elim_inl, Sum.elim_inr, jt2, jt3, jt4, jt5, jt6, jt7, jt8] at go4
          try simp (disch := omega) only [jst_eq, jst_ne, jst_ni, jI_i, jcmp_lt, jcmp_gt, w32_id, jcpy_out, Sum.elim_inl, Sum.elim_inr, jt2, jt3, jt4, jt5, jt6, jt7, jt8] at fr4
          have F4 : ∀ b s, ¬ (b = 454 ∧ (s = 30 ∨ s = 31 ∨ s = 34)) → ¬ ((b = 474 ∨ b = 475) ∧ 0 ≤ s ∧ s < 3) → r b s = h91 b s := fun b s y1 y2 => (fr4 b s (by omega) y2).trans (fr3 b s (by omega))
          try dsimp only [Sum.elim_inl, Sum.elim_inr, jt2, jt3, jt4, jt5, jt6, jt7, jt8]
          try dsimp only [Sum.elim_inl, Sum.elim_inr, jt2, jt3, jt4, jt5, jt6, jt7, jt8]
          refine ⟨?_, ?_⟩
          · (have m4 : MS B n u r := MS_fr ms3 (fun s s0 s1 => F4 _ _ (by omega) (by omega)); exact ⟨_, _, P3, nm4, m4, ⟨fun _ => ⟨go4.1, by rw [← m4.1.2.1]; exact go4.2⟩, fun _ => trivial⟩, MI_fr (fr4 _ _ (by omega) (by omega)) (fr4 _ _ (by omega) (by omega)) m3, by rw [MK_fr (fr4 _ _ (by omega) (by omega)) (fr4 _ _ (by omega) (by omega)), k3, K3, if_pos K2]⟩) -- o15 e3.1
          · exact fun b s y1 y2 y3 => (F4 b s (by omega) y3).trans (G b s (by omega) y2) -- o16 e3.2
        · skip
          have r6 := r4; clear r4; dsimp only [Sum.elim_inl, Sum.elim_inr] at r6
          rcases r with r | r
          · skip
            have r7 := r6; clear r6; dsimp only [Sum.elim_inl, Sum.elim_inr] at r7
            try dsimp only [Sum.elim_inl, Sum.elim_inr, jt2, jt3, jt4, jt5, jt6, jt7, jt8] at r7
            obtain ⟨nm5, st5, fr5⟩ := r7
            try simp (disch := omega) only [jst_eq, jst_ne, jst_ni, jI_i, jcmp_lt, jcmp_gt, w32_id, jcpy_out, Sum.elim_inl, Sum.elim_inr, jt2, jt3, jt4, jt5, jt6, jt7, jt8] at nm5
            try simp (disch := omega) only [jst_eq, jst_ne, jst_ni, jI_i, jcmp_lt, jcmp_gt, w32_id, jcpy_out, Sum.elim_inl, Sum.elim_inr, jt2, jt3, jt4, jt5, jt6, jt7, jt8] at st5
            try simp (disch := omega) only [jst_eq, jst_ne, jst_ni, jI_i, jcmp_lt, jcmp_gt, w32_id, jcpy_out, Sum.elim_inl, Sum.elim_inr, jt2, jt3, jt4, jt5, jt6, jt7, jt8] at fr5
            have F4 : ∀ b s, ¬ (b = 454 ∧ (s = 30 ∨ s = 31 ∨ s = 34)) → ¬ ((b = 474 ∨ b = 475) ∧ 0 ≤ s ∧ s < 3) → r b s = h91 b s := fun b s y1 y2 => (fr5 b s (by omega) y2).trans (fr3 b s (by omega))
            try dsimp only [Sum.elim_inl, Sum.elim_inr, jt2, jt3, jt4, jt5, jt6, jt7, jt8]
            try dsimp only [Sum.elim_inl, Sum.elim_inr, jt2, jt3, jt4, jt5, jt6, jt7, jt8]
            refine ⟨?_, ?_⟩
            · (have m4 : MS B n u r := MS_fr ms3 (fun s s0 s1 => F4 _ _ (by omega) (by omega)); exact ⟨_, _, P3, nm5, m4, ⟨fun z => z.elim, fun z => st5 ⟨z.1, by rw [m4.1.2.1]; exact z.2⟩⟩, MI_fr (fr5 _ _ (by omega) (by omega)) (fr5 _ _ (by omega) (by omega)) m3, by rw [MK_fr (fr5 _ _ (by omega) (by omega)) (fr5 _ _ (by omega) (by omega)), k3, K3, if_pos K2]⟩) -- o17 e4.1
            · exact fun b s y1 y2 y3 => (F4 b s (by omega) y3).trans (G b s (by omega) y2) -- o18 e4.2
          · skip
            have r8 := r6; clear r6; dsimp only [Sum.elim_inl, Sum.elim_inr] at r8
            obtain ⟨y1, y2⟩ := r
            try dsimp only [Sum.elim_inl, Sum.elim_inr, jt2, jt3, jt4, jt5, jt6, jt7, jt8] at r8
            have no6 := r8
            clear r8
            try simp (disch := omega) only [jst_eq, jst_ne, jst_ni, jI_i, jcmp_lt, jcmp_gt, w32_id, jcpy_out, Sum.elim_inl, Sum.elim_inr, jt2, jt3, jt4, jt5, jt6, jt7, jt8] at no6
            try dsimp only [Sum.elim_inl, Sum.elim_inr, jt2, jt3, jt4, jt5, jt6, jt7, jt8]
            exact absurd no6 (by decide) -- e5
      · skip
        try simp (disch := omega) only [jst_eq, jst_ne, jst_ni, jI_i, jcmp_lt, jcmp_gt, w32_id, jcpy_out, Sum.elim_inl, Sum.elim_inr, jt2, jt3, jt4, jt5, jt6, jt7, jt8] at c3
        have K2 : kdv B n w ≠ 2 := fun z => c3 (V90.trans (KI.mpr z))
        refine OK_mono (vX14_law_j175_84 (B := B) (n := n) (q := q) (k := kdv B n w) (ns := ns) _ _ _ _ _ (by exact N3) (by exact ⟨ln.1, ln.2.1, V90, KR⟩)) (fun r r9 => ?_)
        rcases r with r | r
        · skip
          have r10 := r9; clear r9; dsimp only [Sum.elim_inl, Sum.elim_inr] at r10
          try dsimp only [Sum.elim_inl, Sum.elim_inr, jt2, jt3, jt4, jt5, jt6, jt7, jt8] at r10
          obtain ⟨nm7, go7, fr7⟩ := r10
          try simp (disch := omega) only [jst_eq, jst_ne, jst_ni, jI_i, jcmp_lt, jcmp_gt, w32_id, jcpy_out, Sum.elim_inl, Sum.elim_inr, jt2, jt3, jt4, jt5, jt6, jt7, jt8] at nm7
          try simp (disch := omega) only [jst_eq, jst_ne, jst_ni, jI_i, jcmp_lt, jcmp_gt, w32_id, jcpy_out, Sum.elim_inl, Sum.elim_inr, jt2, jt3, jt4, jt5, jt6, jt7, jt8] at go7
          try simp (disch := omega) only [jst_eq, jst_ne, jst_ni, jI_i, jcmp_lt, jcmp_gt, w32_id, jcpy_out, Sum.elim_inl, Sum.elim_inr, jt2, jt3, jt4, jt5, jt6, jt7, jt8] at fr7
          try dsimp only [Sum.elim_inl, Sum.elim_inr, jt2, jt3, jt4, jt5, jt6, jt7, jt8]
          try dsimp only [Sum.elim_inl, Sum.elim_inr, jt2, jt3, jt4, jt5, jt6, jt7, jt8]
          refine ⟨?_, ?_⟩
          · (have m4 : MS B n u r := MS_fr ms3 (fun s s0 s1 => fr7 _ _ (by omega) (by omega)); exact ⟨_, _, P3, nm7, m4, ⟨fun _ => ⟨go7.1, by rw [← m4.1.2.1]; exact go7.2⟩, fun _ => trivial⟩, MI_fr (fr7 _ _ (by omega) (by omega)) (fr7 _ _ (by omega) (by omega)) I3, by rw [MK_fr (fr7 _ _ (by omega) (by omega)) (fr7 _ _ (by omega) (by omega)), K3, if_neg K2]; omega⟩) -- o21 e6.1
          · exact fun b s y1 y2 y3 => (fr7 b s (by omega) y3).trans (G b s (by omega) y2) -- o22 e6.2
        · skip
          have r11 := r9; clear r9; dsimp only [Sum.elim_inl, Sum.elim_inr] at r11
          rcases r with r | r
          · skip
            have r12 := r11; clear r11; dsimp only [Sum.elim_inl, Sum.elim_inr] at r12
            try dsimp only [Sum.elim_inl, Sum.elim_inr, jt2, jt3, jt4, jt5, jt6, jt7, jt8] at r12
            obtain ⟨nm8, st8, fr8⟩ := r12
            try simp (disch := omega) only [jst_eq, jst_ne, jst_ni, jI_i, jcmp_lt, jcmp_gt, w32_id, jcpy_out, Sum.elim_inl, Sum.elim_inr, jt2, jt3, jt4, jt5, jt6, jt7, jt8] at nm8
            try simp (disch := omega) only [jst_eq, jst_ne, jst_ni, jI_i, jcmp_lt, jcmp_gt, w32_id, jcpy_out, Sum.elim_inl, Sum.elim_inr, jt2, jt3, jt4, jt5, jt6, jt7, jt8] at st8
            try simp (disch := omega) only [jst_eq, jst_ne, jst_ni, jI_i, jcmp_lt, jcmp_gt, w32_id, jcpy_out, Sum.elim_inl, Sum.elim_inr, jt2, jt3, jt4, jt5, jt6, jt7, jt8] at fr8
            try dsimp only [Sum.elim_inl, Sum.elim_inr, jt2, jt3, jt4, jt5, jt6, jt7, jt8]
            try dsimp only [Sum.elim_inl, Sum.elim_inr, jt2, jt3, jt4, jt5, jt6, jt7, jt8]
            refine ⟨?_, ?_⟩
            · (have m4 : MS B n u r := MS_fr ms3 (fun s s0 s1 => fr8 _ _ (by omega) (by omega)); exact ⟨_, _, P3, nm8, m4, ⟨fun z => z.elim, fun z => st8 ⟨z.1, by rw [m4.1.2.1]; exact z.2⟩⟩, MI_fr (fr8 _ _ (by omega) (by omega)) (fr8 _ _ (by omega) (by omega)) I3, by rw [MK_fr (fr8 _ _ (by omega) (by omega)) (fr8 _ _ (by omega) (by omega)), K3, if_neg K2]; omega⟩) -- o23 e7.1
            · exact fun b s y1 y2 y3 => (fr8 b s (by omega) y3).trans (G b s (by omega) y2) -- o24 e7.2
          · skip
            have r13 := r11; clear r11; dsimp only [Sum.elim_inl, Sum.elim_inr] at r13
            obtain ⟨y3, y4⟩ := r
            try dsimp only [Sum.elim_inl, Sum.elim_inr, jt2, jt3, jt4, jt5, jt6, jt7, jt8] at r13
            have no9 := r13
            clear r13
            try simp (disch := omega) only [jst_eq, jst_ne, jst_ni, jI_i, jcmp_lt, jcmp_gt, w32_id, jcpy_out, Sum.elim_inl, Sum.elim_inr, jt2, jt3, jt4, jt5, jt6, jt7, jt8] at no9
            try dsimp only [Sum.elim_inl, Sum.elim_inr, jt2, jt3, jt4, jt5, jt6, jt7, jt8]
            exact absurd no9 (by decide) -- e8

