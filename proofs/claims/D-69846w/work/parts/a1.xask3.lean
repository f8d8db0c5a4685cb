/-! x: an ask is told -/
theorem vX4_clear (a0 : Int) {h : AH} : OK (gX4_clear a0 h) (fun h' => ((h' a0 1 = 0 ∧ h' a0 3 = 0 ∧ h' a0 8 = 0 ∧ h' a0 11 = 0 ∧ h' a0 19 = 0) ∧ h' (a0 + 12) 0 = 0) ∧ (∀ b s, ¬ (b = a0 ∧ (s = 1 ∨ s = 3 ∨ s = 8 ∨ s = 11 ∨ s = 19)) → ¬ (b = a0 + 12 ∧ s = 0) → h' b s = h b s)) := by
  unfold gX4_clear
  refine OK_jl ?_
  refine OK_jl ?_
  refine OK_jl ?_
  refine OK_jl ?_
  refine OK_jl ?_
  refine OK_jl ?_
  refine OK_some ?_
  try dsimp only [Sum.elim_inl, Sum.elim_inr, jt2, jt3, jt4, jt5, jt6, jt7, jt8]
  try dsimp only [Sum.elim_inl, Sum.elim_inr, jt2, jt3, jt4, jt5, jt6, jt7, jt8]
  refine ⟨?_, ?_⟩
  · (refine ⟨⟨?_, ?_, ?_, ?_, jst_eq⟩, ?_⟩; { rw [jst_o (by omega), jst_o (by omega), jst_o (by omega), jst_o (by omega), jst_o (by omega)]; exact jst_eq }; { rw [jst_o (by omega), jst_o (by omega), jst_o (by omega), jst_o (by omega)]; exact jst_eq }; { rw [jst_o (by omega), jst_o (by omega), jst_o (by omega)]; exact jst_eq }; { rw [jst_o (by omega), jst_o (by omega)]; exact jst_eq }; { rw [jst_o (by omega)]; exact jst_eq }) -- o1 e1.1
  · exact fun b s y1 y2 => (by rw [jst_o (by omega), jst_o (by omega), jst_o (by omega), jst_o (by omega), jst_o (by omega), jst_o (by omega)]) -- o2 e1.2
theorem vX5_clear {h : AH} : OK (gX5_clear h) (fun h' => (h' 307 0 = 0 ∧ h' 307 7 = 0 ∧ h' 307 8 = 13 ∧ h' 307 17 = 0) ∧ (∀ b s, ¬ (b = 307 ∧ (s = 0 ∨ s = 7 ∨ s = 8 ∨ s = 17)) → h' b s = h b s)) := by
  unfold gX5_clear
  refine OK_jl ?_
  refine OK_jl ?_
  refine OK_jl ?_
  refine OK_jl ?_
  refine OK_some ?_
  try dsimp only [Sum.elim_inl, Sum.elim_inr, jt2, jt3, jt4, jt5, jt6, jt7, jt8]
  try dsimp only [Sum.elim_inl, Sum.elim_inr, jt2, jt3, jt4, jt5, jt6, jt7, jt8]
  refine ⟨?_, ?_⟩
  · (refine ⟨?_, ?_, ?_, jst_eq⟩; { rw [jst_o (by omega), jst_o (by omega), jst_o (by omega)]; exact jst_eq }; { rw [jst_o (by omega), jst_o (by omega)]; exact jst_eq }; { rw [jst_o (by omega)]; exact jst_eq }) -- o1 e1.1
  · exact fun b s y => (by rw [jst_o (by omega), jst_o (by omega), jst_o (by omega), jst_o (by omega)]) -- o2 e1.2
theorem vX4_settle_j38 (a0 : Int) (t0 : Int) (t1 : Int) {h : AH} (tt : t0 = a0) : OK (gX4_settle_j38 a0 t0 t1 h) (fun h' => (h' a0 18 = t1 ∧ h' a0 19 = 1) ∧ (∀ b s, ¬ (b = a0 ∧ (s = 18 ∨ s = 19)) → h' b s = h b s)) := by
  unfold gX4_settle_j38
  refine OK_jl ?_
  refine OK_jl ?_
  refine OK_some ?_
  try dsimp only [Sum.elim_inl, Sum.elim_inr, jt2, jt3, jt4, jt5, jt6, jt7, jt8]
  try dsimp only [Sum.elim_inl, Sum.elim_inr, jt2, jt3, jt4, jt5, jt6, jt7, jt8]
  refine ⟨?_, ?_⟩
  · (rw [tt]; exact ⟨by (rw [jst_o (by omega)]; exact jst_eq), jst_eq⟩) -- o1 e1.1
  · exact fun b s y => (by rw [jst_o (by omega), jst_o (by omega)]) -- o2 e1.2
theorem vX4_settle_j16 (a0 : Int) (t0 : Int) (t1 : Int) {h : AH} {ks : List Int} (kd : h a0 1 = (ks.length : Int) ∧ ks.length ≤ 3 ∧ ∀ k, 0 ≤ k → k < (ks.length : Int) → h (a0 + 1) k = kL ks k) (tt : t0 = a0 ∧ (t1 = 0 ∨ t1 = 1)) : OK (gX4_settle_j16 a0 t0 t1 h) (fun h' => (h' a0 17 = t1 ∧ h' a0 18 = (if t1 = 0 then h a0 8 else apN ks) ∧ h' a0 19 = 1) ∧ (∀ b s, ¬ (b = a0 ∧ (s = 17 ∨ s = 18 ∨ s = 19)) → h' b s = h b s)) := by
  unfold gX4_settle_j16
  refine OK_jg (by (first | ((unfold jZ; omega)) | (first | assumption | omega | ((try dsimp only [jt2, jt3, jt4]); first | omega | (simp (disch := omega) only [jst_eq, jst_ne, jst_ni, jst_o, jI_i, jcpy_out, w32_id, jdiv_nn, jshr_k, jand_255] <;> first | done | omega | assumption)) | (intros; simp (disch := omega) only [jst_eq, jst_ne, jst_ni, jst_o, jI_i, jcpy_out, w32_id, jdiv_nn, *] <;> first | done | omega) | (intros; simp (disch := omega) only [jst_eq, jst_ne, jst_ni, jst_o, jI_i, jcpy_out, w32_id, jdiv_nn] at * <;> first | done | omega | assumption) | (intros; first | rfl | (exfalso; omega) | ((repeat' apply And.intro) <;> first | assumption | rfl | omega | trivial))))) ?_ -- o1
  refine OK_jl ?_
  have F4 : ∀ b s, ¬ (b = a0 ∧ s = 17) → jst h t0 17 t1 b s = h b s := fun b s y => jst_o (by rw [tt.1]; exact y)
  have V4 : jst h t0 17 t1 a0 17 = t1 := by { rw [tt.1]; exact jst_eq }
  generalize jst h t0 17 t1 = g4 at *
  refine OK_if (fun c1 => ?_) (fun c1 => ?_)
  · skip
    try simp (disch := omega) only [jst_eq, jst_ne, jst_ni, jI_i, jcmp_lt, jcmp_gt, w32_id, jcpy_out, Sum.elim_inl, Sum.elim_inr, jt2, jt3, jt4, jt5, jt6, jt7, jt8] at c1
    refine OK_mono (vX4_settle_j38 _ _ _ (by rfl)) (fun r r1 => ?_)
    try dsimp only [Sum.elim_inl, Sum.elim_inr, jt2, jt3, jt4, jt5, jt6, jt7, jt8] at r1
    obtain ⟨v1, fr1⟩ := r1
    try simp (disch := omega) only [jst_eq, jst_ne, jst_ni, jI_i, jcmp_lt, jcmp_gt, w32_id, jcpy_out, Sum.elim_inl, Sum.elim_inr, jt2, jt3, jt4, jt5, jt6, jt7, jt8] at v1
    try simp (disch := omega) only [jst_eq, jst_ne, jst_ni, jI_i, jcmp_lt, jcmp_gt, w32_id, jcpy_out, Sum.elim_inl, Sum.elim_inr, jt2, jt3, jt4, jt5, jt6, jt7, jt8] at fr1
    try dsimp only [Sum.elim_inl, Sum.elim_inr, jt2, jt3, jt4, jt5, jt6, jt7, jt8]
    try dsimp only [Sum.elim_inl, Sum.elim_inr, jt2, jt3, jt4, jt5, jt6, jt7, jt8]
    refine ⟨?_, ?_⟩
    · (have tz : t1 = 0 := (by omega); rw [if_pos tz]; exact ⟨by rw [fr1 _ _ (by omega)]; exact V4, by rw [v1.1]; exact F4 _ _ (by omega), v1.2⟩) -- o3 e1.1
    · exact fun b s y => (fr1 b s (by omega)).trans (F4 b s (by omega)) -- o4 e1.2
  · skip
    try simp (disch := omega) only [jst_eq, jst_ne, jst_ni, jI_i, jcmp_lt, jcmp_gt, w32_id, jcpy_out, Sum.elim_inl, Sum.elim_inr, jt2, jt3, jt4, jt5, jt6, jt7, jt8] at c1
    refine OK_jb (vX4_allPoints (ks := ks) _ (by exact ⟨by rw [F4 _ _ (by omega)]; exact kd.1, kd.2.1, fun k k0 k1 => by rw [F4 _ _ (by omega)]; exact kd.2.2 k k0 k1⟩)) (fun v7 r2 => ?_)
    try dsimp only [Sum.elim_inl, Sum.elim_inr, jt2, jt3, jt4, jt5, jt6, jt7, jt8] at r2
    have v2 := r2
    clear r2
    try simp (disch := omega) only [jst_eq, jst_ne, jst_ni, jI_i, jcmp_lt, jcmp_gt, w32_id, jcpy_out, Sum.elim_inl, Sum.elim_inr, jt2, jt3, jt4, jt5, jt6, jt7, jt8] at v2
    refine OK_mono (vX4_settle_j38 _ _ _ (by rfl)) (fun r r3 => ?_)
    try dsimp only [Sum.elim_inl, Sum.elim_inr, jt2, jt3, jt4, jt5, jt6, jt7, jt8] at r3
    obtain ⟨v3, fr3⟩ := r3
    try simp (disch := omega) only [jst_eq, jst_ne, jst_ni, jI_i, jcmp_lt, jcmp_gt, w32_id, jcpy_out, Sum.elim_inl, Sum.elim_inr, jt2, jt3, jt4, jt5, jt6, jt7, jt8] at v3
    try simp (disch := omega) only [jst_eq, jst_ne, jst_ni, jI_i, jcmp_lt, jcmp_gt, w32_id, jcpy_out, Sum.elim_inl, Sum.elim_inr, jt2, jt3, jt4, jt5, jt6, jt7, jt8] at fr3
    try dsimp only [Sum.elim_inl, Sum.elim_inr, jt2, jt3, jt4, jt5, jt6, jt7, jt8]
    try dsimp only [Sum.elim_inl, Sum.elim_inr, jt2, jt3, jt4, jt5, jt6, jt7, jt8]
    refine ⟨?_, ?_⟩
    · (have tz : t1 ≠ 0 := (by omega); rw [if_neg tz]; exact ⟨by rw [fr3 _ _ (by omega)]; exact V4, by rw [v3.1]; exact v2, v3.2⟩) -- o7 e2.1
    · exact fun b s y => (fr3 b s (by omega)).trans (F4 b s (by omega)) -- o8 e2.2
theorem vX4_settle (a0 : Int) {h : AH} {ks : List Int} (kd : h a0 1 = (ks.length : Int) ∧ ks.length ≤ 3 ∧ ∀ k, 0 ≤ k → k < (ks.length : Int) → h (a0 + 1) k = kL ks k) : OK (gX4_settle a0 h) (fun h' => (h' a0 17 = (if 256 < apN ks then 0 else 1) ∧ h' a0 18 = (if 256 < apN ks then h a0 8 else apN ks) ∧ h' a0 19 = 1) ∧ (∀ b s, ¬ (b = a0 ∧ (s = 17 ∨ s = 18 ∨ s = 19)) → h' b s = h b s)) := by
  unfold gX4_settle
  refine OK_jb (vX4_allPoints (ks := ks) _ (by exact kd)) (fun v2 r1 => ?_)
  try dsimp only [Sum.elim_inl, Sum.elim_inr, jt2, jt3, jt4, jt5, jt6, jt7, jt8] at r1
  have v1 := r1
  clear r1
  try simp (disch := omega) only [jst_eq, jst_ne, jst_ni, jI_i, jcmp_lt, jcmp_gt, w32_id, jcpy_out, Sum.elim_inl, Sum.elim_inr, jt2, jt3, jt4, jt5, jt6, jt7, jt8] at v1
  refine OK_if (fun c1 => ?_) (fun c1 => ?_)
  · skip
    try simp (disch := omega) only [jst_eq, jst_ne, jst_ni, jI_i, jcmp_lt, jcmp_gt, w32_id, jcpy_out, Sum.elim_inl, Sum.elim_inr, jt2, jt3, jt4, jt5, jt6, jt7, jt8] at c1
    refine OK_mono (vX4_settle_j16 (ks := ks) _ _ _ (by exact kd) (by exact ⟨rfl, Or.inl rfl⟩)) (fun r r2 => ?_)
    try dsimp only [Sum.elim_inl, Sum.elim_inr, jt2, jt3, jt4, jt5, jt6, jt7, jt8] at r2
    obtain ⟨v2, fr2⟩ := r2
    try simp (disch := omega) only [jst_eq, jst_ne, jst_ni, jI_i, jcmp_lt, jcmp_gt, w32_id, jcpy_out, Sum.elim_inl, Sum.elim_inr, jt2, jt3, jt4, jt5, jt6, jt7, jt8] at v2
    try simp (disch := omega) only [jst_eq, jst_ne, jst_ni, jI_i, jcmp_lt, jcmp_gt, w32_id, jcpy_out, Sum.elim_inl, Sum.elim_inr, jt2, jt3, jt4, jt5, jt6, jt7, jt8] at fr2
    try dsimp only [Sum.elim_inl, Sum.elim_inr, jt2, jt3, jt4, jt5, jt6, jt7, jt8]
    try dsimp only [Sum.elim_inl, Sum.elim_inr, jt2, jt3, jt4, jt5, jt6, jt7, jt8]
    refine ⟨?_, ?_⟩
    · (have g : 256 < apN ks := (by omega); rw [if_pos g, if_pos g]; obtain ⟨z1, z2, z3⟩ := v2; exact ⟨z1, z2, z3⟩) -- o4 e1.1
    · exact fr2 -- o5 e1.2
  · skip
    try simp (disch := omega) only [jst_eq, jst_ne, jst_ni, jI_i, jcmp_lt, jcmp_gt, w32_id, jcpy_out, Sum.elim_inl, Sum.elim_inr, jt2, jt3, jt4, jt5, jt6, jt7, jt8] at c1
    refine OK_mono (vX4_settle_j16 (ks := ks) _ _ _ (by exact kd) (by exact ⟨rfl, Or.inr rfl⟩)) (fun r r3 => ?_)
    try dsimp only [Sum.elim_inl, Sum.elim_inr, jt2, jt3, jt4, jt5, jt6, jt7, jt8] at r3
    obtain ⟨v3, fr3⟩ := r3
    try simp (disch := omega) only [jst_eq, jst_ne, jst_ni, jI_i, jcmp_lt, jcmp_gt, w32_id, jcpy_out, Sum.elim_inl, Sum.elim_inr, jt2, jt3, jt4, jt5, jt6, jt7, jt8] at v3
    try simp (disch := omega) only [jst_eq, jst_ne, jst_ni, jI_i, jcmp_lt, jcmp_gt, w32_id, jcpy_out, Sum.elim_inl, Sum.elim_inr, jt2, jt3, jt4, jt5, jt6, jt7, jt8] at fr3
    try dsimp only [Sum.elim_inl, Sum.elim_inr, jt2, jt3, jt4, jt5, jt6, jt7, jt8]
    try dsimp only [Sum.elim_inl, Sum.elim_inr, jt2, jt3, jt4, jt5, jt6, jt7, jt8]
    refine ⟨?_, ?_⟩
    · (have g : ¬ 256 < apN ks := (by omega); rw [if_neg g, if_neg g]; obtain ⟨z1, z2, z3⟩ := v3; exact ⟨z1, z2, z3⟩) -- o8 e2.1
    · exact fr3 -- o9 e2.2
/-- an ask as x keeps it for long -/
def asP (B : Int → Int) (n : Int) (E : EV) (p : ASt) (a : Int) (h : AH) : Prop := (isAk a ∧ h a 1 = (p.1.length : Int) ∧ 1 ≤ p.1.length ∧ p.1.length ≤ 3 ∧ ∀ k, 0 ≤ k → k < (p.1.length : Int) → h (a + 1) k = kL p.1 k ∧ 0 ≤ kL p.1 k ∧ kL p.1 k ≤ 2) ∧ (h a 2 = p.2.1 ∧ 0 ≤ p.2.1 ∧ p.2.1 ≤ 2) ∧ (pcsX B n E h a p.2.2.1 ∧ h a 3 = ((min p.2.2.1.length 12 : Nat) : Int)) ∧ (h a 8 = ((min (rwsO p.2.2.2).length 12 : Nat) : Int) ∧ ∀ i : Nat, i < 12 → ∀ r, (rwsO p.2.2.2)[i]? = some r → rwkX B n a i p.1 r h) ∧ (h a 11 = ((min (lwsO p.2.2.2).length 4 : Nat) : Int) ∧ ∀ i : Nat, i < 4 → ∀ r, (lwsO p.2.2.2)[i]? = some r → lwkX B n a (a + 12) E p.1 p.2.1 i r h) ∧ (h a 17 = (if 256 < apN p.1 then 0 else 1) ∧ h a 18 = (if 256 < apN p.1 then ((min (rwsO p.2.2.2).length 12 : Nat) : Int) else apN p.1) ∧ h a 19 = 1) ∧ (0 ≤ h (a + 12) 0 ∧ h (a + 12) 0 ≤ 2100)
/-- what changes when an ask is told badly -/
def frAs (a : Int) (h h' : AH) : Prop := ∀ b s, ¬ (b = 200 ∧ (s = 55 ∨ s = 56)) → ¬ (a ≤ b ∧ b ≤ a + 17 ∧ 0 ≤ s) → ¬ (b = 441 ∧ 0 ≤ s ∧ s ≤ 20) → ¬ (442 ≤ b ∧ b ≤ 445 ∧ 0 ≤ s) → h' b s = h b s
def outAs (B : Int → Int) (n : Int) (E : EV) (P : Int ⊕ ASt) (p0 v p1 : Int) (good : ASt → Prop) : Prop := match P with
  | .inl z => v = -11 ∧ p1 = z
  | .inr p => (fkAs B n E p = 1000000 → p1 = p0 ∧ good p) ∧ (fkAs B n E p ≠ 1000000 → v = -10 - fkAs B n E p % 8 ∧ p1 = fkAs B n E p / 8)
theorem asR_P {B : Int → Int} {n A a T : Int} {E : EV} {p : ASt} {h h1 h' : AH} (x : asR B n A a T E (.inr p) h) (f : ∀ b s, a ≤ b → b ≤ a + 17 → h1 b s = h b s) (g : ∀ b s, ¬ (b = a ∧ (s = 17 ∨ s = 18 ∨ s = 19)) → a ≤ b → b ≤ a + 17 → h' b s = h1 b s) (v : h' a 17 = (if 256 < apN p.1 then 0 else 1) ∧ h' a 18 = (if 256 < apN p.1 then h1 a 8 else apN p.1) ∧ h' a 19 = 1) : asP B n E p a h' := by
  obtain ⟨x1, ⟨y1, y2, y3, y4, y5⟩, x3, x4, x5, x6⟩ := x
  have LA : a = 271 ∨ a = 289 := y1.2.2.2.1.1
  have eT : T = a + 12 := y1.2.2.2.1.2.2
  have F : ∀ b s, ¬ (b = a ∧ (s = 17 ∨ s = 18 ∨ s = 19)) → a ≤ b → b ≤ a + 17 → h' b s = h b s := fun b s z1 z2 z3 => (g b s z1 z2 z3).trans (f b s z2 z3)
  have K := y2.2.2.2.1
  refine ⟨⟨LA, by rw [F _ _ (by omega) (by omega) (by omega)]; exact K.1, K.2.1, K.2.2.1, fun k k0 k1 => by rw [F _ _ (by omega) (by omega) (by omega)]; exact K.2.2.2 k k0 k1⟩, by rw [F _ _ (by omega) (by omega) (by omega)]; exact y2.2.2.2.2.1, ⟨pcsX_f x3 (fun b s b0 b1 s0 s1 => F _ _ (by omega) (by omega) (by omega)), by rw [F _ _ (by omega) (by omega) (by omega)]; exact x4⟩, ⟨by rw [F _ _ (by omega) (by omega) (by omega)]; exact y2.2.2.2.2.2.1.1, fun i i12 r er => rwkX_f (m := 99) K.2.2.1 (by omega) (fun b s z _ _ => F b s (by omega) (by omega) (by omega)) (y4 i i12 r er)⟩, ⟨by rw [F _ _ (by omega) (by omega) (by omega)]; exact y1.2.2.2.2.2.2.1.1, fun i i4 r er => ?_⟩, ⟨v.1, ?_, v.2.2⟩, by rw [eT] at x6; rw [F _ _ (by omega) (by omega) (by omega)]; exact x6⟩
  · have z := y5 i i4 r er
    rw [eT] at z
    exact lwkX_f (m := 9) (N := h (a + 12) 0) rfl LA (by omega) (Int.le_refl _) (by rw [F _ _ (by omega) (by omega) (by omega)]; exact Int.le_refl _) (fun b s z1 z2 z3 z4 z5 z6 => F b s (by omega) (by omega) z1.2) z
  · rw [v.2.1, f _ _ (by omega) (by omega), y2.2.2.2.2.2.1.1]
theorem apN_1 : ∀ ks : List Int, 1 ≤ apN ks
  | [] => Int.le_refl _
  | k :: l => by
    show 1 ≤ k1K k * apN l
    have a := (k1K_r k).1
    have b := apN_1 l
    exact Int.mul_pos (by omega) (by omega)
theorem itK_le {B : Int → Int} {n : Int} {E : EV} {ks : List Int} {la : Int} : ∀ (i j : Int) (l : List ITt), itK B n E ks la i j l ≤ 1000000
  | _, _, [] => Int.le_refl _
  | i, j, (p, .inl s) :: l => by
    show min (rwK B n ks la i p s) (itK B n E ks la (i + 1) j l) ≤ 1000000
    have := itK_le (B := B) (n := n) (E := E) (ks := ks) (la := la) (i + 1) j l
    omega
  | i, j, (p, .inr s) :: l => by
    show min (lwK B n E ks la j p s) (itK B n E ks la i (j + 1) l) ≤ 1000000
    have := itK_le (B := B) (n := n) (E := E) (ks := ks) (la := la) i (j + 1) l
    omega
theorem fkAs_le {B : Int → Int} {n : Int} {E : EV} {p : ASt} : fkAs B n E p ≤ 1000000 := by
  have := itK_le (B := B) (n := n) (E := E) (ks := p.1) (la := p.2.1) 0 0 p.2.2.2
  unfold fkAs
  omega
/-- arrays of x's asks -/
def arA (h : AH) : Prop := ∀ a, a = 271 ∨ a = 289 → (arP h a ∧ (h (a + 6) (-2) = 101 ∧ h (a + 6) (-1) = 36) ∧ h (a + 7) (-2) = 101 ∧ h (a + 7) (-1) = 12) ∧ capT h (a + 12) 2200 ∧ h (a + 12 + 3) (-2) = 101
noncomputable def gX1_ask_k2  (h : AH) : Option (Int × AH) := jl (h 200 16) fun x15 => jl (jst h 200 16 (h 200 17)) fun h16 => jl (jst h16 200 17 x15) fun h17 => jb (gX4_settle (h17 200 16) h17) fun h19 => jb (gX5_clear h19) fun h21 => some (h21 (h21 200 16) 18, h21)
noncomputable def gX1_ask_k1  (h : AH) : Option (Int × AH) := jb2 (gX13_result h) fun v12 h13 => if 0 ≤ v12 then (gX1_ask_k2 h13) else (some (v12, h13))
theorem vX1_ask_k2 {h : AH} {B : Int → Int} {n A a T : Int} {E : EV} {h0 : AH} {p : ASt} (x16 : a = h0 200 17 ∧ ((h0 200 16 = 271 ∧ h0 200 17 = 289) ∨ (h0 200 16 = 289 ∧ h0 200 17 = 271))) (fr0 : frAs a h0 h) (ar : asR B n A a T E (.inr p) h) : OK (gX1_ask_k2 h) (fun r => jt2 r fun v h' => (h' 200 56 = h 200 56 ∧ asP B n E p a h' ∧ h' 200 16 = a ∧ v = h' a 18 ∧ h' 307 0 = 0 ∧ h' 307 7 = 0 ∧ h' 307 8 = 13 ∧ h' 307 17 = 0) ∧ (0 ≤ v) ∧ ((h' 200 16 = 271 ∧ h' 200 17 = 289) ∨ (h' 200 16 = 289 ∧ h' 200 17 = 271)) ∧ (∀ b s, ¬ (b = 200 ∧ (s = 16 ∨ s = 17 ∨ s = 55 ∨ s = 56)) → ¬ (a ≤ b ∧ b ≤ a + 17 ∧ 0 ≤ s) → ¬ (b = 441 ∧ 0 ≤ s ∧ s ≤ 20) → ¬ (442 ≤ b ∧ b ≤ 445 ∧ 0 ≤ s) → ¬ (b = 307 ∧ (s = 0 ∨ s = 7 ∨ s = 8 ∨ s = 17)) → h' b s = h0 b s)) := by
  have LA : a = 271 ∨ a = 289 := by omega
  have KD := ar.2.1.1.2.2.2.2.1
  have R8 := ar.2.1.2.1.2.2.2.2.2.1
  have E16 : h 200 16 = h0 200 16 ∧ h 200 17 = a := ⟨fr0 _ _ (by omega) (by omega) (by omega) (by omega), by { rw [fr0 _ _ (by omega) (by omega) (by omega) (by omega)]; exact x16.1.symm }⟩
  unfold gX1_ask_k2
  refine OK_jlx (fun x15 ex15 => ?_)
  try simp (disch := omega) only [jst_eq, jst_ne, jst_ni, jI_i, jcmp_lt, jcmp_gt, w32_id, jcpy_out, Sum.elim_inl, Sum.elim_inr, jt2, jt3, jt4, jt5, jt6, jt7, jt8] at ex15
  have X15 : x15 = h0 200 16 := by { rw [ex15]; exact E16.1 }
  refine OK_jl ?_
  rw [E16.2]
  refine OK_jl ?_
  have F17 : ∀ b s, ¬ (b = 200 ∧ (s = 16 ∨ s = 17)) → jst (jst h 200 16 a) 200 17 x15 b s = h b s := fun b s y => by { rw [jst_o (by omega), jst_o (by omega)] }
  have V17 : jst (jst h 200 16 a) 200 17 x15 200 16 = a ∧ jst (jst h 200 16 a) 200 17 x15 200 17 = x15 := ⟨by { rw [jst_o (by omega)]; exact jst_eq }, jst_eq⟩
  generalize jst (jst h 200 16 a) 200 17 x15 = g17 at *
  rw [V17.1]
  refine OK_jb (vX4_settle (ks := p.1) _ (by exact ⟨by rw [F17 _ _ (by omega)]; exact KD.1, KD.2.2.1, fun k k0 k1 => by rw [F17 _ _ (by omega)]; exact KD.2.2.2 k k0 k1⟩)) (fun h19 r1 => ?_)
  try dsimp only [Sum.elim_inl, Sum.elim_inr, jt2, jt3, jt4, jt5, jt6, jt7, jt8] at r1
  obtain ⟨v1, fr1⟩ := r1
  try simp (disch := omega) only [jst_eq, jst_ne, jst_ni, jI_i, jcmp_lt, jcmp_gt, w32_id, jcpy_out, Sum.elim_inl, Sum.elim_inr, jt2, jt3, jt4, jt5, jt6, jt7, jt8] at v1
  try simp (disch := omega) only [jst_eq, jst_ne, jst_ni, jI_i, jcmp_lt, jcmp_gt, w32_id, jcpy_out, Sum.elim_inl, Sum.elim_inr, jt2, jt3, jt4, jt5, jt6, jt7, jt8] at fr1
  refine OK_jb (vX5_clear) (fun h21 r2 => ?_)
  try dsimp only [Sum.elim_inl, Sum.elim_inr, jt2, jt3, jt4, jt5, jt6, jt7, jt8] at r2
  obtain ⟨cl2, fr2⟩ := r2
  try simp (disch := omega) only [jst_eq, jst_ne, jst_ni, jI_i, jcmp_lt, jcmp_gt, w32_id, jcpy_out, Sum.elim_inl, Sum.elim_inr, jt2, jt3, jt4, jt5, jt6, jt7, jt8] at cl2
  try simp (disch := omega) only [jst_eq, jst_ne, jst_ni, jI_i, jcmp_lt, jcmp_gt, w32_id, jcpy_out, Sum.elim_inl, Sum.elim_inr, jt2, jt3, jt4, jt5, jt6, jt7, jt8] at fr2
  have E21 : h21 200 16 = a := by { rw [fr2 _ _ (by omega), fr1 _ _ (by omega)]; exact V17.1 }
  have G21 : ∀ b s, ¬ (b = 200 ∧ (s = 16 ∨ s = 17)) → ¬ (b = a ∧ (s = 17 ∨ s = 18 ∨ s = 19)) → ¬ (b = 307 ∧ (s = 0 ∨ s = 7 ∨ s = 8 ∨ s = 17)) → h21 b s = h b s := fun b s y1 y2 y3 => (fr2 b s y3).trans ((fr1 b s y2).trans (F17 b s y1))
  have AP : asP B n E p a h21 := asR_P (h1 := g17) ar (fun b s b0 b1 => F17 _ _ (by omega)) (fun b s y1 b0 b1 => (fr2 b s (by omega)).trans (fr1 b s y1)) ⟨by rw [fr2 _ _ (by omega)]; exact v1.1, by rw [fr2 _ _ (by omega)]; exact v1.2.1, by rw [fr2 _ _ (by omega)]; exact v1.2.2⟩
  refine OK_some ?_
  try dsimp only [Sum.elim_inl, Sum.elim_inr, jt2, jt3, jt4, jt5, jt6, jt7, jt8]
  try dsimp only [Sum.elim_inl, Sum.elim_inr, jt2, jt3, jt4, jt5, jt6, jt7, jt8]
  refine ⟨?_, ?_, ?_, ?_⟩
  · exact ⟨G21 _ _ (by omega) (by omega) (by omega), AP, E21, by rw [E21], cl2⟩ -- o2 e1.1
  · (rw [E21, AP.2.2.2.2.2.1.2.1]; have := apN_1 p.1; split <;> omega) -- o3 e1.2
  · (rw [E21, fr2 200 17 (by omega), fr1 200 17 (by omega), V17.2]; omega) -- o4 e1.3
  · exact fun b s y1 y2 y3 y4 y5 => (G21 b s (by omega) (by omega) y5).trans (fr0 b s (by omega) y2 y3 y4) -- o5 e1.4
theorem vX1_ask_k1 {h : AH} {B : Int → Int} {n A a T : Int} {E : EV} {h0 : AH} (x16 : a = h0 200 17 ∧ ((h0 200 16 = 271 ∧ h0 200 17 = 289) ∨ (h0 200 16 = 289 ∧ h0 200 17 = 271))) (F10 : frAs a h0 h) (ar : asR B n A a T E (bS (beg B n) (pAsk B n)) h) (P56 : h 200 56 = h0 200 56) : OK (gX1_ask_k1 h) (fun r => jt2 r fun v h' => (outAs B n E (bS (beg B n) (pAsk B n)) (h0 200 56) v (h' 200 56) (fun p => asP B n E p a h' ∧ h' 200 16 = a ∧ v = h' a 18 ∧ h' 307 0 = 0 ∧ h' 307 7 = 0 ∧ h' 307 8 = 13 ∧ h' 307 17 = 0)) ∧ ((h' 200 16 = 271 ∧ h' 200 17 = 289) ∨ (h' 200 16 = 289 ∧ h' 200 17 = 271)) ∧ (v < 0 → frAs a h0 h') ∧ (∀ b s, ¬ (b = 200 ∧ (s = 16 ∨ s = 17 ∨ s = 55 ∨ s = 56)) → ¬ (a ≤ b ∧ b ≤ a + 17 ∧ 0 ≤ s) → ¬ (b = 441 ∧ 0 ≤ s ∧ s ≤ 20) → ¬ (442 ≤ b ∧ b ≤ 445 ∧ 0 ≤ s) → ¬ (b = 307 ∧ (s = 0 ∨ s = 7 ∨ s = 8 ∨ s = 17)) → h' b s = h0 b s)) := by
  have LA : a = 271 ∨ a = 289 := by omega
  have B10 : (h 441 6 = 0 ∨ h 441 6 = 1) ∧ f8X h := by { cases e : bS (beg B n) (pAsk B n) with | inl z => { rw [e] at ar; exact ⟨Or.inr ar.1, ar.2.2⟩ } | inr p => { rw [e] at ar; exact ⟨Or.inl ar.1, ar.2.1.1.2.2.2.2.2.2.2.2.2⟩ } }
  have f84 := B10.2
  unfold f8X at f84
  unfold gX1_ask_k1
  refine OK_jb2 (vX13_result (by exact ⟨f84.1, f84.2.1⟩) (by exact f84.2.2) (by exact B10.1)) (fun v12 h13 r1 => ?_)
  try dsimp only [Sum.elim_inl, Sum.elim_inr, jt2, jt3, jt4, jt5, jt6, jt7, jt8] at r1
  obtain ⟨b11, b01, bf1⟩ := r1
  try simp (disch := omega) only [jst_eq, jst_ne, jst_ni, jI_i, jcmp_lt, jcmp_gt, w32_id, jcpy_out, Sum.elim_inl, Sum.elim_inr, jt2, jt3, jt4, jt5, jt6, jt7, jt8] at b11
  try simp (disch := omega) only [jst_eq, jst_ne, jst_ni, jI_i, jcmp_lt, jcmp_gt, w32_id, jcpy_out, Sum.elim_inl, Sum.elim_inr, jt2, jt3, jt4, jt5, jt6, jt7, jt8] at b01
  try simp (disch := omega) only [jst_eq, jst_ne, jst_ni, jI_i, jcmp_lt, jcmp_gt, w32_id, jcpy_out, Sum.elim_inl, Sum.elim_inr, jt2, jt3, jt4, jt5, jt6, jt7, jt8] at bf1
  have F13 : frAs a h0 h13 := fun b s y1 y2 y3 y4 => by { have e : h13 b s = h b s := (by rcases B10.1 with z | z; { by_cases k : FK h = 1000000; { rw [(b01 z k).2] }; { rw [(bf1 z k).2.1, jst_o (by omega)] } }; { rw [(b11 z).2, jst_o (by omega)] }); rw [e]; exact F10 b s y1 y2 y3 y4 }
  refine OK_if (fun c1 => ?_) (fun c1 => ?_)
  · skip
    try simp (disch := omega) only [jst_eq, jst_ne, jst_ni, jI_i, jcmp_lt, jcmp_gt, w32_id, jcpy_out, Sum.elim_inl, Sum.elim_inr, jt2, jt3, jt4, jt5, jt6, jt7, jt8] at c1
    have Z10 : h 441 6 = 0 := B10.1.resolve_right (fun z => by have := (b11 z).1; omega)
    have K10 : FK h = 1000000 := Classical.byContradiction fun z => by { have := bf1 Z10 z; omega }
    obtain ⟨V12, E13⟩ := b01 Z10 K10
    obtain ⟨p, eP⟩ : ∃ p, bS (beg B n) (pAsk B n) = .inr p := by { cases e : bS (beg B n) (pAsk B n) with | inl z => { rw [e] at ar; have := ar.1; omega } | inr p => exact ⟨p, rfl⟩ }
    rw [eP] at ar
    have KF : fkAs B n E p = 1000000 := by { have k1 := ar.2.2.2.2; have k2 := fkAs_le (B := B) (n := n) (E := E) (p := p); omega }
    refine OK_mono (vX1_ask_k2 (B := B) (n := n) (A := A) (a := a) (T := T) (E := E) (h0 := h0) (p := p) (by exact x16) (by exact F13) (by (rw [E13]; exact ar))) (fun r r2 => ?_)
    obtain ⟨y1, y2⟩ := r
    try dsimp only [Sum.elim_inl, Sum.elim_inr, jt2, jt3, jt4, jt5, jt6, jt7, jt8] at r2
    obtain ⟨oo2, v02, xs2, fr2⟩ := r2
    try simp (disch := omega) only [jst_eq, jst_ne, jst_ni, jI_i, jcmp_lt, jcmp_gt, w32_id, jcpy_out, Sum.elim_inl, Sum.elim_inr, jt2, jt3, jt4, jt5, jt6, jt7, jt8] at oo2
    try simp (disch := omega) only [jst_eq, jst_ne, jst_ni, jI_i, jcmp_lt, jcmp_gt, w32_id, jcpy_out, Sum.elim_inl, Sum.elim_inr, jt2, jt3, jt4, jt5, jt6, jt7, jt8] at v02
    try simp (disch := omega) only [jst_eq, jst_ne, jst_ni, jI_i, jcmp_lt, jcmp_gt, w32_id, jcpy_out, Sum.elim_inl, Sum.elim_inr, jt2, jt3, jt4, jt5, jt6, jt7, jt8] at xs2
    try simp (disch := omega) only [jst_eq, jst_ne, jst_ni, jI_i, jcmp_lt, jcmp_gt, w32_id, jcpy_out, Sum.elim_inl, Sum.elim_inr, jt2, jt3, jt4, jt5, jt6, jt7, jt8] at fr2
    try dsimp only [Sum.elim_inl, Sum.elim_inr, jt2, jt3, jt4, jt5, jt6, jt7, jt8]
    try dsimp only [Sum.elim_inl, Sum.elim_inr, jt2, jt3, jt4, jt5, jt6, jt7, jt8]
    refine ⟨?_, ?_, ?_, ?_⟩
    · (rw [eP]; exact ⟨fun _ => ⟨by rw [oo2.1, E13]; exact P56, oo2.2⟩, fun z => absurd KF z⟩) -- o7 e1.1
    · exact xs2 -- o8 e1.2
    · exact fun z => absurd v02 (by omega) -- o9 e1.3
    · exact fr2 -- o10 e1.4
  · skip
    try simp (disch := omega) only [jst_eq, jst_ne, jst_ni, jI_i, jcmp_lt, jcmp_gt, w32_id, jcpy_out, Sum.elim_inl, Sum.elim_inr, jt2, jt3, jt4, jt5, jt6, jt7, jt8] at c1
    refine OK_some ?_
    try dsimp only [Sum.elim_inl, Sum.elim_inr, jt2, jt3, jt4, jt5, jt6, jt7, jt8]
    try dsimp only [Sum.elim_inl, Sum.elim_inr, jt2, jt3, jt4, jt5, jt6, jt7, jt8]
    refine ⟨?_, ?_, ?_, ?_⟩
    · (cases e : bS (beg B n) (pAsk B n) with | inl z => (rw [e] at ar; have b := b11 ar.1; exact ⟨b.1, by rw [b.2, jst_eq]; exact ar.2.1⟩) | inr p => (rw [e] at ar; have k1 := ar.2.2.2.2; have k2 := fkAs_le (B := B) (n := n) (E := E) (p := p); have nk : FK h ≠ 1000000 := (fun z => by have := (b01 ar.1 z).1; omega); have b := bf1 ar.1 nk; have ek : FK h = fkAs B n E p := (by omega); exact ⟨fun z => absurd (ek.trans z) nk, fun _ => ⟨by rw [← ek]; exact b.1, by rw [b.2.1, jst_eq, ek]⟩⟩)) -- o11 e2.1
    · (rw [F13 200 16 (by omega) (by omega) (by omega) (by omega), F13 200 17 (by omega) (by omega) (by omega) (by omega)]; exact x16.2) -- o12 e2.2
    · exact fun _ => F13 -- o13 e2.3
    · exact fun b s y1 y2 y3 y4 y5 => F13 b s (by omega) y2 y3 y4 -- o14 e2.4
theorem vX1_ask {h : AH} {B : Int → Int} {n : Int} {E : EV} (hB : ∀ i, 0 ≤ i → i < n → 0 ≤ B i ∧ B i < 256) (tb : n = h 200 55 ∧ tapX B n h) (ac : actX h E.1.1 E.1.2.1 E.1.2.2.1 E.1.2.2.2.1 E.1.2.2.2.2) (od : Od h) (ar : arA h) (dn : h 200 53 = 0 ∨ h 200 53 = 1) (x16 : (h 200 16 = 271 ∧ h 200 17 = 289) ∨ (h 200 16 = 289 ∧ h 200 17 = 271)) : OK (gX1_ask h) (fun r => jt2 r fun v h' => (h 200 53 = 1 → v = -5 ∧ h' = h) ∧ (h 200 53 = 0 → outAs B n E (bS (beg B n) (pAsk B n)) (h 200 56) v (h' 200 56) (fun p => asP B n E p (h 200 17) h' ∧ h' 200 16 = h 200 17 ∧ v = h' (h 200 17) 18 ∧ h' 307 0 = 0 ∧ h' 307 7 = 0 ∧ h' 307 8 = 13 ∧ h' 307 17 = 0)) ∧ ((h' 200 16 = 271 ∧ h' 200 17 = 289) ∨ (h' 200 16 = 289 ∧ h' 200 17 = 271)) ∧ (v < 0 → frAs (h 200 17) h h') ∧ (∀ b s, ¬ (b = 200 ∧ (s = 16 ∨ s = 17 ∨ s = 55 ∨ s = 56)) → ¬ (h 200 17 ≤ b ∧ b ≤ h 200 17 + 17 ∧ 0 ≤ s) → ¬ (b = 441 ∧ 0 ≤ s ∧ s ≤ 20) → ¬ (442 ≤ b ∧ b ≤ 445 ∧ 0 ≤ s) → ¬ (b = 307 ∧ (s = 0 ∨ s = 7 ∨ s = 8 ∨ s = 17)) → h' b s = h b s)) := by
  have T := tb.2
  have T1 : 0 ≤ n ∧ n ≤ 2000 := ⟨T.1, T.2.1⟩
  obtain ⟨a, ea⟩ : ∃ a, a = h 200 17 := ⟨_, rfl⟩
  have LA : a = 271 ∨ a = 289 := by omega
  unfold gX1_ask
  refine OK_if (fun c1 => ?_) (fun c1 => ?_)
  · skip
    try simp (disch := omega) only [jst_eq, jst_ne, jst_ni, jI_i, jcmp_lt, jcmp_gt, w32_id, jcpy_out, Sum.elim_inl, Sum.elim_inr, jt2, jt3, jt4, jt5, jt6, jt7, jt8] at c1
    refine OK_jb (vX4_clear _) (fun h3 r1 => ?_)
    try dsimp only [Sum.elim_inl, Sum.elim_inr, jt2, jt3, jt4, jt5, jt6, jt7, jt8] at r1
    obtain ⟨cl1, fr1⟩ := r1
    try simp (disch := omega) only [jst_eq, jst_ne, jst_ni, jI_i, jcmp_lt, jcmp_gt, w32_id, jcpy_out, Sum.elim_inl, Sum.elim_inr, jt2, jt3, jt4, jt5, jt6, jt7, jt8] at cl1
    try simp (disch := omega) only [jst_eq, jst_ne, jst_ni, jI_i, jcmp_lt, jcmp_gt, w32_id, jcpy_out, Sum.elim_inl, Sum.elim_inr, jt2, jt3, jt4, jt5, jt6, jt7, jt8] at fr1
    rw [← ea] at cl1 fr1
    refine OK_jb2 (vX1_takeTape) (fun v5 h6 r2 => ?_)
    try dsimp only [Sum.elim_inl, Sum.elim_inr, jt2, jt3, jt4, jt5, jt6, jt7, jt8] at r2
    obtain ⟨v2, hh2⟩ := r2
    try simp (disch := omega) only [jst_eq, jst_ne, jst_ni, jI_i, jcmp_lt, jcmp_gt, w32_id, jcpy_out, Sum.elim_inl, Sum.elim_inr, jt2, jt3, jt4, jt5, jt6, jt7, jt8] at v2
    try simp (disch := omega) only [jst_eq, jst_ne, jst_ni, jI_i, jcmp_lt, jcmp_gt, w32_id, jcpy_out, Sum.elim_inl, Sum.elim_inr, jt2, jt3, jt4, jt5, jt6, jt7, jt8] at hh2
    have en5 : v5 = n := by { rw [v2, fr1 _ _ (by omega) (by omega)]; exact tb.1.symm }
    rw [en5]
    have F6 : ∀ b s, ¬ (b = 200 ∧ s = 55) → ¬ (b = a + 12 ∧ s = 0) → ¬ (b = a ∧ (s = 1 ∨ s = 3 ∨ s = 8 ∨ s = 11 ∨ s = 19)) → h6 b s = h b s := fun b s y1 y2 y3 => by { rw [hh2, jst_o y1]; exact fr1 b s y3 y2 }
    have E17 : h6 200 17 = a := by { rw [F6 _ _ (by omega) (by omega) (by omega)]; exact ea.symm }
    rw [E17]
    refine OK_jb (vX13_beginB (B := B) _ _ _ (by exact hB) (by exact ⟨T1.1, T1.2, by decide, by decide, by rw [F6 _ _ (by omega) (by omega) (by omega)]; exact T.2.2.1, by rw [F6 _ _ (by omega) (by omega) (by omega)]; exact T.2.2.2.1, fun i i0 i1 => by rw [F6 _ _ (by omega) (by omega) (by omega)]; exact T.2.2.2.2 i i0 i1⟩)) (fun h8 r3 => ?_)
    try dsimp only [Sum.elim_inl, Sum.elim_inr, jt2, jt3, jt4, jt5, jt6, jt7, jt8] at r3
    obtain ⟨sx3, tx3, ce3, fr3, b63⟩ := r3
    try simp (disch := omega) only [jst_eq, jst_ne, jst_ni, jI_i, jcmp_lt, jcmp_gt, w32_id, jcpy_out, Sum.elim_inl, Sum.elim_inr, jt2, jt3, jt4, jt5, jt6, jt7, jt8] at sx3
    try simp (disch := omega) only [jst_eq, jst_ne, jst_ni, jI_i, jcmp_lt, jcmp_gt, w32_id, jcpy_out, Sum.elim_inl, Sum.elim_inr, jt2, jt3, jt4, jt5, jt6, jt7, jt8] at tx3
    try simp (disch := omega) only [jst_eq, jst_ne, jst_ni, jI_i, jcmp_lt, jcmp_gt, w32_id, jcpy_out, Sum.elim_inl, Sum.elim_inr, jt2, jt3, jt4, jt5, jt6, jt7, jt8] at ce3
    try simp (disch := omega) only [jst_eq, jst_ne, jst_ni, jI_i, jcmp_lt, jcmp_gt, w32_id, jcpy_out, Sum.elim_inl, Sum.elim_inr, jt2, jt3, jt4, jt5, jt6, jt7, jt8] at fr3
    try simp (disch := omega) only [jst_eq, jst_ne, jst_ni, jI_i, jcmp_lt, jcmp_gt, w32_id, jcpy_out, Sum.elim_inl, Sum.elim_inr, jt2, jt3, jt4, jt5, jt6, jt7, jt8] at b63
    have F8 : ∀ b s, ¬ (b = 200 ∧ s = 55) → ¬ (b = a + 12 ∧ s = 0) → ¬ (b = a ∧ (s = 1 ∨ s = 3 ∨ s = 8 ∨ s = 11 ∨ s = 19)) → ¬ (b = 441 ∧ (0 ≤ s ∧ s ≤ 8 ∨ 13 ≤ s ∧ s ≤ 17)) → h8 b s = h b s := fun b s y1 y2 y3 y4 => by { rw [fr3 b s y4]; exact F6 b s y1 y2 y3 }
    have E8 : h8 200 17 = a := by { rw [fr3 _ _ (by omega)]; exact E17 }
    have C8 : (h8 a 3 = 0 ∧ h8 a 8 = 0 ∧ h8 a 11 = 0) ∧ h8 (a + 12) 0 = 0 := by { obtain ⟨⟨z1, z2, z3, z4, z5⟩, z6⟩ := cl1; refine ⟨⟨?_, ?_, ?_⟩, ?_⟩; { rw [fr3 _ _ (by omega), hh2, jst_o (by omega)]; exact z2 }; { rw [fr3 _ _ (by omega), hh2, jst_o (by omega)]; exact z3 }; { rw [fr3 _ _ (by omega), hh2, jst_o (by omega)]; exact z4 }; { rw [fr3 _ _ (by omega), hh2, jst_o (by omega)]; exact z6 } }
    have FK8 : FK h8 = 1000000 := by { unfold FK; rw [if_pos (by omega)] }
    have AA := ar a LA
    have J8 : ∀ b s, ¬ (b = 441 ∧ s = 20) → jst h8 441 20 a b s = h8 b s := fun b s y => jst_o y
    have M8 : ∀ b s, s < 0 → jst h8 441 20 a b s = h b s := fun b s y => (J8 b s (by omega)).trans (F8 b s (by omega) (by omega) (by omega) (by omega))
    have AK : akP B n 440 a (a + 12) E (jst h8 441 20 a) := ⟨TX_fr tx3 (J8 _ _ (by omega)) (J8 _ _ (by omega)) (fun s => J8 _ _ (by omega)), actX_fr ac (fun b s q => (J8 b s (by unfold actC at q; omega)).trans (F8 b s (by unfold actC at q; omega) (by unfold actC at q; omega) (by unfold actC at q; omega) (by unfold actC at q; omega))), Od_fr od (fun b i b0 b1 => (J8 _ _ (by omega)).trans (F8 _ _ (by omega) (by omega) (by omega) (by omega))), ⟨LA, jst_eq, rfl⟩, ⟨by rw [J8 _ _ (by omega)]; exact ce3.2.2.2.2.2, by rw [J8 _ _ (by omega)]; exact ce3.2.2.1, by rw [J8 _ _ (by omega)]; exact ce3.2.2.2.2.1, by rw [J8 _ _ (by omega)]; exact ce3.2.1, by rw [J8 _ _ (by omega)]; exact ce3.2.2.2.1⟩, ⟨by rw [J8 _ _ (by omega)]; exact C8.1.1, by rw [J8 _ _ (by omega)]; exact C8.1.2.1, by rw [J8 _ _ (by omega)]; exact C8.1.2.2, by rw [J8 _ _ (by omega)]; exact C8.2⟩, ⟨by { have z := AA.1.1; unfold arP at z ⊢; rw [M8 _ _ (by decide), M8 _ _ (by decide), M8 _ _ (by decide), M8 _ _ (by decide)]; exact z }, by { rw [M8 _ _ (by decide), M8 _ _ (by decide)]; exact AA.1.2.1 }, by { rw [M8 _ _ (by decide), M8 _ _ (by decide)]; exact AA.1.2.2 }⟩, ⟨capT_fr AA.2.1 (fun c c0 c1 => M8 _ _ (by decide)), by rw [M8 _ _ (by decide)]; exact AA.2.2⟩, ⟨by rw [J8 _ _ (by omega)]; omega, by rw [J8 _ _ (by omega)]; omega, by rw [FK_fr (J8 _ _ (by omega)) (J8 _ _ (by omega))]; omega⟩, by rw [FK_fr (J8 _ _ (by omega)) (J8 _ _ (by omega))]; exact FK8⟩
    rw [E8]
    refine OK_jb (vX13_ask (B := B) (n := n) (A := 440) (T := a + 12) (E := E) (R := beg B n) _ (by exact hB) (by exact AK) (by exact sx3)) (fun h10 r4 => ?_)
    try dsimp only [Sum.elim_inl, Sum.elim_inr, jt2, jt3, jt4, jt5, jt6, jt7, jt8] at r4
    obtain ⟨ok4, fr4⟩ := r4
    try simp (disch := omega) only [jst_eq, jst_ne, jst_ni, jI_i, jcmp_lt, jcmp_gt, w32_id, jcpy_out, Sum.elim_inl, Sum.elim_inr, jt2, jt3, jt4, jt5, jt6, jt7, jt8] at ok4
    try simp (disch := omega) only [jst_eq, jst_ne, jst_ni, jI_i, jcmp_lt, jcmp_gt, w32_id, jcpy_out, Sum.elim_inl, Sum.elim_inr, jt2, jt3, jt4, jt5, jt6, jt7, jt8] at fr4
    have F10 : frAs a h h10 := fun b s y1 y2 y3 y4 => by { rw [fr4 b s (fun z => by unfold asC lwC at z; omega) (by omega)]; exact F8 b s (by omega) (by omega) (by omega) (by omega) }
    refine OK_mono (vX1_ask_k1 (B := B) (n := n) (A := 440) (a := a) (T := a + 12) (E := E) (h0 := h) (by exact ⟨ea, x16⟩) (by exact F10) (by exact ok4) (by (rw [fr4 _ _ (fun z => by unfold asC lwC at z; omega) (by omega)]; exact F8 _ _ (by omega) (by omega) (by omega) (by omega)))) (fun r r5 => ?_)
    obtain ⟨y1, y2⟩ := r
    try dsimp only [Sum.elim_inl, Sum.elim_inr, jt2, jt3, jt4, jt5, jt6, jt7, jt8] at r5
    obtain ⟨oo5, xs5, fk5, fr5⟩ := r5
    try simp (disch := omega) only [jst_eq, jst_ne, jst_ni, jI_i, jcmp_lt, jcmp_gt, w32_id, jcpy_out, Sum.elim_inl, Sum.elim_inr, jt2, jt3, jt4, jt5, jt6, jt7, jt8] at oo5
    try simp (disch := omega) only [jst_eq, jst_ne, jst_ni, jI_i, jcmp_lt, jcmp_gt, w32_id, jcpy_out, Sum.elim_inl, Sum.elim_inr, jt2, jt3, jt4, jt5, jt6, jt7, jt8] at xs5
    try simp (disch := omega) only [jst_eq, jst_ne, jst_ni, jI_i, jcmp_lt, jcmp_gt, w32_id, jcpy_out, Sum.elim_inl, Sum.elim_inr, jt2, jt3, jt4, jt5, jt6, jt7, jt8] at fk5
    try simp (disch := omega) only [jst_eq, jst_ne, jst_ni, jI_i, jcmp_lt, jcmp_gt, w32_id, jcpy_out, Sum.elim_inl, Sum.elim_inr, jt2, jt3, jt4, jt5, jt6, jt7, jt8] at fr5
    try dsimp only [Sum.elim_inl, Sum.elim_inr, jt2, jt3, jt4, jt5, jt6, jt7, jt8]
    try dsimp only [Sum.elim_inl, Sum.elim_inr, jt2, jt3, jt4, jt5, jt6, jt7, jt8]
    refine ⟨?_, ?_, ?_, ?_, ?_⟩
    · (first | assumption | omega | ((try dsimp only [jt2, jt3, jt4]); first | omega | (simp (disch := omega) only [jst_eq, jst_ne, jst_ni, jst_o, jI_i, jcpy_out, w32_id, jdiv_nn, jshr_k, jand_255] <;> first | done | omega | assumption)) | (intros; simp (disch := omega) only [jst_eq, jst_ne, jst_ni, jst_o, jI_i, jcpy_out, w32_id, jdiv_nn, *] <;> first | done | omega) | (intros; simp (disch := omega) only [jst_eq, jst_ne, jst_ni, jst_o, jI_i, jcpy_out, w32_id, jdiv_nn] at * <;> first | done | omega | assumption) | (intros; first | rfl | (exfalso; omega) | ((repeat' apply And.intro) <;> first | assumption | rfl | omega | trivial))) -- o10 e1.1
    · (intro _; rw [← ea]; exact oo5) -- o11 e1.2
    · exact xs5 -- o12 e1.3
    · (intro z; rw [← ea]; exact fk5 z) -- o13 e1.4
    · (rw [← ea]; exact fr5) -- o14 e1.5
  · skip
    try simp (disch := omega) only [jst_eq, jst_ne, jst_ni, jI_i, jcmp_lt, jcmp_gt, w32_id, jcpy_out, Sum.elim_inl, Sum.elim_inr, jt2, jt3, jt4, jt5, jt6, jt7, jt8] at c1
    refine OK_some ?_
    try dsimp only [Sum.elim_inl, Sum.elim_inr, jt2, jt3, jt4, jt5, jt6, jt7, jt8]
    try dsimp only [Sum.elim_inl, Sum.elim_inr, jt2, jt3, jt4, jt5, jt6, jt7, jt8]
    refine ⟨?_, ?_, ?_, ?_, ?_⟩
    · (first | assumption | omega | ((try dsimp only [jt2, jt3, jt4]); first | omega | (simp (disch := omega) only [jst_eq, jst_ne, jst_ni, jst_o, jI_i, jcpy_out, w32_id, jdiv_nn, jshr_k, jand_255] <;> first | done | omega | assumption)) | (intros; simp (disch := omega) only [jst_eq, jst_ne, jst_ni, jst_o, jI_i, jcpy_out, w32_id, jdiv_nn, *] <;> first | done | omega) | (intros; simp (disch := omega) only [jst_eq, jst_ne, jst_ni, jst_o, jI_i, jcpy_out, w32_id, jdiv_nn] at * <;> first | done | omega | assumption) | (intros; first | rfl | (exfalso; omega) | ((repeat' apply And.intro) <;> first | assumption | rfl | omega | trivial))) -- o15 e2.1
    · (first | assumption | omega | ((try dsimp only [jt2, jt3, jt4]); first | omega | (simp (disch := omega) only [jst_eq, jst_ne, jst_ni, jst_o, jI_i, jcpy_out, w32_id, jdiv_nn, jshr_k, jand_255] <;> first | done | omega | assumption)) | (intros; simp (disch := omega) only [jst_eq, jst_ne, jst_ni, jst_o, jI_i, jcpy_out, w32_id, jdiv_nn, *] <;> first | done | omega) | (intros; simp (disch := omega) only [jst_eq, jst_ne, jst_ni, jst_o, jI_i, jcpy_out, w32_id, jdiv_nn] at * <;> first | done | omega | assumption) | (intros; first | rfl | (exfalso; omega) | ((repeat' apply And.intro) <;> first | assumption | rfl | omega | trivial))) -- o16 e2.2
    · (first | assumption | omega | ((try dsimp only [jt2, jt3, jt4]); first | omega | (simp (disch := omega) only [jst_eq, jst_ne, jst_ni, jst_o, jI_i, jcpy_out, w32_id, jdiv_nn, jshr_k, jand_255] <;> first | done | omega | assumption)) | (intros; simp (disch := omega) only [jst_eq, jst_ne, jst_ni, jst_o, jI_i, jcpy_out, w32_id, jdiv_nn, *] <;> first | done | omega) | (intros; simp (disch := omega) only [jst_eq, jst_ne, jst_ni, jst_o, jI_i, jcpy_out, w32_id, jdiv_nn] at * <;> first | done | omega | assumption) | (intros; first | rfl | (exfalso; omega) | ((repeat' apply And.intro) <;> first | assumption | rfl | omega | trivial))) -- o17 e2.3
    · exact fun _ _ _ _ _ _ _ => rfl -- o18 e2.4
    · exact fun _ _ _ _ _ _ _ => rfl -- o19 e2.5

