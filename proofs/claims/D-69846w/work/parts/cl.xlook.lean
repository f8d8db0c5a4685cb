/-! x: one pair of places is looked at -/
/-- a pattern that may be learnt -/
def okP (wA : Int → Int) (A B : TR) : Prop := (1 ≤ (jnT A B []).2.length ∧ (jnT A B []).2.length ≤ 2) ∧ wtR wA (jnT A B []).1 ≤ 40 ∧ ¬ bareD (jnT A B []).1
def cdQ (E : EV) (A B : TR) : List Int := txT E.1.2.1 (fun _ => 0) (jnT A B []).1
/-- the best of some pairs: what it saves, which -/
def bstP (E : EV) (n : Nat) (Rq : Int → TR) (C : TR → TR → Prop) (s : Int) (o : Option (TR × TR)) : Prop := (o = none ∧ s = 0 ∧ ∀ A B, C A B → okP E.1.2.2.2.1 A B → savP n Rq (jnT A B []).1 < 1) ∨ ∃ A B, o = some (A, B) ∧ C A B ∧ okP E.1.2.2.2.1 A B ∧ s = savP n Rq (jnT A B []).1 ∧ 1 ≤ s ∧ ∀ A' B', C A' B' → okP E.1.2.2.2.1 A' B' → savP n Rq (jnT A' B' []).1 < s ∨ (savP n Rq (jnT A' B' []).1 = s ∧ ¬ ltx (cdQ E A' B') (cdQ E A B))
theorem bstP_0 {E : EV} {n : Nat} {Rq : Int → TR} : bstP E n Rq (fun _ _ => False) 0 none := .inl ⟨rfl, rfl, fun _ _ y => y.elim⟩
theorem bstP_s {E : EV} {n : Nat} {Rq : Int → TR} {C : TR → TR → Prop} {s : Int} {o : Option (TR × TR)} (b : bstP E n Rq C s o) : 0 ≤ s := by
  rcases b with y | ⟨_, _, _, _, _, _, y, _⟩
  · omega
  · omega
theorem ltx_r : ∀ l : List Int, ¬ ltx l l
  | [] => fun y => y
  | a :: l => fun y => by
    rcases (y : a < a ∨ (a = a ∧ ltx l l)) with z | z
    · omega
    · exact ltx_r l z.2
theorem ltx_t : ∀ {a b c : List Int}, ltx a b → ltx b c → ltx a c
  | _, [], _, y, _ => by rename_i a c; cases a <;> exact y.elim
  | _, _ :: _, [], _, z => z.elim
  | [], _ :: _, _ :: _, _, _ => trivial
  | x :: a, y :: b, z :: c, p, q => by
    rcases (p : x < y ∨ (x = y ∧ ltx a b)) with p | p
    · rcases (q : y < z ∨ (y = z ∧ ltx b c)) with q | q
      · exact .inl (by omega)
      · exact .inl (by omega)
    · rcases (q : y < z ∨ (y = z ∧ ltx b c)) with q | q
      · exact .inl (by omega)
      · exact .inr ⟨p.1.trans q.1, ltx_t p.2 q.2⟩
/-- one of two is before the other, or they are the same -/
theorem ltx_3 : ∀ (a b : List Int), ltx a b ∨ a = b ∨ ltx b a
  | [], [] => .inr (.inl rfl)
  | [], _ :: _ => .inl trivial
  | _ :: _, [] => .inr (.inr trivial)
  | x :: a, y :: b => by
    rcases Int.lt_trichotomy x y with z | z | z
    · exact .inl (.inl z)
    · rcases ltx_3 a b with w | w | w
      · exact .inl (.inr ⟨z, w⟩)
      · exact .inr (.inl (by rw [z, w]))
      · exact .inr (.inr (.inr ⟨z.symm, w⟩))
    · exact .inr (.inr (.inl z))
/-- one more pair that changes nothing -/
theorem bstP_k {E : EV} {n : Nat} {Rq : Int → TR} {C : TR → TR → Prop} {s : Int} {o : Option (TR × TR)} {A B : TR} (b : bstP E n Rq C s o) (k : okP E.1.2.2.2.1 A B → savP n Rq (jnT A B []).1 < 1 ∨ savP n Rq (jnT A B []).1 < s ∨ (savP n Rq (jnT A B []).1 = s ∧ ∀ P, o = some P → ¬ ltx (cdQ E A B) (cdQ E P.1 P.2))) : bstP E n Rq (fun x y => C x y ∨ (x = A ∧ y = B)) s o := by
  rcases b with ⟨b1, b2, b3⟩ | ⟨A0, B0, b1, b2, b3, b4, b5, b6⟩
  · refine .inl ⟨b1, b2, fun x y w q => ?_⟩
    rcases w with w | ⟨w1, w2⟩
    · exact b3 x y w q
    · subst w1 w2
      rcases k q with z | z | z <;> omega
  · refine .inr ⟨A0, B0, b1, .inl b2, b3, b4, b5, fun x y w q => ?_⟩
    rcases w with w | ⟨w1, w2⟩
    · exact b6 x y w q
    · subst w1 w2
      rcases k q with z | z | z
      · exact .inl (by omega)
      · exact .inl z
      · exact .inr ⟨z.1, z.2 _ b1⟩
/-- one more pair that is better -/
theorem bstP_n {E : EV} {n : Nat} {Rq : Int → TR} {C : TR → TR → Prop} {s : Int} {o : Option (TR × TR)} {A B : TR} (b : bstP E n Rq C s o) (q : okP E.1.2.2.2.1 A B) (s1 : 1 ≤ savP n Rq (jnT A B []).1) (k : s < savP n Rq (jnT A B []).1 ∨ (s = savP n Rq (jnT A B []).1 ∧ ∀ P, o = some P → ltx (cdQ E A B) (cdQ E P.1 P.2))) : bstP E n Rq (fun x y => C x y ∨ (x = A ∧ y = B)) (savP n Rq (jnT A B []).1) (some (A, B)) := by
  refine .inr ⟨A, B, rfl, .inr ⟨rfl, rfl⟩, q, rfl, s1, fun x y w z => ?_⟩
  rcases w with w | ⟨w1, w2⟩
  · rcases b with ⟨b1, b2, b3⟩ | ⟨A0, B0, b1, b2, b3, b4, b5, b6⟩
    · have := b3 x y w z; exact .inl (by omega)
    · rcases b6 x y w z with u | u
      · rcases k with k | k <;> exact .inl (by omega)
      · rcases k with k | k
        · exact .inl (by omega)
        · refine .inr ⟨by omega, fun v => u.2 (ltx_t v (k.2 _ b1))⟩
  · subst w1 w2; exact .inr ⟨rfl, ltx_r _⟩
/-- the best as x has it -/
def bsX (h : AH) (E : EV) (s : Int) (o : Option (TR × TR)) : Prop := h 356 2 = s ∧ ∀ P, o = some P → tx6 h 371 (cdQ E P.1 P.2) ∧ cX h 363 (jnT P.1 P.2 []).1 0 0 1 ∧ h 356 10 = ((jnT P.1 P.2 []).2.length : Nat) ∧ (∀ k : Nat, k < (jnT P.1 P.2 []).2.length → h 376 k = (inf (gPS (jnT P.1 P.2 []).2 k).1).2.2.1) ∧ sz (jnT P.1 P.2 []).1 ≤ 32 ∧ byL (cdQ E P.1 P.2)
theorem bsX_f {h h' : AH} {E : EV} {s : Int} {o : Option (TR × TR)} (b : bsX h E s o) (f : ∀ a x, (a = 356 ∧ (x = 2 ∨ x = 10)) ∨ (364 ≤ a ∧ a ≤ 368 ∧ 0 ≤ x) ∨ ((a = 371 ∨ a = 372 ∨ a = 376) ∧ 0 ≤ x) → h' a x = h a x) : bsX h' E s o := by
  refine ⟨by rw [f _ _ (by omega)]; exact b.1, fun P e => ?_⟩
  obtain ⟨⟨t1, t2, t3⟩, b2, b3, b4, z, zb⟩ := b.2 P e
  exact ⟨⟨by rw [f _ _ (by omega)]; exact t1, t2, fun i il => by rw [f _ _ (by omega)]; exact t3 i il⟩, cX_fr (h := h) (lo := 0) (hi := 32) (fun a x a0 a1 x0 _ => f _ _ (by omega)) (fun x x0 _ => f _ _ (by omega)) b2 (Int.le_refl _) (by decide) (by decide) (by decide) (by omega), by rw [f _ _ (by omega)]; exact b3, fun k kl => by rw [f _ _ (by omega)]; exact b4 k kl, z, zb⟩
theorem vX7_look_l184 (a60 : Int) {h0 : AH} (z : a60 = 0) : OK (gX7_look_l184 a60 h0) (fun h' => (∀ k, 0 ≤ k → k < 2 → h' 376 k = h0 375 k) ∧ (∀ a s, ¬ (a = 376 ∧ 0 ≤ s ∧ s < 3) → h' a s = h0 a s)) := by
  unfold gX7_look_l184
  refine OK_jit (I := (fun (s : Int × AH) => jt2 s fun a6 h => (0 ≤ a6 ∧ a6 ≤ 2) ∧ (∀ k, 0 ≤ k → k < a6 → h 376 k = h0 375 k) ∧ (∀ a s, ¬ (a = 376 ∧ 0 ≤ s ∧ s < 3) → h a s = h0 a s))) (m := (fun (s : Int × AH) => jt2 s fun a6 h => (2 - a6).toNat)) ?_ ?_
  · intro s hs
    obtain ⟨a6, h⟩ := s
    dsimp only [Sum.elim_inl, Sum.elim_inr, jt2, jt3, jt4, jt5, jt6, jt7, jt8] at hs
    obtain ⟨q0, q1, q2⟩ := hs
    unfold gX7_look_b184
    refine OK_jt2 ?_
    have Q2 := q2
    refine OK_if (fun c1 => ?_) (fun c1 => ?_)
    · skip
      try simp (disch := omega) only [jst_eq, jst_ne, jst_ni, jI_i, jcmp_lt, jcmp_gt, w32_id, jcpy_out, Sum.elim_inl, Sum.elim_inr, jt2, jt3, jt4, jt5, jt6, jt7, jt8] at c1
      refine OK_ir ?_
      try dsimp only [Sum.elim_inl, Sum.elim_inr, jt2, jt3, jt4, jt5, jt6, jt7, jt8]
      refine ⟨?_, ?_⟩
      · exact fun k k0 k1 => q1 k k0 (by omega) -- o1 e1.1
      · exact Q2 -- o2 e1.2
    · skip
      try simp (disch := omega) only [jst_eq, jst_ne, jst_ni, jI_i, jcmp_lt, jcmp_gt, w32_id, jcpy_out, Sum.elim_inl, Sum.elim_inr, jt2, jt3, jt4, jt5, jt6, jt7, jt8] at c1
      refine OK_jg (by (first | assumption | omega | ((try dsimp only [jt2, jt3, jt4]); first | omega | (simp (disch := omega) only [jst_eq, jst_ne, jst_ni, jst_o, jI_i, jcpy_out, w32_id, jdiv_nn, jshr_k, jand_255] <;> first | done | omega | assumption)) | (intros; simp (disch := omega) only [jst_eq, jst_ne, jst_ni, jst_o, jI_i, jcpy_out, w32_id, jdiv_nn, *] <;> first | done | omega) | (intros; simp (disch := omega) only [jst_eq, jst_ne, jst_ni, jst_o, jI_i, jcpy_out, w32_id, jdiv_nn] at * <;> first | done | omega | assumption) | (intros; first | rfl | (exfalso; omega) | ((repeat' apply And.intro) <;> first | assumption | rfl | omega | trivial)))) ?_ -- o3
      refine OK_jl ?_
      refine OK_jlx (fun x38 ex38 => ?_)
      try simp (disch := omega) only [jst_eq, jst_ne, jst_ni, jI_i, jcmp_lt, jcmp_gt, w32_id, jcpy_out, Sum.elim_inl, Sum.elim_inr, jt2, jt3, jt4, jt5, jt6, jt7, jt8] at ex38
      refine OK_il ?_ ?_
      · try dsimp only [Sum.elim_inl, Sum.elim_inr, jt2, jt3, jt4, jt5, jt6, jt7, jt8]
        refine ⟨?_, ?_, ?_⟩
        · (first | assumption | omega | ((try dsimp only [jt2, jt3, jt4]); first | omega | (simp (disch := omega) only [jst_eq, jst_ne, jst_ni, jst_o, jI_i, jcpy_out, w32_id, jdiv_nn, jshr_k, jand_255] <;> first | done | omega | assumption)) | (intros; simp (disch := omega) only [jst_eq, jst_ne, jst_ni, jst_o, jI_i, jcpy_out, w32_id, jdiv_nn, *] <;> first | done | omega) | (intros; simp (disch := omega) only [jst_eq, jst_ne, jst_ni, jst_o, jI_i, jcpy_out, w32_id, jdiv_nn] at * <;> first | done | omega | assumption) | (intros; first | rfl | (exfalso; omega) | ((repeat' apply And.intro) <;> first | assumption | rfl | omega | trivial))) -- o4 e2i.1
        · (intro k k0 k1; by_cases y : k = a6; { rw [y, jst_eq]; exact Q2 _ _ (by omega) }; { rw [jst_o (by omega)]; exact q1 k k0 (by omega) }) -- o5 e2i.2
        · (intro a s y; rw [jst_o (by omega)]; exact Q2 a s y) -- o6 e2i.3
      · (first | assumption | omega | ((try dsimp only [jt2, jt3, jt4]); first | omega | (simp (disch := omega) only [jst_eq, jst_ne, jst_ni, jst_o, jI_i, jcpy_out, w32_id, jdiv_nn, jshr_k, jand_255] <;> first | done | omega | assumption)) | (intros; simp (disch := omega) only [jst_eq, jst_ne, jst_ni, jst_o, jI_i, jcpy_out, w32_id, jdiv_nn, *] <;> first | done | omega) | (intros; simp (disch := omega) only [jst_eq, jst_ne, jst_ni, jst_o, jI_i, jcpy_out, w32_id, jdiv_nn] at * <;> first | done | omega | assumption) | (intros; first | rfl | (exfalso; omega) | ((repeat' apply And.intro) <;> first | assumption | rfl | omega | trivial))) -- o7 e2m
  · try dsimp only [Sum.elim_inl, Sum.elim_inr, jt2, jt3, jt4, jt5, jt6, jt7, jt8]
    refine ⟨?_, ?_, ?_⟩
    · (first | assumption | omega | ((try dsimp only [jt2, jt3, jt4]); first | omega | (simp (disch := omega) only [jst_eq, jst_ne, jst_ni, jst_o, jI_i, jcpy_out, w32_id, jdiv_nn, jshr_k, jand_255] <;> first | done | omega | assumption)) | (intros; simp (disch := omega) only [jst_eq, jst_ne, jst_ni, jst_o, jI_i, jcpy_out, w32_id, jdiv_nn, *] <;> first | done | omega) | (intros; simp (disch := omega) only [jst_eq, jst_ne, jst_ni, jst_o, jI_i, jcpy_out, w32_id, jdiv_nn] at * <;> first | done | omega | assumption) | (intros; first | rfl | (exfalso; omega) | ((repeat' apply And.intro) <;> first | assumption | rfl | omega | trivial))) -- o8 init.1
    · (intro k k0 k1; omega) -- o9 init.2
    · exact fun _ _ _ => rfl -- o10 init.3
/-- what looking changes -/
def lkF (h h' : AH) : Prop := ∀ a s, ¬ (356 ≤ a ∧ a ≤ 377 ∧ 0 ≤ s) → h' a s = h a s
theorem lkF_t {h h1 h2 : AH} (x : lkF h h1) (y : lkF h1 h2) : lkF h h2 := fun a s z => (y a s z).trans (x a s z)
theorem vX7_look_j134 (a3 : Int) (a4 : Int) {h : AH} {E : EV} {A B : TR} {s : Int} (cc : capT h 357 32 ∧ capT h 363 32) (tp : cX h 357 (jnT A B []).1 a3 0 (a3 + 1) ∧ a3 = 0 ∧ sz (jnT A B []).1 ≤ 32 ∧ dpT (jnT A B []).1 ≤ 39) (tx : tx6 h 369 (cdQ E A B)) (ps : h 356 5 = ((jnT A B []).2.length : Nat) ∧ (jnT A B []).2.length ≤ 2 ∧ ∀ k : Nat, k < (jnT A B []).2.length → h 375 k = (inf (gPS (jnT A B []).2 k).1).2.2.1) (v : a4 = s ∧ byL (cdQ E A B)) : OK (gX7_look_j134 a3 a4 h) (fun h' => (bsX h' E s (some (A, B))) ∧ (lkF h h')) := by
  unfold gX7_look_j134
  refine OK_jl ?_
  have F26 : ∀ a x, ¬ (a = 356 ∧ x = 2) → jst h 356 2 a4 a x = h a x := fun a x y => jst_o y
  have K26 : jst h 356 2 a4 356 2 = a4 := jst_eq
  generalize e26 : jst h 356 2 a4 = g26 at *
  refine OK_jb (vX6_set (l := cdQ E A B) (by exact ⟨by (rw [F26 _ _ (by omega)]; exact tx.1), tx.2.1, fun i il => by (rw [F26 _ _ (by omega)]; exact tx.2.2 i il)⟩)) (fun h28 r1 => ?_)
  try dsimp only [Sum.elim_inl, Sum.elim_inr, jt2, jt3, jt4, jt5, jt6, jt7, jt8] at r1
  obtain ⟨tx1, fr1⟩ := r1
  try simp (disch := omega) only [jst_eq, jst_ne, jst_ni, jI_i, jcmp_lt, jcmp_gt, w32_id, jcpy_out, Sum.elim_inl, Sum.elim_inr, jt2, jt3, jt4, jt5, jt6, jt7, jt8] at tx1
  try simp (disch := omega) only [jst_eq, jst_ne, jst_ni, jI_i, jcmp_lt, jcmp_gt, w32_id, jcpy_out, Sum.elim_inl, Sum.elim_inr, jt2, jt3, jt4, jt5, jt6, jt7, jt8] at fr1
  refine OK_jl ?_
  have F29 : ∀ a x, ¬ (a = 363 ∧ x = 0) → jst h28 363 0 0 a x = h28 a x := fun a x y => jst_o y
  have K29 : jst h28 363 0 0 363 0 = 0 := jst_eq
  generalize e29 : jst h28 363 0 0 = g29 at *
  have G29 : ∀ a x, ¬ (a = 356 ∧ x = 2) → ¬ (a = 371 ∧ x = 1) → ¬ (a = 372 ∧ 0 ≤ x ∧ x < 400) → ¬ (a = 363 ∧ x = 0) → g29 a x = h a x := fun a x y1 y2 y3 y4 => by { rw [F29 a x y4, fr1 a x y2 y3]; exact F26 a x y1 }
  have sp := sz_pos (jnT A B []).1
  refine OK_jb2 (vX3_copy (M0 := 32) (M1 := 32) (R := (jnT A B []).1) _ _ _ (by exact .inr (by decide)) (by exact capT_fr cc.2 (fun a x0 x1 => G29 _ _ (by omega) (by omega) (by omega) (by omega))) (by exact capT_fr cc.1 (fun a x0 x1 => G29 _ _ (by omega) (by omega) (by omega) (by omega))) (by exact trX_fr (fun a x x0 x1 _ _ => G29 _ _ (by omega) (by omega) (by omega) (by omega)) (fun x _ _ => G29 _ _ (by omega) (by omega) (by omega) (by omega)) (cX_tr (lo := 0) (hi := 32) tp.1 (by omega) (by omega) (by omega) (by omega)) (Int.le_refl 0)) (by (rw [K29]; omega)) (by exact tp.2.2.2)) (fun v31 h32 r2 => ?_)
  try dsimp only [Sum.elim_inl, Sum.elim_inr, jt2, jt3, jt4, jt5, jt6, jt7, jt8] at r2
  have po2 := r2
  clear r2
  try simp (disch := omega) only [jst_eq, jst_ne, jst_ni, jI_i, jcmp_lt, jcmp_gt, w32_id, jcpy_out, Sum.elim_inl, Sum.elim_inr, jt2, jt3, jt4, jt5, jt6, jt7, jt8] at po2
  obtain ⟨q1, q2, q3, q4⟩ := po2
  rw [K29] at q1 q2 q4
  rw [q1] at q3
  have G32 : ∀ a x, ¬ (a = 356 ∧ x = 2) → ¬ (a = 371 ∧ x = 1) → ¬ (a = 372 ∧ 0 ≤ x ∧ x < 400) → ¬ (363 ≤ a ∧ a ≤ 368 ∧ 0 ≤ x) → h32 a x = h a x := fun a x y1 y2 y3 y4 => by { rw [q4 a x (by omega) (by omega) (by omega)]; exact G29 a x y1 y2 y3 (by omega) }
  refine OK_jl ?_
  have E5 : h32 356 5 = ((jnT A B []).2.length : Nat) := by { rw [G32 _ _ (by omega) (by omega) (by omega) (by omega)]; exact ps.1 }
  rw [E5]
  have F33 : ∀ a x, ¬ (a = 356 ∧ x = 10) → jst h32 356 10 ((jnT A B []).2.length : Nat) a x = h32 a x := fun a x y => jst_o y
  have K33 : jst h32 356 10 ((jnT A B []).2.length : Nat) 356 10 = ((jnT A B []).2.length : Nat) := jst_eq
  generalize e33 : jst h32 356 10 ((jnT A B []).2.length : Nat) = g33 at *
  refine OK_jb (vX7_look_l184 _ (by (first | assumption | omega | ((try dsimp only [jt2, jt3, jt4]); first | omega | (simp (disch := omega) only [jst_eq, jst_ne, jst_ni, jst_o, jI_i, jcpy_out, w32_id, jdiv_nn, jshr_k, jand_255] <;> first | done | omega | assumption)) | (intros; simp (disch := omega) only [jst_eq, jst_ne, jst_ni, jst_o, jI_i, jcpy_out, w32_id, jdiv_nn, *] <;> first | done | omega) | (intros; simp (disch := omega) only [jst_eq, jst_ne, jst_ni, jst_o, jI_i, jcpy_out, w32_id, jdiv_nn] at * <;> first | done | omega | assumption) | (intros; first | rfl | (exfalso; omega) | ((repeat' apply And.intro) <;> first | assumption | rfl | omega | trivial))))) (fun o34 r3 => ?_)
  try dsimp only [Sum.elim_inl, Sum.elim_inr, jt2, jt3, jt4, jt5, jt6, jt7, jt8] at r3
  obtain ⟨kn3, fr3⟩ := r3
  try simp (disch := omega) only [jst_eq, jst_ne, jst_ni, jI_i, jcmp_lt, jcmp_gt, w32_id, jcpy_out, Sum.elim_inl, Sum.elim_inr, jt2, jt3, jt4, jt5, jt6, jt7, jt8] at kn3
  try simp (disch := omega) only [jst_eq, jst_ne, jst_ni, jI_i, jcmp_lt, jcmp_gt, w32_id, jcpy_out, Sum.elim_inl, Sum.elim_inr, jt2, jt3, jt4, jt5, jt6, jt7, jt8] at fr3
  have G34 : ∀ a x, ¬ (a = 376 ∧ 0 ≤ x ∧ x < 3) → ¬ (a = 356 ∧ x = 10) → o34 a x = h32 a x := fun a x y1 y2 => by { rw [fr3 a x y1]; exact F33 a x y2 }
  have G30 : ∀ a x, (a = 371 ∨ a = 372 ∨ (a = 356 ∧ x = 2)) → o34 a x = h28 a x := fun a x y => by { rw [G34 a x (by omega) (by omega), q4 a x (by omega) (by omega) (by omega)]; exact F29 a x (by omega) }
  refine OK_some ?_
  try dsimp only [Sum.elim_inl, Sum.elim_inr, jt2, jt3, jt4, jt5, jt6, jt7, jt8]
  try dsimp only [Sum.elim_inl, Sum.elim_inr, jt2, jt3, jt4, jt5, jt6, jt7, jt8]
  refine ⟨?_, ?_⟩
  · (refine ⟨?_, fun P e => ?_⟩; { rw [G30 _ _ (by omega), fr1 _ _ (by omega) (by omega), K26]; exact v.1 }; { cases e; refine ⟨⟨?_, tx1.2.1, fun i il => ?_⟩, ?_, ?_, fun k kl => ?_, tp.2.2.1, v.2⟩; { rw [G30 _ _ (by omega)]; exact tx1.1 }; { rw [G30 _ _ (by omega)]; exact tx1.2.2 i il }; { exact cX_fr (h := h32) (lo := 0) (hi := 32) (fun a x x0 x1 _ _ => G34 _ _ (by omega) (by omega)) (fun x _ _ => G34 _ _ (by omega) (by omega)) q3 (Int.le_refl _) (by decide) (by decide) (by decide) (by omega) }; { rw [fr3 _ _ (by omega)]; exact K33 }; { have kl2 : k < (jnT A B []).2.length := kl; rw [kn3 k (by omega) (by omega), F33 _ _ (by omega), G32 _ _ (by omega) (by omega) (by omega) (by omega)]; exact ps.2.2 k kl2 } }) -- o9 e1.1
  · (intro a x y; rw [G34 a x (by omega) (by omega)]; exact G32 a x (by omega) (by omega) (by omega) (by omega)) -- o10 e1.2

