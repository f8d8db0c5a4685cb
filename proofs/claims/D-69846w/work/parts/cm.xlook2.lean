/-! x: looking, whole -/
def byM (l : List Int) : Prop := ∀ x, x ∈ l → 0 ≤ x ∧ x < 128
theorem byM_app {a b : List Int} (x : byM a) (y : byM b) : byM (a ++ b) := fun z m => (List.mem_append.mp m).elim (x z) (y z)
theorem byM_1 {v : Int} (b : 0 ≤ v ∧ v < 128) : byM [v] := fun z m => by rw [List.mem_singleton.mp m]; exact b
theorem byM_0 : byM [] := fun z m => absurd m (List.not_mem_nil)
theorem byM_L : ∀ {l : List Int}, byM l → byL l
  | [], _ => fun i il => absurd il (Nat.not_lt_zero _)
  | a :: l, h => fun i il => by
    cases i with
    | zero => exact h a (List.mem_cons_self ..)
    | succ i => exact byM_L (l := l) (fun z m => h z (List.mem_cons_of_mem _ m)) i (by have e : (a :: l).length = l.length + 1 := rfl; omega)
theorem byM_lts : ∀ (n : Nat) (w : Int), byM (lts n w)
  | 0, _ => byM_0
  | n + 1, w => by
    show byM (if w ≤ 0 then [] else lts n (w / 27) ++ [96 + w % 27])
    by_cases y : w ≤ 0
    · rw [if_pos y]; exact byM_0
    · rw [if_neg y]; exact byM_app (byM_lts n _) (byM_1 (by omega))
theorem byM_dig {v : Int} (b : 0 ≤ v ∧ v ≤ 15) : byM (dig v) := by
  unfold dig
  by_cases y : v ≤ 9
  · rw [if_pos y]; exact byM_1 (by omega)
  · rw [if_neg y]; exact byM_app (a := [49]) (byM_1 (by decide)) (byM_1 (by omega))
theorem byM_jc {g : Nat → List Int} (h : ∀ k, byM (g k)) : ∀ k, byM (jcN g k)
  | 0 => byM_0
  | k + 1 => byM_app (byM_jc h k) (byM_app (by by_cases y : k = 0; { rw [if_pos y]; exact byM_0 }; { rw [if_neg y]; exact byM_1 (by decide) }) (h k))
theorem byM_gl : ∀ {L : List (List Int)}, (∀ l, l ∈ L → byM l) → ∀ k, byM (gl L k)
  | [], _, _ => byM_0
  | x :: _, h, 0 => h x (List.mem_cons_self ..)
  | _ :: L, h, k + 1 => byM_gl (L := L) (fun l m => h l (List.mem_cons_of_mem _ m)) k
theorem byM_txN {N : Int} {cA hl : Int → Int} {i : NI} {L : List (List Int)} (t : tlI N i) (n3 : i.1 ≠ 3) (h : ∀ l, l ∈ L → byM l) : byM (txN cA hl i L) := by
  unfold txN
  rcases t with t | t | t | t
  · rw [if_pos t.1]; exact byM_1 (by omega)
  · rw [if_neg (by omega), if_pos t.1]
    have v := t.2.1
    unfold vlR at v
    unfold txV
    by_cases k0 : i.2.2.1 = 0
    · rw [if_pos k0]; exact byM_dig (by omega)
    · rw [if_neg k0]
      by_cases k1 : i.2.2.1 = 1
      · rw [if_pos k1]; exact byM_lts _ _
      · rw [if_neg k1]; exact byM_app (byM_app (byM_1 (by decide)) (byM_lts _ _)) (byM_1 (by decide))
  · rw [if_neg (by omega), if_neg (by omega), if_neg n3]
    exact byM_app (byM_lts _ _) (byM_app (byM_1 (by decide)) (byM_app (byM_jc (byM_gl h) _) (byM_1 (by decide))))
  · exact absurd t.1 n3
theorem nhT_i2 : ∀ {R : TR}, nhT R → (inf R).1 ≠ 3
  | .leaf _, n => n
  | .branch _ _ r, n => nhT_i2 (R := r) n.2
theorem byM_txK {N : Int} {cA hl : Int → Int} : ∀ {R : TR}, tlT N R → nhT R → ∀ l, l ∈ txK cA hl R → byM l
  | .leaf _, _, _ => fun l m => absurd m (List.not_mem_nil)
  | .branch _ s r, t, n => fun l m => by
    rcases List.mem_cons.mp m with e | e
    · rw [e]; exact byM_txN (tlT_nd t.2.1) (nhT_i2 n.1) (byM_txK t.2.1 n.1)
    · exact byM_txK t.2.2 n.2 l e
theorem tx_by {N : Int} {cA hl : Int → Int} {R : TR} (t : tlT N R) (n : nhT R) : byL (txT cA hl R) := byM_L (byM_txN (tlT_nd t) (nhT_i2 n) (byM_txK t n))
/-! what is well made -/
theorem tz_tl {E : EV} : ∀ {R : TR} {j : Int}, 0 ≤ j → tzT E R j → tlT E.1.1 R
  | .leaf i, j, _, t => by
    rcases t.2.2 with w | w | w
    · exact .inl ⟨w.1, w.2.2.1, by omega⟩
    · exact .inr (.inl ⟨w.1, w.2.2, t.1, t.2.1⟩)
    · exact .inr (.inr (.inl ⟨w.1, w.2.1, w.2.2.1⟩))
  | .branch b s r, j, j0, t => by
    have q := (tzT_nd t.2.2).2.2
    have n0 := nk_0 r
    refine ⟨?_, tz_tl (Int.le_refl 0) t.1, tz_tl (by omega) t.2.2⟩
    rcases q with w | w | w
    · omega
    · omega
    · exact w.1
theorem tz_ac {E : EV} : ∀ {R : TR} {j : Int}, 0 ≤ j → tzT E R j → acR E.1.1 R
  | .leaf i, j, _, t => fun y => by
    rcases t.2.2 with w | w | w
    · omega
    · omega
    · exact ⟨w.2.1, w.2.2.1⟩
  | .branch b s r, j, j0, t => by
    have q := (tzT_nd t.2.2).2.2
    have n0 := nk_0 r
    refine ⟨.inl ?_, tz_ac (Int.le_refl 0) t.1, tz_ac (by omega) t.2.2⟩
    rcases q with w | w | w
    · omega
    · omega
    · exact w.1
theorem tz_nh {E : EV} : ∀ {R : TR} {j : Int}, tzT E R j → nhT R
  | .leaf i, j, t => by
    show i.1 ≠ 3
    rcases t.2.2 with w | w | w <;> omega
  | .branch b s r, j, t => ⟨tz_nh t.1, tz_nh t.2.2⟩
theorem wt_sz {wA : Int → Int} {N : Int} (W : ∀ a, 26 ≤ a → a < N → wA a ≤ 40) : ∀ {R : TR}, acR N R → wtR wA R ≤ 41 * sz R
  | .leaf i, ac => by
    show lwI wA i ≤ 41 * 1
    unfold lwI
    by_cases c : i.1 = 2
    · rw [if_pos c]
      by_cases d : 26 ≤ i.2.1
      · rw [if_pos d]; have := W _ d (ac c).2; omega
      · rw [if_neg d]; omega
    · rw [if_neg c]; split <;> omega
  | .branch b s r, ac => by
    have p := wt_sz W ac.2.1
    have q := wt_sz W ac.2.2
    have e : sz (.branch b s r) = sz s + sz r := rfl
    have e2 : wtR wA (.branch b s r) = wtR wA s + wtR wA r := rfl
    omega
/-- what two terms have alike is well made -/
theorem jnK_tz {E : EV} : ∀ {a b : TR} {ps : PS} {j : Int}, 0 ≤ j → tzT E a j → tzT E b j → nk a = nk b → (inf a).1 = 2 → (jnK a b ps).2.length ≤ 2 → tzT E (jnK a b ps).1 j ∧ prC 2 (jnK a b ps).1
  | .leaf i, .leaf k, ps, j, _, ta, _, _, a2, _ => by
    refine ⟨⟨ta.1, ta.2.1, .inr (.inr ?_)⟩, fun y => absurd y (show ¬ (2 : Int) = 0 by decide)⟩
    have a2' : i.1 = 2 := a2
    rcases ta.2.2 with w | w | w
    · omega
    · omega
    · exact ⟨rfl, w.2⟩
  | .leaf i, .branch b s r, ps, j, _, _, _, n, _, _ => by have e : nk (.branch b s r) = nk r + 1 := rfl; have := nk_0 r; have e0 : nk (.leaf i) = 0 := rfl; omega
  | .branch b s r, .leaf i, ps, j, _, _, _, n, _, _ => by have e : nk (.branch b s r) = nk r + 1 := rfl; have := nk_0 r; have e0 : nk (.leaf i) = 0 := rfl; omega
  | .branch b s r, .branch b' s' r', ps, j, j0, ta, tb, n, a2, l => by
    have e : nk (.branch b s r) = nk r + 1 := rfl
    have e' : nk (.branch b' s' r') = nk r' + 1 := rfl
    have mono := (jnK_pre (a := r) (b := r') (ps := (jn1 (jnK s s') s s' ps).2)).1.1
    have l2 : (jnK r r' (jn1 (jnK s s') s s' ps).2).2.length ≤ 2 := l
    have q := jnK_tz (a := r) (b := r') (ps := (jn1 (jnK s s') s s' ps).2) (j := j + 1) (by omega) ta.2.2 tb.2.2 (by omega) a2 l2
    have sh := (jnK_sh (a := r) (b := r') (ps := (jn1 (jnK s s') s s' ps).2) (by omega)).2.1
    have l1 : (jn1 (jnK s s') s s' ps).2.length ≤ 2 := Nat.le_trans mono l2
    have q1 : tzT E (jn1 (jnK s s') s s' ps).1 0 ∧ prC 2 (jn1 (jnK s s') s s' ps).1 ∧ (inf (jn1 (jnK s s') s s' ps).1).2.2.1 = (inf s).2.2.1 := by
      have ts := tzT_nd ta.1
      have ts' := tzT_nd tb.1
      rw [Int.zero_add] at ts ts'
      unfold jn1 at l1 ⊢
      by_cases c1 : (inf s).1 = 2 ∧ (inf s').1 = 2 ∧ (inf s).2.1 = (inf s').2.1
      · rw [if_pos c1] at l1 ⊢
        have nn : nk s = nk s' := by
          rcases ts.2.2 with w | w | w
          · omega
          · omega
          · rcases ts'.2.2 with x | x | x
            · omega
            · omega
            · have e1 := w.2.2.2.1
              have e2 := x.2.2.2.1
              rw [← c1.2.2] at e2
              omega
        have z := jnK_tz (a := s) (b := s') (ps := ps) (j := 0) (Int.le_refl 0) ta.1 tb.1 nn c1.1 l1
        exact ⟨z.1, z.2, by rw [(jnK_sh nn).2.1]⟩
      · rw [if_neg c1] at l1 ⊢
        by_cases c2 : (inf s).1 = 1 ∧ lkB s s' = true
        · rw [if_pos c2]
          refine ⟨⟨ts.1, ts.2.1, .inr (.inl ⟨rfl, rfl, ?_⟩)⟩, fun y => absurd y (show ¬ (1 : Int) = 0 by decide), rfl⟩
          rcases ts.2.2 with w | w | w
          · omega
          · exact w.2.2
          · omega
        · rw [if_neg c2] at l1 ⊢
          have f := (jnP_pre (a := s) (b := s') (ps := ps)).2.2.1
          have l3 : (jnP s s' ps).length ≤ 2 := l1
          exact ⟨⟨ts.1, ts.2.1, .inl ⟨rfl, rfl, by show 0 ≤ ((fdP ps s s' : Nat) : Int); omega, by show ((fdP ps s s' : Nat) : Int) < 3; omega⟩⟩, fun _ => ⟨by show 0 ≤ ((fdP ps s s' : Nat) : Int); omega, by show ((fdP ps s s' : Nat) : Int) < 2; omega⟩, rfl⟩
    refine ⟨⟨q1.1, ?_, q.1⟩, q1.2.1, q.2⟩
    rw [q1.2.2, sh]
    exact ta.2.1
theorem vX7_look (a1 : Int) (a2 : Int) {h : AH} {E : EV} {T M : Int} {n : Nat} {Rq : Int → TR} {C : TR → TR → Prop} {s : Int} {o : Option (TR × TR)} {A B : TR} (dj : T + 6 ≤ 353 ∧ 200 < T) (kp : kpX h E T M n Rq) (cc : capT h 363 32 ∧ h 370 (-1) = 400) (tt : trX h T 0 M A a1 0 ∧ trX h T 0 M B a2 0) (yy : tzT E A 0 ∧ tzT E B 0) (ss : sz A ≤ 30 ∧ dpT A ≤ 39 ∧ dpT B ≤ 39) (hd : (inf A).1 = 2 ∧ (inf B).1 = 2 ∧ (inf A).2.1 = (inf B).2.1) (ow : (∀ a, 26 ≤ a → 0 ≤ E.1.2.2.2.1 a) ∧ E.1.1 ≤ 36 ∧ ∀ a, 26 ≤ a → a < E.1.1 → h 267 (a - 26) = E.1.2.2.2.1 a ∧ E.1.2.2.2.1 a ≤ 40) (te : tePX h E 357 369 32) (bs : bsX h E s o ∧ bstP E n Rq C s o) : OK (gX7_look a1 a2 h) (fun h' => (∃ s' o', bsX h' E s' o' ∧ bstP E n Rq (fun x y => C x y ∨ (x = A ∧ y = B)) s' o') ∧ (lkF h h')) := by
  have Y1 := (tzT_nd yy.1).2.2
  have Y2 := (tzT_nd yy.2).2.2
  have NN : nk A = nk B := by { rw [Int.zero_add] at Y1 Y2; rcases Y1 with w | w | w; { omega }; { omega }; { rcases Y2 with x | x | x; { omega }; { omega }; { have e1 := w.2.2.2.1; have e2 := x.2.2.2.1; rw [← hd.2.2] at e2; omega } } }
  have JT : jnT A B [] = jnK A B [] := by { unfold jnT jn1; rw [if_pos hd] }
  have SH := jnK_sh (ps := []) NN
  have sp := sz_pos A
  have S0 := bstP_s bs.2
  obtain ⟨Q, eQ⟩ : ∃ Q, Q = (jnT A B []).1 := ⟨_, rfl⟩
  have Q0 : (inf Q).1 ≠ 0 := by { rw [eQ, JT, SH.2.1]; exact (show (2 : Int) ≠ 0 by decide) }
  have QZ : sz Q ≤ 30 ∧ dpT Q ≤ 39 ∧ 1 ≤ sz Q := by { have := SH.2.2; have := sz_pos Q; rw [eQ, JT] at this ⊢; omega }
  have KEEP : ∀ hh, lkF h hh → (∀ a x, (a = 356 ∧ (x = 2 ∨ x = 10)) ∨ (364 ≤ a ∧ a ≤ 368 ∧ 0 ≤ x) ∨ ((a = 371 ∨ a = 372 ∨ a = 376) ∧ 0 ≤ x) → hh a x = h a x) → (okP E.1.2.2.2.1 A B → savP n Rq (jnT A B []).1 < 1 ∨ savP n Rq (jnT A B []).1 < s ∨ (savP n Rq (jnT A B []).1 = s ∧ ∀ P, o = some P → ¬ ltx (cdQ E A B) (cdQ E P.1 P.2))) → (∃ s' o', bsX hh E s' o' ∧ bstP E n Rq (fun x y => C x y ∨ (x = A ∧ y = B)) s' o') := fun hh _ f k => ⟨s, o, bsX_f bs.1 f, bstP_k bs.2 k⟩
  unfold gX7_look
  refine OK_jl ?_
  have F1 : ∀ a x, ¬ (a = 357 ∧ x = 0) → jst h 357 0 0 a x = h a x := fun a x y => jst_o y
  have K1 : jst h 357 0 0 357 0 = 0 := jst_eq
  generalize e1 : jst h 357 0 0 = g1 at *
  refine OK_jl ?_
  have F2 : ∀ a x, ¬ (a = 356 ∧ x = 5) → jst g1 356 5 0 a x = g1 a x := fun a x y => jst_o y
  have K2 : jst g1 356 5 0 356 5 = 0 := jst_eq
  generalize e2 : jst g1 356 5 0 = g2 at *
  refine OK_jl ?_
  have F3 : ∀ a x, ¬ (a = 356 ∧ x = 11) → jst g2 356 11 1 a x = g2 a x := fun a x y => jst_o y
  have K3 : jst g2 356 11 1 356 11 = 1 := jst_eq
  generalize e3 : jst g2 356 11 1 = g3 at *
  have G3 : ∀ a x, ¬ (a = 357 ∧ x = 0) → ¬ (a = 356 ∧ (x = 5 ∨ x = 11)) → g3 a x = h a x := fun a x y1 y2 => by { rw [F3 a x (by omega), F2 a x (by omega)]; exact F1 a x y1 }
  have K57 : g3 357 0 = 0 := by { rw [F3 _ _ (by omega), F2 _ _ (by omega)]; exact K1 }
  have CC3 : g3 200 32 = T ∧ capT g3 357 32 ∧ capT g3 T M := ⟨by { rw [G3 _ _ (by omega) (by omega)]; exact kp.1.1 }, capT_fr kp.1.2.1 (fun a x0 x1 => G3 _ _ (by omega) (by omega)), capT_fr kp.1.2.2 (fun a x0 x1 => G3 _ _ (by omega) (by omega))⟩
  refine OK_jb2 (vX7_join (E := E) (T := T) (M := M) (A := A) (B := B) (ps := []) _ _ (by omega) (by exact CC3) (by exact ⟨trX_fr (fun a x x0 x1 _ _ => G3 _ _ (by omega) (by omega)) (fun x _ _ => G3 _ _ (by omega) (by omega)) tt.1 (Int.le_refl 0), trX_fr (fun a x x0 x1 _ _ => G3 _ _ (by omega) (by omega)) (fun x _ _ => G3 _ _ (by omega) (by omega)) tt.2 (Int.le_refl 0)⟩) (by (first | assumption | omega | ((try dsimp only [jt2, jt3, jt4]); first | omega | (simp (disch := omega) only [jst_eq, jst_ne, jst_ni, jst_o, jI_i, jcpy_out, w32_id, jdiv_nn, jshr_k, jand_255] <;> first | done | omega | assumption)) | (intros; simp (disch := omega) only [jst_eq, jst_ne, jst_ni, jst_o, jI_i, jcpy_out, w32_id, jdiv_nn, *] <;> first | done | omega) | (intros; simp (disch := omega) only [jst_eq, jst_ne, jst_ni, jst_o, jI_i, jcpy_out, w32_id, jdiv_nn] at * <;> first | done | omega | assumption) | (intros; first | rfl | (exfalso; omega) | ((repeat' apply And.intro) <;> first | assumption | rfl | omega | trivial)))) (by exact ss.2) (by exact ⟨K3, by (rw [F3 _ _ (by omega)]; exact K2), Nat.zero_le _, fun k kl => absurd kl (Nat.not_lt_zero _)⟩) (by omega)) (fun v5 h6 r1 => ?_)
  try dsimp only [Sum.elim_inl, Sum.elim_inr, jt2, jt3, jt4, jt5, jt6, jt7, jt8] at r1
  have jn1 := r1
  clear r1
  try simp (disch := omega) only [jst_eq, jst_ne, jst_ni, jI_i, jcmp_lt, jcmp_gt, w32_id, jcpy_out, Sum.elim_inl, Sum.elim_inr, jt2, jt3, jt4, jt5, jt6, jt7, jt8] at jn1
  obtain ⟨JF, JO⟩ := jn1
  have LK6 : lkF h h6 := fun a x y => by { rw [JF a x (by omega) (by omega) (by omega)]; exact G3 a x (by omega) (by omega) }
  have BS6 : ∀ a x, (a = 356 ∧ (x = 2 ∨ x = 10)) ∨ (364 ≤ a ∧ a ≤ 368 ∧ 0 ≤ x) ∨ ((a = 371 ∨ a = 372 ∨ a = 376) ∧ 0 ≤ x) → h6 a x = h a x := fun a x y => by { rw [JF a x (by omega) (by omega) (by omega)]; exact G3 a x (by omega) (by omega) }
  refine OK_if (fun c1 => ?_) (fun c1 => ?_)
  · skip
    try simp (disch := omega) only [jst_eq, jst_ne, jst_ni, jI_i, jcmp_lt, jcmp_gt, w32_id, jcpy_out, Sum.elim_inl, Sum.elim_inr, jt2, jt3, jt4, jt5, jt6, jt7, jt8] at c1
    refine OK_some ?_
    try dsimp only [Sum.elim_inl, Sum.elim_inr, jt2, jt3, jt4, jt5, jt6, jt7, jt8]
    try dsimp only [Sum.elim_inl, Sum.elim_inr, jt2, jt3, jt4, jt5, jt6, jt7, jt8]
    refine ⟨?_, ?_⟩
    · exact KEEP _ LK6 BS6 (fun q => by (rcases JO with y | y; { exact absurd (y.1.1.symm.trans c1) (by decide) }; { exact absurd q.1.2 y.2.1 })) -- o8 e1.1
    · exact LK6 -- o9 e1.2
  · skip
    try simp (disch := omega) only [jst_eq, jst_ne, jst_ni, jI_i, jcmp_lt, jcmp_gt, w32_id, jcpy_out, Sum.elim_inl, Sum.elim_inr, jt2, jt3, jt4, jt5, jt6, jt7, jt8] at c1
    obtain ⟨JS, PO⟩ := JO.resolve_right (fun y => c1 y.1)
    obtain ⟨P1, P2, P3, P4⟩ := PO
    rw [pq_i (by omega), K57] at P1
    rw [P1] at P3
    have CX6 := pq_c.mp P3
    rw [← eQ] at CX6
    have J5 : h6 356 5 = ((jnT A B []).2.length : Nat) := JS.2.1
    have JL := JS.2.2.1
    refine OK_if (fun c2 => ?_) (fun c2 => ?_)
    · skip
      try simp (disch := omega) only [jst_eq, jst_ne, jst_ni, jI_i, jcmp_lt, jcmp_gt, w32_id, jcpy_out, Sum.elim_inl, Sum.elim_inr, jt2, jt3, jt4, jt5, jt6, jt7, jt8] at c2
      refine OK_some ?_
      try dsimp only [Sum.elim_inl, Sum.elim_inr, jt2, jt3, jt4, jt5, jt6, jt7, jt8]
      try dsimp only [Sum.elim_inl, Sum.elim_inr, jt2, jt3, jt4, jt5, jt6, jt7, jt8]
      refine ⟨?_, ?_⟩
      · exact KEEP _ LK6 BS6 (fun q => by (have := q.1.1; omega)) -- o10 e2.1
      · exact LK6 -- o11 e2.2
    · skip
      try simp (disch := omega) only [jst_eq, jst_ne, jst_ni, jI_i, jcmp_lt, jcmp_gt, w32_id, jcpy_out, Sum.elim_inl, Sum.elim_inr, jt2, jt3, jt4, jt5, jt6, jt7, jt8] at c2
      have TZ := jnK_tz (ps := []) (Int.le_refl 0) yy.1 yy.2 NN hd.1 (by rw [← JT]; exact JL)
      rw [← JT, ← eQ] at TZ
      have TX6 : trX h6 357 0 32 Q 0 0 := cX_tr CX6 (by decide) (by decide) (by decide) (by omega)
      have CC6 : h6 200 32 = T ∧ capT h6 357 32 ∧ capT h6 T M := ⟨by { rw [LK6 _ _ (by omega)]; exact kp.1.1 }, capT_fr kp.1.2.1 (fun a x0 x1 => LK6 _ _ (by omega)), capT_fr kp.1.2.2 (fun a x0 x1 => LK6 _ _ (by omega))⟩
      have AC6 := tz_ac (Int.le_refl 0) TZ.1
      have WS := wt_sz (wA := E.1.2.2.2.1) (N := E.1.1) (fun a a0 a1 => (ow.2.2 a a0 a1).2) AC6
      rw [P1]
      refine OK_jb (vX1_weight (wA := E.1.2.2.2.1) (N := E.1.1) (M := 32) (R := Q) _ _ (by exact ow.1) (by exact ⟨ow.2.1, fun a a0 a1 => by (rw [LK6 _ _ (by omega)]; exact ow.2.2 a a0 a1)⟩) (by exact CC6.2.1) (by exact TX6) (by exact AC6) (by omega) (by omega)) (fun v10 r2 => ?_)
      try dsimp only [Sum.elim_inl, Sum.elim_inr, jt2, jt3, jt4, jt5, jt6, jt7, jt8] at r2
      have sv2 := r2
      clear r2
      try simp (disch := omega) only [jst_eq, jst_ne, jst_ni, jI_i, jcmp_lt, jcmp_gt, w32_id, jcpy_out, Sum.elim_inl, Sum.elim_inr, jt2, jt3, jt4, jt5, jt6, jt7, jt8] at sv2
      refine OK_if (fun c3 => ?_) (fun c3 => ?_)
      · skip
        try simp (disch := omega) only [jst_eq, jst_ne, jst_ni, jI_i, jcmp_lt, jcmp_gt, w32_id, jcpy_out, Sum.elim_inl, Sum.elim_inr, jt2, jt3, jt4, jt5, jt6, jt7, jt8] at c3
        refine OK_some ?_
        try dsimp only [Sum.elim_inl, Sum.elim_inr, jt2, jt3, jt4, jt5, jt6, jt7, jt8]
        try dsimp only [Sum.elim_inl, Sum.elim_inr, jt2, jt3, jt4, jt5, jt6, jt7, jt8]
        refine ⟨?_, ?_⟩
        · exact KEEP _ LK6 BS6 (fun q => by (have w := q.2.1; rw [← eQ] at w; omega)) -- o19 e3.1
        · exact LK6 -- o20 e3.2
      · skip
        try simp (disch := omega) only [jst_eq, jst_ne, jst_ni, jI_i, jcmp_lt, jcmp_gt, w32_id, jcpy_out, Sum.elim_inl, Sum.elim_inr, jt2, jt3, jt4, jt5, jt6, jt7, jt8] at c3
        refine OK_jb (vX7_isBare (Q := Q) _ (by exact CC6.2.1) (by exact TX6) (by exact TZ.2)) (fun v13 r3 => ?_)
        try dsimp only [Sum.elim_inl, Sum.elim_inr, jt2, jt3, jt4, jt5, jt6, jt7, jt8] at r3
        have ba3 := r3
        clear r3
        try simp (disch := omega) only [jst_eq, jst_ne, jst_ni, jI_i, jcmp_lt, jcmp_gt, w32_id, jcpy_out, Sum.elim_inl, Sum.elim_inr, jt2, jt3, jt4, jt5, jt6, jt7, jt8] at ba3
        refine OK_if (fun c4 => ?_) (fun c4 => ?_)
        · skip
          try simp (disch := omega) only [jst_eq, jst_ne, jst_ni, jI_i, jcmp_lt, jcmp_gt, w32_id, jcpy_out, Sum.elim_inl, Sum.elim_inr, jt2, jt3, jt4, jt5, jt6, jt7, jt8] at c4
          have NB : ¬ bareD Q := by { rcases ba3 with y | y; { omega }; { exact y.2 } }
          have OKP : okP E.1.2.2.2.1 A B := ⟨⟨by omega, JL⟩, by { rw [← eQ]; omega }, by { rw [← eQ]; exact NB }⟩
          have KP6 : kpX h6 E T M n Rq := ⟨CC6, ⟨by { rw [LK6 _ _ (by omega)]; exact kp.2.1.1 }, kp.2.1.2⟩, fun q q0 q1 => by { have z := kp.2.2 q q0 q1; rw [LK6 _ _ (by omega)]; exact ⟨trX_fr (fun a x x0 x1 _ _ => LK6 _ _ (by omega)) (fun x _ _ => LK6 _ _ (by omega)) z.1 (Int.le_refl 0), z.2⟩ }⟩
          refine OK_jb2 (vX7_saving (E := E) (T := T) (M := M) (n := n) (Rq := Rq) (P := Q) _ (by (first | assumption | omega | ((try dsimp only [jt2, jt3, jt4]); first | omega | (simp (disch := omega) only [jst_eq, jst_ne, jst_ni, jst_o, jI_i, jcpy_out, w32_id, jdiv_nn, jshr_k, jand_255] <;> first | done | omega | assumption)) | (intros; simp (disch := omega) only [jst_eq, jst_ne, jst_ni, jst_o, jI_i, jcpy_out, w32_id, jdiv_nn, *] <;> first | done | omega) | (intros; simp (disch := omega) only [jst_eq, jst_ne, jst_ni, jst_o, jI_i, jcpy_out, w32_id, jdiv_nn] at * <;> first | done | omega | assumption) | (intros; first | rfl | (exfalso; omega) | ((repeat' apply And.intro) <;> first | assumption | rfl | omega | trivial)))) (by exact KP6) (by exact TX6) (by exact TZ.1) (by exact TZ.2) (by exact Q0) (by omega) (by omega)) (fun v16 h17 r4 => ?_)
          try dsimp only [Sum.elim_inl, Sum.elim_inr, jt2, jt3, jt4, jt5, jt6, jt7, jt8] at r4
          obtain ⟨sv4, fr4⟩ := r4
          try simp (disch := omega) only [jst_eq, jst_ne, jst_ni, jI_i, jcmp_lt, jcmp_gt, w32_id, jcpy_out, Sum.elim_inl, Sum.elim_inr, jt2, jt3, jt4, jt5, jt6, jt7, jt8] at sv4
          try simp (disch := omega) only [jst_eq, jst_ne, jst_ni, jI_i, jcmp_lt, jcmp_gt, w32_id, jcpy_out, Sum.elim_inl, Sum.elim_inr, jt2, jt3, jt4, jt5, jt6, jt7, jt8] at fr4
          have LK17 : lkF h h17 := fun a x y => by { rw [fr4 a x (by omega)]; exact LK6 a x y }
          have BS17 : ∀ a x, (a = 356 ∧ (x = 2 ∨ x = 10)) ∨ (364 ≤ a ∧ a ≤ 368 ∧ 0 ≤ x) ∨ ((a = 371 ∨ a = 372 ∨ a = 376) ∧ 0 ≤ x) → h17 a x = h a x := fun a x y => by { rw [fr4 a x (by omega)]; exact BS6 a x y }
          have S17 : h17 356 2 = s := by { rw [BS17 _ _ (by omega)]; exact bs.1.1 }
          have SV : v16 = savP n Rq (jnT A B []).1 := by { rw [← eQ]; exact sv4 }
          refine OK_if (fun c5 => ?_) (fun c5 => ?_)
          · skip
            try simp (disch := omega) only [jst_eq, jst_ne, jst_ni, jI_i, jcmp_lt, jcmp_gt, w32_id, jcpy_out, Sum.elim_inl, Sum.elim_inr, jt2, jt3, jt4, jt5, jt6, jt7, jt8] at c5
            refine OK_jl ?_
            have F19 : ∀ a x, ¬ (a = 369 ∧ x = 1) → jst h17 369 1 0 a x = h17 a x := fun a x y => jst_o y
            have K19 : jst h17 369 1 0 369 1 = 0 := jst_eq
            generalize e19 : jst h17 369 1 0 = g19 at *
            have TL := tz_tl (Int.le_refl 0) TZ.1
            have NH := tz_nh TZ.1
            have G19 : ∀ a x, ¬ (357 ≤ a ∧ a ≤ 377 ∧ 0 ≤ x) → ¬ (a = 356 ∧ (x = 5 ∨ x = 11)) → g19 a x = h a x := fun a x y1 y2 => by { rw [F19 a x (by omega), fr4 a x (by omega), JF a x (by omega) (by omega) (by omega)]; exact G3 a x (by omega) (by omega) }
            refine OK_jb (vX1_tell (E := E) (M := 32) (R := Q) _ _ _ (by exact ⟨capT_fr te.1 (fun a x0 x1 => G19 _ _ (by omega) (by omega)), te.2.1, te.2.2.1, actX_fr te.2.2.2.1 (fun a x q => by unfold actC at q; exact G19 a x (by omega) (by omega)), Od_fr te.2.2.2.2.1 (fun a i a0 a1 => G19 _ _ (by omega) (by omega)), fun c c0 c1 => by (rw [G19 _ _ (by omega) (by omega)]; exact te.2.2.2.2.2.1 c c0 c1), te.2.2.2.2.2.2⟩) (by exact trX_fr (fun a x x0 x1 _ _ => by (rw [F19 _ _ (by omega)]; exact fr4 _ _ (by omega))) (fun x _ _ => by (rw [F19 _ _ (by omega)]; exact fr4 _ _ (by omega))) TX6 (Int.le_refl 0)) (by exact TL) (by omega) (by (rw [K19, show (369 : Int) + 1 = 370 by decide, G19 370 (-1) (by omega) (by omega), cc.2]; omega))) (fun h21 r5 => ?_)
            try dsimp only [Sum.elim_inl, Sum.elim_inr, jt2, jt3, jt4, jt5, jt6, jt7, jt8] at r5
            have ab5 := r5
            clear r5
            try simp (disch := omega) only [jst_eq, jst_ne, jst_ni, jI_i, jcmp_lt, jcmp_gt, w32_id, jcpy_out, Sum.elim_inl, Sum.elim_inr, jt2, jt3, jt4, jt5, jt6, jt7, jt8] at ab5
            obtain ⟨ab1, ab2, ab3⟩ := ab5
            rw [K19] at ab1 ab2 ab3
            have CQ : cdQ E A B = txT E.1.2.1 (g19 270) Q := by { unfold cdQ; rw [← eQ]; exact txT_nh NH }
            have LE4 := tx_len (N := E.1.1) (cA := E.1.2.1) (hl := g19 270) te.2.2.2.2.2.2 40 (R := Q) (by omega) TL (trX_n3 TX6 (by decide) (by decide))
            have TX21 : tx6 h21 369 (cdQ E A B) := by { rw [CQ]; exact ⟨by omega, by omega, fun i il => by { have q := ab2 i il; rw [Int.zero_add] at q; exact q }⟩ }
            have BY : byL (cdQ E A B) := by { unfold cdQ; rw [← eQ]; exact tx_by TL NH }
            have G21 : ∀ a x, ¬ (a = 369 ∧ x = 1) → ¬ (a = 370 ∧ 0 ≤ x) → h21 a x = h17 a x := fun a x y1 y2 => by { rw [ab3 a x y1 (by omega)]; exact F19 a x y1 }
            have E21 : h21 356 2 = s := by { rw [G21 _ _ (by omega) (by omega)]; exact S17 }
            have LK21 : lkF h h21 := fun a x y => by { rw [G21 a x (by omega) (by omega)]; exact LK17 a x y }
            have BS21 : ∀ a x, (a = 356 ∧ (x = 2 ∨ x = 10)) ∨ (364 ≤ a ∧ a ≤ 368 ∧ 0 ≤ x) ∨ ((a = 371 ∨ a = 372 ∨ a = 376) ∧ 0 ≤ x) → h21 a x = h a x := fun a x y => by { rw [G21 a x (by omega) (by omega)]; exact BS17 a x y }
            have V1 : 1 ≤ v16 ∧ s ≤ v16 := by { rw [S17] at c5; omega }
            have D21 : capT h21 357 32 ∧ capT h21 363 32 := ⟨capT_fr kp.1.2.1 (fun a x0 x1 => LK21 _ _ (by omega)), capT_fr cc.1 (fun a x0 x1 => LK21 _ _ (by omega))⟩
            have CX21 : cX h21 357 (jnT A B []).1 0 0 (0 + 1) := by { rw [← eQ]; exact cX_fr (h := h6) (lo := 0) (hi := 32) (fun a x x0 x1 _ _ => by { rw [G21 _ _ (by omega) (by omega)]; exact fr4 _ _ (by omega) }) (fun x _ _ => by { rw [G21 _ _ (by omega) (by omega)]; exact fr4 _ _ (by omega) }) CX6 (Int.le_refl _) (by decide) (by decide) (by decide) (by omega) }
            have PS21 : h21 356 5 = ((jnT A B []).2.length : Nat) ∧ (jnT A B []).2.length ≤ 2 ∧ ∀ k : Nat, k < (jnT A B []).2.length → h21 375 k = (inf (gPS (jnT A B []).2 k).1).2.2.1 := ⟨by { rw [G21 _ _ (by omega) (by omega), fr4 _ _ (by omega)]; exact J5 }, JL, fun k kl => by { rw [G21 _ _ (by omega) (by omega), fr4 _ _ (by omega)]; exact (JS.2.2.2 k kl).2.2.2 }⟩
            have SJ : sz (jnT A B []).1 ≤ 32 ∧ dpT (jnT A B []).1 ≤ 39 := by { rw [← eQ]; omega }
            refine OK_if (fun c6 => ?_) (fun c6 => ?_)
            · skip
              try simp (disch := omega) only [jst_eq, jst_ne, jst_ni, jI_i, jcmp_lt, jcmp_gt, w32_id, jcpy_out, Sum.elim_inl, Sum.elim_inr, jt2, jt3, jt4, jt5, jt6, jt7, jt8] at c6
              have ES : v16 = s := c6.trans E21
              obtain ⟨P, eP⟩ : ∃ P, o = some P := (by rcases bs.2 with y | ⟨A0, B0, y, _⟩; { have := y.2.1; omega }; { exact ⟨_, y⟩ })
              have OP := bs.1.2 P eP
              have TM21 : tx6 h21 371 (cdQ E P.1 P.2) := ⟨by { rw [BS21 _ _ (by omega)]; exact OP.1.1 }, OP.1.2.1, fun i il => by { rw [BS21 _ _ (by omega)]; exact OP.1.2.2 i il }⟩
              refine OK_jb (vX6_isBefore (l := cdQ E A B) (m := cdQ E P.1 P.2) (by exact ⟨TX21, BY⟩) (by exact ⟨TM21, OP.2.2.2.2.2⟩)) (fun v24 r6 => ?_)
              try dsimp only [Sum.elim_inl, Sum.elim_inr, jt2, jt3, jt4, jt5, jt6, jt7, jt8] at r6
              have lt6 := r6
              clear r6
              try simp (disch := omega) only [jst_eq, jst_ne, jst_ni, jI_i, jcmp_lt, jcmp_gt, w32_id, jcpy_out, Sum.elim_inl, Sum.elim_inr, jt2, jt3, jt4, jt5, jt6, jt7, jt8] at lt6
              refine OK_if (fun c7 => ?_) (fun c7 => ?_)
              · skip
                try simp (disch := omega) only [jst_eq, jst_ne, jst_ni, jI_i, jcmp_lt, jcmp_gt, w32_id, jcpy_out, Sum.elim_inl, Sum.elim_inr, jt2, jt3, jt4, jt5, jt6, jt7, jt8] at c7
                refine OK_some ?_
                try dsimp only [Sum.elim_inl, Sum.elim_inr, jt2, jt3, jt4, jt5, jt6, jt7, jt8]
                try dsimp only [Sum.elim_inl, Sum.elim_inr, jt2, jt3, jt4, jt5, jt6, jt7, jt8]
                refine ⟨?_, ?_⟩
                · exact KEEP _ LK21 BS21 (fun q => .inr (.inr ⟨by omega, fun P' e' => by (rw [eP] at e'; cases e'; rcases lt6 with y | y; { omega }; { exact y.2 })⟩)) -- o39 e4.1
                · exact LK21 -- o40 e4.2
              · skip
                try simp (disch := omega) only [jst_eq, jst_ne, jst_ni, jI_i, jcmp_lt, jcmp_gt, w32_id, jcpy_out, Sum.elim_inl, Sum.elim_inr, jt2, jt3, jt4, jt5, jt6, jt7, jt8] at c7
                refine OK_mono (vX7_look_j134 (E := E) (A := A) (B := B) (s := savP n Rq (jnT A B []).1) _ _ (by exact D21) (by exact ⟨CX21, rfl, SJ⟩) (by exact TX21) (by exact PS21) (by exact ⟨SV, BY⟩)) (fun r r7 => ?_)
                try dsimp only [Sum.elim_inl, Sum.elim_inr, jt2, jt3, jt4, jt5, jt6, jt7, jt8] at r7
                obtain ⟨bs7, fr7⟩ := r7
                try simp (disch := omega) only [jst_eq, jst_ne, jst_ni, jI_i, jcmp_lt, jcmp_gt, w32_id, jcpy_out, Sum.elim_inl, Sum.elim_inr, jt2, jt3, jt4, jt5, jt6, jt7, jt8] at bs7
                try simp (disch := omega) only [jst_eq, jst_ne, jst_ni, jI_i, jcmp_lt, jcmp_gt, w32_id, jcpy_out, Sum.elim_inl, Sum.elim_inr, jt2, jt3, jt4, jt5, jt6, jt7, jt8] at fr7
                try dsimp only [Sum.elim_inl, Sum.elim_inr, jt2, jt3, jt4, jt5, jt6, jt7, jt8]
                try dsimp only [Sum.elim_inl, Sum.elim_inr, jt2, jt3, jt4, jt5, jt6, jt7, jt8]
                refine ⟨?_, ?_⟩
                · exact ⟨_, _, bs7, bstP_n bs.2 OKP (by omega) (.inr ⟨by omega, fun P' e' => by (rw [eP] at e'; cases e'; rcases lt6 with y | y; { exact y.2 }; { exact absurd y.1 c7 })⟩)⟩ -- o46 e5.1
                · exact lkF_t LK21 fr7 -- o47 e5.2
            · skip
              try simp (disch := omega) only [jst_eq, jst_ne, jst_ni, jI_i, jcmp_lt, jcmp_gt, w32_id, jcpy_out, Sum.elim_inl, Sum.elim_inr, jt2, jt3, jt4, jt5, jt6, jt7, jt8] at c6
              refine OK_mono (vX7_look_j134 (E := E) (A := A) (B := B) (s := savP n Rq (jnT A B []).1) _ _ (by exact D21) (by exact ⟨CX21, rfl, SJ⟩) (by exact TX21) (by exact PS21) (by exact ⟨SV, BY⟩)) (fun r r8 => ?_)
              try dsimp only [Sum.elim_inl, Sum.elim_inr, jt2, jt3, jt4, jt5, jt6, jt7, jt8] at r8
              obtain ⟨bs8, fr8⟩ := r8
              try simp (disch := omega) only [jst_eq, jst_ne, jst_ni, jI_i, jcmp_lt, jcmp_gt, w32_id, jcpy_out, Sum.elim_inl, Sum.elim_inr, jt2, jt3, jt4, jt5, jt6, jt7, jt8] at bs8
              try simp (disch := omega) only [jst_eq, jst_ne, jst_ni, jI_i, jcmp_lt, jcmp_gt, w32_id, jcpy_out, Sum.elim_inl, Sum.elim_inr, jt2, jt3, jt4, jt5, jt6, jt7, jt8] at fr8
              try dsimp only [Sum.elim_inl, Sum.elim_inr, jt2, jt3, jt4, jt5, jt6, jt7, jt8]
              try dsimp only [Sum.elim_inl, Sum.elim_inr, jt2, jt3, jt4, jt5, jt6, jt7, jt8]
              refine ⟨?_, ?_⟩
              · exact ⟨_, _, bs8, bstP_n bs.2 OKP (by omega) (.inl (by omega))⟩ -- o53 e6.1
              · exact lkF_t LK21 fr8 -- o54 e6.2
          · skip
            try simp (disch := omega) only [jst_eq, jst_ne, jst_ni, jI_i, jcmp_lt, jcmp_gt, w32_id, jcpy_out, Sum.elim_inl, Sum.elim_inr, jt2, jt3, jt4, jt5, jt6, jt7, jt8] at c5
            refine OK_some ?_
            try dsimp only [Sum.elim_inl, Sum.elim_inr, jt2, jt3, jt4, jt5, jt6, jt7, jt8]
            try dsimp only [Sum.elim_inl, Sum.elim_inr, jt2, jt3, jt4, jt5, jt6, jt7, jt8]
            refine ⟨?_, ?_⟩
            · exact KEEP _ LK17 BS17 (fun q => by (rw [S17] at c5; by_cases y : savP n Rq (jnT A B []).1 < 1; { exact .inl y }; { exact .inr (.inl (by omega)) })) -- o55 e7.1
            · exact LK17 -- o56 e7.2
        · skip
          try simp (disch := omega) only [jst_eq, jst_ne, jst_ni, jI_i, jcmp_lt, jcmp_gt, w32_id, jcpy_out, Sum.elim_inl, Sum.elim_inr, jt2, jt3, jt4, jt5, jt6, jt7, jt8] at c4
          refine OK_some ?_
          try dsimp only [Sum.elim_inl, Sum.elim_inr, jt2, jt3, jt4, jt5, jt6, jt7, jt8]
          try dsimp only [Sum.elim_inl, Sum.elim_inr, jt2, jt3, jt4, jt5, jt6, jt7, jt8]
          refine ⟨?_, ?_⟩
          · exact KEEP _ LK6 BS6 (fun q => absurd (by (rcases ba3 with y | y; { rw [eQ] at y; exact y.2 }; { exact absurd y.1 c4 })) q.2.2) -- o57 e8.1
          · exact LK6 -- o58 e8.2

