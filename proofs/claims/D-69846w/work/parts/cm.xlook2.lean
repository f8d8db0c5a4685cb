/-! x: looking, whole -/
def byM (l : List Int) : Prop := ∀ x, x ∈ l → 0 ≤ x ∧ x < 128
theorem byM_app {a b : List Int} (x : byM a) (y : byM b) : byM (a ++ b) := fun z m => (List.mem_append.mp m).elim (x z) (y z)
theorem byM_1 {v : Int} (b : 0 ≤ v ∧ v < 128) : byM [v] := fun z m => by rw [List.mem_singleton.mp m]; exact b
theorem byM_0 : byM [] := fun z m => absurd m (List.not_mem_nil)
theorem byM_L : ∀ {l : List Int}, byM l → byL l
  | [], _ => fun i il => absurd il (Nat.not_lt_zero _)
  | a :: l, h => fun i il => by
    cases i with
    | zero => exact h a (List.mem_cons_self ..)
    | succ i => exact byM_L (l := l) (fun z m => h z (List.mem_cons_of_mem _ m)) i (by have e : (a :: l).length = l.length + 1 := rfl; omega)
theorem byM_lts : ∀ (n : Nat) (w : Int), byM (lts n w)
  | 0, _ => byM_0
  | n + 1, w => by
    show byM (if w ≤ 0 then [] else lts n (w / 27) ++ [96 + w % 27])
    by_cases y : w ≤ 0
    · rw [if_pos y]; exact byM_0
    · rw [if_neg y]; exact byM_app (byM_lts n _) (byM_1 (by omega))
theorem byM_dig {v : Int} (b : 0 ≤ v ∧ v ≤ 15) : byM (dig v) := by
  unfold dig
  by_cases y : v ≤ 9
  · rw [if_pos y]; exact byM_1 (by omega)
  · rw [if_neg y]; exact byM_app (a := [49]) (byM_1 (by decide)) (byM_1 (by omega))
theorem byM_jc {g : Nat → List Int} (h : ∀ k, byM (g k)) : ∀ k, byM (jcN g k)
  | 0 => byM_0
  | k + 1 => byM_app (byM_jc h k) (byM_app (by by_cases y : k = 0; { rw [if_pos y]; exact byM_0 }; { rw [if_neg y]; exact byM_1 (by decide) }) (h k))
theorem byM_gl : ∀ {L : List (List Int)}, (∀ l, l ∈ L → byM l) → ∀ k, byM (gl L k)
  | [], _, _ => byM_0
  | x :: _, h, 0 => h x (List.mem_cons_self ..)
  | _ :: L, h, k + 1 => byM_gl (L := L) (fun l m => h l (List.mem_cons_of_mem _ m)) k
theorem byM_txN {N : Int} {cA hl : Int → Int} {i : NI} {L : List (List Int)} (t : tlI N i) (n3 : i.1 ≠ 3) (h : ∀ l, l ∈ L → byM l) : byM (txN cA hl i L) := by
  unfold txN
  rcases t with t | t | t | t
  · rw [if_pos t.1]; exact byM_1 (by omega)
  · rw [if_neg (by omega), if_pos t.1]
    have v := t.2.1
    unfold vlR at v
    unfold txV
    by_cases k0 : i.2.2.1 = 0
    · rw [if_pos k0]; exact byM_dig (by omega)
    · rw [if_neg k0]
      by_cases k1 : i.2.2.1 = 1
      · rw [if_pos k1]; exact byM_lts _ _
      · rw [if_neg k1]; exact byM_app (byM_app (byM_1 (by decide)) (byM_lts _ _)) (byM_1 (by decide))
  · rw [if_neg (by omega), if_neg (by omega), if_neg n3]
    exact byM_app (byM_lts _ _) (byM_app (byM_1 (by decide)) (byM_app (byM_jc (byM_gl h) _) (byM_1 (by decide))))
  · exact absurd t.1 n3
theorem nhT_i2 : ∀ {R : TR}, nhT R → (inf R).1 ≠ 3
  | .leaf _, n => n
  | .branch _ _ r, n => nhT_i2 (R := r) n.2
theorem byM_txK {N : Int} {cA hl : Int → Int} : ∀ {R : TR}, tlT N R → nhT R → ∀ l, l ∈ txK cA hl R → byM l
  | .leaf _, _, _ => fun l m => absurd m (List.not_mem_nil)
  | .branch _ s r, t, n => fun l m => by
    rcases List.mem_cons.mp m with e | e
    · rw [e]; exact byM_txN (tlT_nd t.2.1) (nhT_i2 n.1) (byM_txK t.2.1 n.1)
    · exact byM_txK t.2.2 n.2 l e
theorem tx_by {N : Int} {cA hl : Int → Int} {R : TR} (t : tlT N R) (n : nhT R) : byL (txT cA hl R) := byM_L (byM_txN (tlT_nd t) (nhT_i2 n) (byM_txK t n))
/-! what is well made -/
theorem tz_tl {E : EV} : ∀ {R : TR} {j : Int}, 0 ≤ j → tzT E R j → tlT E.1.1 R
  | .leaf i, j, _, t => by
    rcases t.2.2 with w | w | w
    · exact .inl ⟨w.1, w.2.2.1, by omega⟩
    · exact .inr (.inl ⟨w.1, w.2.2, t.1, t.2.1⟩)
    · exact .inr (.inr (.inl ⟨w.1, w.2.1, w.2.2.1⟩))
  | .branch b s r, j, j0, t => by
    have q := (tzT_nd t.2.2).2.2
    have n0 := nk_0 r
    refine ⟨?_, tz_tl (Int.le_refl 0) t.1, tz_tl (by omega) t.2.2⟩
    rcases q with w | w | w
    · omega
    · omega
    · exact w.1
theorem tz_ac {E : EV} : ∀ {R : TR} {j : Int}, 0 ≤ j → tzT E R j → acR E.1.1 R
  | .leaf i, j, _, t => fun y => by
    rcases t.2.2 with w | w | w
    · omega
    · omega
    · exact ⟨w.2.1, w.2.2.1⟩
  | .branch b s r, j, j0, t => by
    have q := (tzT_nd t.2.2).2.2
    have n0 := nk_0 r
    refine ⟨.inl ?_, tz_ac (Int.le_refl 0) t.1, tz_ac (by omega) t.2.2⟩
    rcases q with w | w | w
    · omega
    · omega
    · exact w.1
theorem tz_nh {E : EV} : ∀ {R : TR} {j : Int}, tzT E R j → nhT R
  | .leaf i, j, t => by
    show i.1 ≠ 3
    rcases t.2.2 with w | w | w <;> omega
  | .branch b s r, j, t => ⟨tz_nh t.1, tz_nh t.2.2⟩
theorem wt_sz {wA : Int → Int} {N : Int} (W : ∀ a, 26 ≤ a → a < N → wA a ≤ 40) : ∀ {R : TR}, acR N R → wtR wA R ≤ 41 * sz R
  | .leaf i, ac => by
    show lwI wA i ≤ 41 * 1
    unfold lwI
    by_cases c : i.1 = 2
    · rw [if_pos c]
      by_cases d : 26 ≤ i.2.1
      · rw [if_pos d]; have := W _ d (ac c).2; omega
      · rw [if_neg d]; omega
    · rw [if_neg c]; split <;> omega
  | .branch b s r, ac => by
    have p := wt_sz W ac.2.1
    have q := wt_sz W ac.2.2
    have e : sz (.branch b s r) = sz s + sz r := rfl
    have e2 : wtR wA (.branch b s r) = wtR wA s + wtR wA r := rfl
    omega
/-- what two terms have alike is well made -/
theorem jnK_tz {E : EV} : ∀ {a b : TR} {ps : PS} {j : Int}, 0 ≤ j → tzT E a j → tzT E b j → nk a = nk b → (inf a).1 = 2 → (jnK a b ps).2.length ≤ 2 → tzT E (jnK a b ps).1 j ∧ prC 2 (jnK a b ps).1
  | .leaf i, .leaf k, ps, j, _, ta, _, _, a2, _ => by
    refine ⟨⟨ta.1, ta.2.1, .inr (.inr ?_)⟩, fun y => absurd y (show ¬ (2 : Int) = 0 by decide)⟩
    have a2' : i.1 = 2 := a2
    rcases ta.2.2 with w | w | w
    · omega
    · omega
    · exact ⟨rfl, w.2⟩
  | .leaf i, .branch b s r, ps, j, _, _, _, n, _, _ => by have e : nk (.branch b s r) = nk r + 1 := rfl; have := nk_0 r; have e0 : nk (.leaf i) = 0 := rfl; omega
  | .branch b s r, .leaf i, ps, j, _, _, _, n, _, _ => by have e : nk (.branch b s r) = nk r + 1 := rfl; have := nk_0 r; have e0 : nk (.leaf i) = 0 := rfl; omega
  | .branch b s r, .branch b' s' r', ps, j, j0, ta, tb, n, a2, l => by
    have e : nk (.branch b s r) = nk r + 1 := rfl
    have e' : nk (.branch b' s' r') = nk r' + 1 := rfl
    have mono := (jnK_pre (a := r) (b := r') (ps := (jn1 (jnK s s') s s' ps).2)).1.1
    have l2 : (jnK r r' (jn1 (jnK s s') s s' ps).2).2.length ≤ 2 := l
    have q := jnK_tz (a := r) (b := r') (ps := (jn1 (jnK s s') s s' ps).2) (j := j + 1) (by omega) ta.2.2 tb.2.2 (by omega) a2 l2
    have sh := (jnK_sh (a := r) (b := r') (ps := (jn1 (jnK s s') s s' ps).2) (by omega)).2.1
    have l1 : (jn1 (jnK s s') s s' ps).2.length ≤ 2 := Nat.le_trans mono l2
    have q1 : tzT E (jn1 (jnK s s') s s' ps).1 0 ∧ prC 2 (jn1 (jnK s s') s s' ps).1 ∧ (inf (jn1 (jnK s s') s s' ps).1).2.2.1 = (inf s).2.2.1 := by
      have ts := tzT_nd ta.1
      have ts' := tzT_nd tb.1
      rw [Int.zero_add] at ts ts'
      unfold jn1 at l1 ⊢
      by_cases c1 : (inf s).1 = 2 ∧ (inf s').1 = 2 ∧ (inf s).2.1 = (inf s').2.1
      · rw [if_pos c1] at l1 ⊢
        have nn : nk s = nk s' := by
          rcases ts.2.2 with w | w | w
          · omega
          · omega
          · rcases ts'.2.2 with x | x | x
            · omega
            · omega
            · have e1 := w.2.2.2.1
              have e2 := x.2.2.2.1
              rw [← c1.2.2] at e2
              omega
        have z := jnK_tz (a := s) (b := s') (ps := ps) (j := 0) (Int.le_refl 0) ta.1 tb.1 nn c1.1 l1
        exact ⟨z.1, z.2, by rw [(jnK_sh nn).2.1]⟩
      · rw [if_neg c1] at l1 ⊢
        by_cases c2 : (inf s).1 = 1 ∧ lkB s s' = true
        · rw [if_pos c2]
          refine ⟨⟨ts.1, ts.2.1, .inr (.inl ⟨rfl, rfl, ?_⟩)⟩, fun y => absurd y (show ¬ (1 : Int) = 0 by decide), rfl⟩
          rcases ts.2.2 with w | w | w
          · omega
          · exact w.2.2
          · omega
        · rw [if_neg c2] at l1 ⊢
          have f := (jnP_pre (a := s) (b := s') (ps := ps)).2.2.1
          have l3 : (jnP s s' ps).length ≤ 2 := l1
          exact ⟨⟨ts.1, ts.2.1, .inl ⟨rfl, rfl, by show 0 ≤ ((fdP ps s s' : Nat) : Int); omega, by show ((fdP ps s s' : Nat) : Int) < 3; omega⟩⟩, fun _ => ⟨by show 0 ≤ ((fdP ps s s' : Nat) : Int); omega, by show ((fdP ps s s' : Nat) : Int) < 2; omega⟩, rfl⟩
    refine ⟨⟨q1.1, ?_, q.1⟩, q1.2.1, q.2⟩
    rw [q1.2.2, sh]
    exact ta.2.1

