/-! the first way among the cheapest; x: a part of it is chosen -/
def wdN (e : CE) (b : Int) : Nat → Int
  | 0 => 0
  | n + 1 => wdN e b n * 27 + e.2.2.1 0 (b + n) + 1
theorem wdN_s {e : CE} {b : Int} {n : Nat} : wdN e b (n + 1) = wdN e b n * 27 + e.2.2.1 0 (b + n) + 1 := rfl
theorem wdN_b {e : CE} (v : vCE e) {b : Int} (b0 : 0 ≤ b) : ∀ n : Nat, n ≤ 3 → b + n ≤ e.2.2.2.2 0 → 0 ≤ wdN e b n ∧ wdN e b n ≤ (if n = 0 then 0 else if n = 1 then 26 else if n = 2 then 728 else 19682)
  | 0, _, _ => ⟨Int.le_refl _, Int.le_refl _⟩
  | n + 1, l, m => by
    have q := wdN_b v b0 n (by omega) (by omega)
    have o := (v.2 0 (Int.le_refl _) (by have := v.1.1; omega)).2.2.2 (b + n) (by omega) (by omega)
    rw [wdN_s]
    generalize e.2.2.1 0 (b + n) = y at o ⊢
    generalize wdN e b n = w at q ⊢
    have h3 : n = 0 ∨ n = 1 ∨ n = 2 := by omega
    rcases h3 with rfl | rfl | rfl <;> simp at q ⊢ <;> omega
def gdW (e : CE) (k u : Nat) (n : Int) : Prop := tgL e u n ≠ -1 ∧ 2 * n + chP e k (tgL e u n) = chP e (k + 1) u
def gdC (e : CE) (k u : Nat) (a b : Int) : Prop := isP e a ∧ isP e b ∧ tgC e u a b ≠ -1 ∧ spR a + spR b + chP e k (tgC e u a b) = chP e (k + 1) u
def isFw (e : CE) (k u : Nat) (it : Int × Int) (v : Int) : Prop := (∃ n : Int, (1 ≤ n ∧ n ≤ 3) ∧ gdW e k u n ∧ (∀ j, 1 ≤ j → j < n → ¬ gdW e k u j) ∧ it = (0, wdN e ((nb u 0 : Nat) : Int) n.toNat) ∧ v = tgL e u n) ∨ ((∀ j, 1 ≤ j → j ≤ 3 → ¬ gdW e k u j) ∧ ∃ a b : Int, (0 ≤ a ∧ a < 178) ∧ (0 ≤ b ∧ b < 178) ∧ gdC e k u a b ∧ (∀ i j, 0 ≤ i → 0 ≤ j → j < 178 → (i < a ∨ (i = a ∧ j < b)) → ¬ gdC e k u i j) ∧ it = (1 + 200 * a + b, 0) ∧ v = tgC e u a b)
theorem isFw_u {e : CE} {k u : Nat} {it it' : Int × Int} {v v' : Int} (x : isFw e k u it v) (y : isFw e k u it' v') : it = it' ∧ v = v' := by
  rcases x with ⟨n, n1, n2, n3, n4, n5⟩ | ⟨n, a, b, a1, b1, g, l, i1, i2⟩
  · rcases y with ⟨m, m1, m2, m3, m4, m5⟩ | ⟨m, _⟩
    · have e9 : n = m := by
        rcases Int.lt_trichotomy n m with q | q | q
        · exact absurd n2 (m3 n n1.1 q)
        · exact q
        · exact absurd m2 (n3 m m1.1 q)
      subst e9
      exact ⟨n4.trans m4.symm, n5.trans m5.symm⟩
    · exact absurd n2 (m n n1.1 n1.2)
  · rcases y with ⟨m, m1, m2, _⟩ | ⟨_, a', b', a1', b1', g', l', i1', i2'⟩
    · exact absurd m2 (n m m1.1 m1.2)
    · have e9 : a = a' ∧ b = b' := by
        rcases Int.lt_trichotomy a a' with q | q | q
        · exact absurd g (l' a b a1.1 b1.1 b1.2 (Or.inl q))
        · rcases Int.lt_trichotomy b b' with p | p | p
          · exact absurd g (l' a b a1.1 b1.1 b1.2 (Or.inr ⟨q, p⟩))
          · exact ⟨q, p⟩
          · exact absurd g' (l a' b' a1'.1 b1'.1 b1'.2 (Or.inr ⟨q.symm, p⟩))
        · exact absurd g' (l a' b' a1'.1 b1'.1 b1'.2 (Or.inl q))
      obtain ⟨e1, e2⟩ := e9
      subst e1 e2
      exact ⟨i1.trans i1'.symm, i2.trans i2'.symm⟩
theorem way_ex {e : CE} {k u : Nat} (l : chP e (k + 1) u < 1000000) : (∃ n : Int, (1 ≤ n ∧ n ≤ 3) ∧ gdW e k u n) ∨ ∃ a b : Int, (0 ≤ a ∧ a < 178) ∧ (0 ≤ b ∧ b < 178) ∧ gdC e k u a b := by
  have q := (mnL_le (chP e k) (mvL e u)).2.2
  have eq1 : chP e (k + 1) u = mnL (chP e k) (mvL e u) := by
    show mnL (chP e k) (mvL e ((u : Int)).toNat) = _
    rw [show ((u : Int)).toNat = u by omega]
  rcases q with q | ⟨m, m1, m2⟩
  · omega
  · rw [← eq1] at m2
    rcases mvL_m.mp m1 with ⟨n, n1, n2, n3, n4⟩ | ⟨a, b, a1, b1, a2, b2, g, n4⟩
    · refine Or.inl ⟨n, by omega, n3, ?_⟩
      rw [m2, n4]
    · refine Or.inr ⟨a, b, by omega, by omega, a2, b2, g, ?_⟩
      rw [m2, n4]
/-- the whole way -/
def wyP (e : CE) : Nat → Int → List (Int × Int) → Prop
  | 0, _, l => l = []
  | k + 1, u, l => ∃ it v l', isFw e k u.toNat it v ∧ wyP e k v l' ∧ l = it :: l'
theorem wyP_u {e : CE} : ∀ {k : Nat} {u : Int} {l l' : List (Int × Int)}, wyP e k u l → wyP e k u l' → l = l'
  | 0, _, _, _, a, b => (show _ = [] from a).trans (show _ = [] from b).symm
  | k + 1, _, _, _, a, b => by
    obtain ⟨i, v, r, f, w, q⟩ := a
    obtain ⟨i', v', r', f', w', q'⟩ := b
    obtain ⟨x, y⟩ := isFw_u f f'
    subst x y
    rw [q, q', wyP_u w w']
theorem vX9_find_2_l2 (i1 : Int) (a30 : Int) {h : AH} {t d : Int → Int} {N j : Int} (tb : tbC h t d N) (hN : 1 ≤ N ∧ N ≤ 400) (dj : ∀ i j, 0 ≤ i → i < j → j < N → t i ≠ t j) (hj : 0 ≤ j ∧ j < N ∧ t j = i1) (h3 : a30 = 0) : OK (gX9_find_2_l2 i1 a30 h) (fun r => r = j) := by
  unfold gX9_find_2_l2
  refine OK_jit (I := (fun (a3 : Int) => 0 ≤ a3 ∧ a3 ≤ j)) (m := (fun (a3 : Int) => (j - a3).toNat)) ?_ ?_
  · intro a3 hs
    try dsimp only at hs
    have q0 := hs; clear hs
    unfold gX9_find_2_b2
    have T3 := (tb.2 a3 q0.1 (by omega)).1
    refine OK_jg (by (first | assumption | omega | ((try dsimp only [jt2, jt3, jt4]); first | omega | (simp (disch := omega) only [jst_eq, jst_ne, jst_ni, jst_o, jI_i, jcpy_out, w32_id, jdiv_nn, jshr_k, jand_255] <;> first | done | omega | assumption)) | (intros; simp (disch := omega) only [jst_eq, jst_ne, jst_ni, jst_o, jI_i, jcpy_out, w32_id, jdiv_nn, *] <;> first | done | omega) | (intros; simp (disch := omega) only [jst_eq, jst_ne, jst_ni, jst_o, jI_i, jcpy_out, w32_id, jdiv_nn] at * <;> first | done | omega | assumption) | (intros; first | rfl | (exfalso; omega) | ((repeat' apply And.intro) <;> first | assumption | rfl | omega | trivial)))) ?_ -- o1
    refine OK_if (fun c1 => ?_) (fun c1 => ?_)
    · skip
      try simp (disch := omega) only [jst_eq, jst_ne, jst_ni, jI_i, jcmp_lt, jcmp_gt, w32_id, jcpy_out, Sum.elim_inl, Sum.elim_inr, jt2, jt3, jt4, jt5, jt6, jt7, jt8] at c1
      refine OK_ir ?_
      (have z := jcmp_eq.mp c1; rw [T3, ← hj.2.2] at z; by_cases y : a3 < j; { exact absurd z (dj a3 j q0.1 y hj.2.1) }; { omega }) -- o2 e1
    · skip
      try simp (disch := omega) only [jst_eq, jst_ne, jst_ni, jI_i, jcmp_lt, jcmp_gt, w32_id, jcpy_out, Sum.elim_inl, Sum.elim_inr, jt2, jt3, jt4, jt5, jt6, jt7, jt8] at c1
      have NE : a3 ≠ j := by { intro z; apply c1; rw [T3, z, hj.2.2]; exact jcmp_eq.mpr rfl }
      refine OK_jlx (fun x4 ex4 => ?_)
      try simp (disch := omega) only [jst_eq, jst_ne, jst_ni, jI_i, jcmp_lt, jcmp_gt, w32_id, jcpy_out, Sum.elim_inl, Sum.elim_inr, jt2, jt3, jt4, jt5, jt6, jt7, jt8] at ex4
      refine OK_il ?_ ?_
      · (first | assumption | omega | ((try dsimp only [jt2, jt3, jt4]); first | omega | (simp (disch := omega) only [jst_eq, jst_ne, jst_ni, jst_o, jI_i, jcpy_out, w32_id, jdiv_nn, jshr_k, jand_255] <;> first | done | omega | assumption)) | (intros; simp (disch := omega) only [jst_eq, jst_ne, jst_ni, jst_o, jI_i, jcpy_out, w32_id, jdiv_nn, *] <;> first | done | omega) | (intros; simp (disch := omega) only [jst_eq, jst_ne, jst_ni, jst_o, jI_i, jcpy_out, w32_id, jdiv_nn] at * <;> first | done | omega | assumption) | (intros; first | rfl | (exfalso; omega) | ((repeat' apply And.intro) <;> first | assumption | rfl | omega | trivial))) -- o3 e2i
      · (first | assumption | omega | ((try dsimp only [jt2, jt3, jt4]); first | omega | (simp (disch := omega) only [jst_eq, jst_ne, jst_ni, jst_o, jI_i, jcpy_out, w32_id, jdiv_nn, jshr_k, jand_255] <;> first | done | omega | assumption)) | (intros; simp (disch := omega) only [jst_eq, jst_ne, jst_ni, jst_o, jI_i, jcpy_out, w32_id, jdiv_nn, *] <;> first | done | omega) | (intros; simp (disch := omega) only [jst_eq, jst_ne, jst_ni, jst_o, jI_i, jcpy_out, w32_id, jdiv_nn] at * <;> first | done | omega | assumption) | (intros; first | rfl | (exfalso; omega) | ((repeat' apply And.intro) <;> first | assumption | rfl | omega | trivial))) -- o4 e2m
  · (first | assumption | omega | ((try dsimp only [jt2, jt3, jt4]); first | omega | (simp (disch := omega) only [jst_eq, jst_ne, jst_ni, jst_o, jI_i, jcpy_out, w32_id, jdiv_nn, jshr_k, jand_255] <;> first | done | omega | assumption)) | (intros; simp (disch := omega) only [jst_eq, jst_ne, jst_ni, jst_o, jI_i, jcpy_out, w32_id, jdiv_nn, *] <;> first | done | omega) | (intros; simp (disch := omega) only [jst_eq, jst_ne, jst_ni, jst_o, jI_i, jcpy_out, w32_id, jdiv_nn] at * <;> first | done | omega | assumption) | (intros; first | rfl | (exfalso; omega) | ((repeat' apply And.intro) <;> first | assumption | rfl | omega | trivial))) -- o5 init
theorem vX9_find_2 (a1 : Int) {h : AH} {t d : Int → Int} {N j : Int} (tb : tbC h t d N) (hN : 1 ≤ N ∧ N ≤ 400) (dj : ∀ i j, 0 ≤ i → i < j → j < N → t i ≠ t j) (hj : 0 ≤ j ∧ j < N ∧ t j = a1) : OK (gX9_find_2 a1 h) (fun r => r = j) := by
  unfold gX9_find_2
  refine OK_jb (vX9_find_2_l2 (t := t) (d := d) (N := N) (j := j) _ _ (by (first | assumption | omega | ((try dsimp only [jt2, jt3, jt4]); first | omega | (simp (disch := omega) only [jst_eq, jst_ne, jst_ni, jst_o, jI_i, jcpy_out, w32_id, jdiv_nn, jshr_k, jand_255] <;> first | done | omega | assumption)) | (intros; simp (disch := omega) only [jst_eq, jst_ne, jst_ni, jst_o, jI_i, jcpy_out, w32_id, jdiv_nn, *] <;> first | done | omega) | (intros; simp (disch := omega) only [jst_eq, jst_ne, jst_ni, jst_o, jI_i, jcpy_out, w32_id, jdiv_nn] at * <;> first | done | omega | assumption) | (intros; first | rfl | (exfalso; omega) | ((repeat' apply And.intro) <;> first | assumption | rfl | omega | trivial)))) (by (first | assumption | omega | ((try dsimp only [jt2, jt3, jt4]); first | omega | (simp (disch := omega) only [jst_eq, jst_ne, jst_ni, jst_o, jI_i, jcpy_out, w32_id, jdiv_nn, jshr_k, jand_255] <;> first | done | omega | assumption)) | (intros; simp (disch := omega) only [jst_eq, jst_ne, jst_ni, jst_o, jI_i, jcpy_out, w32_id, jdiv_nn, *] <;> first | done | omega) | (intros; simp (disch := omega) only [jst_eq, jst_ne, jst_ni, jst_o, jI_i, jcpy_out, w32_id, jdiv_nn] at * <;> first | done | omega | assumption) | (intros; first | rfl | (exfalso; omega) | ((repeat' apply And.intro) <;> first | assumption | rfl | omega | trivial)))) (by (first | assumption | omega | ((try dsimp only [jt2, jt3, jt4]); first | omega | (simp (disch := omega) only [jst_eq, jst_ne, jst_ni, jst_o, jI_i, jcpy_out, w32_id, jdiv_nn, jshr_k, jand_255] <;> first | done | omega | assumption)) | (intros; simp (disch := omega) only [jst_eq, jst_ne, jst_ni, jst_o, jI_i, jcpy_out, w32_id, jdiv_nn, *] <;> first | done | omega) | (intros; simp (disch := omega) only [jst_eq, jst_ne, jst_ni, jst_o, jI_i, jcpy_out, w32_id, jdiv_nn] at * <;> first | done | omega | assumption) | (intros; first | rfl | (exfalso; omega) | ((repeat' apply And.intro) <;> first | assumption | rfl | omega | trivial)))) (by (first | assumption | omega | ((try dsimp only [jt2, jt3, jt4]); first | omega | (simp (disch := omega) only [jst_eq, jst_ne, jst_ni, jst_o, jI_i, jcpy_out, w32_id, jdiv_nn, jshr_k, jand_255] <;> first | done | omega | assumption)) | (intros; simp (disch := omega) only [jst_eq, jst_ne, jst_ni, jst_o, jI_i, jcpy_out, w32_id, jdiv_nn, *] <;> first | done | omega) | (intros; simp (disch := omega) only [jst_eq, jst_ne, jst_ni, jst_o, jI_i, jcpy_out, w32_id, jdiv_nn] at * <;> first | done | omega | assumption) | (intros; first | rfl | (exfalso; omega) | ((repeat' apply And.intro) <;> first | assumption | rfl | omega | trivial)))) (by (first | assumption | omega | ((try dsimp only [jt2, jt3, jt4]); first | omega | (simp (disch := omega) only [jst_eq, jst_ne, jst_ni, jst_o, jI_i, jcpy_out, w32_id, jdiv_nn, jshr_k, jand_255] <;> first | done | omega | assumption)) | (intros; simp (disch := omega) only [jst_eq, jst_ne, jst_ni, jst_o, jI_i, jcpy_out, w32_id, jdiv_nn, *] <;> first | done | omega) | (intros; simp (disch := omega) only [jst_eq, jst_ne, jst_ni, jst_o, jI_i, jcpy_out, w32_id, jdiv_nn] at * <;> first | done | omega | assumption) | (intros; first | rfl | (exfalso; omega) | ((repeat' apply And.intro) <;> first | assumption | rfl | omega | trivial))))) (fun o1 r1 => ?_)
  try dsimp only [Sum.elim_inl, Sum.elim_inr, jt2, jt3, jt4, jt5, jt6, jt7, jt8] at r1
  have v1 := r1
  clear r1
  try simp (disch := omega) only [jst_eq, jst_ne, jst_ni, jI_i, jcmp_lt, jcmp_gt, w32_id, jcpy_out, Sum.elim_inl, Sum.elim_inr, jt2, jt3, jt4, jt5, jt6, jt7, jt8] at v1
  refine OK_some ?_
  try dsimp only [Sum.elim_inl, Sum.elim_inr, jt2, jt3, jt4, jt5, jt6, jt7, jt8]
  (first | assumption | omega | ((try dsimp only [jt2, jt3, jt4]); first | omega | (simp (disch := omega) only [jst_eq, jst_ne, jst_ni, jst_o, jI_i, jcpy_out, w32_id, jdiv_nn, jshr_k, jand_255] <;> first | done | omega | assumption)) | (intros; simp (disch := omega) only [jst_eq, jst_ne, jst_ni, jst_o, jI_i, jcpy_out, w32_id, jdiv_nn, *] <;> first | done | omega) | (intros; simp (disch := omega) only [jst_eq, jst_ne, jst_ni, jst_o, jI_i, jcpy_out, w32_id, jdiv_nn] at * <;> first | done | omega | assumption) | (intros; first | rfl | (exfalso; omega) | ((repeat' apply And.intro) <;> first | assumption | rfl | omega | trivial))) -- o6 e1
/-- what choosing rests upon -/
def chS (h : AH) (e : CE) (t d : Int → Int) (N : Int) (k : Nat) : Prop := cuX h e ∧ vCE e ∧ spX h e 178 ∧ tbC h t d N ∧ TI e t d N ∧ FX (h 417) (h 418) e t d N N ∧ pok (h 419) e t d N k ∧ pok (h 419) e t d N (k + 1)
theorem ch_j {h : AH} {e : CE} {t d : Int → Int} {N s : Int} {k u : Nat} (c : chS h e t d N k) (s0 : 0 ≤ s ∧ s < N ∧ t s = u) (ds : d s + k + 1 ≤ 4) {m : Int × Int} (hm : mvI e u m) : ∃ j, (0 ≤ j ∧ j < N ∧ t j = m.2) ∧ d j ≤ d s + 1 ∧ h 419 (400 * k + j) = chP e k m.2 := by
  obtain ⟨_, _, _, _, ti, fx, p, _⟩ := c
  have q := ((fx s s0.1 s0.2.1).1 (by omega)).2 m (by rw [s0.2.2]; exact mvL_m.mpr hm)
  obtain ⟨j, j0, j1, j2, j3⟩ := q
  exact ⟨j, ⟨j0, j1, j2⟩, j3, by rw [← j2]; exact p j j0 j1 (by omega)⟩
theorem vX9_choose_l24 (i1 : Int) (i2 : Int) (i3 : Int) (i4 : Int) (a50 : Int) {h : AH} {e : CE} {t d : Int → Int} {N : Int} {k u : Nat} (cs : chS h e t d N k) (hs : 0 ≤ i1 ∧ i1 < N ∧ t i1 = u) (ds : d i1 + k + 1 ≤ 4) (hk : i2 = (k : Int) + 1) (hw : i4 = chP e (k + 1) u) (h5 : a50 = 1) : OK (gX9_choose_l24 i1 i2 i3 i4 a50 h) (Sum.elim (fun r => jt2 r fun n v => (1 ≤ n ∧ n ≤ 3) ∧ gdW e k u n ∧ (∀ j, 1 ≤ j → j < n → ¬ gdW e k u j) ∧ v = tgL e u n) (fun _ => ∀ j, 1 ≤ j → j ≤ 3 → ¬ gdW e k u j)) := by
  obtain ⟨su, su1, su2⟩ : ∃ w : Nat, t i1 = w ∧ stU e w := (cs.2.2.2.2.1.2.2.1 i1 hs.1 hs.2.1).1
  have wu : su = u := by omega
  rw [wu] at su2
  have d0 := (cs.2.2.2.2.1.2.2.1 i1 hs.1 hs.2.1).2.1.1
  have N4 := cs.2.2.2.2.1.1
  unfold gX9_choose_l24
  refine OK_jit (I := (fun (a5 : Int) => (1 ≤ a5 ∧ a5 ≤ 4) ∧ (∀ j, 1 ≤ j → j < a5 → ¬ gdW e k u j))) (m := (fun (a5 : Int) => (4 - a5).toNat)) ?_ ?_
  · intro a5 hs
    try dsimp only at hs
    obtain ⟨q0, q1⟩ := hs
    unfold gX9_choose_b24
    have T1 := (cs.2.2.2.1.2 i1 hs.1 hs.2.1).1
    refine OK_if (fun c1 => ?_) (fun c1 => ?_)
    · skip
      try simp (disch := omega) only [jst_eq, jst_ne, jst_ni, jI_i, jcmp_lt, jcmp_gt, w32_id, jcpy_out, Sum.elim_inl, Sum.elim_inr, jt2, jt3, jt4, jt5, jt6, jt7, jt8] at c1
      refine OK_ir ?_
      exact fun j j1 j2 => q1 j j1 (by omega) -- o1 e1
    · skip
      try simp (disch := omega) only [jst_eq, jst_ne, jst_ni, jI_i, jcmp_lt, jcmp_gt, w32_id, jcpy_out, Sum.elim_inl, Sum.elim_inr, jt2, jt3, jt4, jt5, jt6, jt7, jt8] at c1
      rw [T1, hs.2.2]
      refine OK_jg (by (first | assumption | omega | ((try dsimp only [jt2, jt3, jt4]); first | omega | (simp (disch := omega) only [jst_eq, jst_ne, jst_ni, jst_o, jI_i, jcpy_out, w32_id, jdiv_nn, jshr_k, jand_255] <;> first | done | omega | assumption)) | (intros; simp (disch := omega) only [jst_eq, jst_ne, jst_ni, jst_o, jI_i, jcpy_out, w32_id, jdiv_nn, *] <;> first | done | omega) | (intros; simp (disch := omega) only [jst_eq, jst_ne, jst_ni, jst_o, jI_i, jcpy_out, w32_id, jdiv_nn] at * <;> first | done | omega | assumption) | (intros; first | rfl | (exfalso; omega) | ((repeat' apply And.intro) <;> first | assumption | rfl | omega | trivial)))) ?_ -- o2
      refine OK_jb (vX9_behindWord (e := e) (u := u) _ _ (by exact cs.1) (by exact cs.2.1) (by exact ⟨rfl, su2⟩) (by omega)) (fun v28 r1 => ?_)
      try dsimp only [Sum.elim_inl, Sum.elim_inr, jt2, jt3, jt4, jt5, jt6, jt7, jt8] at r1
      have v1 := r1
      clear r1
      try simp (disch := omega) only [jst_eq, jst_ne, jst_ni, jI_i, jcmp_lt, jcmp_gt, w32_id, jcpy_out, Sum.elim_inl, Sum.elim_inr, jt2, jt3, jt4, jt5, jt6, jt7, jt8] at v1
      refine OK_if (fun c2 => ?_) (fun c2 => ?_)
      · skip
        try simp (disch := omega) only [jst_eq, jst_ne, jst_ni, jI_i, jcmp_lt, jcmp_gt, w32_id, jcpy_out, Sum.elim_inl, Sum.elim_inr, jt2, jt3, jt4, jt5, jt6, jt7, jt8] at c2
        unfold gX9_choose_j155_24
        refine OK_jlx (fun x33 ex33 => ?_)
        try simp (disch := omega) only [jst_eq, jst_ne, jst_ni, jI_i, jcmp_lt, jcmp_gt, w32_id, jcpy_out, Sum.elim_inl, Sum.elim_inr, jt2, jt3, jt4, jt5, jt6, jt7, jt8] at ex33
        refine OK_il ?_ ?_
        · try dsimp only [Sum.elim_inl, Sum.elim_inr, jt2, jt3, jt4, jt5, jt6, jt7, jt8]
          refine ⟨?_, ?_⟩
          · (first | assumption | omega | ((try dsimp only [jt2, jt3, jt4]); first | omega | (simp (disch := omega) only [jst_eq, jst_ne, jst_ni, jst_o, jI_i, jcpy_out, w32_id, jdiv_nn, jshr_k, jand_255] <;> first | done | omega | assumption)) | (intros; simp (disch := omega) only [jst_eq, jst_ne, jst_ni, jst_o, jI_i, jcpy_out, w32_id, jdiv_nn, *] <;> first | done | omega) | (intros; simp (disch := omega) only [jst_eq, jst_ne, jst_ni, jst_o, jI_i, jcpy_out, w32_id, jdiv_nn] at * <;> first | done | omega | assumption) | (intros; first | rfl | (exfalso; omega) | ((repeat' apply And.intro) <;> first | assumption | rfl | omega | trivial))) -- o7 e2i.1
          · (intro j j1 j2; by_cases y : j = a5; { rw [y]; intro z; have z1 := jcmp_eq.mp c2; rw [v1] at z1; exact z.1 z1 }; { exact q1 j j1 (by omega) }) -- o8 e2i.2
        · (first | assumption | omega | ((try dsimp only [jt2, jt3, jt4]); first | omega | (simp (disch := omega) only [jst_eq, jst_ne, jst_ni, jst_o, jI_i, jcpy_out, w32_id, jdiv_nn, jshr_k, jand_255] <;> first | done | omega | assumption)) | (intros; simp (disch := omega) only [jst_eq, jst_ne, jst_ni, jst_o, jI_i, jcpy_out, w32_id, jdiv_nn, *] <;> first | done | omega) | (intros; simp (disch := omega) only [jst_eq, jst_ne, jst_ni, jst_o, jI_i, jcpy_out, w32_id, jdiv_nn] at * <;> first | done | omega | assumption) | (intros; first | rfl | (exfalso; omega) | ((repeat' apply And.intro) <;> first | assumption | rfl | omega | trivial))) -- o9 e2m
      · skip
        try simp (disch := omega) only [jst_eq, jst_ne, jst_ni, jI_i, jcmp_lt, jcmp_gt, w32_id, jcpy_out, Sum.elim_inl, Sum.elim_inr, jt2, jt3, jt4, jt5, jt6, jt7, jt8] at c2
        have NE : tgL e u a5 ≠ -1 := by { rw [← v1]; exact fun z => c2 (jcmp_eq.mpr z) }
        obtain ⟨j, j1, j2, j3⟩ := ch_j cs hs ds (m := (2 * a5, tgL e u a5)) (Or.inl ⟨a5.toNat, by omega, by omega, by rw [show ((a5.toNat : Nat) : Int) = a5 by omega]; exact NE, by rw [show ((a5.toNat : Nat) : Int) = a5 by omega]⟩)
        have CB := chP_b cs.2.1 k (tgL e u a5)
        refine OK_jb (vX9_find_2 (t := t) (d := d) (N := N) (j := j) _ (by exact cs.2.2.2.1) (by exact N4) (by exact cs.2.2.2.2.1.2.2.2.1) (by exact ⟨j1.1, j1.2.1, by rw [v1]; exact j1.2.2⟩)) (fun v31 r2 => ?_)
        try dsimp only [Sum.elim_inl, Sum.elim_inr, jt2, jt3, jt4, jt5, jt6, jt7, jt8] at r2
        have v2 := r2
        clear r2
        try simp (disch := omega) only [jst_eq, jst_ne, jst_ni, jI_i, jcmp_lt, jcmp_gt, w32_id, jcpy_out, Sum.elim_inl, Sum.elim_inr, jt2, jt3, jt4, jt5, jt6, jt7, jt8] at v2
        have V31 : v31 = j := by { first | exact v2 | assumption }
        rw [V31]
        have W1 : w32 (w32 (w32 (i2 - 1) * 400) + j) = 400 * k + j := by { rw [w32_id (x := i2 - 1) (by omega) (by omega), w32_id (x := (i2 - 1) * 400) (by omega) (by omega), w32_id (by omega) (by omega)]; omega }
        rw [W1, j3]
        have W2 : w32 (w32 (2 * a5) + chP e k (tgL e u a5)) = 2 * a5 + chP e k (tgL e u a5) := by { rw [w32_id (x := 2 * a5) (by omega) (by omega), w32_id (by omega) (by omega)] }
        rw [W2]
        refine OK_jg (by (first | assumption | omega | ((try dsimp only [jt2, jt3, jt4]); first | omega | (simp (disch := omega) only [jst_eq, jst_ne, jst_ni, jst_o, jI_i, jcpy_out, w32_id, jdiv_nn, jshr_k, jand_255] <;> first | done | omega | assumption)) | (intros; simp (disch := omega) only [jst_eq, jst_ne, jst_ni, jst_o, jI_i, jcpy_out, w32_id, jdiv_nn, *] <;> first | done | omega) | (intros; simp (disch := omega) only [jst_eq, jst_ne, jst_ni, jst_o, jI_i, jcpy_out, w32_id, jdiv_nn] at * <;> first | done | omega | assumption) | (intros; first | rfl | (exfalso; omega) | ((repeat' apply And.intro) <;> first | assumption | rfl | omega | trivial)))) ?_ -- o14
        refine OK_if (fun c3 => ?_) (fun c3 => ?_)
        · skip
          try simp (disch := omega) only [jst_eq, jst_ne, jst_ni, jI_i, jcmp_lt, jcmp_gt, w32_id, jcpy_out, Sum.elim_inl, Sum.elim_inr, jt2, jt3, jt4, jt5, jt6, jt7, jt8] at c3
          refine OK_ir ?_
          exact ⟨by omega, ⟨NE, by first | omega | (rw [← hw]; assumption)⟩, q1, v1⟩ -- o15 e3
        · skip
          try simp (disch := omega) only [jst_eq, jst_ne, jst_ni, jI_i, jcmp_lt, jcmp_gt, w32_id, jcpy_out, Sum.elim_inl, Sum.elim_inr, jt2, jt3, jt4, jt5, jt6, jt7, jt8] at c3
          unfold gX9_choose_j155_24
          refine OK_jlx (fun x33 ex33 => ?_)
          try simp (disch := omega) only [jst_eq, jst_ne, jst_ni, jI_i, jcmp_lt, jcmp_gt, w32_id, jcpy_out, Sum.elim_inl, Sum.elim_inr, jt2, jt3, jt4, jt5, jt6, jt7, jt8] at ex33
          refine OK_il ?_ ?_
          · try dsimp only [Sum.elim_inl, Sum.elim_inr, jt2, jt3, jt4, jt5, jt6, jt7, jt8]
            refine ⟨?_, ?_⟩
            · (first | assumption | omega | ((try dsimp only [jt2, jt3, jt4]); first | omega | (simp (disch := omega) only [jst_eq, jst_ne, jst_ni, jst_o, jI_i, jcpy_out, w32_id, jdiv_nn, jshr_k, jand_255] <;> first | done | omega | assumption)) | (intros; simp (disch := omega) only [jst_eq, jst_ne, jst_ni, jst_o, jI_i, jcpy_out, w32_id, jdiv_nn, *] <;> first | done | omega) | (intros; simp (disch := omega) only [jst_eq, jst_ne, jst_ni, jst_o, jI_i, jcpy_out, w32_id, jdiv_nn] at * <;> first | done | omega | assumption) | (intros; first | rfl | (exfalso; omega) | ((repeat' apply And.intro) <;> first | assumption | rfl | omega | trivial))) -- o16 e4i.1
            · (intro j j1 j2; by_cases y : j = a5; { rw [y]; intro z; have z2 := z.2; rw [← hw] at z2; contradiction }; { exact q1 j j1 (by omega) }) -- o17 e4i.2
          · (first | assumption | omega | ((try dsimp only [jt2, jt3, jt4]); first | omega | (simp (disch := omega) only [jst_eq, jst_ne, jst_ni, jst_o, jI_i, jcpy_out, w32_id, jdiv_nn, jshr_k, jand_255] <;> first | done | omega | assumption)) | (intros; simp (disch := omega) only [jst_eq, jst_ne, jst_ni, jst_o, jI_i, jcpy_out, w32_id, jdiv_nn, *] <;> first | done | omega) | (intros; simp (disch := omega) only [jst_eq, jst_ne, jst_ni, jst_o, jI_i, jcpy_out, w32_id, jdiv_nn] at * <;> first | done | omega | assumption) | (intros; first | rfl | (exfalso; omega) | ((repeat' apply And.intro) <;> first | assumption | rfl | omega | trivial))) -- o18 e4m
  · try dsimp only [Sum.elim_inl, Sum.elim_inr, jt2, jt3, jt4, jt5, jt6, jt7, jt8]
    refine ⟨?_, ?_⟩
    · (first | assumption | omega | ((try dsimp only [jt2, jt3, jt4]); first | omega | (simp (disch := omega) only [jst_eq, jst_ne, jst_ni, jst_o, jI_i, jcpy_out, w32_id, jdiv_nn, jshr_k, jand_255] <;> first | done | omega | assumption)) | (intros; simp (disch := omega) only [jst_eq, jst_ne, jst_ni, jst_o, jI_i, jcpy_out, w32_id, jdiv_nn, *] <;> first | done | omega) | (intros; simp (disch := omega) only [jst_eq, jst_ne, jst_ni, jst_o, jI_i, jcpy_out, w32_id, jdiv_nn] at * <;> first | done | omega | assumption) | (intros; first | rfl | (exfalso; omega) | ((repeat' apply And.intro) <;> first | assumption | rfl | omega | trivial))) -- o19 init.1
    · (intro j j1 j2; omega) -- o20 init.2
theorem vX9_choose_l95 (i1 : Int) (i3 : Int) (i5 : Int) (i6 : Int) (a80 : Int) {h0 : AH} {e : CE} {t d : Int → Int} {N : Int} {u : Nat} (hc : cuX h0 e) (hv : vCE e) (tb : tbC h0 t d N) (hN : 1 ≤ N ∧ N ≤ 400) (hs : 0 ≤ i1 ∧ i1 < N ∧ t i1 = u) (su : stU e u) (h3 : 0 ≤ i3 ∧ i3 < 4) (h5 : (1 ≤ i5 ∧ i5 ≤ 3) ∧ ((nb u 0 : Nat) : Int) + i5 ≤ e.2.2.2.2 0) (z0 : h0 421 i3 = 0) (h8 : a80 = 0) : OK (gX9_choose_l95 i1 i3 i5 i6 a80 h0) (fun h' => (h' 421 i3 = wdN e ((nb u 0 : Nat) : Int) i5.toNat) ∧ (∀ a s, ¬ (a = 421 ∧ s = i3) → h' a s = h0 a s)) := by
  have n8 := hv.1
  have nl := nb_lt u 0
  unfold gX9_choose_l95
  refine OK_jit (I := (fun (s : Int × AH) => jt2 s fun a8 h => (0 ≤ a8 ∧ a8 ≤ i5) ∧ (h 421 i3 = wdN e ((nb u 0 : Nat) : Int) a8.toNat) ∧ (∀ a s, ¬ (a = 421 ∧ s = i3) → h a s = h0 a s))) (m := (fun (s : Int × AH) => jt2 s fun a8 h => (i5 - a8).toNat)) ?_ ?_
  · intro s hs
    obtain ⟨a8, h⟩ := s
    dsimp only [Sum.elim_inl, Sum.elim_inr, jt2, jt3, jt4, jt5, jt6, jt7, jt8] at hs
    obtain ⟨q0, q1, fr⟩ := hs
    unfold gX9_choose_b95
    refine OK_jt2 ?_
    have T1 : h 415 i1 = u := by rw [fr _ _ (by omega), (tb.2 i1 hs.1 hs.2.1).1]; exact hs.2.2
    refine OK_if (fun c1 => ?_) (fun c1 => ?_)
    · skip
      try simp (disch := omega) only [jst_eq, jst_ne, jst_ni, jI_i, jcmp_lt, jcmp_gt, w32_id, jcpy_out, Sum.elim_inl, Sum.elim_inr, jt2, jt3, jt4, jt5, jt6, jt7, jt8] at c1
      refine OK_ir ?_
      try dsimp only [Sum.elim_inl, Sum.elim_inr, jt2, jt3, jt4, jt5, jt6, jt7, jt8]
      refine ⟨?_, ?_⟩
      · (rw [q1, show a8.toNat = i5.toNat by omega]) -- o1 e1.1
      · (first | assumption | omega | ((try dsimp only [jt2, jt3, jt4]); first | omega | (simp (disch := omega) only [jst_eq, jst_ne, jst_ni, jst_o, jI_i, jcpy_out, w32_id, jdiv_nn, jshr_k, jand_255] <;> first | done | omega | assumption)) | (intros; simp (disch := omega) only [jst_eq, jst_ne, jst_ni, jst_o, jI_i, jcpy_out, w32_id, jdiv_nn, *] <;> first | done | omega) | (intros; simp (disch := omega) only [jst_eq, jst_ne, jst_ni, jst_o, jI_i, jcpy_out, w32_id, jdiv_nn] at * <;> first | done | omega | assumption) | (intros; first | rfl | (exfalso; omega) | ((repeat' apply And.intro) <;> first | assumption | rfl | omega | trivial))) -- o2 e1.2
    · skip
      try simp (disch := omega) only [jst_eq, jst_ne, jst_ni, jI_i, jcmp_lt, jcmp_gt, w32_id, jcpy_out, Sum.elim_inl, Sum.elim_inr, jt2, jt3, jt4, jt5, jt6, jt7, jt8] at c1
      rw [T1]
      refine OK_jg (by (first | assumption | omega | ((try dsimp only [jt2, jt3, jt4]); first | omega | (simp (disch := omega) only [jst_eq, jst_ne, jst_ni, jst_o, jI_i, jcpy_out, w32_id, jdiv_nn, jshr_k, jand_255] <;> first | done | omega | assumption)) | (intros; simp (disch := omega) only [jst_eq, jst_ne, jst_ni, jst_o, jI_i, jcpy_out, w32_id, jdiv_nn, *] <;> first | done | omega) | (intros; simp (disch := omega) only [jst_eq, jst_ne, jst_ni, jst_o, jI_i, jcpy_out, w32_id, jdiv_nn] at * <;> first | done | omega | assumption) | (intros; first | rfl | (exfalso; omega) | ((repeat' apply And.intro) <;> first | assumption | rfl | omega | trivial)))) ?_ -- o3
      refine OK_jg (by (first | assumption | omega | ((try dsimp only [jt2, jt3, jt4]); first | omega | (simp (disch := omega) only [jst_eq, jst_ne, jst_ni, jst_o, jI_i, jcpy_out, w32_id, jdiv_nn, jshr_k, jand_255] <;> first | done | omega | assumption)) | (intros; simp (disch := omega) only [jst_eq, jst_ne, jst_ni, jst_o, jI_i, jcpy_out, w32_id, jdiv_nn, *] <;> first | done | omega) | (intros; simp (disch := omega) only [jst_eq, jst_ne, jst_ni, jst_o, jI_i, jcpy_out, w32_id, jdiv_nn] at * <;> first | done | omega | assumption) | (intros; first | rfl | (exfalso; omega) | ((repeat' apply And.intro) <;> first | assumption | rfl | omega | trivial)))) ?_ -- o4
      refine OK_jb (vX9_placeIn (u := u) _ _ (by exact ⟨rfl, stU_lt hv su⟩) (by omega)) (fun v36 r1 => ?_)
      try dsimp only [Sum.elim_inl, Sum.elim_inr, jt2, jt3, jt4, jt5, jt6, jt7, jt8] at r1
      have v1 := r1
      clear r1
      try simp (disch := omega) only [jst_eq, jst_ne, jst_ni, jI_i, jcmp_lt, jcmp_gt, w32_id, jcpy_out, Sum.elim_inl, Sum.elim_inr, jt2, jt3, jt4, jt5, jt6, jt7, jt8] at v1
      have V : v36 = ((nb u 0 : Nat) : Int) := by { first | exact v1 | assumption }
      have e9 := (hv.2 0 (Int.le_refl _) (by omega)).2.1
      have W1 : w32 (v36 + a8) = ((nb u 0 : Nat) : Int) + a8 := by { rw [V, w32_id (by omega) (by omega)] }
      rw [W1]
      have L1 : h 410 (((nb u 0 : Nat) : Int) + a8) = e.2.2.1 0 (((nb u 0 : Nat) : Int) + a8) + 97 := by { rw [fr _ _ (by omega)]; have := (hc.2 0 (Int.le_refl _) (by omega)).2.2.2 (((nb u 0 : Nat) : Int) + a8) (by omega) (by omega); rw [show 10 * (0 : Int) + (((nb u 0 : Nat) : Int) + a8) = ((nb u 0 : Nat) : Int) + a8 by omega] at this; exact this }
      have L2 := (hv.2 0 (Int.le_refl _) (by omega)).2.2.2 (((nb u 0 : Nat) : Int) + a8) (by omega) (by omega)
      have WB := wdN_b hv (b := ((nb u 0 : Nat) : Int)) (by omega) a8.toNat (by omega) (by omega)
      have WB2 : wdN e ((nb u 0 : Nat) : Int) a8.toNat ≤ 19682 := Int.le_trans WB.2 (by split <;> (try split) <;> (try split) <;> omega)
      have W2 : w32 (w32 (w32 (w32 (h 421 i3 * 27) + h 410 (((nb u 0 : Nat) : Int) + a8)) - 97) + 1) = wdN e ((nb u 0 : Nat) : Int) (a8.toNat + 1) := by { rw [q1, L1, wdN_s, show ((nb u 0 : Nat) : Int) + ((a8.toNat : Nat) : Int) = ((nb u 0 : Nat) : Int) + a8 by omega, w32_id (x := wdN e ((nb u 0 : Nat) : Int) a8.toNat * 27) (by omega) (by omega), w32_id (x := wdN e ((nb u 0 : Nat) : Int) a8.toNat * 27 + (e.2.2.1 0 (((nb u 0 : Nat) : Int) + a8) + 97)) (by omega) (by omega), w32_id (x := wdN e ((nb u 0 : Nat) : Int) a8.toNat * 27 + (e.2.2.1 0 (((nb u 0 : Nat) : Int) + a8) + 97) - 97) (by omega) (by omega), w32_id (by omega) (by omega)]; omega }
      rw [W2]
      refine OK_jg (by (first | assumption | omega | ((try dsimp only [jt2, jt3, jt4]); first | omega | (simp (disch := omega) only [jst_eq, jst_ne, jst_ni, jst_o, jI_i, jcpy_out, w32_id, jdiv_nn, jshr_k, jand_255] <;> first | done | omega | assumption)) | (intros; simp (disch := omega) only [jst_eq, jst_ne, jst_ni, jst_o, jI_i, jcpy_out, w32_id, jdiv_nn, *] <;> first | done | omega) | (intros; simp (disch := omega) only [jst_eq, jst_ne, jst_ni, jst_o, jI_i, jcpy_out, w32_id, jdiv_nn] at * <;> first | done | omega | assumption) | (intros; first | rfl | (exfalso; omega) | ((repeat' apply And.intro) <;> first | assumption | rfl | omega | trivial)))) ?_ -- o7
      refine OK_jl ?_
      refine OK_jlx (fun x38 ex38 => ?_)
      try simp (disch := omega) only [jst_eq, jst_ne, jst_ni, jI_i, jcmp_lt, jcmp_gt, w32_id, jcpy_out, Sum.elim_inl, Sum.elim_inr, jt2, jt3, jt4, jt5, jt6, jt7, jt8] at ex38
      refine OK_il ?_ ?_
      · try dsimp only [Sum.elim_inl, Sum.elim_inr, jt2, jt3, jt4, jt5, jt6, jt7, jt8]
        refine ⟨?_, ?_, ?_⟩
        · (first | assumption | omega | ((try dsimp only [jt2, jt3, jt4]); first | omega | (simp (disch := omega) only [jst_eq, jst_ne, jst_ni, jst_o, jI_i, jcpy_out, w32_id, jdiv_nn, jshr_k, jand_255] <;> first | done | omega | assumption)) | (intros; simp (disch := omega) only [jst_eq, jst_ne, jst_ni, jst_o, jI_i, jcpy_out, w32_id, jdiv_nn, *] <;> first | done | omega) | (intros; simp (disch := omega) only [jst_eq, jst_ne, jst_ni, jst_o, jI_i, jcpy_out, w32_id, jdiv_nn] at * <;> first | done | omega | assumption) | (intros; first | rfl | (exfalso; omega) | ((repeat' apply And.intro) <;> first | assumption | rfl | omega | trivial))) -- o8 e2i.1
        · (rw [jst_eq, show x38.toNat = a8.toNat + 1 by omega]) -- o9 e2i.2
        · exact fun a s y => by rw [jst_o (by omega)]; exact fr a s y -- o10 e2i.3
      · (first | assumption | omega | ((try dsimp only [jt2, jt3, jt4]); first | omega | (simp (disch := omega) only [jst_eq, jst_ne, jst_ni, jst_o, jI_i, jcpy_out, w32_id, jdiv_nn, jshr_k, jand_255] <;> first | done | omega | assumption)) | (intros; simp (disch := omega) only [jst_eq, jst_ne, jst_ni, jst_o, jI_i, jcpy_out, w32_id, jdiv_nn, *] <;> first | done | omega) | (intros; simp (disch := omega) only [jst_eq, jst_ne, jst_ni, jst_o, jI_i, jcpy_out, w32_id, jdiv_nn] at * <;> first | done | omega | assumption) | (intros; first | rfl | (exfalso; omega) | ((repeat' apply And.intro) <;> first | assumption | rfl | omega | trivial))) -- o11 e2m
  · try dsimp only [Sum.elim_inl, Sum.elim_inr, jt2, jt3, jt4, jt5, jt6, jt7, jt8]
    refine ⟨?_, ?_, ?_⟩
    · (first | assumption | omega | ((try dsimp only [jt2, jt3, jt4]); first | omega | (simp (disch := omega) only [jst_eq, jst_ne, jst_ni, jst_o, jI_i, jcpy_out, w32_id, jdiv_nn, jshr_k, jand_255] <;> first | done | omega | assumption)) | (intros; simp (disch := omega) only [jst_eq, jst_ne, jst_ni, jst_o, jI_i, jcpy_out, w32_id, jdiv_nn, *] <;> first | done | omega) | (intros; simp (disch := omega) only [jst_eq, jst_ne, jst_ni, jst_o, jI_i, jcpy_out, w32_id, jdiv_nn] at * <;> first | done | omega | assumption) | (intros; first | rfl | (exfalso; omega) | ((repeat' apply And.intro) <;> first | assumption | rfl | omega | trivial))) -- o12 init.1
    · (rw [z0, h8]; rfl) -- o13 init.2
    · exact fun _ _ _ => rfl -- o14 init.3
theorem vX9_choose_l182 (i1 : Int) (i2 : Int) (i3 : Int) (i4 : Int) (i5 : Int) (a60 : Int) {h : AH} {e : CE} {t d : Int → Int} {N : Int} {k u : Nat} (cs : chS h e t d N k) (hs : 0 ≤ i1 ∧ i1 < N ∧ t i1 = u) (ds : d i1 + k + 1 ≤ 4) (hk : i2 = (k : Int) + 1) (hw : i4 = chP e (k + 1) u) (h5 : 0 ≤ i5 ∧ i5 < 178) (h6 : a60 = 0) : OK (gX9_choose_l182 i1 i2 i3 i4 i5 a60 h) (Sum.elim (fun r => jt2 r fun b v => (0 ≤ b ∧ b < 178) ∧ gdC e k u i5 b ∧ (∀ j, 0 ≤ j → j < b → ¬ gdC e k u i5 j) ∧ v = tgC e u i5 b) (fun _ => ∀ j, 0 ≤ j → j < 178 → ¬ gdC e k u i5 j)) := by
  obtain ⟨su, su1, su2⟩ : ∃ w : Nat, t i1 = w ∧ stU e w := (cs.2.2.2.2.1.2.2.1 i1 hs.1 hs.2.1).1
  have wu : su = u := by omega
  rw [wu] at su2
  have d0 := (cs.2.2.2.2.1.2.2.1 i1 hs.1 hs.2.1).2.1.1
  have N4 := cs.2.2.2.2.1.1
  unfold gX9_choose_l182
  refine OK_jit (I := (fun (a6 : Int) => (0 ≤ a6 ∧ a6 ≤ 178) ∧ (∀ j, 0 ≤ j → j < a6 → ¬ gdC e k u i5 j))) (m := (fun (a6 : Int) => (178 - a6).toNat)) ?_ ?_
  · intro a6 hs
    try dsimp only at hs
    obtain ⟨q0, q1⟩ := hs
    unfold gX9_choose_b182
    have T1 := (cs.2.2.2.1.2 i1 hs.1 hs.2.1).1
    have S5 := (cs.2.2.1 i5 h5.1 h5.2).2
    refine OK_if (fun c1 => ?_) (fun c1 => ?_)
    · skip
      try simp (disch := omega) only [jst_eq, jst_ne, jst_ni, jI_i, jcmp_lt, jcmp_gt, w32_id, jcpy_out, Sum.elim_inl, Sum.elim_inr, jt2, jt3, jt4, jt5, jt6, jt7, jt8] at c1
      refine OK_ir ?_
      exact fun j j1 j2 => q1 j j1 (by omega) -- o1 e1
    · skip
      try simp (disch := omega) only [jst_eq, jst_ne, jst_ni, jI_i, jcmp_lt, jcmp_gt, w32_id, jcpy_out, Sum.elim_inl, Sum.elim_inr, jt2, jt3, jt4, jt5, jt6, jt7, jt8] at c1
      have S6 := (cs.2.2.1 a6 q0.1 (by omega)).2
      refine OK_jg (by (first | assumption | omega | ((try dsimp only [jt2, jt3, jt4]); first | omega | (simp (disch := omega) only [jst_eq, jst_ne, jst_ni, jst_o, jI_i, jcpy_out, w32_id, jdiv_nn, jshr_k, jand_255] <;> first | done | omega | assumption)) | (intros; simp (disch := omega) only [jst_eq, jst_ne, jst_ni, jst_o, jI_i, jcpy_out, w32_id, jdiv_nn, *] <;> first | done | omega) | (intros; simp (disch := omega) only [jst_eq, jst_ne, jst_ni, jst_o, jI_i, jcpy_out, w32_id, jdiv_nn] at * <;> first | done | omega | assumption) | (intros; first | rfl | (exfalso; omega) | ((repeat' apply And.intro) <;> first | assumption | rfl | omega | trivial)))) ?_ -- o2
      refine OK_if (fun c2 => ?_) (fun c2 => ?_)
      · skip
        try simp (disch := omega) only [jst_eq, jst_ne, jst_ni, jI_i, jcmp_lt, jcmp_gt, w32_id, jcpy_out, Sum.elim_inl, Sum.elim_inr, jt2, jt3, jt4, jt5, jt6, jt7, jt8] at c2
        refine OK_ir ?_
        (intro j j1 j2 z; rcases S5 with y | y; { have := y.1; omega }; { exact y.2 z.1 }) -- o3 e2
      · skip
        try simp (disch := omega) only [jst_eq, jst_ne, jst_ni, jI_i, jcmp_lt, jcmp_gt, w32_id, jcpy_out, Sum.elim_inl, Sum.elim_inr, jt2, jt3, jt4, jt5, jt6, jt7, jt8] at c2
        have P5 : isP e i5 := by { rcases S5 with z | z; { exact z.2 }; { exact absurd z.1 c2 } }
        refine OK_jg (by (first | assumption | omega | ((try dsimp only [jt2, jt3, jt4]); first | omega | (simp (disch := omega) only [jst_eq, jst_ne, jst_ni, jst_o, jI_i, jcpy_out, w32_id, jdiv_nn, jshr_k, jand_255] <;> first | done | omega | assumption)) | (intros; simp (disch := omega) only [jst_eq, jst_ne, jst_ni, jst_o, jI_i, jcpy_out, w32_id, jdiv_nn, *] <;> first | done | omega) | (intros; simp (disch := omega) only [jst_eq, jst_ne, jst_ni, jst_o, jI_i, jcpy_out, w32_id, jdiv_nn] at * <;> first | done | omega | assumption) | (intros; first | rfl | (exfalso; omega) | ((repeat' apply And.intro) <;> first | assumption | rfl | omega | trivial)))) ?_ -- o4
        refine OK_if (fun c3 => ?_) (fun c3 => ?_)
        · skip
          try simp (disch := omega) only [jst_eq, jst_ne, jst_ni, jI_i, jcmp_lt, jcmp_gt, w32_id, jcpy_out, Sum.elim_inl, Sum.elim_inr, jt2, jt3, jt4, jt5, jt6, jt7, jt8] at c3
          unfold gX9_choose_j302_182
          refine OK_jlx (fun x60 ex60 => ?_)
          try simp (disch := omega) only [jst_eq, jst_ne, jst_ni, jI_i, jcmp_lt, jcmp_gt, w32_id, jcpy_out, Sum.elim_inl, Sum.elim_inr, jt2, jt3, jt4, jt5, jt6, jt7, jt8] at ex60
          refine OK_il ?_ ?_
          · try dsimp only [Sum.elim_inl, Sum.elim_inr, jt2, jt3, jt4, jt5, jt6, jt7, jt8]
            refine ⟨?_, ?_⟩
            · (first | assumption | omega | ((try dsimp only [jt2, jt3, jt4]); first | omega | (simp (disch := omega) only [jst_eq, jst_ne, jst_ni, jst_o, jI_i, jcpy_out, w32_id, jdiv_nn, jshr_k, jand_255] <;> first | done | omega | assumption)) | (intros; simp (disch := omega) only [jst_eq, jst_ne, jst_ni, jst_o, jI_i, jcpy_out, w32_id, jdiv_nn, *] <;> first | done | omega) | (intros; simp (disch := omega) only [jst_eq, jst_ne, jst_ni, jst_o, jI_i, jcpy_out, w32_id, jdiv_nn] at * <;> first | done | omega | assumption) | (intros; first | rfl | (exfalso; omega) | ((repeat' apply And.intro) <;> first | assumption | rfl | omega | trivial))) -- o5 e3i.1
            · (intro j j1 j2 z; by_cases y : j = a6; { rw [y] at z; rcases S6 with x | x; { have := x.1; omega }; { exact x.2 z.2.1 } }; { exact q1 j j1 (by omega) z }) -- o6 e3i.2
          · (first | assumption | omega | ((try dsimp only [jt2, jt3, jt4]); first | omega | (simp (disch := omega) only [jst_eq, jst_ne, jst_ni, jst_o, jI_i, jcpy_out, w32_id, jdiv_nn, jshr_k, jand_255] <;> first | done | omega | assumption)) | (intros; simp (disch := omega) only [jst_eq, jst_ne, jst_ni, jst_o, jI_i, jcpy_out, w32_id, jdiv_nn, *] <;> first | done | omega) | (intros; simp (disch := omega) only [jst_eq, jst_ne, jst_ni, jst_o, jI_i, jcpy_out, w32_id, jdiv_nn] at * <;> first | done | omega | assumption) | (intros; first | rfl | (exfalso; omega) | ((repeat' apply And.intro) <;> first | assumption | rfl | omega | trivial))) -- o7 e3m
        · skip
          try simp (disch := omega) only [jst_eq, jst_ne, jst_ni, jI_i, jcmp_lt, jcmp_gt, w32_id, jcpy_out, Sum.elim_inl, Sum.elim_inr, jt2, jt3, jt4, jt5, jt6, jt7, jt8] at c3
          have P6 : isP e a6 := by { rcases S6 with z | z; { exact z.2 }; { exact absurd z.1 c3 } }
          rw [T1, hs.2.2]
          refine OK_jg (by (first | assumption | omega | ((try dsimp only [jt2, jt3, jt4]); first | omega | (simp (disch := omega) only [jst_eq, jst_ne, jst_ni, jst_o, jI_i, jcpy_out, w32_id, jdiv_nn, jshr_k, jand_255] <;> first | done | omega | assumption)) | (intros; simp (disch := omega) only [jst_eq, jst_ne, jst_ni, jst_o, jI_i, jcpy_out, w32_id, jdiv_nn, *] <;> first | done | omega) | (intros; simp (disch := omega) only [jst_eq, jst_ne, jst_ni, jst_o, jI_i, jcpy_out, w32_id, jdiv_nn] at * <;> first | done | omega | assumption) | (intros; first | rfl | (exfalso; omega) | ((repeat' apply And.intro) <;> first | assumption | rfl | omega | trivial)))) ?_ -- o8
          refine OK_jb (vX9_behind (e := e) (u := u) _ _ _ (by exact cs.1) (by exact cs.2.1) (by exact cs.2.2.1) (by exact ⟨rfl, su2⟩) (by exact ⟨⟨h5.1, h5.2, P5⟩, q0.1, by omega, P6⟩)) (fun v51 r1 => ?_)
          try dsimp only [Sum.elim_inl, Sum.elim_inr, jt2, jt3, jt4, jt5, jt6, jt7, jt8] at r1
          have v1 := r1
          clear r1
          try simp (disch := omega) only [jst_eq, jst_ne, jst_ni, jI_i, jcmp_lt, jcmp_gt, w32_id, jcpy_out, Sum.elim_inl, Sum.elim_inr, jt2, jt3, jt4, jt5, jt6, jt7, jt8] at v1
          refine OK_if (fun c4 => ?_) (fun c4 => ?_)
          · skip
            try simp (disch := omega) only [jst_eq, jst_ne, jst_ni, jI_i, jcmp_lt, jcmp_gt, w32_id, jcpy_out, Sum.elim_inl, Sum.elim_inr, jt2, jt3, jt4, jt5, jt6, jt7, jt8] at c4
            unfold gX9_choose_j302_182
            refine OK_jlx (fun x60 ex60 => ?_)
            try simp (disch := omega) only [jst_eq, jst_ne, jst_ni, jI_i, jcmp_lt, jcmp_gt, w32_id, jcpy_out, Sum.elim_inl, Sum.elim_inr, jt2, jt3, jt4, jt5, jt6, jt7, jt8] at ex60
            refine OK_il ?_ ?_
            · try dsimp only [Sum.elim_inl, Sum.elim_inr, jt2, jt3, jt4, jt5, jt6, jt7, jt8]
              refine ⟨?_, ?_⟩
              · (first | assumption | omega | ((try dsimp only [jt2, jt3, jt4]); first | omega | (simp (disch := omega) only [jst_eq, jst_ne, jst_ni, jst_o, jI_i, jcpy_out, w32_id, jdiv_nn, jshr_k, jand_255] <;> first | done | omega | assumption)) | (intros; simp (disch := omega) only [jst_eq, jst_ne, jst_ni, jst_o, jI_i, jcpy_out, w32_id, jdiv_nn, *] <;> first | done | omega) | (intros; simp (disch := omega) only [jst_eq, jst_ne, jst_ni, jst_o, jI_i, jcpy_out, w32_id, jdiv_nn] at * <;> first | done | omega | assumption) | (intros; first | rfl | (exfalso; omega) | ((repeat' apply And.intro) <;> first | assumption | rfl | omega | trivial))) -- o14 e4i.1
              · (intro j j1 j2; by_cases y : j = a6; { rw [y]; intro z; have z1 := jcmp_eq.mp c4; rw [v1] at z1; exact z.2.2.1 z1 }; { exact q1 j j1 (by omega) }) -- o15 e4i.2
            · (first | assumption | omega | ((try dsimp only [jt2, jt3, jt4]); first | omega | (simp (disch := omega) only [jst_eq, jst_ne, jst_ni, jst_o, jI_i, jcpy_out, w32_id, jdiv_nn, jshr_k, jand_255] <;> first | done | omega | assumption)) | (intros; simp (disch := omega) only [jst_eq, jst_ne, jst_ni, jst_o, jI_i, jcpy_out, w32_id, jdiv_nn, *] <;> first | done | omega) | (intros; simp (disch := omega) only [jst_eq, jst_ne, jst_ni, jst_o, jI_i, jcpy_out, w32_id, jdiv_nn] at * <;> first | done | omega | assumption) | (intros; first | rfl | (exfalso; omega) | ((repeat' apply And.intro) <;> first | assumption | rfl | omega | trivial))) -- o16 e4m
          · skip
            try simp (disch := omega) only [jst_eq, jst_ne, jst_ni, jI_i, jcmp_lt, jcmp_gt, w32_id, jcpy_out, Sum.elim_inl, Sum.elim_inr, jt2, jt3, jt4, jt5, jt6, jt7, jt8] at c4
            have NE : tgC e u i5 a6 ≠ -1 := by { rw [← v1]; exact fun z => c4 (jcmp_eq.mpr z) }
            obtain ⟨j, j1, j2, j3⟩ := ch_j cs hs ds (m := (spR i5 + spR a6, tgC e u i5 a6)) (Or.inr ⟨i5.toNat, a6.toNat, by omega, by omega, by rw [show ((i5.toNat : Nat) : Int) = i5 by omega]; exact P5, by rw [show ((a6.toNat : Nat) : Int) = a6 by omega]; exact P6, by rw [show ((i5.toNat : Nat) : Int) = i5 by omega, show ((a6.toNat : Nat) : Int) = a6 by omega]; exact NE, by rw [show ((i5.toNat : Nat) : Int) = i5 by omega, show ((a6.toNat : Nat) : Int) = a6 by omega]⟩)
            have CB := chP_b cs.2.1 k (tgC e u i5 a6)
            have R5 := spR_b i5
            have R6 := spR_b a6
            refine OK_jb (vX9_priceOf _) (fun v54 r2 => ?_)
            try dsimp only [Sum.elim_inl, Sum.elim_inr, jt2, jt3, jt4, jt5, jt6, jt7, jt8] at r2
            have v2 := r2
            clear r2
            try simp (disch := omega) only [jst_eq, jst_ne, jst_ni, jI_i, jcmp_lt, jcmp_gt, w32_id, jcpy_out, Sum.elim_inl, Sum.elim_inr, jt2, jt3, jt4, jt5, jt6, jt7, jt8] at v2
            refine OK_jb (vX9_priceOf _) (fun v56 r3 => ?_)
            try dsimp only [Sum.elim_inl, Sum.elim_inr, jt2, jt3, jt4, jt5, jt6, jt7, jt8] at r3
            have v3 := r3
            clear r3
            try simp (disch := omega) only [jst_eq, jst_ne, jst_ni, jI_i, jcmp_lt, jcmp_gt, w32_id, jcpy_out, Sum.elim_inl, Sum.elim_inr, jt2, jt3, jt4, jt5, jt6, jt7, jt8] at v3
            refine OK_jb (vX9_find_2 (t := t) (d := d) (N := N) (j := j) _ (by exact cs.2.2.2.1) (by exact N4) (by exact cs.2.2.2.2.1.2.2.2.1) (by exact ⟨j1.1, j1.2.1, by rw [v1]; exact j1.2.2⟩)) (fun v58 r4 => ?_)
            try dsimp only [Sum.elim_inl, Sum.elim_inr, jt2, jt3, jt4, jt5, jt6, jt7, jt8] at r4
            have v4 := r4
            clear r4
            try simp (disch := omega) only [jst_eq, jst_ne, jst_ni, jI_i, jcmp_lt, jcmp_gt, w32_id, jcpy_out, Sum.elim_inl, Sum.elim_inr, jt2, jt3, jt4, jt5, jt6, jt7, jt8] at v4
            have V54 : v54 = spR i5 := by { first | exact v2 | assumption }
            have V56 : v56 = spR a6 := by { first | exact v3 | assumption }
            have V58 : v58 = j := by { first | exact v4 | assumption }
            rw [V58]
            have W1 : w32 (w32 (w32 (i2 - 1) * 400) + j) = 400 * k + j := by { rw [w32_id (x := i2 - 1) (by omega) (by omega), w32_id (x := (i2 - 1) * 400) (by omega) (by omega), w32_id (by omega) (by omega)]; omega }
            rw [W1, j3]
            have W2 : w32 (w32 (v54 + v56) + chP e k (tgC e u i5 a6)) = spR i5 + spR a6 + chP e k (tgC e u i5 a6) := by { rw [V54, V56, w32_id (x := spR i5 + spR a6) (by omega) (by omega), w32_id (by omega) (by omega)] }
            rw [W2]
            refine OK_jg (by (first | assumption | omega | ((try dsimp only [jt2, jt3, jt4]); first | omega | (simp (disch := omega) only [jst_eq, jst_ne, jst_ni, jst_o, jI_i, jcpy_out, w32_id, jdiv_nn, jshr_k, jand_255] <;> first | done | omega | assumption)) | (intros; simp (disch := omega) only [jst_eq, jst_ne, jst_ni, jst_o, jI_i, jcpy_out, w32_id, jdiv_nn, *] <;> first | done | omega) | (intros; simp (disch := omega) only [jst_eq, jst_ne, jst_ni, jst_o, jI_i, jcpy_out, w32_id, jdiv_nn] at * <;> first | done | omega | assumption) | (intros; first | rfl | (exfalso; omega) | ((repeat' apply And.intro) <;> first | assumption | rfl | omega | trivial)))) ?_ -- o21
            refine OK_if (fun c5 => ?_) (fun c5 => ?_)
            · skip
              try simp (disch := omega) only [jst_eq, jst_ne, jst_ni, jI_i, jcmp_lt, jcmp_gt, w32_id, jcpy_out, Sum.elim_inl, Sum.elim_inr, jt2, jt3, jt4, jt5, jt6, jt7, jt8] at c5
              refine OK_ir ?_
              exact ⟨by omega, ⟨P5, P6, NE, by first | omega | (rw [← hw]; assumption)⟩, q1, v1⟩ -- o22 e5
            · skip
              try simp (disch := omega) only [jst_eq, jst_ne, jst_ni, jI_i, jcmp_lt, jcmp_gt, w32_id, jcpy_out, Sum.elim_inl, Sum.elim_inr, jt2, jt3, jt4, jt5, jt6, jt7, jt8] at c5
              unfold gX9_choose_j302_182
              refine OK_jlx (fun x60 ex60 => ?_)
              try simp (disch := omega) only [jst_eq, jst_ne, jst_ni, jI_i, jcmp_lt, jcmp_gt, w32_id, jcpy_out, Sum.elim_inl, Sum.elim_inr, jt2, jt3, jt4, jt5, jt6, jt7, jt8] at ex60
              refine OK_il ?_ ?_
              · try dsimp only [Sum.elim_inl, Sum.elim_inr, jt2, jt3, jt4, jt5, jt6, jt7, jt8]
                refine ⟨?_, ?_⟩
                · (first | assumption | omega | ((try dsimp only [jt2, jt3, jt4]); first | omega | (simp (disch := omega) only [jst_eq, jst_ne, jst_ni, jst_o, jI_i, jcpy_out, w32_id, jdiv_nn, jshr_k, jand_255] <;> first | done | omega | assumption)) | (intros; simp (disch := omega) only [jst_eq, jst_ne, jst_ni, jst_o, jI_i, jcpy_out, w32_id, jdiv_nn, *] <;> first | done | omega) | (intros; simp (disch := omega) only [jst_eq, jst_ne, jst_ni, jst_o, jI_i, jcpy_out, w32_id, jdiv_nn] at * <;> first | done | omega | assumption) | (intros; first | rfl | (exfalso; omega) | ((repeat' apply And.intro) <;> first | assumption | rfl | omega | trivial))) -- o23 e6i.1
                · (intro j j1 j2; by_cases y : j = a6; { rw [y]; intro z; have z2 := z.2.2.2; rw [← hw] at z2; contradiction }; { exact q1 j j1 (by omega) }) -- o24 e6i.2
              · (first | assumption | omega | ((try dsimp only [jt2, jt3, jt4]); first | omega | (simp (disch := omega) only [jst_eq, jst_ne, jst_ni, jst_o, jI_i, jcpy_out, w32_id, jdiv_nn, jshr_k, jand_255] <;> first | done | omega | assumption)) | (intros; simp (disch := omega) only [jst_eq, jst_ne, jst_ni, jst_o, jI_i, jcpy_out, w32_id, jdiv_nn, *] <;> first | done | omega) | (intros; simp (disch := omega) only [jst_eq, jst_ne, jst_ni, jst_o, jI_i, jcpy_out, w32_id, jdiv_nn] at * <;> first | done | omega | assumption) | (intros; first | rfl | (exfalso; omega) | ((repeat' apply And.intro) <;> first | assumption | rfl | omega | trivial))) -- o25 e6m
  · try dsimp only [Sum.elim_inl, Sum.elim_inr, jt2, jt3, jt4, jt5, jt6, jt7, jt8]
    refine ⟨?_, ?_⟩
    · (first | assumption | omega | ((try dsimp only [jt2, jt3, jt4]); first | omega | (simp (disch := omega) only [jst_eq, jst_ne, jst_ni, jst_o, jI_i, jcpy_out, w32_id, jdiv_nn, jshr_k, jand_255] <;> first | done | omega | assumption)) | (intros; simp (disch := omega) only [jst_eq, jst_ne, jst_ni, jst_o, jI_i, jcpy_out, w32_id, jdiv_nn, *] <;> first | done | omega) | (intros; simp (disch := omega) only [jst_eq, jst_ne, jst_ni, jst_o, jI_i, jcpy_out, w32_id, jdiv_nn] at * <;> first | done | omega | assumption) | (intros; first | rfl | (exfalso; omega) | ((repeat' apply And.intro) <;> first | assumption | rfl | omega | trivial))) -- o26 init.1
    · (intro j j1 j2; omega) -- o27 init.2
theorem vX9_choose_l171 (i1 : Int) (i2 : Int) (i3 : Int) (i4 : Int) (a50 : Int) {h : AH} {e : CE} {t d : Int → Int} {N : Int} {k u : Nat} (cs : chS h e t d N k) (hs : 0 ≤ i1 ∧ i1 < N ∧ t i1 = u) (ds : d i1 + k + 1 ≤ 4) (hk : i2 = (k : Int) + 1) (hw : i4 = chP e (k + 1) u) (h5 : a50 = 0) : OK (gX9_choose_l171 i1 i2 i3 i4 a50 h) (Sum.elim (fun r => jt3 r fun a b v => (0 ≤ a ∧ a < 178) ∧ (0 ≤ b ∧ b < 178) ∧ gdC e k u a b ∧ (∀ i j, 0 ≤ i → 0 ≤ j → j < 178 → (i < a ∨ (i = a ∧ j < b)) → ¬ gdC e k u i j) ∧ v = tgC e u a b) (fun _ => ∀ i j, 0 ≤ i → 0 ≤ j → i < 178 → j < 178 → ¬ gdC e k u i j)) := by
  unfold gX9_choose_l171
  refine OK_jit (I := (fun (a5 : Int) => (0 ≤ a5 ∧ a5 ≤ 178) ∧ (∀ i j, 0 ≤ i → 0 ≤ j → j < 178 → i < a5 → ¬ gdC e k u i j))) (m := (fun (a5 : Int) => (178 - a5).toNat)) ?_ ?_
  · intro a5 hs
    try dsimp only at hs
    obtain ⟨q0, q1⟩ := hs
    unfold gX9_choose_b171
    refine OK_if (fun c1 => ?_) (fun c1 => ?_)
    · skip
      try simp (disch := omega) only [jst_eq, jst_ne, jst_ni, jI_i, jcmp_lt, jcmp_gt, w32_id, jcpy_out, Sum.elim_inl, Sum.elim_inr, jt2, jt3, jt4, jt5, jt6, jt7, jt8] at c1
      refine OK_ir ?_
      exact fun i j i0 j0 i1 j1 => q1 i j i0 j0 j1 (by omega) -- o1 e1
    · skip
      try simp (disch := omega) only [jst_eq, jst_ne, jst_ni, jI_i, jcmp_lt, jcmp_gt, w32_id, jcpy_out, Sum.elim_inl, Sum.elim_inr, jt2, jt3, jt4, jt5, jt6, jt7, jt8] at c1
      refine OK_jb (vX9_choose_l182 (e := e) (t := t) (d := d) (N := N) (k := k) (u := u) _ _ _ _ _ _ (by exact cs) (by (first | assumption | omega | ((try dsimp only [jt2, jt3, jt4]); first | omega | (simp (disch := omega) only [jst_eq, jst_ne, jst_ni, jst_o, jI_i, jcpy_out, w32_id, jdiv_nn, jshr_k, jand_255] <;> first | done | omega | assumption)) | (intros; simp (disch := omega) only [jst_eq, jst_ne, jst_ni, jst_o, jI_i, jcpy_out, w32_id, jdiv_nn, *] <;> first | done | omega) | (intros; simp (disch := omega) only [jst_eq, jst_ne, jst_ni, jst_o, jI_i, jcpy_out, w32_id, jdiv_nn] at * <;> first | done | omega | assumption) | (intros; first | rfl | (exfalso; omega) | ((repeat' apply And.intro) <;> first | assumption | rfl | omega | trivial)))) (by (first | assumption | omega | ((try dsimp only [jt2, jt3, jt4]); first | omega | (simp (disch := omega) only [jst_eq, jst_ne, jst_ni, jst_o, jI_i, jcpy_out, w32_id, jdiv_nn, jshr_k, jand_255] <;> first | done | omega | assumption)) | (intros; simp (disch := omega) only [jst_eq, jst_ne, jst_ni, jst_o, jI_i, jcpy_out, w32_id, jdiv_nn, *] <;> first | done | omega) | (intros; simp (disch := omega) only [jst_eq, jst_ne, jst_ni, jst_o, jI_i, jcpy_out, w32_id, jdiv_nn] at * <;> first | done | omega | assumption) | (intros; first | rfl | (exfalso; omega) | ((repeat' apply And.intro) <;> first | assumption | rfl | omega | trivial)))) (by (first | assumption | omega | ((try dsimp only [jt2, jt3, jt4]); first | omega | (simp (disch := omega) only [jst_eq, jst_ne, jst_ni, jst_o, jI_i, jcpy_out, w32_id, jdiv_nn, jshr_k, jand_255] <;> first | done | omega | assumption)) | (intros; simp (disch := omega) only [jst_eq, jst_ne, jst_ni, jst_o, jI_i, jcpy_out, w32_id, jdiv_nn, *] <;> first | done | omega) | (intros; simp (disch := omega) only [jst_eq, jst_ne, jst_ni, jst_o, jI_i, jcpy_out, w32_id, jdiv_nn] at * <;> first | done | omega | assumption) | (intros; first | rfl | (exfalso; omega) | ((repeat' apply And.intro) <;> first | assumption | rfl | omega | trivial)))) (by (first | assumption | omega | ((try dsimp only [jt2, jt3, jt4]); first | omega | (simp (disch := omega) only [jst_eq, jst_ne, jst_ni, jst_o, jI_i, jcpy_out, w32_id, jdiv_nn, jshr_k, jand_255] <;> first | done | omega | assumption)) | (intros; simp (disch := omega) only [jst_eq, jst_ne, jst_ni, jst_o, jI_i, jcpy_out, w32_id, jdiv_nn, *] <;> first | done | omega) | (intros; simp (disch := omega) only [jst_eq, jst_ne, jst_ni, jst_o, jI_i, jcpy_out, w32_id, jdiv_nn] at * <;> first | done | omega | assumption) | (intros; first | rfl | (exfalso; omega) | ((repeat' apply And.intro) <;> first | assumption | rfl | omega | trivial)))) (by (first | assumption | omega | ((try dsimp only [jt2, jt3, jt4]); first | omega | (simp (disch := omega) only [jst_eq, jst_ne, jst_ni, jst_o, jI_i, jcpy_out, w32_id, jdiv_nn, jshr_k, jand_255] <;> first | done | omega | assumption)) | (intros; simp (disch := omega) only [jst_eq, jst_ne, jst_ni, jst_o, jI_i, jcpy_out, w32_id, jdiv_nn, *] <;> first | done | omega) | (intros; simp (disch := omega) only [jst_eq, jst_ne, jst_ni, jst_o, jI_i, jcpy_out, w32_id, jdiv_nn] at * <;> first | done | omega | assumption) | (intros; first | rfl | (exfalso; omega) | ((repeat' apply And.intro) <;> first | assumption | rfl | omega | trivial)))) (by (first | assumption | omega | ((try dsimp only [jt2, jt3, jt4]); first | omega | (simp (disch := omega) only [jst_eq, jst_ne, jst_ni, jst_o, jI_i, jcpy_out, w32_id, jdiv_nn, jshr_k, jand_255] <;> first | done | omega | assumption)) | (intros; simp (disch := omega) only [jst_eq, jst_ne, jst_ni, jst_o, jI_i, jcpy_out, w32_id, jdiv_nn, *] <;> first | done | omega) | (intros; simp (disch := omega) only [jst_eq, jst_ne, jst_ni, jst_o, jI_i, jcpy_out, w32_id, jdiv_nn] at * <;> first | done | omega | assumption) | (intros; first | rfl | (exfalso; omega) | ((repeat' apply And.intro) <;> first | assumption | rfl | omega | trivial))))) (fun o40 r1 => ?_)
      rcases o40 with o42 | o43
      · skip
        have r2 := r1; clear r1
        dsimp only [Sum.elim_inl, Sum.elim_inr] at r2
        refine OK_jml ?_
        obtain ⟨y44, y45⟩ := o42
        refine OK_jt2 ?_
        try dsimp only [Sum.elim_inl, Sum.elim_inr, jt2, jt3, jt4, jt5, jt6, jt7, jt8] at r2
        have ye1 := r2
        clear r2
        try simp (disch := omega) only [jst_eq, jst_ne, jst_ni, jI_i, jcmp_lt, jcmp_gt, w32_id, jcpy_out, Sum.elim_inl, Sum.elim_inr, jt2, jt3, jt4, jt5, jt6, jt7, jt8] at ye1
        refine OK_ir ?_
        (have z : (0 ≤ y44 ∧ y44 < 178) ∧ gdC e k u a5 y44 ∧ (∀ j, 0 ≤ j → j < y44 → ¬ gdC e k u a5 j) ∧ y45 = tgC e u a5 y44 := (by assumption); refine ⟨by omega, z.1, z.2.1, fun i j i0 j0 j1 o => ?_, z.2.2.2⟩; rcases o with o | o; { exact q1 i j i0 j0 j1 o }; { rw [o.1]; exact z.2.2.1 j j0 o.2 }) -- o9 e2
      · skip
        have r3 := r1; clear r1
        dsimp only [Sum.elim_inl, Sum.elim_inr] at r3
        try dsimp only [Sum.elim_inl, Sum.elim_inr, jt2, jt3, jt4, jt5, jt6, jt7, jt8] at r3
        have no2 := r3
        clear r3
        try simp (disch := omega) only [jst_eq, jst_ne, jst_ni, jI_i, jcmp_lt, jcmp_gt, w32_id, jcpy_out, Sum.elim_inl, Sum.elim_inr, jt2, jt3, jt4, jt5, jt6, jt7, jt8] at no2
        refine OK_jmr ?_
        unfold gX9_choose_j308_171
        refine OK_jlx (fun x46 ex46 => ?_)
        try simp (disch := omega) only [jst_eq, jst_ne, jst_ni, jI_i, jcmp_lt, jcmp_gt, w32_id, jcpy_out, Sum.elim_inl, Sum.elim_inr, jt2, jt3, jt4, jt5, jt6, jt7, jt8] at ex46
        refine OK_il ?_ ?_
        · try dsimp only [Sum.elim_inl, Sum.elim_inr, jt2, jt3, jt4, jt5, jt6, jt7, jt8]
          refine ⟨?_, ?_⟩
          · (first | assumption | omega | ((try dsimp only [jt2, jt3, jt4]); first | omega | (simp (disch := omega) only [jst_eq, jst_ne, jst_ni, jst_o, jI_i, jcpy_out, w32_id, jdiv_nn, jshr_k, jand_255] <;> first | done | omega | assumption)) | (intros; simp (disch := omega) only [jst_eq, jst_ne, jst_ni, jst_o, jI_i, jcpy_out, w32_id, jdiv_nn, *] <;> first | done | omega) | (intros; simp (disch := omega) only [jst_eq, jst_ne, jst_ni, jst_o, jI_i, jcpy_out, w32_id, jdiv_nn] at * <;> first | done | omega | assumption) | (intros; first | rfl | (exfalso; omega) | ((repeat' apply And.intro) <;> first | assumption | rfl | omega | trivial))) -- o10 e3i.1
          · (have z : ∀ j, 0 ≤ j → j < 178 → ¬ gdC e k u a5 j := (by assumption); intro i j i0 j0 j1 i2; by_cases y : i = a5; { rw [y]; exact z j j0 j1 }; { exact q1 i j i0 j0 j1 (by omega) }) -- o11 e3i.2
        · (first | assumption | omega | ((try dsimp only [jt2, jt3, jt4]); first | omega | (simp (disch := omega) only [jst_eq, jst_ne, jst_ni, jst_o, jI_i, jcpy_out, w32_id, jdiv_nn, jshr_k, jand_255] <;> first | done | omega | assumption)) | (intros; simp (disch := omega) only [jst_eq, jst_ne, jst_ni, jst_o, jI_i, jcpy_out, w32_id, jdiv_nn, *] <;> first | done | omega) | (intros; simp (disch := omega) only [jst_eq, jst_ne, jst_ni, jst_o, jI_i, jcpy_out, w32_id, jdiv_nn] at * <;> first | done | omega | assumption) | (intros; first | rfl | (exfalso; omega) | ((repeat' apply And.intro) <;> first | assumption | rfl | omega | trivial))) -- o12 e3m
  · try dsimp only [Sum.elim_inl, Sum.elim_inr, jt2, jt3, jt4, jt5, jt6, jt7, jt8]
    refine ⟨?_, ?_⟩
    · (first | assumption | omega | ((try dsimp only [jt2, jt3, jt4]); first | omega | (simp (disch := omega) only [jst_eq, jst_ne, jst_ni, jst_o, jI_i, jcpy_out, w32_id, jdiv_nn, jshr_k, jand_255] <;> first | done | omega | assumption)) | (intros; simp (disch := omega) only [jst_eq, jst_ne, jst_ni, jst_o, jI_i, jcpy_out, w32_id, jdiv_nn, *] <;> first | done | omega) | (intros; simp (disch := omega) only [jst_eq, jst_ne, jst_ni, jst_o, jI_i, jcpy_out, w32_id, jdiv_nn] at * <;> first | done | omega | assumption) | (intros; first | rfl | (exfalso; omega) | ((repeat' apply And.intro) <;> first | assumption | rfl | omega | trivial))) -- o13 init.1
    · (intro i j i0 j0 j1 i2; omega) -- o14 init.2
/-- a part as x keeps it -/
def itX (h : AH) (i : Int) (it : Int × Int) : Prop := (0 ≤ h 421 i ∧ it = (0, h 421 i)) ∨ (h 421 i = -1 ∧ (0 ≤ h 422 i ∧ h 422 i < 178) ∧ (0 ≤ h 423 i ∧ h 423 i < 178) ∧ it = (1 + 200 * h 422 i + h 423 i, 0))
theorem chS_f {h h' : AH} {e : CE} {t d : Int → Int} {N : Int} {k : Nat} (c : chS h e t d N k) (f : ∀ a s, ¬ (421 ≤ a ∧ a ≤ 423) → ¬ (a = 408 ∧ s = 16) → h' a s = h a s) : chS h' e t d N k := by
  obtain ⟨c1, c2, c3, c4, c5, c6, c7, c8⟩ := c
  refine ⟨cuX_f c1 (fun a s y => f a s (by omega) (by omega)), c2, spX_f c3 (fun a s y => f a s (by omega) (by omega)), ⟨by rw [f _ _ (by omega) (by omega)]; exact c4.1, fun k k0 k1 => by rw [f _ _ (by omega) (by omega), f _ _ (by omega) (by omega)]; exact c4.2 k k0 k1⟩, c5, ?_, ?_, ?_⟩
  · rw [show h' 417 = h 417 from funext fun s => f _ _ (by omega) (by omega), show h' 418 = h 418 from funext fun s => f _ _ (by omega) (by omega)]; exact c6
  · rw [show h' 419 = h 419 from funext fun s => f _ _ (by omega) (by omega)]; exact c7
  · rw [show h' 419 = h 419 from funext fun s => f _ _ (by omega) (by omega)]; exact c8
theorem vX9_choose (a1 : Int) (a2 : Int) {h : AH} {e : CE} {t d : Int → Int} {N : Int} {k u : Nat} {m : Int} (cs : chS h e t d N k) (hs : 0 ≤ a1 ∧ a1 < N ∧ t a1 = u) (ds : d a1 + k + 1 ≤ 4) (hk : a2 = (k : Int) + 1) (hm : h 408 16 = m ∧ (k : Int) + 1 ≤ m ∧ m ≤ 4) (lt : chP e (k + 1) u < 1000000) : OK (gX9_choose a1 a2 h) (fun r => jt2 r fun v h' => ((0 ≤ v ∧ v < N) ∧ d v ≤ d a1 + 1 ∧ ∃ it, isFw e k u it (t v) ∧ itX h' (m - k - 1) it ∧ chP e k (t v) < 1000000) ∧ (∀ a s, ¬ (421 ≤ a ∧ a ≤ 423 ∧ s = m - k - 1) → h' a s = h a s)) := by
  obtain ⟨su, su1, su2⟩ : ∃ w : Nat, t a1 = w ∧ stU e w := (cs.2.2.2.2.1.2.2.1 a1 hs.1 hs.2.1).1
  have wu : su = u := by omega
  rw [wu] at su2
  have d0 := (cs.2.2.2.2.1.2.2.1 a1 hs.1 hs.2.1).2.1.1
  have N4 := cs.2.2.2.2.1.1
  have n8 := cs.2.1.1
  have W0 : w32 (w32 (a2 * 400) + a1) = 400 * ((k + 1 : Nat) : Int) + a1 := by rw [w32_id (x := a2 * 400) (by omega) (by omega), w32_id (by omega) (by omega)]; omega
  have C0 : h 419 (400 * ((k + 1 : Nat) : Int) + a1) = chP e (k + 1) u := by rw [← hs.2.2]; exact cs.2.2.2.2.2.2.2 a1 hs.1 hs.2.1 (by omega)
  have W9 : w32 (h 408 16 - a2) = m - k - 1 := by rw [hm.1, w32_id (by omega) (by omega)]; omega
  unfold gX9_choose
  refine OK_jlx (fun x1 ex1 => ?_)
  try simp (disch := omega) only [jst_eq, jst_ne, jst_ni, jI_i, jcmp_lt, jcmp_gt, w32_id, jcpy_out, Sum.elim_inl, Sum.elim_inr, jt2, jt3, jt4, jt5, jt6, jt7, jt8] at ex1
  have X1 : x1 = m - k - 1 := by omega
  rw [W0]
  refine OK_jg (by (first | assumption | omega | ((try dsimp only [jt2, jt3, jt4]); first | omega | (simp (disch := omega) only [jst_eq, jst_ne, jst_ni, jst_o, jI_i, jcpy_out, w32_id, jdiv_nn, jshr_k, jand_255] <;> first | done | omega | assumption)) | (intros; simp (disch := omega) only [jst_eq, jst_ne, jst_ni, jst_o, jI_i, jcpy_out, w32_id, jdiv_nn, *] <;> first | done | omega) | (intros; simp (disch := omega) only [jst_eq, jst_ne, jst_ni, jst_o, jI_i, jcpy_out, w32_id, jdiv_nn] at * <;> first | done | omega | assumption) | (intros; first | rfl | (exfalso; omega) | ((repeat' apply And.intro) <;> first | assumption | rfl | omega | trivial)))) ?_ -- o1
  refine OK_jlx (fun x2 ex2 => ?_)
  try simp (disch := omega) only [jst_eq, jst_ne, jst_ni, jI_i, jcmp_lt, jcmp_gt, w32_id, jcpy_out, Sum.elim_inl, Sum.elim_inr, jt2, jt3, jt4, jt5, jt6, jt7, jt8] at ex2
  have X2 : x2 = chP e (k + 1) u := by rw [ex2, C0]
  refine OK_jb (vX9_choose_l24 (e := e) (t := t) (d := d) (N := N) (k := k) (u := u) _ _ _ _ _ (by exact cs) (by (first | assumption | omega | ((try dsimp only [jt2, jt3, jt4]); first | omega | (simp (disch := omega) only [jst_eq, jst_ne, jst_ni, jst_o, jI_i, jcpy_out, w32_id, jdiv_nn, jshr_k, jand_255] <;> first | done | omega | assumption)) | (intros; simp (disch := omega) only [jst_eq, jst_ne, jst_ni, jst_o, jI_i, jcpy_out, w32_id, jdiv_nn, *] <;> first | done | omega) | (intros; simp (disch := omega) only [jst_eq, jst_ne, jst_ni, jst_o, jI_i, jcpy_out, w32_id, jdiv_nn] at * <;> first | done | omega | assumption) | (intros; first | rfl | (exfalso; omega) | ((repeat' apply And.intro) <;> first | assumption | rfl | omega | trivial)))) (by omega) (by (first | assumption | omega | ((try dsimp only [jt2, jt3, jt4]); first | omega | (simp (disch := omega) only [jst_eq, jst_ne, jst_ni, jst_o, jI_i, jcpy_out, w32_id, jdiv_nn, jshr_k, jand_255] <;> first | done | omega | assumption)) | (intros; simp (disch := omega) only [jst_eq, jst_ne, jst_ni, jst_o, jI_i, jcpy_out, w32_id, jdiv_nn, *] <;> first | done | omega) | (intros; simp (disch := omega) only [jst_eq, jst_ne, jst_ni, jst_o, jI_i, jcpy_out, w32_id, jdiv_nn] at * <;> first | done | omega | assumption) | (intros; first | rfl | (exfalso; omega) | ((repeat' apply And.intro) <;> first | assumption | rfl | omega | trivial)))) (by (first | assumption | omega | ((try dsimp only [jt2, jt3, jt4]); first | omega | (simp (disch := omega) only [jst_eq, jst_ne, jst_ni, jst_o, jI_i, jcpy_out, w32_id, jdiv_nn, jshr_k, jand_255] <;> first | done | omega | assumption)) | (intros; simp (disch := omega) only [jst_eq, jst_ne, jst_ni, jst_o, jI_i, jcpy_out, w32_id, jdiv_nn, *] <;> first | done | omega) | (intros; simp (disch := omega) only [jst_eq, jst_ne, jst_ni, jst_o, jI_i, jcpy_out, w32_id, jdiv_nn] at * <;> first | done | omega | assumption) | (intros; first | rfl | (exfalso; omega) | ((repeat' apply And.intro) <;> first | assumption | rfl | omega | trivial)))) (by (first | assumption | omega | ((try dsimp only [jt2, jt3, jt4]); first | omega | (simp (disch := omega) only [jst_eq, jst_ne, jst_ni, jst_o, jI_i, jcpy_out, w32_id, jdiv_nn, jshr_k, jand_255] <;> first | done | omega | assumption)) | (intros; simp (disch := omega) only [jst_eq, jst_ne, jst_ni, jst_o, jI_i, jcpy_out, w32_id, jdiv_nn, *] <;> first | done | omega) | (intros; simp (disch := omega) only [jst_eq, jst_ne, jst_ni, jst_o, jI_i, jcpy_out, w32_id, jdiv_nn] at * <;> first | done | omega | assumption) | (intros; first | rfl | (exfalso; omega) | ((repeat' apply And.intro) <;> first | assumption | rfl | omega | trivial))))) (fun o3 r1 => ?_)
  rcases o3 with o5 | o6
  · skip
    have r2 := r1; clear r1
    dsimp only [Sum.elim_inl, Sum.elim_inr] at r2
    refine OK_jml ?_
    obtain ⟨y7, y8⟩ := o5
    refine OK_jt2 ?_
    try dsimp only [Sum.elim_inl, Sum.elim_inr, jt2, jt3, jt4, jt5, jt6, jt7, jt8] at r2
    have ye1 := r2
    clear r2
    try simp (disch := omega) only [jst_eq, jst_ne, jst_ni, jI_i, jcmp_lt, jcmp_gt, w32_id, jcpy_out, Sum.elim_inl, Sum.elim_inr, jt2, jt3, jt4, jt5, jt6, jt7, jt8] at ye1
    have Y : (1 ≤ y7 ∧ y7 ≤ 3) ∧ gdW e k u y7 ∧ (∀ j, 1 ≤ j → j < y7 → ¬ gdW e k u j) ∧ y8 = tgL e u y7 := by assumption
    have OK1 : okL e u y7 := by { by_cases z : okL e u y7; { exact z }; { exact absurd (tgL_n z) Y.2.1.1 } }
    have OK2 : ((nb u 0 : Nat) : Int) + y7 ≤ e.2.2.2.2 0 := (OK1 0 (by omega)).1
    refine OK_jg (by (first | assumption | omega | ((try dsimp only [jt2, jt3, jt4]); first | omega | (simp (disch := omega) only [jst_eq, jst_ne, jst_ni, jst_o, jI_i, jcpy_out, w32_id, jdiv_nn, jshr_k, jand_255] <;> first | done | omega | assumption)) | (intros; simp (disch := omega) only [jst_eq, jst_ne, jst_ni, jst_o, jI_i, jcpy_out, w32_id, jdiv_nn, *] <;> first | done | omega) | (intros; simp (disch := omega) only [jst_eq, jst_ne, jst_ni, jst_o, jI_i, jcpy_out, w32_id, jdiv_nn] at * <;> first | done | omega | assumption) | (intros; first | rfl | (exfalso; omega) | ((repeat' apply And.intro) <;> first | assumption | rfl | omega | trivial)))) ?_ -- o8
    refine OK_jl ?_
    refine OK_jb (vX9_choose_l95 (e := e) (t := t) (d := d) (N := N) (u := u) _ _ _ _ _ (by exact cuX_f cs.1 (fun a s y => jst_o (by omega))) (by exact cs.2.1) (by exact (chS_f cs (fun a s y1 y2 => jst_o (by omega))).2.2.2.1) (by exact N4) (by exact hs) (by exact su2) (by omega) (by exact ⟨Y.1, OK2⟩) (by exact jst_eq) (by rfl)) (fun o10 r3 => ?_)
    try dsimp only [Sum.elim_inl, Sum.elim_inr, jt2, jt3, jt4, jt5, jt6, jt7, jt8] at r3
    obtain ⟨wd2, fr2⟩ := r3
    try simp (disch := omega) only [jst_eq, jst_ne, jst_ni, jI_i, jcmp_lt, jcmp_gt, w32_id, jcpy_out, Sum.elim_inl, Sum.elim_inr, jt2, jt3, jt4, jt5, jt6, jt7, jt8] at wd2
    try simp (disch := omega) only [jst_eq, jst_ne, jst_ni, jI_i, jcmp_lt, jcmp_gt, w32_id, jcpy_out, Sum.elim_inl, Sum.elim_inr, jt2, jt3, jt4, jt5, jt6, jt7, jt8] at fr2
    obtain ⟨j, j1, j2, j3⟩ := ch_j cs hs ds (m := (2 * y7, tgL e u y7)) (Or.inl ⟨y7.toNat, by omega, by omega, by rw [show ((y7.toNat : Nat) : Int) = y7 by omega]; exact Y.2.1.1, by rw [show ((y7.toNat : Nat) : Int) = y7 by omega]⟩)
    have FR : ∀ a s, ¬ (421 ≤ a ∧ a ≤ 423 ∧ s = m - k - 1) → o10 a s = h a s := fun a s y => by { rw [fr2 a s (by omega)]; exact jst_o (by omega) }
    have CS : chS o10 e t d N k := chS_f cs (fun a s y1 y2 => FR a s (by omega))
    refine OK_jb (vX9_find_2 (t := t) (d := d) (N := N) (j := j) _ (by exact CS.2.2.2.1) (by exact N4) (by exact cs.2.2.2.2.1.2.2.2.1) (by exact ⟨j1.1, j1.2.1, by rw [Y.2.2.2]; exact j1.2.2⟩)) (fun v13 r4 => ?_)
    try dsimp only [Sum.elim_inl, Sum.elim_inr, jt2, jt3, jt4, jt5, jt6, jt7, jt8] at r4
    have v3 := r4
    clear r4
    try simp (disch := omega) only [jst_eq, jst_ne, jst_ni, jI_i, jcmp_lt, jcmp_gt, w32_id, jcpy_out, Sum.elim_inl, Sum.elim_inr, jt2, jt3, jt4, jt5, jt6, jt7, jt8] at v3
    have V13 : v13 = j := by assumption
    refine OK_some ?_
    try dsimp only [Sum.elim_inl, Sum.elim_inr, jt2, jt3, jt4, jt5, jt6, jt7, jt8]
    try dsimp only [Sum.elim_inl, Sum.elim_inr, jt2, jt3, jt4, jt5, jt6, jt7, jt8]
    refine ⟨?_, ?_⟩
    · (rw [V13]; have jt : t j = tgL e u y7 := j1.2.2; have wb := wdN_b cs.2.1 (b := ((nb u 0 : Nat) : Int)) (by omega) y7.toNat (by omega) (by omega); have wd := wd2; rw [X1] at wd; refine ⟨⟨j1.1, j1.2.1⟩, j2, (0, wdN e ((nb u 0 : Nat) : Int) y7.toNat), Or.inl ⟨y7, Y.1, Y.2.1, Y.2.2.1, rfl, jt⟩, Or.inl ⟨by rw [wd]; exact wb.1, by rw [wd]⟩, ?_⟩; rw [jt]; have := Y.2.1.2; omega) -- o23 e1.1
    · exact FR -- o24 e1.2
  · skip
    have r5 := r1; clear r1
    dsimp only [Sum.elim_inl, Sum.elim_inr] at r5
    try dsimp only [Sum.elim_inl, Sum.elim_inr, jt2, jt3, jt4, jt5, jt6, jt7, jt8] at r5
    have no4 := r5
    clear r5
    try simp (disch := omega) only [jst_eq, jst_ne, jst_ni, jI_i, jcmp_lt, jcmp_gt, w32_id, jcpy_out, Sum.elim_inl, Sum.elim_inr, jt2, jt3, jt4, jt5, jt6, jt7, jt8] at no4
    refine OK_jmr ?_
    refine OK_jg (by (first | assumption | omega | ((try dsimp only [jt2, jt3, jt4]); first | omega | (simp (disch := omega) only [jst_eq, jst_ne, jst_ni, jst_o, jI_i, jcpy_out, w32_id, jdiv_nn, jshr_k, jand_255] <;> first | done | omega | assumption)) | (intros; simp (disch := omega) only [jst_eq, jst_ne, jst_ni, jst_o, jI_i, jcpy_out, w32_id, jdiv_nn, *] <;> first | done | omega) | (intros; simp (disch := omega) only [jst_eq, jst_ne, jst_ni, jst_o, jI_i, jcpy_out, w32_id, jdiv_nn] at * <;> first | done | omega | assumption) | (intros; first | rfl | (exfalso; omega) | ((repeat' apply And.intro) <;> first | assumption | rfl | omega | trivial)))) ?_ -- o25
    refine OK_jl ?_
    refine OK_jb (vX9_choose_l171 (e := e) (t := t) (d := d) (N := N) (k := k) (u := u) _ _ _ _ _ (by exact chS_f cs (fun a s y1 y2 => jst_o (by omega))) (by exact hs) (by exact ds) (by exact hk) (by exact X2) (by rfl)) (fun o15 r6 => ?_)
    rcases o15 with o17 | o18
    · skip
      have r7 := r6; clear r6
      dsimp only [Sum.elim_inl, Sum.elim_inr] at r7
      refine OK_jml ?_
      obtain ⟨y19, y20, y21⟩ := o17
      refine OK_jt3 ?_
      try dsimp only [Sum.elim_inl, Sum.elim_inr, jt2, jt3, jt4, jt5, jt6, jt7, jt8] at r7
      have ye5 := r7
      clear r7
      try simp (disch := omega) only [jst_eq, jst_ne, jst_ni, jI_i, jcmp_lt, jcmp_gt, w32_id, jcpy_out, Sum.elim_inl, Sum.elim_inr, jt2, jt3, jt4, jt5, jt6, jt7, jt8] at ye5
      refine OK_jl ?_
      refine OK_jl ?_
      have Y : (0 ≤ y19 ∧ y19 < 178) ∧ (0 ≤ y20 ∧ y20 < 178) ∧ gdC e k u y19 y20 ∧ (∀ i j, 0 ≤ i → 0 ≤ j → j < 178 → (i < y19 ∨ (i = y19 ∧ j < y20)) → ¬ gdC e k u i j) ∧ y21 = tgC e u y19 y20 := by assumption
      obtain ⟨j, j1, j2, j3⟩ := ch_j cs hs ds (m := (spR y19 + spR y20, tgC e u y19 y20)) (Or.inr ⟨y19.toNat, y20.toNat, by omega, by omega, by rw [show ((y19.toNat : Nat) : Int) = y19 by omega]; exact Y.2.2.1.1, by rw [show ((y20.toNat : Nat) : Int) = y20 by omega]; exact Y.2.2.1.2.1, by rw [show ((y19.toNat : Nat) : Int) = y19 by omega, show ((y20.toNat : Nat) : Int) = y20 by omega]; exact Y.2.2.1.2.2.1, by rw [show ((y19.toNat : Nat) : Int) = y19 by omega, show ((y20.toNat : Nat) : Int) = y20 by omega]⟩)
      refine OK_jb (vX9_find_2 (t := t) (d := d) (N := N) (j := j) _ (by exact (chS_f cs (fun a s y1 y2 => by rw [jst_o (by omega), jst_o (by omega), jst_o (by omega)])).2.2.2.1) (by exact N4) (by exact cs.2.2.2.2.1.2.2.2.1) (by exact ⟨j1.1, j1.2.1, by rw [Y.2.2.2.2]; exact j1.2.2⟩)) (fun v25 r8 => ?_)
      try dsimp only [Sum.elim_inl, Sum.elim_inr, jt2, jt3, jt4, jt5, jt6, jt7, jt8] at r8
      have v6 := r8
      clear r8
      try simp (disch := omega) only [jst_eq, jst_ne, jst_ni, jI_i, jcmp_lt, jcmp_gt, w32_id, jcpy_out, Sum.elim_inl, Sum.elim_inr, jt2, jt3, jt4, jt5, jt6, jt7, jt8] at v6
      have V25 : v25 = j := by assumption
      refine OK_some ?_
      try dsimp only [Sum.elim_inl, Sum.elim_inr, jt2, jt3, jt4, jt5, jt6, jt7, jt8]
      try dsimp only [Sum.elim_inl, Sum.elim_inr, jt2, jt3, jt4, jt5, jt6, jt7, jt8]
      refine ⟨?_, ?_⟩
      · (rw [V25]; have jt : t j = tgC e u y19 y20 := j1.2.2; have no : ∀ j, 1 ≤ j → j ≤ 3 → ¬ gdW e k u j := (by assumption); refine ⟨⟨j1.1, j1.2.1⟩, j2, (1 + 200 * y19 + y20, 0), Or.inr ⟨no, y19, y20, Y.1, Y.2.1, Y.2.2.1, Y.2.2.2.1, rfl, jt⟩, Or.inr ?_, ?_⟩; { rw [← X1]; have z1 : (jst (jst (jst h 421 x1 (-1)) 422 x1 y19) 423 x1 y20) 421 x1 = -1 := (by rw [jst_ne (by decide), jst_ne (by decide), jst_eq]); have z2 : (jst (jst (jst h 421 x1 (-1)) 422 x1 y19) 423 x1 y20) 422 x1 = y19 := (by rw [jst_ne (by decide), jst_eq]); have z3 : (jst (jst (jst h 421 x1 (-1)) 422 x1 y19) 423 x1 y20) 423 x1 = y20 := jst_eq; rw [z1, z2, z3]; exact ⟨rfl, Y.1, Y.2.1, rfl⟩ }; { rw [jt]; have := Y.2.2.1.2.2.2; have := spR_b y19; have := spR_b y20; omega }) -- o36 e2.1
      · exact fun a s y => by rw [jst_o (by omega), jst_o (by omega), jst_o (by omega)] -- o37 e2.2
    · skip
      have r9 := r6; clear r6
      dsimp only [Sum.elim_inl, Sum.elim_inr] at r9
      try dsimp only [Sum.elim_inl, Sum.elim_inr, jt2, jt3, jt4, jt5, jt6, jt7, jt8] at r9
      have no7 := r9
      clear r9
      try simp (disch := omega) only [jst_eq, jst_ne, jst_ni, jI_i, jcmp_lt, jcmp_gt, w32_id, jcpy_out, Sum.elim_inl, Sum.elim_inr, jt2, jt3, jt4, jt5, jt6, jt7, jt8] at no7
      refine OK_jmr ?_
      refine OK_some ?_
      try dsimp only [Sum.elim_inl, Sum.elim_inr, jt2, jt3, jt4, jt5, jt6, jt7, jt8]
      try dsimp only [Sum.elim_inl, Sum.elim_inr, jt2, jt3, jt4, jt5, jt6, jt7, jt8]
      refine ⟨?_, ?_⟩
      · (exfalso; have n1 : ∀ j, 1 ≤ j → j ≤ 3 → ¬ gdW e k u j := (by assumption); have n2 : ∀ i j, 0 ≤ i → 0 ≤ j → i < 178 → j < 178 → ¬ gdC e k u i j := (by assumption); rcases way_ex lt with ⟨n, n0, g⟩ | ⟨a, b, a1, b1, g⟩; { exact n1 n n0.1 n0.2 g }; { exact n2 a b a1.1 b1.1 a1.2 b1.2 g }) -- o38 e3.1
      · exact fun a s y => jst_o (by omega) -- o39 e3.2

