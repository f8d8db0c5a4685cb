/-! x: a loop's first terms are read -/
abbrev isLo (a : Int) : Prop := a = 378 ∨ a = 391
/-- roots of terms that were read, the first three in the cells of a -/
def trsX (h : AH) (T : Int) (E : EV) (a : Int) (l : List TR) (N : Int) : Prop := ∀ i : Nat, i < 3 → ∀ t, l[i]? = some t → 0 ≤ h a i ∧ h a i + sz t ≤ N ∧ rXc h T (rsE E t 0) (h a i) 0 (h a i + 1)
def kdsX (h : AH) (E : EV) (l : List TR) : Prop := ∀ i : Nat, i < 3 → ∀ t, l[i]? = some t → h 446 i = kdE E t
theorem app_ix {l : List TR} {t u : TR} {i : Nat} (e : (l ++ [t])[i]? = some u) : (i < l.length ∧ l[i]? = some u) ∨ (i = l.length ∧ u = t) := by
  rcases Nat.lt_or_ge i l.length with y | y
  · left; rw [List.getElem?_append_left y] at e; exact ⟨y, e⟩
  · right
    rw [List.getElem?_append_right y] at e
    rcases Nat.eq_or_lt_of_le y with z | z
    · rw [← z, Nat.sub_self] at e
      cases e
      exact ⟨z.symm, rfl⟩
    · have : i - l.length ≠ 0 := by omega
      match hk : i - l.length, this with
      | k + 1, _ => rw [hk] at e; cases e
theorem rXc_g {h h' : AH} {T N v : Int} {E : EV} {t : TR} (v0 : 0 ≤ v) (vN : v + sz t ≤ N) (f : ∀ a s, T + 1 ≤ a → a ≤ T + 4 → 0 ≤ s → s < N → h' a s = h a s) (g : ∀ s, 0 ≤ s → s < 3 * N → h' (T + 5) s = h (T + 5) s) (r : rXc h T (rsE E t 0) v 0 (v + 1)) : rXc h' T (rsE E t 0) v 0 (v + 1) := by
  have e9 := sz_rs E.2.1.1 E.2.1.2.1 E.2.1.2.2 (eRs E) (eO E) (eK E) t 0
  have z : rsE E t 0 = rsT E.2.1.1 E.2.1.2.1 E.2.1.2.2 (eRs E) (eO E) (eK E) t 0 := rfl
  have st := sz_pos t
  exact rXc_fr (h := h) (lo := v) (hi := v + sz t) (fun a s a0 a1 s0 s1 => f a s a0 a1 (by omega) (by omega)) (fun s s0 s1 => g s (by omega) (by omega)) (Int.le_refl _) (Int.le_refl _) (by omega) (by omega) (by rw [z]; omega) r
theorem trsX_f {h h' : AH} {T a N N' : Int} {E : EV} {l : List TR} (x : trsX h T E a l N) (le : N ≤ N') (ea : ∀ i, 0 ≤ i → i < 3 → h' a i = h a i) (f : ∀ a s, T + 1 ≤ a → a ≤ T + 4 → 0 ≤ s → s < N → h' a s = h a s) (g : ∀ s, 0 ≤ s → s < 3 * N → h' (T + 5) s = h (T + 5) s) : trsX h' T E a l N' := fun i i3 t e => by
  obtain ⟨a1, a2, a3⟩ := x i i3 t e
  rw [ea i (by omega) (by omega)]
  exact ⟨a1, by omega, rXc_g a1 a2 f g a3⟩
theorem trsX_T {h h' : AH} {T a N N' : Int} {E : EV} {l : List TR} (x : trsX h T E a l N) (le : N ≤ N') (na : a ≠ 441 ∧ a ≠ 445 ∧ ¬ (T ≤ a ∧ a ≤ T + 5)) (hT : Tset T) (fr : frT T N h h') : trsX h' T E a l N' := by
  unfold Tset at hT
  exact trsX_f x le (fun i i0 i1 => fr _ _ (by omega) (by omega) (by omega) (by omega) (by omega)) (fun a s a0 a1 s0 s1 => fr _ _ (by omega) (by omega) (by omega) (by omega) (by omega)) (fun s s0 s1 => fr _ _ (by omega) (by omega) (by omega) (by omega) (by omega))
theorem trsX_a {h : AH} {T a N v : Int} {E : EV} {l : List TR} {t : TR} (x : trsX h T E a l N) (e : l.length < 3 → h a l.length = v) (v0 : 0 ≤ v) (vN : v + sz t ≤ N) (r : rXc h T (rsE E t 0) v 0 (v + 1)) : trsX h T E a (l ++ [t]) N := fun i i3 u eu => by
  rcases app_ix eu with ⟨y1, y2⟩ | ⟨y1, y2⟩
  · exact x i i3 u y2
  · subst y2
    rw [y1, e (by omega)]
    exact ⟨v0, vN, r⟩
theorem kdsX_a {h : AH} {E : EV} {l : List TR} {t : TR} (x : kdsX h E l) (e : l.length < 3 → h 446 l.length = kdE E t) : kdsX h E (l ++ [t]) := fun i i3 u eu => by
  rcases app_ix eu with ⟨y1, y2⟩ | ⟨y1, y2⟩
  · exact x i i3 u y2
  · subst y2
    rw [y1]; exact e (by omega)
theorem kdsX_f {h h' : AH} {E : EV} {l : List TR} (x : kdsX h E l) (f : ∀ s, 0 ≤ s → s < 3 → h' 446 s = h 446 s) : kdsX h' E l := fun i i3 t e => by
  rw [f i (by omega) (by omega)]; exact x i i3 t e
theorem fkF_app {E : EV} {t : TR} : ∀ (l : List TR) (i : Int), fkF E (l ++ [t]) i = min (fkF E l i) (ff1 E t (i + (l.length : Int)))
  | [], i => by
    show min (ff1 E t i) 1000000 = min 1000000 (ff1 E t (i + 0))
    rw [Int.add_zero]; omega
  | u :: l, i => by
    show min (ff1 E u i) (fkF E (l ++ [t]) (i + 1)) = min (min (ff1 E u i) (fkF E l (i + 1))) (ff1 E t (i + ((l.length + 1 : Nat) : Int)))
    rw [fkF_app l (i + 1), show i + ((l.length + 1 : Nat) : Int) = i + 1 + (l.length : Int) by omega]
    omega
/-- behind a term: what x keeps -/
def stF (B : Int → Int) (n A T a : Int) (E : EV) (q : Int) (l : List TR) (h : AH) : Prop := cqX B n A T E (.inr q) h ∧ trsX h T E a l (h T 0) ∧ kdsX h E l ∧ h 441 16 = 0
theorem vX13_loop_j153_80 (a1 : Int) (a3 : Int) (a5 : Int) {h : AH} {B : Int → Int} {n A T q : Int} {E : EV} {l : List TR} {t : TR} (lo : isLo a1 ∧ T = a1 + 5 ∧ (l.length : Int) = a3 ∧ a3 ≤ 2100) (c : cqX B n A T E (.inr q) h) (tr : trsX h T E (a1 + 3) l (h T 0) ∧ kdsX h E l ∧ h 441 16 = 0) (rx : rXc h T (rsE E t 0) a5 0 (a5 + 1) ∧ 0 ≤ a5 ∧ a5 + sz t ≤ h T 0 ∧ h T 0 ≤ 2100) (kt : h (T + 3) a5 = kdE E t) (ar : h (a1 + 3) (-2) = 101 ∧ h (a1 + 3) (-1) = 3) : OK (gX13_loop_j153_80 a1 a3 a5 h) (Sum.elim (fun r => jt2 r fun y h' => (y = a3 + 1 ∧ comma B n q) ∧ (stF B n A T (a1 + 3) E q (l ++ [t]) h') ∧ (FK h' = FK h ∧ ∀ a s, ¬ (a = a1 + 3 ∧ 0 ≤ s ∧ s < 3) → ¬ (a = 446 ∧ 0 ≤ s ∧ s < 3) → h' a s = h a s)) (Sum.elim (fun h' => (0 : Int) = 1) (fun r => jt2 r fun y h' => (y = a3 + 1 ∧ ¬ comma B n q) ∧ (stF B n A T (a1 + 3) E q (l ++ [t]) h') ∧ (FK h' = FK h ∧ ∀ a s, ¬ (a = a1 + 3 ∧ 0 ≤ s ∧ s < 3) → ¬ (a = 446 ∧ 0 ≤ s ∧ s < 3) → h' a s = h a s)))) := by
  have hX : isX3 (h 441 17) := by { rw [c.1.2.2.2.2.2.2.2.1.2.1]; exact isX3_of c.1.2.2.2.1.2.2 }
  have h17 : h 441 17 = T := c.1.2.2.2.2.2.2.2.1.2.1
  have h3l : h (T + 3) (-1) = 2200 := c.1.2.2.2.1.1.2.2.1
  have st := sz_pos t
  have NB0 := (Sx_inr c.2.2.1).1
  have LA : a1 = 378 ∨ a1 = 391 := lo.1
  have TS : Tset T := c.1.2.2.2.1.2.2
  unfold gX13_loop_j153_80
  refine OK_if (fun c1 => ?_) (fun c1 => ?_)
  · skip
    try simp (disch := omega) only [jst_eq, jst_ne, jst_ni, jI_i, jcmp_lt, jcmp_gt, w32_id, jcpy_out, Sum.elim_inl, Sum.elim_inr, jt2, jt3, jt4, jt5, jt6, jt7, jt8] at c1
    have RR : stF B n A T (a1 + 3) E q (l ++ [t]) h := ⟨c, trsX_a tr.1 (fun z => by omega) rx.2.1 rx.2.2.1 rx.1, kdsX_a tr.2.1 (fun z => by omega), tr.2.2⟩
    unfold gX13_loop_j182_80
    refine OK_jlx (fun x90 ex90 => ?_)
    try simp (disch := omega) only [jst_eq, jst_ne, jst_ni, jI_i, jcmp_lt, jcmp_gt, w32_id, jcpy_out, Sum.elim_inl, Sum.elim_inr, jt2, jt3, jt4, jt5, jt6, jt7, jt8] at ex90
    refine OK_if (fun c2 => ?_) (fun c2 => ?_)
    · skip
      try simp (disch := omega) only [jst_eq, jst_ne, jst_ni, jI_i, jcmp_lt, jcmp_gt, w32_id, jcpy_out, Sum.elim_inl, Sum.elim_inr, jt2, jt3, jt4, jt5, jt6, jt7, jt8] at c2
      refine OK_some ?_
      try dsimp only [Sum.elim_inl, Sum.elim_inr, jt2, jt3, jt4, jt5, jt6, jt7, jt8]
      try dsimp only [Sum.elim_inl, Sum.elim_inr, jt2, jt3, jt4, jt5, jt6, jt7, jt8]
      refine ⟨?_, ?_, ?_⟩
      · exact ⟨ex90, (comma_x NB0).mpr c2⟩ -- o1 e1.1
      · exact RR -- o2 e1.2
      · exact ⟨rfl, fun _ _ _ _ => rfl⟩ -- o3 e1.3
    · skip
      try simp (disch := omega) only [jst_eq, jst_ne, jst_ni, jI_i, jcmp_lt, jcmp_gt, w32_id, jcpy_out, Sum.elim_inl, Sum.elim_inr, jt2, jt3, jt4, jt5, jt6, jt7, jt8] at c2
      refine OK_some ?_
      try dsimp only [Sum.elim_inl, Sum.elim_inr, jt2, jt3, jt4, jt5, jt6, jt7, jt8]
      try dsimp only [Sum.elim_inl, Sum.elim_inr, jt2, jt3, jt4, jt5, jt6, jt7, jt8]
      refine ⟨?_, ?_, ?_⟩
      · exact ⟨ex90, fun z => c2 ((comma_x NB0).mp z)⟩ -- o4 e2.1
      · exact RR -- o5 e2.2
      · exact ⟨rfl, fun _ _ _ _ => rfl⟩ -- o6 e2.3
  · skip
    try simp (disch := omega) only [jst_eq, jst_ne, jst_ni, jI_i, jcmp_lt, jcmp_gt, w32_id, jcpy_out, Sum.elim_inl, Sum.elim_inr, jt2, jt3, jt4, jt5, jt6, jt7, jt8] at c1
    refine OK_jg (by (first | ((rw [← e17] at *; exact hX)) | (exact isX3_of TS) | (first | assumption | omega | ((try dsimp only [jt2, jt3, jt4]); first | omega | (simp (disch := omega) only [jst_eq, jst_ne, jst_ni, jst_o, jI_i, jcpy_out, w32_id, jdiv_nn, jshr_k, jand_255] <;> first | done | omega | assumption)) | (intros; simp (disch := omega) only [jst_eq, jst_ne, jst_ni, jst_o, jI_i, jcpy_out, w32_id, jdiv_nn, *] <;> first | done | omega) | (intros; simp (disch := omega) only [jst_eq, jst_ne, jst_ni, jst_o, jI_i, jcpy_out, w32_id, jdiv_nn] at * <;> first | done | omega | assumption) | (intros; first | rfl | (exfalso; omega) | ((repeat' apply And.intro) <;> first | assumption | rfl | omega | trivial))))) ?_ -- o7
    refine OK_jl ?_
    have F88 : ∀ a s, ¬ (a = a1 + 3 ∧ s = a3) → jst h (a1 + 3) a3 a5 a s = h a s := fun a s y => jst_o y
    have V88 : jst h (a1 + 3) a3 a5 (a1 + 3) a3 = a5 := jst_eq
    generalize jst h (a1 + 3) a3 a5 = g88 at *
    have e17 : g88 441 17 = T := by { rw [F88 _ _ (by omega)]; exact h17 }
    have ek : g88 (T + 3) a5 = kdE E t := by { rw [F88 _ _ (by omega)]; exact kt }
    have el : g88 (T + 3) (-1) = 2200 := by { rw [F88 _ _ (by omega)]; exact h3l }
    rw [e17, ek, el]
    refine OK_jg (by (first | ((rw [← e17] at *; exact hX)) | (exact isX3_of TS) | (first | assumption | omega | ((try dsimp only [jt2, jt3, jt4]); first | omega | (simp (disch := omega) only [jst_eq, jst_ne, jst_ni, jst_o, jI_i, jcpy_out, w32_id, jdiv_nn, jshr_k, jand_255] <;> first | done | omega | assumption)) | (intros; simp (disch := omega) only [jst_eq, jst_ne, jst_ni, jst_o, jI_i, jcpy_out, w32_id, jdiv_nn, *] <;> first | done | omega) | (intros; simp (disch := omega) only [jst_eq, jst_ne, jst_ni, jst_o, jI_i, jcpy_out, w32_id, jdiv_nn] at * <;> first | done | omega | assumption) | (intros; first | rfl | (exfalso; omega) | ((repeat' apply And.intro) <;> first | assumption | rfl | omega | trivial))))) ?_ -- o8
    refine OK_jg (by (first | ((rw [← e17] at *; exact hX)) | (exact isX3_of TS) | (first | assumption | omega | ((try dsimp only [jt2, jt3, jt4]); first | omega | (simp (disch := omega) only [jst_eq, jst_ne, jst_ni, jst_o, jI_i, jcpy_out, w32_id, jdiv_nn, jshr_k, jand_255] <;> first | done | omega | assumption)) | (intros; simp (disch := omega) only [jst_eq, jst_ne, jst_ni, jst_o, jI_i, jcpy_out, w32_id, jdiv_nn, *] <;> first | done | omega) | (intros; simp (disch := omega) only [jst_eq, jst_ne, jst_ni, jst_o, jI_i, jcpy_out, w32_id, jdiv_nn] at * <;> first | done | omega | assumption) | (intros; first | rfl | (exfalso; omega) | ((repeat' apply And.intro) <;> first | assumption | rfl | omega | trivial))))) ?_ -- o9
    refine OK_jl ?_
    have F89 : ∀ a s, ¬ (a = a1 + 3 ∧ s = a3) → ¬ (a = 446 ∧ s = a3) → jst g88 446 a3 (kdE E t) a s = h a s := fun a s y1 y2 => by { rw [jst_o y2]; exact F88 a s y1 }
    have V89 : jst g88 446 a3 (kdE E t) 446 a3 = kdE E t ∧ jst g88 446 a3 (kdE E t) (a1 + 3) a3 = a5 := ⟨jst_eq, by { rw [jst_o (by omega)]; exact V88 }⟩
    generalize jst g88 446 a3 (kdE E t) = g89 at *
    have C89 : cqX B n A T E (.inr q) g89 := cqX_f c (fun a s y => F89 a s (fun z => by rcases y with y | y; { have := (rdN_n y).2.1; omega }; { omega }) (fun z => by rcases y with y | y; { have := (rdN_n y).2.2.1; omega }; { omega }))
    have F89x : ∀ a s, T + 1 ≤ a → a ≤ T + 4 → 0 ≤ s → s < h T 0 → g89 a s = h a s := fun a s a0 a1 s0 s1 => F89 a s (by omega) (by omega)
    have F89y : ∀ s, 0 ≤ s → s < 3 * h T 0 → g89 (T + 5) s = h (T + 5) s := fun s s0 s1 => F89 _ s (by omega) (by omega)
    have E0 : g89 T 0 = h T 0 := F89 _ _ (by omega) (by omega)
    have TR0 : trsX g89 T E (a1 + 3) l (h T 0) := fun i i3 u eu => by { obtain ⟨z1, z2, z3⟩ := tr.1 i i3 u eu; have il : i < l.length := (List.getElem?_eq_some_iff.mp eu).1; rw [F89 (a1 + 3) i (by omega) (by omega)]; exact ⟨z1, z2, rXc_g z1 z2 F89x F89y z3⟩ }
    have KD0 : kdsX g89 E l := fun i i3 u eu => by { have il : i < l.length := (List.getElem?_eq_some_iff.mp eu).1; rw [F89 446 i (by omega) (by omega)]; exact tr.2.1 i i3 u eu }
    have RR : stF B n A T (a1 + 3) E q (l ++ [t]) g89 := ⟨C89, by { rw [E0]; exact trsX_a TR0 (fun z => by rw [lo.2.2.1]; exact V89.2) rx.2.1 rx.2.2.1 (rXc_g rx.2.1 rx.2.2.1 F89x F89y rx.1) }, kdsX_a KD0 (fun z => by rw [lo.2.2.1]; exact V89.1), by rw [F89 441 16 (by omega) (by omega)]; exact tr.2.2⟩
    have N89 := (Sx_inr C89.2.2.1).1
    unfold gX13_loop_j182_80
    refine OK_jlx (fun x90 ex90 => ?_)
    try simp (disch := omega) only [jst_eq, jst_ne, jst_ni, jI_i, jcmp_lt, jcmp_gt, w32_id, jcpy_out, Sum.elim_inl, Sum.elim_inr, jt2, jt3, jt4, jt5, jt6, jt7, jt8] at ex90
    refine OK_if (fun c3 => ?_) (fun c3 => ?_)
    · skip
      try simp (disch := omega) only [jst_eq, jst_ne, jst_ni, jI_i, jcmp_lt, jcmp_gt, w32_id, jcpy_out, Sum.elim_inl, Sum.elim_inr, jt2, jt3, jt4, jt5, jt6, jt7, jt8] at c3
      refine OK_some ?_
      try dsimp only [Sum.elim_inl, Sum.elim_inr, jt2, jt3, jt4, jt5, jt6, jt7, jt8]
      try dsimp only [Sum.elim_inl, Sum.elim_inr, jt2, jt3, jt4, jt5, jt6, jt7, jt8]
      refine ⟨?_, ?_, ?_⟩
      · exact ⟨ex90, (comma_x N89).mpr c3⟩ -- o10 e3.1
      · exact RR -- o11 e3.2
      · exact ⟨FK_fr (F89 _ _ (by omega) (by omega)) (F89 _ _ (by omega) (by omega)), fun a s y1 y2 => F89 a s (by omega) (by omega)⟩ -- o12 e3.3
    · skip
      try simp (disch := omega) only [jst_eq, jst_ne, jst_ni, jI_i, jcmp_lt, jcmp_gt, w32_id, jcpy_out, Sum.elim_inl, Sum.elim_inr, jt2, jt3, jt4, jt5, jt6, jt7, jt8] at c3
      refine OK_some ?_
      try dsimp only [Sum.elim_inl, Sum.elim_inr, jt2, jt3, jt4, jt5, jt6, jt7, jt8]
      try dsimp only [Sum.elim_inl, Sum.elim_inr, jt2, jt3, jt4, jt5, jt6, jt7, jt8]
      refine ⟨?_, ?_, ?_⟩
      · exact ⟨ex90, fun z => c3 ((comma_x N89).mp z)⟩ -- o13 e4.1
      · exact RR -- o14 e4.2
      · exact ⟨FK_fr (F89 _ _ (by omega) (by omega)) (F89 _ _ (by omega) (by omega)), fun a s y1 y2 => F89 a s (by omega) (by omega)⟩ -- o15 e4.3
theorem toE_b {E : EV} {t : TR} {w : Int} : toE E t w ≤ 1000000 ∨ 2001 < plT t := by
  unfold toE
  dsimp only [plT]
  by_cases x : w ≠ -1 ∧ kdE E t ≠ -1 ∧ kdE E t ≠ w <;> by_cases y : 40 < wtE E t
  · rw [if_pos x, if_pos y]; omega
  · rw [if_pos x, if_neg y]; omega
  · rw [if_neg x, if_pos y]; omega
  · rw [if_neg x, if_neg y]; omega
theorem trsX_5 {h h' : AH} {T a N : Int} {E : EV} {l : List TR} (hT : Tset T) (x : trsX h T E a l N) (ha : a ≠ 441) (f : ∀ b s, ¬ (b = 441 ∧ 2 ≤ s ∧ s ≤ 18) → h' b s = h b s) : trsX h' T E a l N := by
  unfold Tset at hT
  exact trsX_f x (Int.le_refl _) (fun j j0 j1 => f _ _ (by omega)) (fun b s b0 b1 s0 s1 => f _ _ (by omega)) (fun s s0 s1 => f _ _ (by omega))
/-- a chain behind a comma -/
theorem cqX_x {B : Int → Int} {n A T q : Int} {E : EV} {h h' : AH} (hB : ∀ i, 0 ≤ i → i < n → 0 ≤ B i ∧ B i < 256) (c : cqX B n A T E (.inr q) h) (g0 : tO B n q ≠ 0) (f : ∀ a s, ¬ (a = 441 ∧ 2 ≤ s ∧ s ≤ 5) → h' a s = h a s) (s : Sx B n (nx B n q) h') : cqX B n A T E (nx B n q) h' := by
  have TS := c.1.2.2.2.1.2.2
  unfold Tset at TS
  have nb := Sx_inr c.2.2.1
  exact cqX_s c (fun a s y => f a s (fun z => by rcases y with y | y; { have := (rdN_n y).2.2.2; omega }; { omega })) s (fun q' e => ⟨q, rfl, by have nr := nx_r hB nb.1.2.2.1 nb.1.2.2.2 nb.2 g0 e; omega⟩)
/-- behind a term, with faults noted -/
def stK (B : Int → Int) (n A T a : Int) (E : EV) (q : Int) (l : List TR) (K : Int) (h : AH) : Prop := stF B n A T a E q l h ∧ FK h = min K (fkF E l 0)
def frLp (a : Int) (h h' : AH) : Prop := ∀ b s, ¬ (b = 441 ∧ 2 ≤ s ∧ s ≤ 18) → ¬ (b = 445 ∧ 0 ≤ s) → ¬ (a + 5 ≤ b ∧ b ≤ a + 10 ∧ 0 ≤ s) → ¬ ((b = a + 3 ∨ b = 446) ∧ 0 ≤ s ∧ s < 3) → h' b s = h b s
theorem frLp_r {a : Int} {h : AH} : frLp a h h := fun _ _ _ _ _ _ => rfl
theorem frLp_t {a : Int} {h h1 h2 : AH} (x : frLp a h h1) (y : frLp a h1 h2) : frLp a h h2 := fun b s y1 y2 y3 y4 => (y b s y1 y2 y3 y4).trans (x b s y1 y2 y3 y4)
theorem frLp_T {a T N : Int} {h h' : AH} (e : T = a + 5) (hN : 0 ≤ N) (f : frT T N h h') : frLp a h h' := fun b s y1 y2 y3 y4 => f b s (by omega) (by omega) (by omega) (by omega) (by omega)
theorem vX13_loop_j132_80 (a1 : Int) (a3 : Int) (a4 : Int) (a5 : Int) {h : AH} {B : Int → Int} {n A T q K : Int} {E : EV} {l : List TR} {t : TR} (lo : isLo a1 ∧ T = a1 + 5 ∧ (l.length : Int) = a3 ∧ a3 ≤ 2100) (c : cqX B n A T E (.inr q) h) (tr : trsX h T E (a1 + 3) l (h T 0) ∧ kdsX h E l ∧ h 441 16 = 0) (rx : rXc h T (rsE E t 0) a5 0 (a5 + 1) ∧ 0 ≤ a5 ∧ a5 + sz t ≤ h T 0 ∧ h T 0 ≤ 2100) (kt : h (T + 3) a5 = kdE E t) (ar : h (a1 + 3) (-2) = 101 ∧ h (a1 + 3) (-1) = 3) (pl : a4 = plT t ∧ 0 ≤ plT t ∧ plT t ≤ 2001) (kk : FK h = min K (min (fkF E l 0) (min (keyE E (-1) t) (if a3 = 3 then plT t * 8 + 4 else 1000000)))) : OK (gX13_loop_j132_80 a1 a3 a4 a5 h) (Sum.elim (fun r => jt2 r fun y h' => (y = a3 + 1 ∧ comma B n q) ∧ (stK B n A T (a1 + 3) E q (l ++ [t]) K h') ∧ (frLp a1 h h' ∧ h' T 0 = h T 0)) (Sum.elim (fun h' => (0 : Int) = 1) (fun r => jt2 r fun y h' => (y = a3 + 1 ∧ ¬ comma B n q) ∧ (stK B n A T (a1 + 3) E q (l ++ [t]) K h') ∧ (frLp a1 h h' ∧ h' T 0 = h T 0)))) := by
  have h17 : h 441 17 = T := c.1.2.2.2.2.2.2.2.1.2.1
  have hX : isX3 T := isX3_of c.1.2.2.2.1.2.2
  have h3l : h (T + 3) (-1) = 2200 := c.1.2.2.2.1.1.2.2.1
  have LA : a1 = 378 ∨ a1 = 391 := lo.1
  have st := sz_pos t
  have FA := fkF_app (E := E) (t := t) l 0
  rw [Int.zero_add, lo.2.2.1] at FA
  have f8 := c.1.2.2.2.2.2.1
  have fkb := c.1.2.2.2.2.2.2.1
  unfold gX13_loop_j132_80
  refine OK_jg (by (first | ((rw [h17]; exact hX)) | ((rw [h17, h3l]; exact ⟨by omega, by omega⟩)) | (first | assumption | omega | ((try dsimp only [jt2, jt3, jt4]); first | omega | (simp (disch := omega) only [jst_eq, jst_ne, jst_ni, jst_o, jI_i, jcpy_out, w32_id, jdiv_nn, jshr_k, jand_255] <;> first | done | omega | assumption)) | (intros; simp (disch := omega) only [jst_eq, jst_ne, jst_ni, jst_o, jI_i, jcpy_out, w32_id, jdiv_nn, *] <;> first | done | omega) | (intros; simp (disch := omega) only [jst_eq, jst_ne, jst_ni, jst_o, jI_i, jcpy_out, w32_id, jdiv_nn] at * <;> first | done | omega | assumption) | (intros; first | rfl | (exfalso; omega) | ((repeat' apply And.intro) <;> first | assumption | rfl | omega | trivial))))) ?_ -- o1
  refine OK_jg (by (first | ((rw [h17]; exact hX)) | ((rw [h17, h3l]; exact ⟨by omega, by omega⟩)) | (first | assumption | omega | ((try dsimp only [jt2, jt3, jt4]); first | omega | (simp (disch := omega) only [jst_eq, jst_ne, jst_ni, jst_o, jI_i, jcpy_out, w32_id, jdiv_nn, jshr_k, jand_255] <;> first | done | omega | assumption)) | (intros; simp (disch := omega) only [jst_eq, jst_ne, jst_ni, jst_o, jI_i, jcpy_out, w32_id, jdiv_nn, *] <;> first | done | omega) | (intros; simp (disch := omega) only [jst_eq, jst_ne, jst_ni, jst_o, jI_i, jcpy_out, w32_id, jdiv_nn] at * <;> first | done | omega | assumption) | (intros; first | rfl | (exfalso; omega) | ((repeat' apply And.intro) <;> first | assumption | rfl | omega | trivial))))) ?_ -- o2
  refine OK_if (fun c1 => ?_) (fun c1 => ?_)
  · skip
    try simp (disch := omega) only [jst_eq, jst_ne, jst_ni, jI_i, jcmp_lt, jcmp_gt, w32_id, jcpy_out, Sum.elim_inl, Sum.elim_inr, jt2, jt3, jt4, jt5, jt6, jt7, jt8] at c1
    have k2 : kdE E t = 2 := by { rw [← kt, ← h17]; exact c1 }
    have G1 : ∀ {X : Int}, X = min (FK h) (a4 * 8 + 3) → X = min K (fkF E (l ++ [t]) 0) := fun {X} e => by { rw [e, kk, FA, pl.1]; unfold ff1; rw [if_pos k2]; omega }
    refine OK_jb (vX13_err _ _ (by (first | ((rw [h17]; exact hX)) | ((rw [h17, h3l]; exact ⟨by omega, by omega⟩)) | (first | assumption | omega | ((try dsimp only [jt2, jt3, jt4]); first | omega | (simp (disch := omega) only [jst_eq, jst_ne, jst_ni, jst_o, jI_i, jcpy_out, w32_id, jdiv_nn, jshr_k, jand_255] <;> first | done | omega | assumption)) | (intros; simp (disch := omega) only [jst_eq, jst_ne, jst_ni, jst_o, jI_i, jcpy_out, w32_id, jdiv_nn, *] <;> first | done | omega) | (intros; simp (disch := omega) only [jst_eq, jst_ne, jst_ni, jst_o, jI_i, jcpy_out, w32_id, jdiv_nn] at * <;> first | done | omega | assumption) | (intros; first | rfl | (exfalso; omega) | ((repeat' apply And.intro) <;> first | assumption | rfl | omega | trivial))))) (by (first | ((rw [h17]; exact hX)) | ((rw [h17, h3l]; exact ⟨by omega, by omega⟩)) | (first | assumption | omega | ((try dsimp only [jt2, jt3, jt4]); first | omega | (simp (disch := omega) only [jst_eq, jst_ne, jst_ni, jst_o, jI_i, jcpy_out, w32_id, jdiv_nn, jshr_k, jand_255] <;> first | done | omega | assumption)) | (intros; simp (disch := omega) only [jst_eq, jst_ne, jst_ni, jst_o, jI_i, jcpy_out, w32_id, jdiv_nn, *] <;> first | done | omega) | (intros; simp (disch := omega) only [jst_eq, jst_ne, jst_ni, jst_o, jI_i, jcpy_out, w32_id, jdiv_nn] at * <;> first | done | omega | assumption) | (intros; first | rfl | (exfalso; omega) | ((repeat' apply And.intro) <;> first | assumption | rfl | omega | trivial)))))) (fun h86 r1 => ?_)
    try dsimp only [Sum.elim_inl, Sum.elim_inr, jt2, jt3, jt4, jt5, jt6, jt7, jt8] at r1
    obtain ⟨f1, k1, fr1⟩ := r1
    try simp (disch := omega) only [jst_eq, jst_ne, jst_ni, jI_i, jcmp_lt, jcmp_gt, w32_id, jcpy_out, Sum.elim_inl, Sum.elim_inr, jt2, jt3, jt4, jt5, jt6, jt7, jt8] at f1
    try simp (disch := omega) only [jst_eq, jst_ne, jst_ni, jI_i, jcmp_lt, jcmp_gt, w32_id, jcpy_out, Sum.elim_inl, Sum.elim_inr, jt2, jt3, jt4, jt5, jt6, jt7, jt8] at k1
    try simp (disch := omega) only [jst_eq, jst_ne, jst_ni, jI_i, jcmp_lt, jcmp_gt, w32_id, jcpy_out, Sum.elim_inl, Sum.elim_inr, jt2, jt3, jt4, jt5, jt6, jt7, jt8] at fr1
    have TS : Tset T := c.1.2.2.2.1.2.2
    have C86 : cqX B n A T E (.inr q) h86 := cqX_e c TS fr1 f1 (by omega)
    have TR86 : trsX h86 T E (a1 + 3) l (h86 T 0) := by { rw [fr1 T 0 (by omega)]; exact trsX_f tr.1 (Int.le_refl _) (fun i i0 i1 => fr1 _ _ (by omega)) (fun a s a0 a1 s0 s1 => fr1 _ _ (by omega)) (fun s s0 s1 => fr1 _ _ (by omega)) }
    have KD86 : kdsX h86 E l := kdsX_f tr.2.1 (fun s s0 s1 => fr1 _ _ (by omega))
    have RX86 : rXc h86 T (rsE E t 0) a5 0 (a5 + 1) := rXc_g rx.2.1 rx.2.2.1 (fun a s a0 a1 s0 s1 => fr1 _ _ (by omega)) (fun s s0 s1 => fr1 _ _ (by omega)) rx.1
    refine OK_mono (vX13_loop_j153_80 (B := B) (n := n) (A := A) (T := T) (q := q) (E := E) (l := l) (t := t) _ _ _ (by (first | ((rw [h17]; exact hX)) | ((rw [h17, h3l]; exact ⟨by omega, by omega⟩)) | (first | assumption | omega | ((try dsimp only [jt2, jt3, jt4]); first | omega | (simp (disch := omega) only [jst_eq, jst_ne, jst_ni, jst_o, jI_i, jcpy_out, w32_id, jdiv_nn, jshr_k, jand_255] <;> first | done | omega | assumption)) | (intros; simp (disch := omega) only [jst_eq, jst_ne, jst_ni, jst_o, jI_i, jcpy_out, w32_id, jdiv_nn, *] <;> first | done | omega) | (intros; simp (disch := omega) only [jst_eq, jst_ne, jst_ni, jst_o, jI_i, jcpy_out, w32_id, jdiv_nn] at * <;> first | done | omega | assumption) | (intros; first | rfl | (exfalso; omega) | ((repeat' apply And.intro) <;> first | assumption | rfl | omega | trivial))))) (by (first | ((rw [h17]; exact hX)) | ((rw [h17, h3l]; exact ⟨by omega, by omega⟩)) | (first | assumption | omega | ((try dsimp only [jt2, jt3, jt4]); first | omega | (simp (disch := omega) only [jst_eq, jst_ne, jst_ni, jst_o, jI_i, jcpy_out, w32_id, jdiv_nn, jshr_k, jand_255] <;> first | done | omega | assumption)) | (intros; simp (disch := omega) only [jst_eq, jst_ne, jst_ni, jst_o, jI_i, jcpy_out, w32_id, jdiv_nn, *] <;> first | done | omega) | (intros; simp (disch := omega) only [jst_eq, jst_ne, jst_ni, jst_o, jI_i, jcpy_out, w32_id, jdiv_nn] at * <;> first | done | omega | assumption) | (intros; first | rfl | (exfalso; omega) | ((repeat' apply And.intro) <;> first | assumption | rfl | omega | trivial))))) (by exact ⟨TR86, KD86, by rw [fr1 _ _ (by omega)]; exact tr.2.2⟩) (by (rw [fr1 T 0 (by omega)]; exact ⟨RX86, rx.2.1, rx.2.2.1, rx.2.2.2⟩)) (by (rw [fr1 _ _ (by omega)]; exact kt)) (by (rw [fr1 _ _ (by omega), fr1 _ _ (by omega)]; exact ar))) (fun r r2 => ?_)
    rcases r with r | r
    · skip
      have r3 := r2; clear r2; dsimp only [Sum.elim_inl, Sum.elim_inr] at r3
      obtain ⟨y1, y2⟩ := r
      try dsimp only [Sum.elim_inl, Sum.elim_inr, jt2, jt3, jt4, jt5, jt6, jt7, jt8] at r3
      obtain ⟨cc2, rr2, fr2⟩ := r3
      try simp (disch := omega) only [jst_eq, jst_ne, jst_ni, jI_i, jcmp_lt, jcmp_gt, w32_id, jcpy_out, Sum.elim_inl, Sum.elim_inr, jt2, jt3, jt4, jt5, jt6, jt7, jt8] at cc2
      try simp (disch := omega) only [jst_eq, jst_ne, jst_ni, jI_i, jcmp_lt, jcmp_gt, w32_id, jcpy_out, Sum.elim_inl, Sum.elim_inr, jt2, jt3, jt4, jt5, jt6, jt7, jt8] at rr2
      try simp (disch := omega) only [jst_eq, jst_ne, jst_ni, jI_i, jcmp_lt, jcmp_gt, w32_id, jcpy_out, Sum.elim_inl, Sum.elim_inr, jt2, jt3, jt4, jt5, jt6, jt7, jt8] at fr2
      try dsimp only [Sum.elim_inl, Sum.elim_inr, jt2, jt3, jt4, jt5, jt6, jt7, jt8]
      try dsimp only [Sum.elim_inl, Sum.elim_inr, jt2, jt3, jt4, jt5, jt6, jt7, jt8]
      refine ⟨?_, ?_, ?_⟩
      · (first | ((rw [h17]; exact hX)) | ((rw [h17, h3l]; exact ⟨by omega, by omega⟩)) | (first | assumption | omega | ((try dsimp only [jt2, jt3, jt4]); first | omega | (simp (disch := omega) only [jst_eq, jst_ne, jst_ni, jst_o, jI_i, jcpy_out, w32_id, jdiv_nn, jshr_k, jand_255] <;> first | done | omega | assumption)) | (intros; simp (disch := omega) only [jst_eq, jst_ne, jst_ni, jst_o, jI_i, jcpy_out, w32_id, jdiv_nn, *] <;> first | done | omega) | (intros; simp (disch := omega) only [jst_eq, jst_ne, jst_ni, jst_o, jI_i, jcpy_out, w32_id, jdiv_nn] at * <;> first | done | omega | assumption) | (intros; first | rfl | (exfalso; omega) | ((repeat' apply And.intro) <;> first | assumption | rfl | omega | trivial)))) -- o11 e1.1
      · exact ⟨rr2, by rw [fr2.1]; exact G1 k1⟩ -- o12 e1.2
      · exact ⟨fun b s y1 y2 y3 y4 => (by rw [fr2.2 b s (by omega) (by omega)]; exact fr1 b s (by omega)), by rw [fr2.2 T 0 (by omega) (by omega)]; exact fr1 T 0 (by omega)⟩ -- o13 e1.3
    · skip
      have r4 := r2; clear r2; dsimp only [Sum.elim_inl, Sum.elim_inr] at r4
      rcases r with r | r
      · skip
        have r5 := r4; clear r4; dsimp only [Sum.elim_inl, Sum.elim_inr] at r5
        try dsimp only [Sum.elim_inl, Sum.elim_inr, jt2, jt3, jt4, jt5, jt6, jt7, jt8] at r5
        have no3 := r5
        clear r5
        try simp (disch := omega) only [jst_eq, jst_ne, jst_ni, jI_i, jcmp_lt, jcmp_gt, w32_id, jcpy_out, Sum.elim_inl, Sum.elim_inr, jt2, jt3, jt4, jt5, jt6, jt7, jt8] at no3
        try dsimp only [Sum.elim_inl, Sum.elim_inr, jt2, jt3, jt4, jt5, jt6, jt7, jt8]
        exact absurd no3 (by decide) -- o14 e2
      · skip
        have r6 := r4; clear r4; dsimp only [Sum.elim_inl, Sum.elim_inr] at r6
        obtain ⟨y3, y4⟩ := r
        try dsimp only [Sum.elim_inl, Sum.elim_inr, jt2, jt3, jt4, jt5, jt6, jt7, jt8] at r6
        obtain ⟨cc4, rr4, fr4⟩ := r6
        try simp (disch := omega) only [jst_eq, jst_ne, jst_ni, jI_i, jcmp_lt, jcmp_gt, w32_id, jcpy_out, Sum.elim_inl, Sum.elim_inr, jt2, jt3, jt4, jt5, jt6, jt7, jt8] at cc4
        try simp (disch := omega) only [jst_eq, jst_ne, jst_ni, jI_i, jcmp_lt, jcmp_gt, w32_id, jcpy_out, Sum.elim_inl, Sum.elim_inr, jt2, jt3, jt4, jt5, jt6, jt7, jt8] at rr4
        try simp (disch := omega) only [jst_eq, jst_ne, jst_ni, jI_i, jcmp_lt, jcmp_gt, w32_id, jcpy_out, Sum.elim_inl, Sum.elim_inr, jt2, jt3, jt4, jt5, jt6, jt7, jt8] at fr4
        try dsimp only [Sum.elim_inl, Sum.elim_inr, jt2, jt3, jt4, jt5, jt6, jt7, jt8]
        try dsimp only [Sum.elim_inl, Sum.elim_inr, jt2, jt3, jt4, jt5, jt6, jt7, jt8]
        refine ⟨?_, ?_, ?_⟩
        · (first | ((rw [h17]; exact hX)) | ((rw [h17, h3l]; exact ⟨by omega, by omega⟩)) | (first | assumption | omega | ((try dsimp only [jt2, jt3, jt4]); first | omega | (simp (disch := omega) only [jst_eq, jst_ne, jst_ni, jst_o, jI_i, jcpy_out, w32_id, jdiv_nn, jshr_k, jand_255] <;> first | done | omega | assumption)) | (intros; simp (disch := omega) only [jst_eq, jst_ne, jst_ni, jst_o, jI_i, jcpy_out, w32_id, jdiv_nn, *] <;> first | done | omega) | (intros; simp (disch := omega) only [jst_eq, jst_ne, jst_ni, jst_o, jI_i, jcpy_out, w32_id, jdiv_nn] at * <;> first | done | omega | assumption) | (intros; first | rfl | (exfalso; omega) | ((repeat' apply And.intro) <;> first | assumption | rfl | omega | trivial)))) -- o15 e3.1
        · exact ⟨rr4, by rw [fr4.1]; exact G1 k1⟩ -- o16 e3.2
        · exact ⟨fun b s y1 y2 y3 y4 => (by rw [fr4.2 b s (by omega) (by omega)]; exact fr1 b s (by omega)), by rw [fr4.2 T 0 (by omega) (by omega)]; exact fr1 T 0 (by omega)⟩ -- o17 e3.3
  · skip
    try simp (disch := omega) only [jst_eq, jst_ne, jst_ni, jI_i, jcmp_lt, jcmp_gt, w32_id, jcpy_out, Sum.elim_inl, Sum.elim_inr, jt2, jt3, jt4, jt5, jt6, jt7, jt8] at c1
    have k2 : ¬ kdE E t = 2 := fun z => c1 (by rw [h17, kt]; exact z)
    have G2 : FK h = min K (fkF E (l ++ [t]) 0) := by { rw [FA]; unfold ff1; rw [if_neg k2]; have kb : keyE E (-1) t ≤ 1000000 := (by unfold keyE; have := (toE_b (E := E) (t := t) (w := -1)); omega); omega }
    refine OK_mono (vX13_loop_j153_80 (B := B) (n := n) (A := A) (T := T) (q := q) (E := E) (l := l) (t := t) _ _ _ (by (first | ((rw [h17]; exact hX)) | ((rw [h17, h3l]; exact ⟨by omega, by omega⟩)) | (first | assumption | omega | ((try dsimp only [jt2, jt3, jt4]); first | omega | (simp (disch := omega) only [jst_eq, jst_ne, jst_ni, jst_o, jI_i, jcpy_out, w32_id, jdiv_nn, jshr_k, jand_255] <;> first | done | omega | assumption)) | (intros; simp (disch := omega) only [jst_eq, jst_ne, jst_ni, jst_o, jI_i, jcpy_out, w32_id, jdiv_nn, *] <;> first | done | omega) | (intros; simp (disch := omega) only [jst_eq, jst_ne, jst_ni, jst_o, jI_i, jcpy_out, w32_id, jdiv_nn] at * <;> first | done | omega | assumption) | (intros; first | rfl | (exfalso; omega) | ((repeat' apply And.intro) <;> first | assumption | rfl | omega | trivial))))) (by (first | ((rw [h17]; exact hX)) | ((rw [h17, h3l]; exact ⟨by omega, by omega⟩)) | (first | assumption | omega | ((try dsimp only [jt2, jt3, jt4]); first | omega | (simp (disch := omega) only [jst_eq, jst_ne, jst_ni, jst_o, jI_i, jcpy_out, w32_id, jdiv_nn, jshr_k, jand_255] <;> first | done | omega | assumption)) | (intros; simp (disch := omega) only [jst_eq, jst_ne, jst_ni, jst_o, jI_i, jcpy_out, w32_id, jdiv_nn, *] <;> first | done | omega) | (intros; simp (disch := omega) only [jst_eq, jst_ne, jst_ni, jst_o, jI_i, jcpy_out, w32_id, jdiv_nn] at * <;> first | done | omega | assumption) | (intros; first | rfl | (exfalso; omega) | ((repeat' apply And.intro) <;> first | assumption | rfl | omega | trivial))))) (by (first | ((rw [h17]; exact hX)) | ((rw [h17, h3l]; exact ⟨by omega, by omega⟩)) | (first | assumption | omega | ((try dsimp only [jt2, jt3, jt4]); first | omega | (simp (disch := omega) only [jst_eq, jst_ne, jst_ni, jst_o, jI_i, jcpy_out, w32_id, jdiv_nn, jshr_k, jand_255] <;> first | done | omega | assumption)) | (intros; simp (disch := omega) only [jst_eq, jst_ne, jst_ni, jst_o, jI_i, jcpy_out, w32_id, jdiv_nn, *] <;> first | done | omega) | (intros; simp (disch := omega) only [jst_eq, jst_ne, jst_ni, jst_o, jI_i, jcpy_out, w32_id, jdiv_nn] at * <;> first | done | omega | assumption) | (intros; first | rfl | (exfalso; omega) | ((repeat' apply And.intro) <;> first | assumption | rfl | omega | trivial))))) (by (first | ((rw [h17]; exact hX)) | ((rw [h17, h3l]; exact ⟨by omega, by omega⟩)) | (first | assumption | omega | ((try dsimp only [jt2, jt3, jt4]); first | omega | (simp (disch := omega) only [jst_eq, jst_ne, jst_ni, jst_o, jI_i, jcpy_out, w32_id, jdiv_nn, jshr_k, jand_255] <;> first | done | omega | assumption)) | (intros; simp (disch := omega) only [jst_eq, jst_ne, jst_ni, jst_o, jI_i, jcpy_out, w32_id, jdiv_nn, *] <;> first | done | omega) | (intros; simp (disch := omega) only [jst_eq, jst_ne, jst_ni, jst_o, jI_i, jcpy_out, w32_id, jdiv_nn] at * <;> first | done | omega | assumption) | (intros; first | rfl | (exfalso; omega) | ((repeat' apply And.intro) <;> first | assumption | rfl | omega | trivial))))) (by (first | ((rw [h17]; exact hX)) | ((rw [h17, h3l]; exact ⟨by omega, by omega⟩)) | (first | assumption | omega | ((try dsimp only [jt2, jt3, jt4]); first | omega | (simp (disch := omega) only [jst_eq, jst_ne, jst_ni, jst_o, jI_i, jcpy_out, w32_id, jdiv_nn, jshr_k, jand_255] <;> first | done | omega | assumption)) | (intros; simp (disch := omega) only [jst_eq, jst_ne, jst_ni, jst_o, jI_i, jcpy_out, w32_id, jdiv_nn, *] <;> first | done | omega) | (intros; simp (disch := omega) only [jst_eq, jst_ne, jst_ni, jst_o, jI_i, jcpy_out, w32_id, jdiv_nn] at * <;> first | done | omega | assumption) | (intros; first | rfl | (exfalso; omega) | ((repeat' apply And.intro) <;> first | assumption | rfl | omega | trivial))))) (by (first | ((rw [h17]; exact hX)) | ((rw [h17, h3l]; exact ⟨by omega, by omega⟩)) | (first | assumption | omega | ((try dsimp only [jt2, jt3, jt4]); first | omega | (simp (disch := omega) only [jst_eq, jst_ne, jst_ni, jst_o, jI_i, jcpy_out, w32_id, jdiv_nn, jshr_k, jand_255] <;> first | done | omega | assumption)) | (intros; simp (disch := omega) only [jst_eq, jst_ne, jst_ni, jst_o, jI_i, jcpy_out, w32_id, jdiv_nn, *] <;> first | done | omega) | (intros; simp (disch := omega) only [jst_eq, jst_ne, jst_ni, jst_o, jI_i, jcpy_out, w32_id, jdiv_nn] at * <;> first | done | omega | assumption) | (intros; first | rfl | (exfalso; omega) | ((repeat' apply And.intro) <;> first | assumption | rfl | omega | trivial)))))) (fun r r7 => ?_)
    rcases r with r | r
    · skip
      have r8 := r7; clear r7; dsimp only [Sum.elim_inl, Sum.elim_inr] at r8
      obtain ⟨y5, y6⟩ := r
      try dsimp only [Sum.elim_inl, Sum.elim_inr, jt2, jt3, jt4, jt5, jt6, jt7, jt8] at r8
      obtain ⟨cc5, rr5, fr5⟩ := r8
      try simp (disch := omega) only [jst_eq, jst_ne, jst_ni, jI_i, jcmp_lt, jcmp_gt, w32_id, jcpy_out, Sum.elim_inl, Sum.elim_inr, jt2, jt3, jt4, jt5, jt6, jt7, jt8] at cc5
      try simp (disch := omega) only [jst_eq, jst_ne, jst_ni, jI_i, jcmp_lt, jcmp_gt, w32_id, jcpy_out, Sum.elim_inl, Sum.elim_inr, jt2, jt3, jt4, jt5, jt6, jt7, jt8] at rr5
      try simp (disch := omega) only [jst_eq, jst_ne, jst_ni, jI_i, jcmp_lt, jcmp_gt, w32_id, jcpy_out, Sum.elim_inl, Sum.elim_inr, jt2, jt3, jt4, jt5, jt6, jt7, jt8] at fr5
      try dsimp only [Sum.elim_inl, Sum.elim_inr, jt2, jt3, jt4, jt5, jt6, jt7, jt8]
      try dsimp only [Sum.elim_inl, Sum.elim_inr, jt2, jt3, jt4, jt5, jt6, jt7, jt8]
      refine ⟨?_, ?_, ?_⟩
      · (first | ((rw [h17]; exact hX)) | ((rw [h17, h3l]; exact ⟨by omega, by omega⟩)) | (first | assumption | omega | ((try dsimp only [jt2, jt3, jt4]); first | omega | (simp (disch := omega) only [jst_eq, jst_ne, jst_ni, jst_o, jI_i, jcpy_out, w32_id, jdiv_nn, jshr_k, jand_255] <;> first | done | omega | assumption)) | (intros; simp (disch := omega) only [jst_eq, jst_ne, jst_ni, jst_o, jI_i, jcpy_out, w32_id, jdiv_nn, *] <;> first | done | omega) | (intros; simp (disch := omega) only [jst_eq, jst_ne, jst_ni, jst_o, jI_i, jcpy_out, w32_id, jdiv_nn] at * <;> first | done | omega | assumption) | (intros; first | rfl | (exfalso; omega) | ((repeat' apply And.intro) <;> first | assumption | rfl | omega | trivial)))) -- o24 e4.1
      · exact ⟨rr5, by rw [fr5.1]; exact G2⟩ -- o25 e4.2
      · exact ⟨fun b s y1 y2 y3 y4 => fr5.2 b s (by omega) (by omega), fr5.2 T 0 (by omega) (by omega)⟩ -- o26 e4.3
    · skip
      have r9 := r7; clear r7; dsimp only [Sum.elim_inl, Sum.elim_inr] at r9
      rcases r with r | r
      · skip
        have r10 := r9; clear r9; dsimp only [Sum.elim_inl, Sum.elim_inr] at r10
        try dsimp only [Sum.elim_inl, Sum.elim_inr, jt2, jt3, jt4, jt5, jt6, jt7, jt8] at r10
        have no6 := r10
        clear r10
        try simp (disch := omega) only [jst_eq, jst_ne, jst_ni, jI_i, jcmp_lt, jcmp_gt, w32_id, jcpy_out, Sum.elim_inl, Sum.elim_inr, jt2, jt3, jt4, jt5, jt6, jt7, jt8] at no6
        try dsimp only [Sum.elim_inl, Sum.elim_inr, jt2, jt3, jt4, jt5, jt6, jt7, jt8]
        exact absurd no6 (by decide) -- o27 e5
      · skip
        have r11 := r9; clear r9; dsimp only [Sum.elim_inl, Sum.elim_inr] at r11
        obtain ⟨y7, y8⟩ := r
        try dsimp only [Sum.elim_inl, Sum.elim_inr, jt2, jt3, jt4, jt5, jt6, jt7, jt8] at r11
        obtain ⟨cc7, rr7, fr7⟩ := r11
        try simp (disch := omega) only [jst_eq, jst_ne, jst_ni, jI_i, jcmp_lt, jcmp_gt, w32_id, jcpy_out, Sum.elim_inl, Sum.elim_inr, jt2, jt3, jt4, jt5, jt6, jt7, jt8] at cc7
        try simp (disch := omega) only [jst_eq, jst_ne, jst_ni, jI_i, jcmp_lt, jcmp_gt, w32_id, jcpy_out, Sum.elim_inl, Sum.elim_inr, jt2, jt3, jt4, jt5, jt6, jt7, jt8] at rr7
        try simp (disch := omega) only [jst_eq, jst_ne, jst_ni, jI_i, jcmp_lt, jcmp_gt, w32_id, jcpy_out, Sum.elim_inl, Sum.elim_inr, jt2, jt3, jt4, jt5, jt6, jt7, jt8] at fr7
        try dsimp only [Sum.elim_inl, Sum.elim_inr, jt2, jt3, jt4, jt5, jt6, jt7, jt8]
        try dsimp only [Sum.elim_inl, Sum.elim_inr, jt2, jt3, jt4, jt5, jt6, jt7, jt8]
        refine ⟨?_, ?_, ?_⟩
        · (first | ((rw [h17]; exact hX)) | ((rw [h17, h3l]; exact ⟨by omega, by omega⟩)) | (first | assumption | omega | ((try dsimp only [jt2, jt3, jt4]); first | omega | (simp (disch := omega) only [jst_eq, jst_ne, jst_ni, jst_o, jI_i, jcpy_out, w32_id, jdiv_nn, jshr_k, jand_255] <;> first | done | omega | assumption)) | (intros; simp (disch := omega) only [jst_eq, jst_ne, jst_ni, jst_o, jI_i, jcpy_out, w32_id, jdiv_nn, *] <;> first | done | omega) | (intros; simp (disch := omega) only [jst_eq, jst_ne, jst_ni, jst_o, jI_i, jcpy_out, w32_id, jdiv_nn] at * <;> first | done | omega | assumption) | (intros; first | rfl | (exfalso; omega) | ((repeat' apply And.intro) <;> first | assumption | rfl | omega | trivial)))) -- o28 e6.1
        · exact ⟨rr7, by rw [fr7.1]; exact G2⟩ -- o29 e6.2
        · exact ⟨fun b s y1 y2 y3 y4 => fr7.2 b s (by omega) (by omega), fr7.2 T 0 (by omega) (by omega)⟩ -- o30 e6.3

theorem vX13_loop_j153_80b (a1 : Int) (a3 : Int) (a5 : Int) {h : AH} {B : Int → Int} {n A T z : Int} {E : EV} (lo : isLo a1 ∧ T = a1 + 5 ∧ 0 ≤ a3 ∧ a3 ≤ 2100) (c : cqX B n A T E (.inl z) h) (b6 : h 441 6 = 0) (rx : 0 ≤ a5 ∧ a5 < 2200) (ar : h (a1 + 3) (-2) = 101 ∧ h (a1 + 3) (-1) = 3) : OK (gX13_loop_j153_80 a1 a3 a5 h) (Sum.elim (fun r => jt2 r fun y h' => (0 : Int) = 1) (Sum.elim (fun h' => (0 : Int) = 1) (fun r => jt2 r fun y h' => (y = a3 + 1) ∧ (cqX B n A T E (.inl z) h') ∧ (h' 441 6 = 0 ∧ ∀ a s, ¬ (a = a1 + 3 ∧ 0 ≤ s ∧ s < 3) → ¬ (a = 446 ∧ 0 ≤ s ∧ s < 3) → h' a s = h a s)))) := by
  have hX : isX3 (h 441 17) := by { rw [c.1.2.2.2.2.2.2.2.1.2.1]; exact isX3_of c.1.2.2.2.1.2.2 }
  have h17 : h 441 17 = T := c.1.2.2.2.2.2.2.2.1.2.1
  have h3l : h (T + 3) (-1) = 2200 := c.1.2.2.2.1.1.2.2.1
  have LA : a1 = 378 ∨ a1 = 391 := lo.1
  have TS : Tset T := c.1.2.2.2.1.2.2
  have S44 := Sx_sort c.2.2.1 b6
  unfold gX13_loop_j153_80
  refine OK_if (fun c1 => ?_) (fun c1 => ?_)
  · skip
    try simp (disch := omega) only [jst_eq, jst_ne, jst_ni, jI_i, jcmp_lt, jcmp_gt, w32_id, jcpy_out, Sum.elim_inl, Sum.elim_inr, jt2, jt3, jt4, jt5, jt6, jt7, jt8] at c1
    unfold gX13_loop_j182_80
    refine OK_jlx (fun x90 ex90 => ?_)
    try simp (disch := omega) only [jst_eq, jst_ne, jst_ni, jI_i, jcmp_lt, jcmp_gt, w32_id, jcpy_out, Sum.elim_inl, Sum.elim_inr, jt2, jt3, jt4, jt5, jt6, jt7, jt8] at ex90
    refine OK_if (fun c2 => ?_) (fun c2 => ?_)
    · skip
      try simp (disch := omega) only [jst_eq, jst_ne, jst_ni, jI_i, jcmp_lt, jcmp_gt, w32_id, jcpy_out, Sum.elim_inl, Sum.elim_inr, jt2, jt3, jt4, jt5, jt6, jt7, jt8] at c2
      exfalso
      omega
    · skip
      try simp (disch := omega) only [jst_eq, jst_ne, jst_ni, jI_i, jcmp_lt, jcmp_gt, w32_id, jcpy_out, Sum.elim_inl, Sum.elim_inr, jt2, jt3, jt4, jt5, jt6, jt7, jt8] at c2
      refine OK_some ?_
      try dsimp only [Sum.elim_inl, Sum.elim_inr, jt2, jt3, jt4, jt5, jt6, jt7, jt8]
      try dsimp only [Sum.elim_inl, Sum.elim_inr, jt2, jt3, jt4, jt5, jt6, jt7, jt8]
      refine ⟨?_, ?_, ?_⟩
      · (first | (exact isX3_of TS) | (first | assumption | omega | ((try dsimp only [jt2, jt3, jt4]); first | omega | (simp (disch := omega) only [jst_eq, jst_ne, jst_ni, jst_o, jI_i, jcpy_out, w32_id, jdiv_nn, jshr_k, jand_255] <;> first | done | omega | assumption)) | (intros; simp (disch := omega) only [jst_eq, jst_ne, jst_ni, jst_o, jI_i, jcpy_out, w32_id, jdiv_nn, *] <;> first | done | omega) | (intros; simp (disch := omega) only [jst_eq, jst_ne, jst_ni, jst_o, jI_i, jcpy_out, w32_id, jdiv_nn] at * <;> first | done | omega | assumption) | (intros; first | rfl | (exfalso; omega) | ((repeat' apply And.intro) <;> first | assumption | rfl | omega | trivial)))) -- o1 e1.1
      · exact c -- o2 e1.2
      · exact ⟨b6, fun _ _ _ _ => rfl⟩ -- o3 e1.3
  · skip
    try simp (disch := omega) only [jst_eq, jst_ne, jst_ni, jI_i, jcmp_lt, jcmp_gt, w32_id, jcpy_out, Sum.elim_inl, Sum.elim_inr, jt2, jt3, jt4, jt5, jt6, jt7, jt8] at c1
    refine OK_jg (by (first | (exact isX3_of TS) | (first | assumption | omega | ((try dsimp only [jt2, jt3, jt4]); first | omega | (simp (disch := omega) only [jst_eq, jst_ne, jst_ni, jst_o, jI_i, jcpy_out, w32_id, jdiv_nn, jshr_k, jand_255] <;> first | done | omega | assumption)) | (intros; simp (disch := omega) only [jst_eq, jst_ne, jst_ni, jst_o, jI_i, jcpy_out, w32_id, jdiv_nn, *] <;> first | done | omega) | (intros; simp (disch := omega) only [jst_eq, jst_ne, jst_ni, jst_o, jI_i, jcpy_out, w32_id, jdiv_nn] at * <;> first | done | omega | assumption) | (intros; first | rfl | (exfalso; omega) | ((repeat' apply And.intro) <;> first | assumption | rfl | omega | trivial))))) ?_ -- o4
    refine OK_jl ?_
    have F88 : ∀ a s, ¬ (a = a1 + 3 ∧ s = a3) → jst h (a1 + 3) a3 a5 a s = h a s := fun a s y => jst_o y
    generalize jst h (a1 + 3) a3 a5 = g88 at *
    have e17 : g88 441 17 = T := by { rw [F88 _ _ (by omega)]; exact h17 }
    have el : g88 (T + 3) (-1) = 2200 := by { rw [F88 _ _ (by omega)]; exact h3l }
    rw [e17, el]
    refine OK_jg (by (first | (exact isX3_of TS) | (first | assumption | omega | ((try dsimp only [jt2, jt3, jt4]); first | omega | (simp (disch := omega) only [jst_eq, jst_ne, jst_ni, jst_o, jI_i, jcpy_out, w32_id, jdiv_nn, jshr_k, jand_255] <;> first | done | omega | assumption)) | (intros; simp (disch := omega) only [jst_eq, jst_ne, jst_ni, jst_o, jI_i, jcpy_out, w32_id, jdiv_nn, *] <;> first | done | omega) | (intros; simp (disch := omega) only [jst_eq, jst_ne, jst_ni, jst_o, jI_i, jcpy_out, w32_id, jdiv_nn] at * <;> first | done | omega | assumption) | (intros; first | rfl | (exfalso; omega) | ((repeat' apply And.intro) <;> first | assumption | rfl | omega | trivial))))) ?_ -- o5
    refine OK_jg (by (first | (exact isX3_of TS) | (first | assumption | omega | ((try dsimp only [jt2, jt3, jt4]); first | omega | (simp (disch := omega) only [jst_eq, jst_ne, jst_ni, jst_o, jI_i, jcpy_out, w32_id, jdiv_nn, jshr_k, jand_255] <;> first | done | omega | assumption)) | (intros; simp (disch := omega) only [jst_eq, jst_ne, jst_ni, jst_o, jI_i, jcpy_out, w32_id, jdiv_nn, *] <;> first | done | omega) | (intros; simp (disch := omega) only [jst_eq, jst_ne, jst_ni, jst_o, jI_i, jcpy_out, w32_id, jdiv_nn] at * <;> first | done | omega | assumption) | (intros; first | rfl | (exfalso; omega) | ((repeat' apply And.intro) <;> first | assumption | rfl | omega | trivial))))) ?_ -- o6
    refine OK_jl ?_
    have F89 : ∀ a s, ¬ (a = a1 + 3 ∧ s = a3) → ¬ (a = 446 ∧ s = a3) → jst g88 446 a3 (g88 (T + 3) a5) a s = h a s := fun a s y1 y2 => by { rw [jst_o y2]; exact F88 a s y1 }
    generalize jst g88 446 a3 (g88 (T + 3) a5) = g89 at *
    have C89 : cqX B n A T E (.inl z) g89 := cqX_f c (fun a s y => F89 a s (fun z => by rcases y with y | y; { have := (rdN_n y).2.1; omega }; { omega }) (fun z => by rcases y with y | y; { have := (rdN_n y).2.2.1; omega }; { omega }))
    have S89 : g89 441 2 = 120 := by { rw [F89 _ _ (by omega) (by omega)]; exact S44 }
    unfold gX13_loop_j182_80
    refine OK_jlx (fun x90 ex90 => ?_)
    try simp (disch := omega) only [jst_eq, jst_ne, jst_ni, jI_i, jcmp_lt, jcmp_gt, w32_id, jcpy_out, Sum.elim_inl, Sum.elim_inr, jt2, jt3, jt4, jt5, jt6, jt7, jt8] at ex90
    refine OK_if (fun c3 => ?_) (fun c3 => ?_)
    · skip
      try simp (disch := omega) only [jst_eq, jst_ne, jst_ni, jI_i, jcmp_lt, jcmp_gt, w32_id, jcpy_out, Sum.elim_inl, Sum.elim_inr, jt2, jt3, jt4, jt5, jt6, jt7, jt8] at c3
      exfalso
      omega
    · skip
      try simp (disch := omega) only [jst_eq, jst_ne, jst_ni, jI_i, jcmp_lt, jcmp_gt, w32_id, jcpy_out, Sum.elim_inl, Sum.elim_inr, jt2, jt3, jt4, jt5, jt6, jt7, jt8] at c3
      refine OK_some ?_
      try dsimp only [Sum.elim_inl, Sum.elim_inr, jt2, jt3, jt4, jt5, jt6, jt7, jt8]
      try dsimp only [Sum.elim_inl, Sum.elim_inr, jt2, jt3, jt4, jt5, jt6, jt7, jt8]
      refine ⟨?_, ?_, ?_⟩
      · (first | (exact isX3_of TS) | (first | assumption | omega | ((try dsimp only [jt2, jt3, jt4]); first | omega | (simp (disch := omega) only [jst_eq, jst_ne, jst_ni, jst_o, jI_i, jcpy_out, w32_id, jdiv_nn, jshr_k, jand_255] <;> first | done | omega | assumption)) | (intros; simp (disch := omega) only [jst_eq, jst_ne, jst_ni, jst_o, jI_i, jcpy_out, w32_id, jdiv_nn, *] <;> first | done | omega) | (intros; simp (disch := omega) only [jst_eq, jst_ne, jst_ni, jst_o, jI_i, jcpy_out, w32_id, jdiv_nn] at * <;> first | done | omega | assumption) | (intros; first | rfl | (exfalso; omega) | ((repeat' apply And.intro) <;> first | assumption | rfl | omega | trivial)))) -- o7 e2.1
      · exact C89 -- o8 e2.2
      · exact ⟨by rw [F89 _ _ (by omega) (by omega)]; exact b6, fun a s y1 y2 => F89 a s (by omega) (by omega)⟩ -- o9 e2.3
theorem vX13_loop_j132_80b (a1 : Int) (a3 : Int) (a4 : Int) (a5 : Int) {h : AH} {B : Int → Int} {n A T z : Int} {E : EV} (lo : isLo a1 ∧ T = a1 + 5 ∧ 0 ≤ a3 ∧ a3 ≤ 2100) (c : cqX B n A T E (.inl z) h) (b6 : h 441 6 = 0) (rx : 0 ≤ a5 ∧ a5 < 2200) (ar : h (a1 + 3) (-2) = 101 ∧ h (a1 + 3) (-1) = 3) (pl : 0 ≤ a4 ∧ a4 ≤ 2001) : OK (gX13_loop_j132_80 a1 a3 a4 a5 h) (Sum.elim (fun r => jt2 r fun y h' => (0 : Int) = 1) (Sum.elim (fun h' => (0 : Int) = 1) (fun r => jt2 r fun y h' => (y = a3 + 1) ∧ (cqX B n A T E (.inl z) h') ∧ (h' 441 6 = 0 ∧ frLp a1 h h' ∧ h' T 0 = h T 0)))) := by
  have h17 : h 441 17 = T := c.1.2.2.2.2.2.2.2.1.2.1
  have hX : isX3 T := isX3_of c.1.2.2.2.1.2.2
  have h3l : h (T + 3) (-1) = 2200 := c.1.2.2.2.1.1.2.2.1
  have LA : a1 = 378 ∨ a1 = 391 := lo.1
  have TS : Tset T := c.1.2.2.2.1.2.2
  have f8 := c.1.2.2.2.2.2.1
  have fkb := c.1.2.2.2.2.2.2.1
  unfold gX13_loop_j132_80
  refine OK_jg (by (first | ((rw [h17]; exact hX)) | ((rw [h17, h3l]; exact ⟨by omega, by omega⟩)) | (first | assumption | omega | ((try dsimp only [jt2, jt3, jt4]); first | omega | (simp (disch := omega) only [jst_eq, jst_ne, jst_ni, jst_o, jI_i, jcpy_out, w32_id, jdiv_nn, jshr_k, jand_255] <;> first | done | omega | assumption)) | (intros; simp (disch := omega) only [jst_eq, jst_ne, jst_ni, jst_o, jI_i, jcpy_out, w32_id, jdiv_nn, *] <;> first | done | omega) | (intros; simp (disch := omega) only [jst_eq, jst_ne, jst_ni, jst_o, jI_i, jcpy_out, w32_id, jdiv_nn] at * <;> first | done | omega | assumption) | (intros; first | rfl | (exfalso; omega) | ((repeat' apply And.intro) <;> first | assumption | rfl | omega | trivial))))) ?_ -- o1
  refine OK_jg (by (first | ((rw [h17]; exact hX)) | ((rw [h17, h3l]; exact ⟨by omega, by omega⟩)) | (first | assumption | omega | ((try dsimp only [jt2, jt3, jt4]); first | omega | (simp (disch := omega) only [jst_eq, jst_ne, jst_ni, jst_o, jI_i, jcpy_out, w32_id, jdiv_nn, jshr_k, jand_255] <;> first | done | omega | assumption)) | (intros; simp (disch := omega) only [jst_eq, jst_ne, jst_ni, jst_o, jI_i, jcpy_out, w32_id, jdiv_nn, *] <;> first | done | omega) | (intros; simp (disch := omega) only [jst_eq, jst_ne, jst_ni, jst_o, jI_i, jcpy_out, w32_id, jdiv_nn] at * <;> first | done | omega | assumption) | (intros; first | rfl | (exfalso; omega) | ((repeat' apply And.intro) <;> first | assumption | rfl | omega | trivial))))) ?_ -- o2
  refine OK_if (fun c1 => ?_) (fun c1 => ?_)
  · skip
    try simp (disch := omega) only [jst_eq, jst_ne, jst_ni, jI_i, jcmp_lt, jcmp_gt, w32_id, jcpy_out, Sum.elim_inl, Sum.elim_inr, jt2, jt3, jt4, jt5, jt6, jt7, jt8] at c1
    refine OK_jb (vX13_err _ _ (by (first | ((rw [h17]; exact hX)) | ((rw [h17, h3l]; exact ⟨by omega, by omega⟩)) | (first | assumption | omega | ((try dsimp only [jt2, jt3, jt4]); first | omega | (simp (disch := omega) only [jst_eq, jst_ne, jst_ni, jst_o, jI_i, jcpy_out, w32_id, jdiv_nn, jshr_k, jand_255] <;> first | done | omega | assumption)) | (intros; simp (disch := omega) only [jst_eq, jst_ne, jst_ni, jst_o, jI_i, jcpy_out, w32_id, jdiv_nn, *] <;> first | done | omega) | (intros; simp (disch := omega) only [jst_eq, jst_ne, jst_ni, jst_o, jI_i, jcpy_out, w32_id, jdiv_nn] at * <;> first | done | omega | assumption) | (intros; first | rfl | (exfalso; omega) | ((repeat' apply And.intro) <;> first | assumption | rfl | omega | trivial))))) (by (first | ((rw [h17]; exact hX)) | ((rw [h17, h3l]; exact ⟨by omega, by omega⟩)) | (first | assumption | omega | ((try dsimp only [jt2, jt3, jt4]); first | omega | (simp (disch := omega) only [jst_eq, jst_ne, jst_ni, jst_o, jI_i, jcpy_out, w32_id, jdiv_nn, jshr_k, jand_255] <;> first | done | omega | assumption)) | (intros; simp (disch := omega) only [jst_eq, jst_ne, jst_ni, jst_o, jI_i, jcpy_out, w32_id, jdiv_nn, *] <;> first | done | omega) | (intros; simp (disch := omega) only [jst_eq, jst_ne, jst_ni, jst_o, jI_i, jcpy_out, w32_id, jdiv_nn] at * <;> first | done | omega | assumption) | (intros; first | rfl | (exfalso; omega) | ((repeat' apply And.intro) <;> first | assumption | rfl | omega | trivial)))))) (fun h86 r1 => ?_)
    try dsimp only [Sum.elim_inl, Sum.elim_inr, jt2, jt3, jt4, jt5, jt6, jt7, jt8] at r1
    obtain ⟨f1, k1, fr1⟩ := r1
    try simp (disch := omega) only [jst_eq, jst_ne, jst_ni, jI_i, jcmp_lt, jcmp_gt, w32_id, jcpy_out, Sum.elim_inl, Sum.elim_inr, jt2, jt3, jt4, jt5, jt6, jt7, jt8] at f1
    try simp (disch := omega) only [jst_eq, jst_ne, jst_ni, jI_i, jcmp_lt, jcmp_gt, w32_id, jcpy_out, Sum.elim_inl, Sum.elim_inr, jt2, jt3, jt4, jt5, jt6, jt7, jt8] at k1
    try simp (disch := omega) only [jst_eq, jst_ne, jst_ni, jI_i, jcmp_lt, jcmp_gt, w32_id, jcpy_out, Sum.elim_inl, Sum.elim_inr, jt2, jt3, jt4, jt5, jt6, jt7, jt8] at fr1
    have C86 : cqX B n A T E (.inl z) h86 := cqX_e c TS fr1 f1 (by omega)
    refine OK_mono (vX13_loop_j153_80b (B := B) (n := n) (A := A) (T := T) (z := z) (E := E) _ _ _ (by (first | ((rw [h17]; exact hX)) | ((rw [h17, h3l]; exact ⟨by omega, by omega⟩)) | (first | assumption | omega | ((try dsimp only [jt2, jt3, jt4]); first | omega | (simp (disch := omega) only [jst_eq, jst_ne, jst_ni, jst_o, jI_i, jcpy_out, w32_id, jdiv_nn, jshr_k, jand_255] <;> first | done | omega | assumption)) | (intros; simp (disch := omega) only [jst_eq, jst_ne, jst_ni, jst_o, jI_i, jcpy_out, w32_id, jdiv_nn, *] <;> first | done | omega) | (intros; simp (disch := omega) only [jst_eq, jst_ne, jst_ni, jst_o, jI_i, jcpy_out, w32_id, jdiv_nn] at * <;> first | done | omega | assumption) | (intros; first | rfl | (exfalso; omega) | ((repeat' apply And.intro) <;> first | assumption | rfl | omega | trivial))))) (by (first | ((rw [h17]; exact hX)) | ((rw [h17, h3l]; exact ⟨by omega, by omega⟩)) | (first | assumption | omega | ((try dsimp only [jt2, jt3, jt4]); first | omega | (simp (disch := omega) only [jst_eq, jst_ne, jst_ni, jst_o, jI_i, jcpy_out, w32_id, jdiv_nn, jshr_k, jand_255] <;> first | done | omega | assumption)) | (intros; simp (disch := omega) only [jst_eq, jst_ne, jst_ni, jst_o, jI_i, jcpy_out, w32_id, jdiv_nn, *] <;> first | done | omega) | (intros; simp (disch := omega) only [jst_eq, jst_ne, jst_ni, jst_o, jI_i, jcpy_out, w32_id, jdiv_nn] at * <;> first | done | omega | assumption) | (intros; first | rfl | (exfalso; omega) | ((repeat' apply And.intro) <;> first | assumption | rfl | omega | trivial))))) (by (rw [fr1 _ _ (by omega)]; exact b6)) (by (first | ((rw [h17]; exact hX)) | ((rw [h17, h3l]; exact ⟨by omega, by omega⟩)) | (first | assumption | omega | ((try dsimp only [jt2, jt3, jt4]); first | omega | (simp (disch := omega) only [jst_eq, jst_ne, jst_ni, jst_o, jI_i, jcpy_out, w32_id, jdiv_nn, jshr_k, jand_255] <;> first | done | omega | assumption)) | (intros; simp (disch := omega) only [jst_eq, jst_ne, jst_ni, jst_o, jI_i, jcpy_out, w32_id, jdiv_nn, *] <;> first | done | omega) | (intros; simp (disch := omega) only [jst_eq, jst_ne, jst_ni, jst_o, jI_i, jcpy_out, w32_id, jdiv_nn] at * <;> first | done | omega | assumption) | (intros; first | rfl | (exfalso; omega) | ((repeat' apply And.intro) <;> first | assumption | rfl | omega | trivial))))) (by (rw [fr1 _ _ (by omega), fr1 _ _ (by omega)]; exact ar))) (fun r r2 => ?_)
    rcases r with r | r
    · skip
      have r3 := r2; clear r2; dsimp only [Sum.elim_inl, Sum.elim_inr] at r3
      obtain ⟨y1, y2⟩ := r
      try dsimp only [Sum.elim_inl, Sum.elim_inr, jt2, jt3, jt4, jt5, jt6, jt7, jt8] at r3
      have no2 := r3
      clear r3
      try simp (disch := omega) only [jst_eq, jst_ne, jst_ni, jI_i, jcmp_lt, jcmp_gt, w32_id, jcpy_out, Sum.elim_inl, Sum.elim_inr, jt2, jt3, jt4, jt5, jt6, jt7, jt8] at no2
      try dsimp only [Sum.elim_inl, Sum.elim_inr, jt2, jt3, jt4, jt5, jt6, jt7, jt8]
      exact absurd no2 (by decide) -- o10 e1
    · skip
      have r4 := r2; clear r2; dsimp only [Sum.elim_inl, Sum.elim_inr] at r4
      rcases r with r | r
      · skip
        have r5 := r4; clear r4; dsimp only [Sum.elim_inl, Sum.elim_inr] at r5
        try dsimp only [Sum.elim_inl, Sum.elim_inr, jt2, jt3, jt4, jt5, jt6, jt7, jt8] at r5
        have no3 := r5
        clear r5
        try simp (disch := omega) only [jst_eq, jst_ne, jst_ni, jI_i, jcmp_lt, jcmp_gt, w32_id, jcpy_out, Sum.elim_inl, Sum.elim_inr, jt2, jt3, jt4, jt5, jt6, jt7, jt8] at no3
        try dsimp only [Sum.elim_inl, Sum.elim_inr, jt2, jt3, jt4, jt5, jt6, jt7, jt8]
        exact absurd no3 (by decide) -- o11 e2
      · skip
        have r6 := r4; clear r4; dsimp only [Sum.elim_inl, Sum.elim_inr] at r6
        obtain ⟨y3, y4⟩ := r
        try dsimp only [Sum.elim_inl, Sum.elim_inr, jt2, jt3, jt4, jt5, jt6, jt7, jt8] at r6
        obtain ⟨cc4, rr4, fr4⟩ := r6
        try simp (disch := omega) only [jst_eq, jst_ne, jst_ni, jI_i, jcmp_lt, jcmp_gt, w32_id, jcpy_out, Sum.elim_inl, Sum.elim_inr, jt2, jt3, jt4, jt5, jt6, jt7, jt8] at cc4
        try simp (disch := omega) only [jst_eq, jst_ne, jst_ni, jI_i, jcmp_lt, jcmp_gt, w32_id, jcpy_out, Sum.elim_inl, Sum.elim_inr, jt2, jt3, jt4, jt5, jt6, jt7, jt8] at rr4
        try simp (disch := omega) only [jst_eq, jst_ne, jst_ni, jI_i, jcmp_lt, jcmp_gt, w32_id, jcpy_out, Sum.elim_inl, Sum.elim_inr, jt2, jt3, jt4, jt5, jt6, jt7, jt8] at fr4
        try dsimp only [Sum.elim_inl, Sum.elim_inr, jt2, jt3, jt4, jt5, jt6, jt7, jt8]
        try dsimp only [Sum.elim_inl, Sum.elim_inr, jt2, jt3, jt4, jt5, jt6, jt7, jt8]
        refine ⟨?_, ?_, ?_⟩
        · (first | ((rw [h17]; exact hX)) | ((rw [h17, h3l]; exact ⟨by omega, by omega⟩)) | (first | assumption | omega | ((try dsimp only [jt2, jt3, jt4]); first | omega | (simp (disch := omega) only [jst_eq, jst_ne, jst_ni, jst_o, jI_i, jcpy_out, w32_id, jdiv_nn, jshr_k, jand_255] <;> first | done | omega | assumption)) | (intros; simp (disch := omega) only [jst_eq, jst_ne, jst_ni, jst_o, jI_i, jcpy_out, w32_id, jdiv_nn, *] <;> first | done | omega) | (intros; simp (disch := omega) only [jst_eq, jst_ne, jst_ni, jst_o, jI_i, jcpy_out, w32_id, jdiv_nn] at * <;> first | done | omega | assumption) | (intros; first | rfl | (exfalso; omega) | ((repeat' apply And.intro) <;> first | assumption | rfl | omega | trivial)))) -- o12 e3.1
        · exact rr4 -- o13 e3.2
        · exact ⟨fr4.1, fun b s y1 y2 y3 y4 => (by rw [fr4.2 b s (by omega) (by omega)]; exact fr1 b s (by omega)), by rw [fr4.2 T 0 (by omega) (by omega)]; exact fr1 T 0 (by omega)⟩ -- o14 e3.3
  · skip
    try simp (disch := omega) only [jst_eq, jst_ne, jst_ni, jI_i, jcmp_lt, jcmp_gt, w32_id, jcpy_out, Sum.elim_inl, Sum.elim_inr, jt2, jt3, jt4, jt5, jt6, jt7, jt8] at c1
    refine OK_mono (vX13_loop_j153_80b (B := B) (n := n) (A := A) (T := T) (z := z) (E := E) _ _ _ (by (first | ((rw [h17]; exact hX)) | ((rw [h17, h3l]; exact ⟨by omega, by omega⟩)) | (first | assumption | omega | ((try dsimp only [jt2, jt3, jt4]); first | omega | (simp (disch := omega) only [jst_eq, jst_ne, jst_ni, jst_o, jI_i, jcpy_out, w32_id, jdiv_nn, jshr_k, jand_255] <;> first | done | omega | assumption)) | (intros; simp (disch := omega) only [jst_eq, jst_ne, jst_ni, jst_o, jI_i, jcpy_out, w32_id, jdiv_nn, *] <;> first | done | omega) | (intros; simp (disch := omega) only [jst_eq, jst_ne, jst_ni, jst_o, jI_i, jcpy_out, w32_id, jdiv_nn] at * <;> first | done | omega | assumption) | (intros; first | rfl | (exfalso; omega) | ((repeat' apply And.intro) <;> first | assumption | rfl | omega | trivial))))) (by (first | ((rw [h17]; exact hX)) | ((rw [h17, h3l]; exact ⟨by omega, by omega⟩)) | (first | assumption | omega | ((try dsimp only [jt2, jt3, jt4]); first | omega | (simp (disch := omega) only [jst_eq, jst_ne, jst_ni, jst_o, jI_i, jcpy_out, w32_id, jdiv_nn, jshr_k, jand_255] <;> first | done | omega | assumption)) | (intros; simp (disch := omega) only [jst_eq, jst_ne, jst_ni, jst_o, jI_i, jcpy_out, w32_id, jdiv_nn, *] <;> first | done | omega) | (intros; simp (disch := omega) only [jst_eq, jst_ne, jst_ni, jst_o, jI_i, jcpy_out, w32_id, jdiv_nn] at * <;> first | done | omega | assumption) | (intros; first | rfl | (exfalso; omega) | ((repeat' apply And.intro) <;> first | assumption | rfl | omega | trivial))))) (by (first | ((rw [h17]; exact hX)) | ((rw [h17, h3l]; exact ⟨by omega, by omega⟩)) | (first | assumption | omega | ((try dsimp only [jt2, jt3, jt4]); first | omega | (simp (disch := omega) only [jst_eq, jst_ne, jst_ni, jst_o, jI_i, jcpy_out, w32_id, jdiv_nn, jshr_k, jand_255] <;> first | done | omega | assumption)) | (intros; simp (disch := omega) only [jst_eq, jst_ne, jst_ni, jst_o, jI_i, jcpy_out, w32_id, jdiv_nn, *] <;> first | done | omega) | (intros; simp (disch := omega) only [jst_eq, jst_ne, jst_ni, jst_o, jI_i, jcpy_out, w32_id, jdiv_nn] at * <;> first | done | omega | assumption) | (intros; first | rfl | (exfalso; omega) | ((repeat' apply And.intro) <;> first | assumption | rfl | omega | trivial))))) (by (first | ((rw [h17]; exact hX)) | ((rw [h17, h3l]; exact ⟨by omega, by omega⟩)) | (first | assumption | omega | ((try dsimp only [jt2, jt3, jt4]); first | omega | (simp (disch := omega) only [jst_eq, jst_ne, jst_ni, jst_o, jI_i, jcpy_out, w32_id, jdiv_nn, jshr_k, jand_255] <;> first | done | omega | assumption)) | (intros; simp (disch := omega) only [jst_eq, jst_ne, jst_ni, jst_o, jI_i, jcpy_out, w32_id, jdiv_nn, *] <;> first | done | omega) | (intros; simp (disch := omega) only [jst_eq, jst_ne, jst_ni, jst_o, jI_i, jcpy_out, w32_id, jdiv_nn] at * <;> first | done | omega | assumption) | (intros; first | rfl | (exfalso; omega) | ((repeat' apply And.intro) <;> first | assumption | rfl | omega | trivial))))) (by (first | ((rw [h17]; exact hX)) | ((rw [h17, h3l]; exact ⟨by omega, by omega⟩)) | (first | assumption | omega | ((try dsimp only [jt2, jt3, jt4]); first | omega | (simp (disch := omega) only [jst_eq, jst_ne, jst_ni, jst_o, jI_i, jcpy_out, w32_id, jdiv_nn, jshr_k, jand_255] <;> first | done | omega | assumption)) | (intros; simp (disch := omega) only [jst_eq, jst_ne, jst_ni, jst_o, jI_i, jcpy_out, w32_id, jdiv_nn, *] <;> first | done | omega) | (intros; simp (disch := omega) only [jst_eq, jst_ne, jst_ni, jst_o, jI_i, jcpy_out, w32_id, jdiv_nn] at * <;> first | done | omega | assumption) | (intros; first | rfl | (exfalso; omega) | ((repeat' apply And.intro) <;> first | assumption | rfl | omega | trivial)))))) (fun r r7 => ?_)
    rcases r with r | r
    · skip
      have r8 := r7; clear r7; dsimp only [Sum.elim_inl, Sum.elim_inr] at r8
      obtain ⟨y5, y6⟩ := r
      try dsimp only [Sum.elim_inl, Sum.elim_inr, jt2, jt3, jt4, jt5, jt6, jt7, jt8] at r8
      have no5 := r8
      clear r8
      try simp (disch := omega) only [jst_eq, jst_ne, jst_ni, jI_i, jcmp_lt, jcmp_gt, w32_id, jcpy_out, Sum.elim_inl, Sum.elim_inr, jt2, jt3, jt4, jt5, jt6, jt7, jt8] at no5
      try dsimp only [Sum.elim_inl, Sum.elim_inr, jt2, jt3, jt4, jt5, jt6, jt7, jt8]
      exact absurd no5 (by decide) -- o20 e4
    · skip
      have r9 := r7; clear r7; dsimp only [Sum.elim_inl, Sum.elim_inr] at r9
      rcases r with r | r
      · skip
        have r10 := r9; clear r9; dsimp only [Sum.elim_inl, Sum.elim_inr] at r10
        try dsimp only [Sum.elim_inl, Sum.elim_inr, jt2, jt3, jt4, jt5, jt6, jt7, jt8] at r10
        have no6 := r10
        clear r10
        try simp (disch := omega) only [jst_eq, jst_ne, jst_ni, jI_i, jcmp_lt, jcmp_gt, w32_id, jcpy_out, Sum.elim_inl, Sum.elim_inr, jt2, jt3, jt4, jt5, jt6, jt7, jt8] at no6
        try dsimp only [Sum.elim_inl, Sum.elim_inr, jt2, jt3, jt4, jt5, jt6, jt7, jt8]
        exact absurd no6 (by decide) -- o21 e5
      · skip
        have r11 := r9; clear r9; dsimp only [Sum.elim_inl, Sum.elim_inr] at r11
        obtain ⟨y7, y8⟩ := r
        try dsimp only [Sum.elim_inl, Sum.elim_inr, jt2, jt3, jt4, jt5, jt6, jt7, jt8] at r11
        obtain ⟨cc7, rr7, fr7⟩ := r11
        try simp (disch := omega) only [jst_eq, jst_ne, jst_ni, jI_i, jcmp_lt, jcmp_gt, w32_id, jcpy_out, Sum.elim_inl, Sum.elim_inr, jt2, jt3, jt4, jt5, jt6, jt7, jt8] at cc7
        try simp (disch := omega) only [jst_eq, jst_ne, jst_ni, jI_i, jcmp_lt, jcmp_gt, w32_id, jcpy_out, Sum.elim_inl, Sum.elim_inr, jt2, jt3, jt4, jt5, jt6, jt7, jt8] at rr7
        try simp (disch := omega) only [jst_eq, jst_ne, jst_ni, jI_i, jcmp_lt, jcmp_gt, w32_id, jcpy_out, Sum.elim_inl, Sum.elim_inr, jt2, jt3, jt4, jt5, jt6, jt7, jt8] at fr7
        try dsimp only [Sum.elim_inl, Sum.elim_inr, jt2, jt3, jt4, jt5, jt6, jt7, jt8]
        try dsimp only [Sum.elim_inl, Sum.elim_inr, jt2, jt3, jt4, jt5, jt6, jt7, jt8]
        refine ⟨?_, ?_, ?_⟩
        · (first | ((rw [h17]; exact hX)) | ((rw [h17, h3l]; exact ⟨by omega, by omega⟩)) | (first | assumption | omega | ((try dsimp only [jt2, jt3, jt4]); first | omega | (simp (disch := omega) only [jst_eq, jst_ne, jst_ni, jst_o, jI_i, jcpy_out, w32_id, jdiv_nn, jshr_k, jand_255] <;> first | done | omega | assumption)) | (intros; simp (disch := omega) only [jst_eq, jst_ne, jst_ni, jst_o, jI_i, jcpy_out, w32_id, jdiv_nn, *] <;> first | done | omega) | (intros; simp (disch := omega) only [jst_eq, jst_ne, jst_ni, jst_o, jI_i, jcpy_out, w32_id, jdiv_nn] at * <;> first | done | omega | assumption) | (intros; first | rfl | (exfalso; omega) | ((repeat' apply And.intro) <;> first | assumption | rfl | omega | trivial)))) -- o22 e6.1
        · exact rr7 -- o23 e6.2
        · exact ⟨fr7.1, fun b s y1 y2 y3 y4 => fr7.2 b s (by omega) (by omega), fr7.2 T 0 (by omega) (by omega)⟩ -- o24 e6.3
def tmO (P : PR) : TR := match P with | .inl _ => .leaf (0, 0, 0, 0) | .inr x => x.1
/-- what is known of a node behind told, before its faults are noted -/
def inSx (B : Int → Int) (n T a1 a3 a4 a5 K : Int) (E : EV) (l : List TR) (P : PR) (h : AH) : Prop := match P with
  | .inl _ => True
  | .inr (t, _) => (trsX h T E (a1 + 3) l (h T 0) ∧ kdsX h E l ∧ h 441 16 = 0) ∧ (rXc h T (rsE E t 0) a5 0 (a5 + 1) ∧ 0 ≤ a5 ∧ a5 + sz t ≤ h T 0 ∧ h T 0 ≤ 2100) ∧ h (T + 3) a5 = kdE E t ∧ (a4 = plT t ∧ 0 ≤ plT t ∧ plT t ≤ 2001) ∧ FK h = min K (min (fkF E l 0) (min (keyE E (-1) t) (if a3 = 3 then plT t * 8 + 4 else 1000000)))
def ouS (B : Int → Int) (n A T a1 K : Int) (E : EV) (l : List TR) (P : PR) (c : Prop) (h' : AH) : Prop := match P with
  | .inl z => ¬ c ∧ cqX B n A T E (.inl z) h'
  | .inr (t, q) => (c ↔ comma B n q) ∧ stK B n A T (a1 + 3) E q (l ++ [t]) K h'
theorem vX13_loop_j132_80m (a1 a3 a4 a5 : Int) {h : AH} {B : Int → Int} {n A T K : Int} {E : EV} {l : List TR} {P : PR} (lo : isLo a1 ∧ T = a1 + 5 ∧ (l.length : Int) = a3 ∧ a3 ≤ 2100) (c : cqX B n A T E (sR P) h) (b6 : h 441 6 = 0) (rx : 0 ≤ a5 ∧ a5 < 2200) (ar : h (a1 + 3) (-2) = 101 ∧ h (a1 + 3) (-1) = 3) (pl : 0 ≤ a4 ∧ a4 ≤ 2001) (i : inSx B n T a1 a3 a4 a5 K E l P h) : OK (gX13_loop_j132_80 a1 a3 a4 a5 h) (Sum.elim (fun r => jt2 r fun y h' => (y = a3 + 1) ∧ (ouS B n A T a1 K E l P True h') ∧ (frLp a1 h h' ∧ h' T 0 = h T 0)) (Sum.elim (fun h' => (0 : Int) = 1) (fun r => jt2 r fun y h' => (y = a3 + 1) ∧ (ouS B n A T a1 K E l P False h') ∧ (frLp a1 h h' ∧ h' T 0 = h T 0)))) := by
  cases P with
  | inl z =>
    refine OK_mono (vX13_loop_j132_80b (z := z) a1 a3 a4 a5 ⟨lo.1, lo.2.1, by omega, lo.2.2.2⟩ c b6 rx ar pl) (fun r q => ?_)
    rcases r with r | r | r
    · obtain ⟨y, h'⟩ := r
      exact absurd (show (0 : Int) = 1 from q) (by decide)
    · exact absurd (show (0 : Int) = 1 from q) (by decide)
    · obtain ⟨y, h'⟩ := r
      obtain ⟨q1, q2, q3⟩ := q
      exact ⟨q1, ⟨fun z => z, q2⟩, q3.2⟩
  | inr x =>
    obtain ⟨t, q0⟩ := x
    obtain ⟨i1, i2, i3, i4, i5⟩ := i
    refine OK_mono (vX13_loop_j132_80 a1 a3 a4 a5 (K := K) lo c i1 i2 i3 ar i4 i5) (fun r q => ?_)
    rcases r with r | r | r
    · obtain ⟨y, h'⟩ := r
      obtain ⟨q1, q2, q3⟩ := q
      exact ⟨q1.1, ⟨⟨fun _ => q1.2, fun _ => trivial⟩, q2⟩, q3⟩
    · exact absurd (show (0 : Int) = 1 from q) (by decide)
    · obtain ⟨y, h'⟩ := r
      obtain ⟨q1, q2, q3⟩ := q
      exact ⟨q1.1, ⟨⟨fun z => z.elim, fun z => q1.2 z⟩, q2⟩, q3⟩
theorem ou_1 {B : Int → Int} {n A T a1 K : Int} {E : EV} {l : List TR} {P : PR} {h' : AH} (o : ouS B n A T a1 K E l P True h') : ∃ t q, P = .inr (t, q) ∧ comma B n q ∧ stK B n A T (a1 + 3) E q (l ++ [t]) K h' := by
  cases P with
  | inl z => exact absurd trivial o.1
  | inr x => obtain ⟨t, q⟩ := x; exact ⟨t, q, rfl, o.1.mp trivial, o.2⟩
theorem sR_l {P : PR} {z : Int} (e : sR P = .inl z) : P = .inl z := by
  cases P with
  | inl y => cases e; rfl
  | inr x => cases e
theorem vX13_loop_j88_80 (a1 : Int) (a3 : Int) {h : AH} {B : Int → Int} {n A T K : Int} {E : EV} {l : List TR} {R1 : Int ⊕ Int} (hB : ∀ i, 0 ≤ i → i < n → 0 ≤ B i ∧ B i < 256) (lo : isLo a1 ∧ T = a1 + 5 ∧ (l.length : Int) = a3 ∧ a3 ≤ 2100) (c : cqX B n A T E R1 h) (z16 : h 441 16 = 0) (tr : trsX h T E (a1 + 3) l (h T 0) ∧ kdsX h E l) (ar : h (a1 + 3) (-2) = 101 ∧ h (a1 + 3) (-1) = 3) (kk : FK h = min K (fkF E l 0)) : OK (gX13_loop_j88_80 a1 a3 h) (Sum.elim (fun r => jt2 r fun y h' => (y = a3 + 1) ∧ (ouS B n A T a1 K E l (bdT R1 (pT B n false 13)) True h') ∧ (frLp a1 h h' ∧ h T 0 < h' T 0)) (Sum.elim (fun h' => (∃ z, bdT R1 (pT B n false 13) = .inl z ∧ h' 441 6 = 1 ∧ h' 441 7 = z) ∧ (0 ≤ h' 441 8 ∧ h' 441 8 ≤ 6 ∧ FK h' ≤ 1000000) ∧ (frLp a1 h h')) (fun r => jt2 r fun y h' => (y = a3 + 1) ∧ (ouS B n A T a1 K E l (bdT R1 (pT B n false 13)) False h') ∧ (frLp a1 h h')))) := by
  have LA : a1 = 378 ∨ a1 = 391 := lo.1
  have TS : Tset T := c.1.2.2.2.1.2.2
  have f8 := c.1.2.2.2.2.2.1
  have fkb := c.1.2.2.2.2.2.2.1
  have n2 := c.1.1.2.2.2.1
  have t0 := c.2.2.2.choose_spec.2.2.1
  unfold gX13_loop_j88_80
  refine OK_jlx (fun x75 ex75 => ?_)
  try simp (disch := omega) only [jst_eq, jst_ne, jst_ni, jI_i, jcmp_lt, jcmp_gt, w32_id, jcpy_out, Sum.elim_inl, Sum.elim_inr, jt2, jt3, jt4, jt5, jt6, jt7, jt8] at ex75
  refine OK_if (fun c1 => ?_) (fun c1 => ?_)
  · skip
    try simp (disch := omega) only [jst_eq, jst_ne, jst_ni, jI_i, jcmp_lt, jcmp_gt, w32_id, jcpy_out, Sum.elim_inl, Sum.elim_inr, jt2, jt3, jt4, jt5, jt6, jt7, jt8] at c1
    have S3 := Sx_3 c.2.2.1 c1
    refine OK_jb2 (vX13_toldC (B := B) (n := n) (A := A) (T := T) (E := E) (R := R1) _ (by (first | assumption | omega | ((try dsimp only [jt2, jt3, jt4]); first | omega | (simp (disch := omega) only [jst_eq, jst_ne, jst_ni, jst_o, jI_i, jcpy_out, w32_id, jdiv_nn, jshr_k, jand_255] <;> first | done | omega | assumption)) | (intros; simp (disch := omega) only [jst_eq, jst_ne, jst_ni, jst_o, jI_i, jcpy_out, w32_id, jdiv_nn, *] <;> first | done | omega) | (intros; simp (disch := omega) only [jst_eq, jst_ne, jst_ni, jst_o, jI_i, jcpy_out, w32_id, jdiv_nn] at * <;> first | done | omega | assumption) | (intros; first | rfl | (exfalso; omega) | ((repeat' apply And.intro) <;> first | assumption | rfl | omega | trivial)))) (by (first | assumption | omega | ((try dsimp only [jt2, jt3, jt4]); first | omega | (simp (disch := omega) only [jst_eq, jst_ne, jst_ni, jst_o, jI_i, jcpy_out, w32_id, jdiv_nn, jshr_k, jand_255] <;> first | done | omega | assumption)) | (intros; simp (disch := omega) only [jst_eq, jst_ne, jst_ni, jst_o, jI_i, jcpy_out, w32_id, jdiv_nn, *] <;> first | done | omega) | (intros; simp (disch := omega) only [jst_eq, jst_ne, jst_ni, jst_o, jI_i, jcpy_out, w32_id, jdiv_nn] at * <;> first | done | omega | assumption) | (intros; first | rfl | (exfalso; omega) | ((repeat' apply And.intro) <;> first | assumption | rfl | omega | trivial)))) (by (first | assumption | omega | ((try dsimp only [jt2, jt3, jt4]); first | omega | (simp (disch := omega) only [jst_eq, jst_ne, jst_ni, jst_o, jI_i, jcpy_out, w32_id, jdiv_nn, jshr_k, jand_255] <;> first | done | omega | assumption)) | (intros; simp (disch := omega) only [jst_eq, jst_ne, jst_ni, jst_o, jI_i, jcpy_out, w32_id, jdiv_nn, *] <;> first | done | omega) | (intros; simp (disch := omega) only [jst_eq, jst_ne, jst_ni, jst_o, jI_i, jcpy_out, w32_id, jdiv_nn] at * <;> first | done | omega | assumption) | (intros; first | rfl | (exfalso; omega) | ((repeat' apply And.intro) <;> first | assumption | rfl | omega | trivial))))) (fun v78 h79 r1 => ?_)
    try dsimp only [Sum.elim_inl, Sum.elim_inr, jt2, jt3, jt4, jt5, jt6, jt7, jt8] at r1
    obtain ⟨fr1, td1⟩ := r1
    try simp (disch := omega) only [jst_eq, jst_ne, jst_ni, jI_i, jcmp_lt, jcmp_gt, w32_id, jcpy_out, Sum.elim_inl, Sum.elim_inr, jt2, jt3, jt4, jt5, jt6, jt7, jt8] at fr1
    try simp (disch := omega) only [jst_eq, jst_ne, jst_ni, jI_i, jcmp_lt, jcmp_gt, w32_id, jcpy_out, Sum.elim_inl, Sum.elim_inr, jt2, jt3, jt4, jt5, jt6, jt7, jt8] at td1
    obtain ⟨d1, d2, d3⟩ := td1
    have F79 : frLp a1 h h79 := frLp_T lo.2.1 t0 fr1
    have AR79 : h79 (a1 + 3) (-2) = 101 ∧ h79 (a1 + 3) (-1) = 3 := by { rw [F79 _ _ (by omega) (by omega) (by omega) (by omega), F79 _ _ (by omega) (by omega) (by omega) (by omega)]; exact ar }
    have f79 := d1.1.2.2.2.2.2.1
    have fk79 := d1.1.2.2.2.2.2.2.1
    have GD : ∀ t q, bdT R1 (pT B n false 13) = .inr (t, q) → (trsX h79 T E (a1 + 3) l (h79 T 0) ∧ kdsX h79 E l ∧ h79 441 16 = 0) ∧ (rXc h79 T (rsE E t 0) v78 0 (v78 + 1) ∧ 0 ≤ v78 ∧ v78 + sz t ≤ h79 T 0 ∧ h79 T 0 ≤ 2100) ∧ h79 (T + 3) v78 = kdE E t ∧ (x75 = plT t ∧ 0 ≤ plT t ∧ plT t ≤ 2001) ∧ FK h79 = min K (min (fkF E l 0) (keyE E (-1) t)) ∧ h T 0 < h79 T 0 := fun t q e => by { unfold tdG at d3; rw [e] at d3; obtain ⟨⟨g1, g2, g3, g4⟩, g5, g6, ⟨g7, g8⟩, q0, g9, g10, g11⟩ := d3; have st := sz_pos t; have pl := pT_pl g10; have x3 := g11.2.1.1; refine ⟨⟨trsX_T tr.1 (by omega) (by omega) TS fr1, kdsX_f tr.2 (fun s s0 s1 => fr1 _ _ (by omega) (by omega) (by unfold Tset at TS; omega) (by unfold Tset at TS; omega) (by unfold Tset at TS; omega)), g8⟩, ⟨g5, g2, by omega, by omega⟩, g7, ⟨by rw [ex75, x3]; exact pl.symm, by rw [show plT t = tS B n q0 from pl, ← x3]; omega, by rw [show plT t = tS B n q0 from pl, ← x3]; omega⟩, by rw [g6, kk, Int.min_assoc], by omega⟩ }
    clear d3
    unfold gX13_loop_j110_80
    refine OK_if (fun c2 => ?_) (fun c2 => ?_)
    · skip
      try simp (disch := omega) only [jst_eq, jst_ne, jst_ni, jI_i, jcmp_lt, jcmp_gt, w32_id, jcpy_out, Sum.elim_inl, Sum.elim_inr, jt2, jt3, jt4, jt5, jt6, jt7, jt8] at c2
      refine OK_if (fun c3 => ?_) (fun c3 => ?_)
      · skip
        try simp (disch := omega) only [jst_eq, jst_ne, jst_ni, jI_i, jcmp_lt, jcmp_gt, w32_id, jcpy_out, Sum.elim_inl, Sum.elim_inr, jt2, jt3, jt4, jt5, jt6, jt7, jt8] at c3
        refine OK_jb (vX13_err _ _ (by (first | assumption | omega | ((try dsimp only [jt2, jt3, jt4]); first | omega | (simp (disch := omega) only [jst_eq, jst_ne, jst_ni, jst_o, jI_i, jcpy_out, w32_id, jdiv_nn, jshr_k, jand_255] <;> first | done | omega | assumption)) | (intros; simp (disch := omega) only [jst_eq, jst_ne, jst_ni, jst_o, jI_i, jcpy_out, w32_id, jdiv_nn, *] <;> first | done | omega) | (intros; simp (disch := omega) only [jst_eq, jst_ne, jst_ni, jst_o, jI_i, jcpy_out, w32_id, jdiv_nn] at * <;> first | done | omega | assumption) | (intros; first | rfl | (exfalso; omega) | ((repeat' apply And.intro) <;> first | assumption | rfl | omega | trivial)))) (by (first | assumption | omega | ((try dsimp only [jt2, jt3, jt4]); first | omega | (simp (disch := omega) only [jst_eq, jst_ne, jst_ni, jst_o, jI_i, jcpy_out, w32_id, jdiv_nn, jshr_k, jand_255] <;> first | done | omega | assumption)) | (intros; simp (disch := omega) only [jst_eq, jst_ne, jst_ni, jst_o, jI_i, jcpy_out, w32_id, jdiv_nn, *] <;> first | done | omega) | (intros; simp (disch := omega) only [jst_eq, jst_ne, jst_ni, jst_o, jI_i, jcpy_out, w32_id, jdiv_nn] at * <;> first | done | omega | assumption) | (intros; first | rfl | (exfalso; omega) | ((repeat' apply And.intro) <;> first | assumption | rfl | omega | trivial))))) (fun h83 r2 => ?_)
        try dsimp only [Sum.elim_inl, Sum.elim_inr, jt2, jt3, jt4, jt5, jt6, jt7, jt8] at r2
        obtain ⟨f2, k2, fr2⟩ := r2
        try simp (disch := omega) only [jst_eq, jst_ne, jst_ni, jI_i, jcmp_lt, jcmp_gt, w32_id, jcpy_out, Sum.elim_inl, Sum.elim_inr, jt2, jt3, jt4, jt5, jt6, jt7, jt8] at f2
        try simp (disch := omega) only [jst_eq, jst_ne, jst_ni, jI_i, jcmp_lt, jcmp_gt, w32_id, jcpy_out, Sum.elim_inl, Sum.elim_inr, jt2, jt3, jt4, jt5, jt6, jt7, jt8] at k2
        try simp (disch := omega) only [jst_eq, jst_ne, jst_ni, jI_i, jcmp_lt, jcmp_gt, w32_id, jcpy_out, Sum.elim_inl, Sum.elim_inr, jt2, jt3, jt4, jt5, jt6, jt7, jt8] at fr2
        have C83 : cqX B n A T E (sR (bdT R1 (pT B n false 13))) h83 := cqX_e d1 TS fr2 f2 (by omega)
        have IS83 : inSx B n T a1 a3 x75 v78 K E l (bdT R1 (pT B n false 13)) h83 := by { unfold inSx; cases e : bdT R1 (pT B n false 13) with | inl z => trivial | inr x => { obtain ⟨t, q⟩ := x; obtain ⟨⟨g1, g2, g3⟩, ⟨g4, g5, g6, g7⟩, g8, g9, g10, g11⟩ := GD t q e; have e0 : h83 T 0 = h79 T 0 := fr2 _ _ (by omega); refine ⟨⟨?_, kdsX_f g2 (fun s s0 s1 => fr2 _ _ (by omega)), by rw [fr2 _ _ (by omega)]; exact g3⟩, ⟨?_, g5, by rw [e0]; exact g6, by rw [e0]; exact g7⟩, by rw [fr2 _ _ (by omega)]; exact g8, g9, ?_⟩; { rw [e0]; exact trsX_f g1 (Int.le_refl _) (fun i i0 i1 => fr2 _ _ (by omega)) (fun a s a0 a1 s0 s1 => fr2 _ _ (by omega)) (fun s s0 s1 => fr2 _ _ (by omega)) }; { exact rXc_g g5 g6 (fun a s a0 a1 s0 s1 => fr2 _ _ (by omega)) (fun s s0 s1 => fr2 _ _ (by omega)) g4 }; { rw [k2, g10, if_pos (by omega), g9.1]; omega } } }
        refine OK_mono (vX13_loop_j132_80m (B := B) (n := n) (A := A) (T := T) (K := K) (E := E) (l := l) (P := bdT R1 (pT B n false 13)) _ _ _ _ (by (first | assumption | omega | ((try dsimp only [jt2, jt3, jt4]); first | omega | (simp (disch := omega) only [jst_eq, jst_ne, jst_ni, jst_o, jI_i, jcpy_out, w32_id, jdiv_nn, jshr_k, jand_255] <;> first | done | omega | assumption)) | (intros; simp (disch := omega) only [jst_eq, jst_ne, jst_ni, jst_o, jI_i, jcpy_out, w32_id, jdiv_nn, *] <;> first | done | omega) | (intros; simp (disch := omega) only [jst_eq, jst_ne, jst_ni, jst_o, jI_i, jcpy_out, w32_id, jdiv_nn] at * <;> first | done | omega | assumption) | (intros; first | rfl | (exfalso; omega) | ((repeat' apply And.intro) <;> first | assumption | rfl | omega | trivial)))) (by (first | assumption | omega | ((try dsimp only [jt2, jt3, jt4]); first | omega | (simp (disch := omega) only [jst_eq, jst_ne, jst_ni, jst_o, jI_i, jcpy_out, w32_id, jdiv_nn, jshr_k, jand_255] <;> first | done | omega | assumption)) | (intros; simp (disch := omega) only [jst_eq, jst_ne, jst_ni, jst_o, jI_i, jcpy_out, w32_id, jdiv_nn, *] <;> first | done | omega) | (intros; simp (disch := omega) only [jst_eq, jst_ne, jst_ni, jst_o, jI_i, jcpy_out, w32_id, jdiv_nn] at * <;> first | done | omega | assumption) | (intros; first | rfl | (exfalso; omega) | ((repeat' apply And.intro) <;> first | assumption | rfl | omega | trivial)))) (by (rw [fr2 _ _ (by omega)]; assumption)) (by (first | assumption | omega | ((try dsimp only [jt2, jt3, jt4]); first | omega | (simp (disch := omega) only [jst_eq, jst_ne, jst_ni, jst_o, jI_i, jcpy_out, w32_id, jdiv_nn, jshr_k, jand_255] <;> first | done | omega | assumption)) | (intros; simp (disch := omega) only [jst_eq, jst_ne, jst_ni, jst_o, jI_i, jcpy_out, w32_id, jdiv_nn, *] <;> first | done | omega) | (intros; simp (disch := omega) only [jst_eq, jst_ne, jst_ni, jst_o, jI_i, jcpy_out, w32_id, jdiv_nn] at * <;> first | done | omega | assumption) | (intros; first | rfl | (exfalso; omega) | ((repeat' apply And.intro) <;> first | assumption | rfl | omega | trivial)))) (by (rw [fr2 _ _ (by omega), fr2 _ _ (by omega)]; exact AR79)) (by (first | assumption | omega | ((try dsimp only [jt2, jt3, jt4]); first | omega | (simp (disch := omega) only [jst_eq, jst_ne, jst_ni, jst_o, jI_i, jcpy_out, w32_id, jdiv_nn, jshr_k, jand_255] <;> first | done | omega | assumption)) | (intros; simp (disch := omega) only [jst_eq, jst_ne, jst_ni, jst_o, jI_i, jcpy_out, w32_id, jdiv_nn, *] <;> first | done | omega) | (intros; simp (disch := omega) only [jst_eq, jst_ne, jst_ni, jst_o, jI_i, jcpy_out, w32_id, jdiv_nn] at * <;> first | done | omega | assumption) | (intros; first | rfl | (exfalso; omega) | ((repeat' apply And.intro) <;> first | assumption | rfl | omega | trivial)))) (by exact IS83)) (fun r r3 => ?_)
        rcases r with r | r
        · skip
          have r4 := r3; clear r3; dsimp only [Sum.elim_inl, Sum.elim_inr] at r4
          obtain ⟨y1, y2⟩ := r
          try dsimp only [Sum.elim_inl, Sum.elim_inr, jt2, jt3, jt4, jt5, jt6, jt7, jt8] at r4
          obtain ⟨cc3, rr3, fr3⟩ := r4
          try simp (disch := omega) only [jst_eq, jst_ne, jst_ni, jI_i, jcmp_lt, jcmp_gt, w32_id, jcpy_out, Sum.elim_inl, Sum.elim_inr, jt2, jt3, jt4, jt5, jt6, jt7, jt8] at cc3
          try simp (disch := omega) only [jst_eq, jst_ne, jst_ni, jI_i, jcmp_lt, jcmp_gt, w32_id, jcpy_out, Sum.elim_inl, Sum.elim_inr, jt2, jt3, jt4, jt5, jt6, jt7, jt8] at rr3
          try simp (disch := omega) only [jst_eq, jst_ne, jst_ni, jI_i, jcmp_lt, jcmp_gt, w32_id, jcpy_out, Sum.elim_inl, Sum.elim_inr, jt2, jt3, jt4, jt5, jt6, jt7, jt8] at fr3
          try dsimp only [Sum.elim_inl, Sum.elim_inr, jt2, jt3, jt4, jt5, jt6, jt7, jt8]
          try dsimp only [Sum.elim_inl, Sum.elim_inr, jt2, jt3, jt4, jt5, jt6, jt7, jt8]
          refine ⟨?_, ?_, ?_⟩
          · (first | assumption | omega | ((try dsimp only [jt2, jt3, jt4]); first | omega | (simp (disch := omega) only [jst_eq, jst_ne, jst_ni, jst_o, jI_i, jcpy_out, w32_id, jdiv_nn, jshr_k, jand_255] <;> first | done | omega | assumption)) | (intros; simp (disch := omega) only [jst_eq, jst_ne, jst_ni, jst_o, jI_i, jcpy_out, w32_id, jdiv_nn, *] <;> first | done | omega) | (intros; simp (disch := omega) only [jst_eq, jst_ne, jst_ni, jst_o, jI_i, jcpy_out, w32_id, jdiv_nn] at * <;> first | done | omega | assumption) | (intros; first | rfl | (exfalso; omega) | ((repeat' apply And.intro) <;> first | assumption | rfl | omega | trivial))) -- o13 e1.1
          · (first | assumption | omega | ((try dsimp only [jt2, jt3, jt4]); first | omega | (simp (disch := omega) only [jst_eq, jst_ne, jst_ni, jst_o, jI_i, jcpy_out, w32_id, jdiv_nn, jshr_k, jand_255] <;> first | done | omega | assumption)) | (intros; simp (disch := omega) only [jst_eq, jst_ne, jst_ni, jst_o, jI_i, jcpy_out, w32_id, jdiv_nn, *] <;> first | done | omega) | (intros; simp (disch := omega) only [jst_eq, jst_ne, jst_ni, jst_o, jI_i, jcpy_out, w32_id, jdiv_nn] at * <;> first | done | omega | assumption) | (intros; first | rfl | (exfalso; omega) | ((repeat' apply And.intro) <;> first | assumption | rfl | omega | trivial))) -- o14 e1.2
          · (obtain ⟨t, q, e, _⟩ := ou_1 rr3; have g := (GD t q e).2.2.2.2.2; exact ⟨frLp_t F79 (frLp_t (fun b s y1 _ _ _ => fr2 b s (by omega)) fr3.1), by rw [fr3.2, fr2 _ _ (by omega)]; exact g⟩) -- o15 e1.3
        · skip
          have r5 := r3; clear r3; dsimp only [Sum.elim_inl, Sum.elim_inr] at r5
          rcases r with r | r
          · skip
            have r6 := r5; clear r5; dsimp only [Sum.elim_inl, Sum.elim_inr] at r6
            try dsimp only [Sum.elim_inl, Sum.elim_inr, jt2, jt3, jt4, jt5, jt6, jt7, jt8] at r6
            have no4 := r6
            clear r6
            try simp (disch := omega) only [jst_eq, jst_ne, jst_ni, jI_i, jcmp_lt, jcmp_gt, w32_id, jcpy_out, Sum.elim_inl, Sum.elim_inr, jt2, jt3, jt4, jt5, jt6, jt7, jt8] at no4
            try dsimp only [Sum.elim_inl, Sum.elim_inr, jt2, jt3, jt4, jt5, jt6, jt7, jt8]
            try dsimp only [Sum.elim_inl, Sum.elim_inr, jt2, jt3, jt4, jt5, jt6, jt7, jt8]
            refine ⟨?_, ?_, ?_⟩
            · exact absurd no4 (by decide) -- o16 e2.1
            · (first | assumption | omega | ((try dsimp only [jt2, jt3, jt4]); first | omega | (simp (disch := omega) only [jst_eq, jst_ne, jst_ni, jst_o, jI_i, jcpy_out, w32_id, jdiv_nn, jshr_k, jand_255] <;> first | done | omega | assumption)) | (intros; simp (disch := omega) only [jst_eq, jst_ne, jst_ni, jst_o, jI_i, jcpy_out, w32_id, jdiv_nn, *] <;> first | done | omega) | (intros; simp (disch := omega) only [jst_eq, jst_ne, jst_ni, jst_o, jI_i, jcpy_out, w32_id, jdiv_nn] at * <;> first | done | omega | assumption) | (intros; first | rfl | (exfalso; omega) | ((repeat' apply And.intro) <;> first | assumption | rfl | omega | trivial))) -- o17 e2.2
            · (first | assumption | omega | ((try dsimp only [jt2, jt3, jt4]); first | omega | (simp (disch := omega) only [jst_eq, jst_ne, jst_ni, jst_o, jI_i, jcpy_out, w32_id, jdiv_nn, jshr_k, jand_255] <;> first | done | omega | assumption)) | (intros; simp (disch := omega) only [jst_eq, jst_ne, jst_ni, jst_o, jI_i, jcpy_out, w32_id, jdiv_nn, *] <;> first | done | omega) | (intros; simp (disch := omega) only [jst_eq, jst_ne, jst_ni, jst_o, jI_i, jcpy_out, w32_id, jdiv_nn] at * <;> first | done | omega | assumption) | (intros; first | rfl | (exfalso; omega) | ((repeat' apply And.intro) <;> first | assumption | rfl | omega | trivial))) -- o18 e2.3
          · skip
            have r7 := r5; clear r5; dsimp only [Sum.elim_inl, Sum.elim_inr] at r7
            obtain ⟨y3, y4⟩ := r
            try dsimp only [Sum.elim_inl, Sum.elim_inr, jt2, jt3, jt4, jt5, jt6, jt7, jt8] at r7
            obtain ⟨cc5, rr5, fr5⟩ := r7
            try simp (disch := omega) only [jst_eq, jst_ne, jst_ni, jI_i, jcmp_lt, jcmp_gt, w32_id, jcpy_out, Sum.elim_inl, Sum.elim_inr, jt2, jt3, jt4, jt5, jt6, jt7, jt8] at cc5
            try simp (disch := omega) only [jst_eq, jst_ne, jst_ni, jI_i, jcmp_lt, jcmp_gt, w32_id, jcpy_out, Sum.elim_inl, Sum.elim_inr, jt2, jt3, jt4, jt5, jt6, jt7, jt8] at rr5
            try simp (disch := omega) only [jst_eq, jst_ne, jst_ni, jI_i, jcmp_lt, jcmp_gt, w32_id, jcpy_out, Sum.elim_inl, Sum.elim_inr, jt2, jt3, jt4, jt5, jt6, jt7, jt8] at fr5
            try dsimp only [Sum.elim_inl, Sum.elim_inr, jt2, jt3, jt4, jt5, jt6, jt7, jt8]
            try dsimp only [Sum.elim_inl, Sum.elim_inr, jt2, jt3, jt4, jt5, jt6, jt7, jt8]
            refine ⟨?_, ?_, ?_⟩
            · (first | assumption | omega | ((try dsimp only [jt2, jt3, jt4]); first | omega | (simp (disch := omega) only [jst_eq, jst_ne, jst_ni, jst_o, jI_i, jcpy_out, w32_id, jdiv_nn, jshr_k, jand_255] <;> first | done | omega | assumption)) | (intros; simp (disch := omega) only [jst_eq, jst_ne, jst_ni, jst_o, jI_i, jcpy_out, w32_id, jdiv_nn, *] <;> first | done | omega) | (intros; simp (disch := omega) only [jst_eq, jst_ne, jst_ni, jst_o, jI_i, jcpy_out, w32_id, jdiv_nn] at * <;> first | done | omega | assumption) | (intros; first | rfl | (exfalso; omega) | ((repeat' apply And.intro) <;> first | assumption | rfl | omega | trivial))) -- o19 e3.1
            · (first | assumption | omega | ((try dsimp only [jt2, jt3, jt4]); first | omega | (simp (disch := omega) only [jst_eq, jst_ne, jst_ni, jst_o, jI_i, jcpy_out, w32_id, jdiv_nn, jshr_k, jand_255] <;> first | done | omega | assumption)) | (intros; simp (disch := omega) only [jst_eq, jst_ne, jst_ni, jst_o, jI_i, jcpy_out, w32_id, jdiv_nn, *] <;> first | done | omega) | (intros; simp (disch := omega) only [jst_eq, jst_ne, jst_ni, jst_o, jI_i, jcpy_out, w32_id, jdiv_nn] at * <;> first | done | omega | assumption) | (intros; first | rfl | (exfalso; omega) | ((repeat' apply And.intro) <;> first | assumption | rfl | omega | trivial))) -- o20 e3.2
            · exact frLp_t F79 (frLp_t (fun b s y1 _ _ _ => fr2 b s (by omega)) fr5.1) -- o21 e3.3
      · skip
        try simp (disch := omega) only [jst_eq, jst_ne, jst_ni, jI_i, jcmp_lt, jcmp_gt, w32_id, jcpy_out, Sum.elim_inl, Sum.elim_inr, jt2, jt3, jt4, jt5, jt6, jt7, jt8] at c3
        have IS79 : inSx B n T a1 a3 x75 v78 K E l (bdT R1 (pT B n false 13)) h79 := by { unfold inSx; cases e : bdT R1 (pT B n false 13) with | inl z => trivial | inr x => { obtain ⟨t, q⟩ := x; obtain ⟨g1, g2, g3, g4, g5, g6⟩ := GD t q e; have kb := toE_b (E := E) (t := t) (w := -1); exact ⟨g1, g2, g3, g4, by rw [g5, if_neg (by omega)]; unfold keyE; omega⟩ } }
        refine OK_mono (vX13_loop_j132_80m (B := B) (n := n) (A := A) (T := T) (K := K) (E := E) (l := l) (P := bdT R1 (pT B n false 13)) _ _ _ _ (by (first | assumption | omega | ((try dsimp only [jt2, jt3, jt4]); first | omega | (simp (disch := omega) only [jst_eq, jst_ne, jst_ni, jst_o, jI_i, jcpy_out, w32_id, jdiv_nn, jshr_k, jand_255] <;> first | done | omega | assumption)) | (intros; simp (disch := omega) only [jst_eq, jst_ne, jst_ni, jst_o, jI_i, jcpy_out, w32_id, jdiv_nn, *] <;> first | done | omega) | (intros; simp (disch := omega) only [jst_eq, jst_ne, jst_ni, jst_o, jI_i, jcpy_out, w32_id, jdiv_nn] at * <;> first | done | omega | assumption) | (intros; first | rfl | (exfalso; omega) | ((repeat' apply And.intro) <;> first | assumption | rfl | omega | trivial)))) (by (first | assumption | omega | ((try dsimp only [jt2, jt3, jt4]); first | omega | (simp (disch := omega) only [jst_eq, jst_ne, jst_ni, jst_o, jI_i, jcpy_out, w32_id, jdiv_nn, jshr_k, jand_255] <;> first | done | omega | assumption)) | (intros; simp (disch := omega) only [jst_eq, jst_ne, jst_ni, jst_o, jI_i, jcpy_out, w32_id, jdiv_nn, *] <;> first | done | omega) | (intros; simp (disch := omega) only [jst_eq, jst_ne, jst_ni, jst_o, jI_i, jcpy_out, w32_id, jdiv_nn] at * <;> first | done | omega | assumption) | (intros; first | rfl | (exfalso; omega) | ((repeat' apply And.intro) <;> first | assumption | rfl | omega | trivial)))) (by (first | assumption | omega | ((try dsimp only [jt2, jt3, jt4]); first | omega | (simp (disch := omega) only [jst_eq, jst_ne, jst_ni, jst_o, jI_i, jcpy_out, w32_id, jdiv_nn, jshr_k, jand_255] <;> first | done | omega | assumption)) | (intros; simp (disch := omega) only [jst_eq, jst_ne, jst_ni, jst_o, jI_i, jcpy_out, w32_id, jdiv_nn, *] <;> first | done | omega) | (intros; simp (disch := omega) only [jst_eq, jst_ne, jst_ni, jst_o, jI_i, jcpy_out, w32_id, jdiv_nn] at * <;> first | done | omega | assumption) | (intros; first | rfl | (exfalso; omega) | ((repeat' apply And.intro) <;> first | assumption | rfl | omega | trivial)))) (by (first | assumption | omega | ((try dsimp only [jt2, jt3, jt4]); first | omega | (simp (disch := omega) only [jst_eq, jst_ne, jst_ni, jst_o, jI_i, jcpy_out, w32_id, jdiv_nn, jshr_k, jand_255] <;> first | done | omega | assumption)) | (intros; simp (disch := omega) only [jst_eq, jst_ne, jst_ni, jst_o, jI_i, jcpy_out, w32_id, jdiv_nn, *] <;> first | done | omega) | (intros; simp (disch := omega) only [jst_eq, jst_ne, jst_ni, jst_o, jI_i, jcpy_out, w32_id, jdiv_nn] at * <;> first | done | omega | assumption) | (intros; first | rfl | (exfalso; omega) | ((repeat' apply And.intro) <;> first | assumption | rfl | omega | trivial)))) (by (first | assumption | omega | ((try dsimp only [jt2, jt3, jt4]); first | omega | (simp (disch := omega) only [jst_eq, jst_ne, jst_ni, jst_o, jI_i, jcpy_out, w32_id, jdiv_nn, jshr_k, jand_255] <;> first | done | omega | assumption)) | (intros; simp (disch := omega) only [jst_eq, jst_ne, jst_ni, jst_o, jI_i, jcpy_out, w32_id, jdiv_nn, *] <;> first | done | omega) | (intros; simp (disch := omega) only [jst_eq, jst_ne, jst_ni, jst_o, jI_i, jcpy_out, w32_id, jdiv_nn] at * <;> first | done | omega | assumption) | (intros; first | rfl | (exfalso; omega) | ((repeat' apply And.intro) <;> first | assumption | rfl | omega | trivial)))) (by (first | assumption | omega | ((try dsimp only [jt2, jt3, jt4]); first | omega | (simp (disch := omega) only [jst_eq, jst_ne, jst_ni, jst_o, jI_i, jcpy_out, w32_id, jdiv_nn, jshr_k, jand_255] <;> first | done | omega | assumption)) | (intros; simp (disch := omega) only [jst_eq, jst_ne, jst_ni, jst_o, jI_i, jcpy_out, w32_id, jdiv_nn, *] <;> first | done | omega) | (intros; simp (disch := omega) only [jst_eq, jst_ne, jst_ni, jst_o, jI_i, jcpy_out, w32_id, jdiv_nn] at * <;> first | done | omega | assumption) | (intros; first | rfl | (exfalso; omega) | ((repeat' apply And.intro) <;> first | assumption | rfl | omega | trivial)))) (by (first | assumption | omega | ((try dsimp only [jt2, jt3, jt4]); first | omega | (simp (disch := omega) only [jst_eq, jst_ne, jst_ni, jst_o, jI_i, jcpy_out, w32_id, jdiv_nn, jshr_k, jand_255] <;> first | done | omega | assumption)) | (intros; simp (disch := omega) only [jst_eq, jst_ne, jst_ni, jst_o, jI_i, jcpy_out, w32_id, jdiv_nn, *] <;> first | done | omega) | (intros; simp (disch := omega) only [jst_eq, jst_ne, jst_ni, jst_o, jI_i, jcpy_out, w32_id, jdiv_nn] at * <;> first | done | omega | assumption) | (intros; first | rfl | (exfalso; omega) | ((repeat' apply And.intro) <;> first | assumption | rfl | omega | trivial))))) (fun r r8 => ?_)
        rcases r with r | r
        · skip
          have r9 := r8; clear r8; dsimp only [Sum.elim_inl, Sum.elim_inr] at r9
          obtain ⟨y5, y6⟩ := r
          try dsimp only [Sum.elim_inl, Sum.elim_inr, jt2, jt3, jt4, jt5, jt6, jt7, jt8] at r9
          obtain ⟨cc6, rr6, fr6⟩ := r9
          try simp (disch := omega) only [jst_eq, jst_ne, jst_ni, jI_i, jcmp_lt, jcmp_gt, w32_id, jcpy_out, Sum.elim_inl, Sum.elim_inr, jt2, jt3, jt4, jt5, jt6, jt7, jt8] at cc6
          try simp (disch := omega) only [jst_eq, jst_ne, jst_ni, jI_i, jcmp_lt, jcmp_gt, w32_id, jcpy_out, Sum.elim_inl, Sum.elim_inr, jt2, jt3, jt4, jt5, jt6, jt7, jt8] at rr6
          try simp (disch := omega) only [jst_eq, jst_ne, jst_ni, jI_i, jcmp_lt, jcmp_gt, w32_id, jcpy_out, Sum.elim_inl, Sum.elim_inr, jt2, jt3, jt4, jt5, jt6, jt7, jt8] at fr6
          try dsimp only [Sum.elim_inl, Sum.elim_inr, jt2, jt3, jt4, jt5, jt6, jt7, jt8]
          try dsimp only [Sum.elim_inl, Sum.elim_inr, jt2, jt3, jt4, jt5, jt6, jt7, jt8]
          refine ⟨?_, ?_, ?_⟩
          · (first | assumption | omega | ((try dsimp only [jt2, jt3, jt4]); first | omega | (simp (disch := omega) only [jst_eq, jst_ne, jst_ni, jst_o, jI_i, jcpy_out, w32_id, jdiv_nn, jshr_k, jand_255] <;> first | done | omega | assumption)) | (intros; simp (disch := omega) only [jst_eq, jst_ne, jst_ni, jst_o, jI_i, jcpy_out, w32_id, jdiv_nn, *] <;> first | done | omega) | (intros; simp (disch := omega) only [jst_eq, jst_ne, jst_ni, jst_o, jI_i, jcpy_out, w32_id, jdiv_nn] at * <;> first | done | omega | assumption) | (intros; first | rfl | (exfalso; omega) | ((repeat' apply And.intro) <;> first | assumption | rfl | omega | trivial))) -- o29 e4.1
          · (first | assumption | omega | ((try dsimp only [jt2, jt3, jt4]); first | omega | (simp (disch := omega) only [jst_eq, jst_ne, jst_ni, jst_o, jI_i, jcpy_out, w32_id, jdiv_nn, jshr_k, jand_255] <;> first | done | omega | assumption)) | (intros; simp (disch := omega) only [jst_eq, jst_ne, jst_ni, jst_o, jI_i, jcpy_out, w32_id, jdiv_nn, *] <;> first | done | omega) | (intros; simp (disch := omega) only [jst_eq, jst_ne, jst_ni, jst_o, jI_i, jcpy_out, w32_id, jdiv_nn] at * <;> first | done | omega | assumption) | (intros; first | rfl | (exfalso; omega) | ((repeat' apply And.intro) <;> first | assumption | rfl | omega | trivial))) -- o30 e4.2
          · (obtain ⟨t, q, e, _⟩ := ou_1 rr6; have g := (GD t q e).2.2.2.2.2; exact ⟨frLp_t F79 fr6.1, by rw [fr6.2]; exact g⟩) -- o31 e4.3
        · skip
          have r10 := r8; clear r8; dsimp only [Sum.elim_inl, Sum.elim_inr] at r10
          rcases r with r | r
          · skip
            have r11 := r10; clear r10; dsimp only [Sum.elim_inl, Sum.elim_inr] at r11
            try dsimp only [Sum.elim_inl, Sum.elim_inr, jt2, jt3, jt4, jt5, jt6, jt7, jt8] at r11
            have no7 := r11
            clear r11
            try simp (disch := omega) only [jst_eq, jst_ne, jst_ni, jI_i, jcmp_lt, jcmp_gt, w32_id, jcpy_out, Sum.elim_inl, Sum.elim_inr, jt2, jt3, jt4, jt5, jt6, jt7, jt8] at no7
            try dsimp only [Sum.elim_inl, Sum.elim_inr, jt2, jt3, jt4, jt5, jt6, jt7, jt8]
            try dsimp only [Sum.elim_inl, Sum.elim_inr, jt2, jt3, jt4, jt5, jt6, jt7, jt8]
            refine ⟨?_, ?_, ?_⟩
            · exact absurd no7 (by decide) -- o32 e5.1
            · (first | assumption | omega | ((try dsimp only [jt2, jt3, jt4]); first | omega | (simp (disch := omega) only [jst_eq, jst_ne, jst_ni, jst_o, jI_i, jcpy_out, w32_id, jdiv_nn, jshr_k, jand_255] <;> first | done | omega | assumption)) | (intros; simp (disch := omega) only [jst_eq, jst_ne, jst_ni, jst_o, jI_i, jcpy_out, w32_id, jdiv_nn, *] <;> first | done | omega) | (intros; simp (disch := omega) only [jst_eq, jst_ne, jst_ni, jst_o, jI_i, jcpy_out, w32_id, jdiv_nn] at * <;> first | done | omega | assumption) | (intros; first | rfl | (exfalso; omega) | ((repeat' apply And.intro) <;> first | assumption | rfl | omega | trivial))) -- o33 e5.2
            · (first | assumption | omega | ((try dsimp only [jt2, jt3, jt4]); first | omega | (simp (disch := omega) only [jst_eq, jst_ne, jst_ni, jst_o, jI_i, jcpy_out, w32_id, jdiv_nn, jshr_k, jand_255] <;> first | done | omega | assumption)) | (intros; simp (disch := omega) only [jst_eq, jst_ne, jst_ni, jst_o, jI_i, jcpy_out, w32_id, jdiv_nn, *] <;> first | done | omega) | (intros; simp (disch := omega) only [jst_eq, jst_ne, jst_ni, jst_o, jI_i, jcpy_out, w32_id, jdiv_nn] at * <;> first | done | omega | assumption) | (intros; first | rfl | (exfalso; omega) | ((repeat' apply And.intro) <;> first | assumption | rfl | omega | trivial))) -- o34 e5.3
          · skip
            have r12 := r10; clear r10; dsimp only [Sum.elim_inl, Sum.elim_inr] at r12
            obtain ⟨y7, y8⟩ := r
            try dsimp only [Sum.elim_inl, Sum.elim_inr, jt2, jt3, jt4, jt5, jt6, jt7, jt8] at r12
            obtain ⟨cc8, rr8, fr8⟩ := r12
            try simp (disch := omega) only [jst_eq, jst_ne, jst_ni, jI_i, jcmp_lt, jcmp_gt, w32_id, jcpy_out, Sum.elim_inl, Sum.elim_inr, jt2, jt3, jt4, jt5, jt6, jt7, jt8] at cc8
            try simp (disch := omega) only [jst_eq, jst_ne, jst_ni, jI_i, jcmp_lt, jcmp_gt, w32_id, jcpy_out, Sum.elim_inl, Sum.elim_inr, jt2, jt3, jt4, jt5, jt6, jt7, jt8] at rr8
            try simp (disch := omega) only [jst_eq, jst_ne, jst_ni, jI_i, jcmp_lt, jcmp_gt, w32_id, jcpy_out, Sum.elim_inl, Sum.elim_inr, jt2, jt3, jt4, jt5, jt6, jt7, jt8] at fr8
            try dsimp only [Sum.elim_inl, Sum.elim_inr, jt2, jt3, jt4, jt5, jt6, jt7, jt8]
            try dsimp only [Sum.elim_inl, Sum.elim_inr, jt2, jt3, jt4, jt5, jt6, jt7, jt8]
            refine ⟨?_, ?_, ?_⟩
            · (first | assumption | omega | ((try dsimp only [jt2, jt3, jt4]); first | omega | (simp (disch := omega) only [jst_eq, jst_ne, jst_ni, jst_o, jI_i, jcpy_out, w32_id, jdiv_nn, jshr_k, jand_255] <;> first | done | omega | assumption)) | (intros; simp (disch := omega) only [jst_eq, jst_ne, jst_ni, jst_o, jI_i, jcpy_out, w32_id, jdiv_nn, *] <;> first | done | omega) | (intros; simp (disch := omega) only [jst_eq, jst_ne, jst_ni, jst_o, jI_i, jcpy_out, w32_id, jdiv_nn] at * <;> first | done | omega | assumption) | (intros; first | rfl | (exfalso; omega) | ((repeat' apply And.intro) <;> first | assumption | rfl | omega | trivial))) -- o35 e6.1
            · (first | assumption | omega | ((try dsimp only [jt2, jt3, jt4]); first | omega | (simp (disch := omega) only [jst_eq, jst_ne, jst_ni, jst_o, jI_i, jcpy_out, w32_id, jdiv_nn, jshr_k, jand_255] <;> first | done | omega | assumption)) | (intros; simp (disch := omega) only [jst_eq, jst_ne, jst_ni, jst_o, jI_i, jcpy_out, w32_id, jdiv_nn, *] <;> first | done | omega) | (intros; simp (disch := omega) only [jst_eq, jst_ne, jst_ni, jst_o, jI_i, jcpy_out, w32_id, jdiv_nn] at * <;> first | done | omega | assumption) | (intros; first | rfl | (exfalso; omega) | ((repeat' apply And.intro) <;> first | assumption | rfl | omega | trivial))) -- o36 e6.2
            · exact frLp_t F79 fr8.1 -- o37 e6.3
    · skip
      try simp (disch := omega) only [jst_eq, jst_ne, jst_ni, jI_i, jcmp_lt, jcmp_gt, w32_id, jcpy_out, Sum.elim_inl, Sum.elim_inr, jt2, jt3, jt4, jt5, jt6, jt7, jt8] at c2
      refine OK_some ?_
      try dsimp only [Sum.elim_inl, Sum.elim_inr, jt2, jt3, jt4, jt5, jt6, jt7, jt8]
      try dsimp only [Sum.elim_inl, Sum.elim_inr, jt2, jt3, jt4, jt5, jt6, jt7, jt8]
      refine ⟨?_, ?_, ?_⟩
      · exact ⟨_, sR_l (Sx_br d1.2.2.1 c2).2, (Sx_br d1.2.2.1 c2).1, rfl⟩ -- o38 e7.1
      · exact ⟨f79.1, f79.2, fk79⟩ -- o39 e7.2
      · exact F79 -- o40 e7.3
  · skip
    try simp (disch := omega) only [jst_eq, jst_ne, jst_ni, jI_i, jcmp_lt, jcmp_gt, w32_id, jcpy_out, Sum.elim_inl, Sum.elim_inr, jt2, jt3, jt4, jt5, jt6, jt7, jt8] at c1
    unfold gX13_loop_j110_80
    refine OK_if (fun c4 => ?_) (fun c4 => ?_)
    · skip
      try simp (disch := omega) only [jst_eq, jst_ne, jst_ni, jI_i, jcmp_lt, jcmp_gt, w32_id, jcpy_out, Sum.elim_inl, Sum.elim_inr, jt2, jt3, jt4, jt5, jt6, jt7, jt8] at c4
      exfalso
      exact c1 c4
    · skip
      try simp (disch := omega) only [jst_eq, jst_ne, jst_ni, jI_i, jcmp_lt, jcmp_gt, w32_id, jcpy_out, Sum.elim_inl, Sum.elim_inr, jt2, jt3, jt4, jt5, jt6, jt7, jt8] at c4
      refine OK_some ?_
      try dsimp only [Sum.elim_inl, Sum.elim_inr, jt2, jt3, jt4, jt5, jt6, jt7, jt8]
      try dsimp only [Sum.elim_inl, Sum.elim_inr, jt2, jt3, jt4, jt5, jt6, jt7, jt8]
      refine ⟨?_, ?_, ?_⟩
      · (obtain ⟨x, y⟩ := Sx_br c.2.2.1 c1; rw [y]; exact ⟨_, rfl, x, rfl⟩) -- o41 e8.1
      · exact ⟨f8.1, f8.2, fkb⟩ -- o42 e8.2
      · exact frLp_r -- o43 e8.3
/-- one more term of a list -/
theorem pks_s {B : Int → Int} {n : Int} {k : Nat} {l : List TR} {R1 : Int ⊕ Int} {W : Int ⊕ (List TR × Int)} (w : W = bS R1 (pKs B n (pT B n false 13) k l)) (fu : ∀ q, R1 = .inr q → 2002 ≤ (k : Int) + q ∧ q ≤ 2000) : (∀ z, bdT R1 (pT B n false 13) = .inl z → W = .inl z) ∧ ∀ t q', bdT R1 (pT B n false 13) = .inr (t, q') → (comma B n q' → W = bS (nx B n q') (pKs B n (pT B n false 13) (k - 1) (l ++ [t]))) ∧ (¬ comma B n q' → W = .inr (l ++ [t], q')) := by
  cases R1 with
  | inl z => exact ⟨fun z' e => by cases e; exact w, fun t q' e => by cases e⟩
  | inr q =>
    have k0 : 0 < k := by have := fu q rfl; omega
    obtain ⟨m, rfl⟩ : ∃ m : Nat, k = m + 1 := ⟨k - 1, by omega⟩
    refine ⟨fun z e => ?_, fun t q' e => ⟨fun c => ?_, fun c => ?_⟩⟩
    · rw [w]; exact pKs_l (show pT B n false 13 q = .inl z from e)
    · rw [w]
      show pKs B n (pT B n false 13) (m + 1) l q = _
      rw [pKs_c (show pT B n false 13 q = .inr (t, q') from e) c]
      cases nx B n q' <;> rfl
    · rw [w]; exact pKs_e (show pT B n false 13 q = .inr (t, q') from e) c
/-- between two terms -/
def liF (B : Int → Int) (n A T a1 K : Int) (E : EV) (R0 : Int ⊕ Int) (a3 : Int) (h : AH) : Prop := ∃ (R1 : Int ⊕ Int) (l : List TR) (k : Nat), bS R0 (pTs B n) = bS R1 (pKs B n (pT B n false 13) k l) ∧ (∀ q, R1 = .inr q → 2002 ≤ (k : Int) + q ∧ q ≤ 2000) ∧ (l.length : Int) = a3 ∧ ((a3 = 0 ∧ cqX B n A T E R1 h) ∨ (0 < a3 ∧ ∃ q, comma B n q ∧ R1 = nx B n q ∧ cqX B n A T E (.inr q) h)) ∧ (trsX h T E (a1 + 3) l (h T 0) ∧ kdsX h E l) ∧ FK h = min K (fkF E l 0) ∧ h 441 16 = 0
theorem liF_s {B : Int → Int} {n A T a1 K a3 y : Int} {E : EV} {R0 R1 : Int ⊕ Int} {l : List TR} {k : Nat} {h' : AH} (hB : ∀ i, 0 ≤ i → i < n → 0 ≤ B i ∧ B i < 256) (n2 : n ≤ 2000) (w : bS R0 (pTs B n) = bS R1 (pKs B n (pT B n false 13) k l)) (fu : ∀ q, R1 = .inr q → 2002 ≤ (k : Int) + q ∧ q ≤ 2000) (gq : ∀ q, R1 = .inr q → 0 ≤ q ∧ q ≤ n ∧ tO B n q ≠ 5) (ll : (l.length : Int) = a3) (ey : y = a3 + 1) (o : ouS B n A T a1 K E l (bdT R1 (pT B n false 13)) True h') : liF B n A T a1 K E R0 y h' := by
  obtain ⟨t, q', e, c, s⟩ := ou_1 o
  have W := ((pks_s w fu).2 t q' e).1 c
  obtain ⟨q0, e1, e2⟩ := bdT_inr e
  obtain ⟨g0, g1, g2⟩ := gq q0 e1
  have wp := pT_wp hB 13 q0 t q' g0 g1 g2 e2
  have f0 := (fu q0 e1).1
  refine ⟨nx B n q', l ++ [t], k - 1, W, fun q'' e'' => ?_, by rw [List.length_append]; show ((l.length + 1 : Nat) : Int) = y; omega, Or.inr ⟨by omega, q', c, rfl, s.1.1⟩, ⟨s.1.2.1, s.1.2.2.1⟩, s.2, s.1.2.2.2⟩
  have nr := nx_r hB (by omega) wp.2.2.2.1 wp.2.2.2.2.1 (by rw [c.1]; decide) e''
  have := wp.2.2.1
  omega
/-- behind a list of terms -/
def okF (B : Int → Int) (n A T a1 K : Int) (E : EV) (W : Int ⊕ (List TR × Int)) (y : Int) (h' : AH) : Prop := match W with | .inl z => cqX B n A T E (.inl z) h' | .inr (l, q) => (l.length : Int) = y ∧ stK B n A T (a1 + 3) E q l K h'
theorem ou_0 {B : Int → Int} {n A T a1 K a3 y : Int} {E : EV} {l : List TR} {P : PR} {h' : AH} {k : Nat} {W : Int ⊕ (List TR × Int)} (ps : (∀ z, P = .inl z → W = .inl z) ∧ ∀ t q', P = .inr (t, q') → (comma B n q' → W = bS (nx B n q') (pKs B n (pT B n false 13) (k - 1) (l ++ [t]))) ∧ (¬ comma B n q' → W = .inr (l ++ [t], q'))) (o : ouS B n A T a1 K E l P False h') (ll : (l.length : Int) = a3) (ey : y = a3 + 1) : okF B n A T a1 K E W y h' := by
  cases P with
  | inl z => rw [ps.1 z rfl]; exact o.2
  | inr x =>
    obtain ⟨t, q⟩ := x
    rw [(ps.2 t q rfl).2 (fun z => o.1.mpr z)]
    exact ⟨by rw [List.length_append]; show ((l.length + 1 : Nat) : Int) = y; omega, o.2⟩
theorem vX13_loop_l80 (i1 : Int) (a30 : Int) {h0 : AH} {B : Int → Int} {n A T K : Int} {E : EV} {R0 : Int ⊕ Int} (hB : ∀ i, 0 ≤ i → i < n → 0 ≤ B i ∧ B i < 256) (lo : isLo i1 ∧ T = i1 + 5) (c : cqX B n A T E R0 h0) (z16 : h0 441 16 = 0) (ar : h0 (i1 + 3) (-2) = 101 ∧ h0 (i1 + 3) (-1) = 3) (kk : FK h0 = min K 1000000) (h1 : a30 = 0) : OK (gX13_loop_l80 i1 a30 h0) (Sum.elim (fun h' => (∃ z, bS R0 (pTs B n) = .inl z ∧ h' 441 6 = 1 ∧ h' 441 7 = z) ∧ (0 ≤ h' 441 8 ∧ h' 441 8 ≤ 6 ∧ FK h' ≤ 1000000) ∧ (frLp i1 h0 h')) (fun r => jt2 r fun y h' => (okF B n A T i1 K E (bS R0 (pTs B n)) y h') ∧ (frLp i1 h0 h') ∧ (1 ≤ y))) := by
  have LA : i1 = 378 ∨ i1 = 391 := lo.1
  have n2 := c.1.1.2.2.2.1
  have n0 := c.1.1.2.2.1
  have ht0 := c.2.2.2.choose_spec.2.2.1
  unfold gX13_loop_l80
  refine OK_jit (I := (fun (s : Int × AH) => jt2 s fun a3 h => (0 ≤ a3 ∧ a3 ≤ h T 0) ∧ (liF B n A T i1 K E R0 a3 h) ∧ (frLp i1 h0 h))) (m := (fun (s : Int × AH) => jt2 s fun a3 h => (2200 - h T 0).toNat)) ?_ ?_
  · intro s hs
    obtain ⟨a3, h⟩ := s
    dsimp only [Sum.elim_inl, Sum.elim_inr, jt2, jt3, jt4, jt5, jt6, jt7, jt8] at hs
    obtain ⟨q0, q1, fr⟩ := hs
    unfold gX13_loop_b80
    refine OK_jt2 ?_
    obtain ⟨R1, l, k, w, fu, ll, cs, tr, kf, z6⟩ := q1
    have AR : h (i1 + 3) (-2) = 101 ∧ h (i1 + 3) (-1) = 3 := by { rw [fr _ _ (by omega) (by omega) (by omega) (by omega), fr _ _ (by omega) (by omega) (by omega) (by omega)]; exact ar }
    have PS := pks_s w fu
    have KF : PLift (FK h = min K (fkF E l 0)) := ⟨kf⟩
    clear kf kk
    refine OK_if (fun c1 => ?_) (fun c1 => ?_)
    · skip
      try simp (disch := omega) only [jst_eq, jst_ne, jst_ni, jI_i, jcmp_lt, jcmp_gt, w32_id, jcpy_out, Sum.elim_inl, Sum.elim_inr, jt2, jt3, jt4, jt5, jt6, jt7, jt8] at c1
      have C1 : cqX B n A T E R1 h := cs.elim (fun z => z.2) (fun z => by have := z.1; omega)
      have HT0 := C1.2.2.2.choose_spec.2.2.1
      have HT1 : h T 0 ≤ 2100 := by { have := C1.2.2.2.choose_spec.2.2.2.1; have := C1.2.2.2.choose_spec.2.1; omega }
      have GQ : ∀ q, R1 = .inr q → 0 ≤ q ∧ q ≤ n ∧ tO B n q ≠ 5 := fun q e => by { have s := C1.2.2.1; rw [e] at s; obtain ⟨x, y⟩ := Sx_inr s; exact ⟨x.2.2.1, x.2.2.2, y⟩ }
      refine OK_mono (vX13_loop_j88_80 (B := B) (n := n) (A := A) (T := T) (K := K) (E := E) (l := l) (R1 := R1) _ _ (by (first | assumption | omega | ((try dsimp only [jt2, jt3, jt4]); first | omega | (simp (disch := omega) only [jst_eq, jst_ne, jst_ni, jst_o, jI_i, jcpy_out, w32_id, jdiv_nn, jshr_k, jand_255] <;> first | done | omega | assumption)) | (intros; simp (disch := omega) only [jst_eq, jst_ne, jst_ni, jst_o, jI_i, jcpy_out, w32_id, jdiv_nn, *] <;> first | done | omega) | (intros; simp (disch := omega) only [jst_eq, jst_ne, jst_ni, jst_o, jI_i, jcpy_out, w32_id, jdiv_nn] at * <;> first | done | omega | assumption) | (intros; first | rfl | (exfalso; omega) | ((repeat' apply And.intro) <;> first | assumption | rfl | omega | trivial)))) (by (first | assumption | omega | ((try dsimp only [jt2, jt3, jt4]); first | omega | (simp (disch := omega) only [jst_eq, jst_ne, jst_ni, jst_o, jI_i, jcpy_out, w32_id, jdiv_nn, jshr_k, jand_255] <;> first | done | omega | assumption)) | (intros; simp (disch := omega) only [jst_eq, jst_ne, jst_ni, jst_o, jI_i, jcpy_out, w32_id, jdiv_nn, *] <;> first | done | omega) | (intros; simp (disch := omega) only [jst_eq, jst_ne, jst_ni, jst_o, jI_i, jcpy_out, w32_id, jdiv_nn] at * <;> first | done | omega | assumption) | (intros; first | rfl | (exfalso; omega) | ((repeat' apply And.intro) <;> first | assumption | rfl | omega | trivial)))) (by (first | assumption | omega | ((try dsimp only [jt2, jt3, jt4]); first | omega | (simp (disch := omega) only [jst_eq, jst_ne, jst_ni, jst_o, jI_i, jcpy_out, w32_id, jdiv_nn, jshr_k, jand_255] <;> first | done | omega | assumption)) | (intros; simp (disch := omega) only [jst_eq, jst_ne, jst_ni, jst_o, jI_i, jcpy_out, w32_id, jdiv_nn, *] <;> first | done | omega) | (intros; simp (disch := omega) only [jst_eq, jst_ne, jst_ni, jst_o, jI_i, jcpy_out, w32_id, jdiv_nn] at * <;> first | done | omega | assumption) | (intros; first | rfl | (exfalso; omega) | ((repeat' apply And.intro) <;> first | assumption | rfl | omega | trivial)))) (by (first | assumption | omega | ((try dsimp only [jt2, jt3, jt4]); first | omega | (simp (disch := omega) only [jst_eq, jst_ne, jst_ni, jst_o, jI_i, jcpy_out, w32_id, jdiv_nn, jshr_k, jand_255] <;> first | done | omega | assumption)) | (intros; simp (disch := omega) only [jst_eq, jst_ne, jst_ni, jst_o, jI_i, jcpy_out, w32_id, jdiv_nn, *] <;> first | done | omega) | (intros; simp (disch := omega) only [jst_eq, jst_ne, jst_ni, jst_o, jI_i, jcpy_out, w32_id, jdiv_nn] at * <;> first | done | omega | assumption) | (intros; first | rfl | (exfalso; omega) | ((repeat' apply And.intro) <;> first | assumption | rfl | omega | trivial)))) (by (first | assumption | omega | ((try dsimp only [jt2, jt3, jt4]); first | omega | (simp (disch := omega) only [jst_eq, jst_ne, jst_ni, jst_o, jI_i, jcpy_out, w32_id, jdiv_nn, jshr_k, jand_255] <;> first | done | omega | assumption)) | (intros; simp (disch := omega) only [jst_eq, jst_ne, jst_ni, jst_o, jI_i, jcpy_out, w32_id, jdiv_nn, *] <;> first | done | omega) | (intros; simp (disch := omega) only [jst_eq, jst_ne, jst_ni, jst_o, jI_i, jcpy_out, w32_id, jdiv_nn] at * <;> first | done | omega | assumption) | (intros; first | rfl | (exfalso; omega) | ((repeat' apply And.intro) <;> first | assumption | rfl | omega | trivial)))) (by (first | assumption | omega | ((try dsimp only [jt2, jt3, jt4]); first | omega | (simp (disch := omega) only [jst_eq, jst_ne, jst_ni, jst_o, jI_i, jcpy_out, w32_id, jdiv_nn, jshr_k, jand_255] <;> first | done | omega | assumption)) | (intros; simp (disch := omega) only [jst_eq, jst_ne, jst_ni, jst_o, jI_i, jcpy_out, w32_id, jdiv_nn, *] <;> first | done | omega) | (intros; simp (disch := omega) only [jst_eq, jst_ne, jst_ni, jst_o, jI_i, jcpy_out, w32_id, jdiv_nn] at * <;> first | done | omega | assumption) | (intros; first | rfl | (exfalso; omega) | ((repeat' apply And.intro) <;> first | assumption | rfl | omega | trivial)))) (by exact KF.down)) (fun r r1 => ?_)
      rcases r with r | r
      · skip
        have r2 := r1; clear r1; dsimp only [Sum.elim_inl, Sum.elim_inr] at r2
        obtain ⟨y1, y2⟩ := r
        try dsimp only [Sum.elim_inl, Sum.elim_inr, jt2, jt3, jt4, jt5, jt6, jt7, jt8] at r2
        obtain ⟨cc1, rr1, fr1⟩ := r2
        try simp (disch := omega) only [jst_eq, jst_ne, jst_ni, jI_i, jcmp_lt, jcmp_gt, w32_id, jcpy_out, Sum.elim_inl, Sum.elim_inr, jt2, jt3, jt4, jt5, jt6, jt7, jt8] at cc1
        try simp (disch := omega) only [jst_eq, jst_ne, jst_ni, jI_i, jcmp_lt, jcmp_gt, w32_id, jcpy_out, Sum.elim_inl, Sum.elim_inr, jt2, jt3, jt4, jt5, jt6, jt7, jt8] at rr1
        try simp (disch := omega) only [jst_eq, jst_ne, jst_ni, jI_i, jcmp_lt, jcmp_gt, w32_id, jcpy_out, Sum.elim_inl, Sum.elim_inr, jt2, jt3, jt4, jt5, jt6, jt7, jt8] at fr1
        try dsimp only [Sum.elim_inl, Sum.elim_inr, jt2, jt3, jt4, jt5, jt6, jt7, jt8]
        refine ⟨?_, ?_⟩
        · try dsimp only [Sum.elim_inl, Sum.elim_inr, jt2, jt3, jt4, jt5, jt6, jt7, jt8]
          refine ⟨?_, ?_, ?_⟩
          · (have := fr1.2; omega) -- o8 e1i.1
          · exact liF_s hB n2 w fu GQ ll cc1 rr1 -- o9 e1i.2
          · exact frLp_t fr fr1.1 -- o10 e1i.3
        · (have := fr1.2; omega) -- o11 e1m
      · skip
        have r3 := r1; clear r1; dsimp only [Sum.elim_inl, Sum.elim_inr] at r3
        rcases r with r | r
        · skip
          have r4 := r3; clear r3; dsimp only [Sum.elim_inl, Sum.elim_inr] at r4
          try dsimp only [Sum.elim_inl, Sum.elim_inr, jt2, jt3, jt4, jt5, jt6, jt7, jt8] at r4
          obtain ⟨bz2, f82, fr2⟩ := r4
          try simp (disch := omega) only [jst_eq, jst_ne, jst_ni, jI_i, jcmp_lt, jcmp_gt, w32_id, jcpy_out, Sum.elim_inl, Sum.elim_inr, jt2, jt3, jt4, jt5, jt6, jt7, jt8] at bz2
          try simp (disch := omega) only [jst_eq, jst_ne, jst_ni, jI_i, jcmp_lt, jcmp_gt, w32_id, jcpy_out, Sum.elim_inl, Sum.elim_inr, jt2, jt3, jt4, jt5, jt6, jt7, jt8] at f82
          try simp (disch := omega) only [jst_eq, jst_ne, jst_ni, jI_i, jcmp_lt, jcmp_gt, w32_id, jcpy_out, Sum.elim_inl, Sum.elim_inr, jt2, jt3, jt4, jt5, jt6, jt7, jt8] at fr2
          try dsimp only [Sum.elim_inl, Sum.elim_inr, jt2, jt3, jt4, jt5, jt6, jt7, jt8]
          try dsimp only [Sum.elim_inl, Sum.elim_inr, jt2, jt3, jt4, jt5, jt6, jt7, jt8]
          refine ⟨?_, ?_, ?_⟩
          · (obtain ⟨z, e, z1, z2⟩ := bz2; exact ⟨z, PS.1 z e, z1, z2⟩) -- o12 e2.1
          · (first | assumption | omega | ((try dsimp only [jt2, jt3, jt4]); first | omega | (simp (disch := omega) only [jst_eq, jst_ne, jst_ni, jst_o, jI_i, jcpy_out, w32_id, jdiv_nn, jshr_k, jand_255] <;> first | done | omega | assumption)) | (intros; simp (disch := omega) only [jst_eq, jst_ne, jst_ni, jst_o, jI_i, jcpy_out, w32_id, jdiv_nn, *] <;> first | done | omega) | (intros; simp (disch := omega) only [jst_eq, jst_ne, jst_ni, jst_o, jI_i, jcpy_out, w32_id, jdiv_nn] at * <;> first | done | omega | assumption) | (intros; first | rfl | (exfalso; omega) | ((repeat' apply And.intro) <;> first | assumption | rfl | omega | trivial))) -- o13 e2.2
          · exact frLp_t fr fr2 -- o14 e2.3
        · skip
          have r5 := r3; clear r3; dsimp only [Sum.elim_inl, Sum.elim_inr] at r5
          obtain ⟨y3, y4⟩ := r
          try dsimp only [Sum.elim_inl, Sum.elim_inr, jt2, jt3, jt4, jt5, jt6, jt7, jt8] at r5
          obtain ⟨cc3, rr3, fr3⟩ := r5
          try simp (disch := omega) only [jst_eq, jst_ne, jst_ni, jI_i, jcmp_lt, jcmp_gt, w32_id, jcpy_out, Sum.elim_inl, Sum.elim_inr, jt2, jt3, jt4, jt5, jt6, jt7, jt8] at cc3
          try simp (disch := omega) only [jst_eq, jst_ne, jst_ni, jI_i, jcmp_lt, jcmp_gt, w32_id, jcpy_out, Sum.elim_inl, Sum.elim_inr, jt2, jt3, jt4, jt5, jt6, jt7, jt8] at rr3
          try simp (disch := omega) only [jst_eq, jst_ne, jst_ni, jI_i, jcmp_lt, jcmp_gt, w32_id, jcpy_out, Sum.elim_inl, Sum.elim_inr, jt2, jt3, jt4, jt5, jt6, jt7, jt8] at fr3
          try dsimp only [Sum.elim_inl, Sum.elim_inr, jt2, jt3, jt4, jt5, jt6, jt7, jt8]
          try dsimp only [Sum.elim_inl, Sum.elim_inr, jt2, jt3, jt4, jt5, jt6, jt7, jt8]
          refine ⟨?_, ?_, ?_⟩
          · exact ou_0 PS rr3 ll cc3 -- o15 e3.1
          · exact frLp_t fr fr3 -- o16 e3.2
          · (first | assumption | omega | ((try dsimp only [jt2, jt3, jt4]); first | omega | (simp (disch := omega) only [jst_eq, jst_ne, jst_ni, jst_o, jI_i, jcpy_out, w32_id, jdiv_nn, jshr_k, jand_255] <;> first | done | omega | assumption)) | (intros; simp (disch := omega) only [jst_eq, jst_ne, jst_ni, jst_o, jI_i, jcpy_out, w32_id, jdiv_nn, *] <;> first | done | omega) | (intros; simp (disch := omega) only [jst_eq, jst_ne, jst_ni, jst_o, jI_i, jcpy_out, w32_id, jdiv_nn] at * <;> first | done | omega | assumption) | (intros; first | rfl | (exfalso; omega) | ((repeat' apply And.intro) <;> first | assumption | rfl | omega | trivial))) -- o17 e3.3
    · skip
      try simp (disch := omega) only [jst_eq, jst_ne, jst_ni, jI_i, jcmp_lt, jcmp_gt, w32_id, jcpy_out, Sum.elim_inl, Sum.elim_inr, jt2, jt3, jt4, jt5, jt6, jt7, jt8] at c1
      obtain ⟨ap, q, cq, eR, C0⟩ := cs.resolve_left (fun z => by omega)
      have NB0 := Sx_inr C0.2.2.1
      have HT0 := C0.2.2.2.choose_spec.2.2.1
      have HT1 : h T 0 ≤ 2100 := by { have := C0.2.2.2.choose_spec.2.2.2.1; have := C0.2.2.2.choose_spec.2.1; omega }
      refine OK_jb (vX13_nextS (B := B) (n := n) (A := A) (q := q) (by exact C0.1.1) (by (first | assumption | omega | ((try dsimp only [jt2, jt3, jt4]); first | omega | (simp (disch := omega) only [jst_eq, jst_ne, jst_ni, jst_o, jI_i, jcpy_out, w32_id, jdiv_nn, jshr_k, jand_255] <;> first | done | omega | assumption)) | (intros; simp (disch := omega) only [jst_eq, jst_ne, jst_ni, jst_o, jI_i, jcpy_out, w32_id, jdiv_nn, *] <;> first | done | omega) | (intros; simp (disch := omega) only [jst_eq, jst_ne, jst_ni, jst_o, jI_i, jcpy_out, w32_id, jdiv_nn] at * <;> first | done | omega | assumption) | (intros; first | rfl | (exfalso; omega) | ((repeat' apply And.intro) <;> first | assumption | rfl | omega | trivial)))) (by exact NB0.1) (by exact NB0.2)) (fun h74 r6 => ?_)
      try dsimp only [Sum.elim_inl, Sum.elim_inr, jt2, jt3, jt4, jt5, jt6, jt7, jt8] at r6
      obtain ⟨sx4, fr4⟩ := r6
      try simp (disch := omega) only [jst_eq, jst_ne, jst_ni, jI_i, jcmp_lt, jcmp_gt, w32_id, jcpy_out, Sum.elim_inl, Sum.elim_inr, jt2, jt3, jt4, jt5, jt6, jt7, jt8] at sx4
      try simp (disch := omega) only [jst_eq, jst_ne, jst_ni, jI_i, jcmp_lt, jcmp_gt, w32_id, jcpy_out, Sum.elim_inl, Sum.elim_inr, jt2, jt3, jt4, jt5, jt6, jt7, jt8] at fr4
      have C74 : cqX B n A T E R1 h74 := by { rw [eR]; exact cqX_x hB C0 (by rw [cq.1]; decide) fr4 sx4 }
      have G74 : ∀ b s, ¬ (b = 441 ∧ 2 ≤ s ∧ s ≤ 18) → h74 b s = h b s := fun b s y => fr4 b s (fun z => y ⟨z.1, z.2.1, by have := z.2.2; omega⟩)
      have TR74 := trsX_5 C0.1.2.2.2.1.2.2 tr.1 (by omega) G74
      have KD74 : kdsX h74 E l := kdsX_f tr.2 (fun s s0 s1 => G74 446 s (fun z => absurd z.1 (by decide)))
      have F74 : frLp i1 h h74 := fun b s y1 y2 y3 y4 => fr4 b s (by omega)
      have GQ : ∀ q, R1 = .inr q → 0 ≤ q ∧ q ≤ n ∧ tO B n q ≠ 5 := fun q e => by { have s := C74.2.2.1; rw [e] at s; obtain ⟨x, y⟩ := Sx_inr s; exact ⟨x.2.2.1, x.2.2.2, y⟩ }
      have E74 : h74 T 0 = h T 0 := fr4 _ _ (by omega)
      refine OK_mono (vX13_loop_j88_80 (B := B) (n := n) (A := A) (T := T) (K := K) (E := E) (l := l) (R1 := R1) _ _ (by (first | assumption | omega | ((try dsimp only [jt2, jt3, jt4]); first | omega | (simp (disch := omega) only [jst_eq, jst_ne, jst_ni, jst_o, jI_i, jcpy_out, w32_id, jdiv_nn, jshr_k, jand_255] <;> first | done | omega | assumption)) | (intros; simp (disch := omega) only [jst_eq, jst_ne, jst_ni, jst_o, jI_i, jcpy_out, w32_id, jdiv_nn, *] <;> first | done | omega) | (intros; simp (disch := omega) only [jst_eq, jst_ne, jst_ni, jst_o, jI_i, jcpy_out, w32_id, jdiv_nn] at * <;> first | done | omega | assumption) | (intros; first | rfl | (exfalso; omega) | ((repeat' apply And.intro) <;> first | assumption | rfl | omega | trivial)))) (by (first | assumption | omega | ((try dsimp only [jt2, jt3, jt4]); first | omega | (simp (disch := omega) only [jst_eq, jst_ne, jst_ni, jst_o, jI_i, jcpy_out, w32_id, jdiv_nn, jshr_k, jand_255] <;> first | done | omega | assumption)) | (intros; simp (disch := omega) only [jst_eq, jst_ne, jst_ni, jst_o, jI_i, jcpy_out, w32_id, jdiv_nn, *] <;> first | done | omega) | (intros; simp (disch := omega) only [jst_eq, jst_ne, jst_ni, jst_o, jI_i, jcpy_out, w32_id, jdiv_nn] at * <;> first | done | omega | assumption) | (intros; first | rfl | (exfalso; omega) | ((repeat' apply And.intro) <;> first | assumption | rfl | omega | trivial)))) (by (first | assumption | omega | ((try dsimp only [jt2, jt3, jt4]); first | omega | (simp (disch := omega) only [jst_eq, jst_ne, jst_ni, jst_o, jI_i, jcpy_out, w32_id, jdiv_nn, jshr_k, jand_255] <;> first | done | omega | assumption)) | (intros; simp (disch := omega) only [jst_eq, jst_ne, jst_ni, jst_o, jI_i, jcpy_out, w32_id, jdiv_nn, *] <;> first | done | omega) | (intros; simp (disch := omega) only [jst_eq, jst_ne, jst_ni, jst_o, jI_i, jcpy_out, w32_id, jdiv_nn] at * <;> first | done | omega | assumption) | (intros; first | rfl | (exfalso; omega) | ((repeat' apply And.intro) <;> first | assumption | rfl | omega | trivial)))) (by (rw [fr4 _ _ (by omega)]; exact z6)) (by (rw [E74]; exact ⟨TR74, KD74⟩)) (by (rw [fr4 _ _ (by omega), fr4 _ _ (by omega)]; exact AR)) (by (rw [FK_fr (fr4 _ _ (by omega)) (fr4 _ _ (by omega))]; exact KF.down))) (fun r r7 => ?_)
      rcases r with r | r
      · skip
        have r8 := r7; clear r7; dsimp only [Sum.elim_inl, Sum.elim_inr] at r8
        obtain ⟨y5, y6⟩ := r
        try dsimp only [Sum.elim_inl, Sum.elim_inr, jt2, jt3, jt4, jt5, jt6, jt7, jt8] at r8
        obtain ⟨cc5, rr5, fr5⟩ := r8
        try simp (disch := omega) only [jst_eq, jst_ne, jst_ni, jI_i, jcmp_lt, jcmp_gt, w32_id, jcpy_out, Sum.elim_inl, Sum.elim_inr, jt2, jt3, jt4, jt5, jt6, jt7, jt8] at cc5
        try simp (disch := omega) only [jst_eq, jst_ne, jst_ni, jI_i, jcmp_lt, jcmp_gt, w32_id, jcpy_out, Sum.elim_inl, Sum.elim_inr, jt2, jt3, jt4, jt5, jt6, jt7, jt8] at rr5
        try simp (disch := omega) only [jst_eq, jst_ne, jst_ni, jI_i, jcmp_lt, jcmp_gt, w32_id, jcpy_out, Sum.elim_inl, Sum.elim_inr, jt2, jt3, jt4, jt5, jt6, jt7, jt8] at fr5
        try dsimp only [Sum.elim_inl, Sum.elim_inr, jt2, jt3, jt4, jt5, jt6, jt7, jt8]
        refine ⟨?_, ?_⟩
        · try dsimp only [Sum.elim_inl, Sum.elim_inr, jt2, jt3, jt4, jt5, jt6, jt7, jt8]
          refine ⟨?_, ?_, ?_⟩
          · (have := fr5.2; omega) -- o29 e4i.1
          · exact liF_s hB n2 w fu GQ ll cc5 rr5 -- o30 e4i.2
          · exact frLp_t fr (frLp_t F74 fr5.1) -- o31 e4i.3
        · (have := fr5.2; omega) -- o32 e4m
      · skip
        have r9 := r7; clear r7; dsimp only [Sum.elim_inl, Sum.elim_inr] at r9
        rcases r with r | r
        · skip
          have r10 := r9; clear r9; dsimp only [Sum.elim_inl, Sum.elim_inr] at r10
          try dsimp only [Sum.elim_inl, Sum.elim_inr, jt2, jt3, jt4, jt5, jt6, jt7, jt8] at r10
          obtain ⟨bz6, f86, fr6⟩ := r10
          try simp (disch := omega) only [jst_eq, jst_ne, jst_ni, jI_i, jcmp_lt, jcmp_gt, w32_id, jcpy_out, Sum.elim_inl, Sum.elim_inr, jt2, jt3, jt4, jt5, jt6, jt7, jt8] at bz6
          try simp (disch := omega) only [jst_eq, jst_ne, jst_ni, jI_i, jcmp_lt, jcmp_gt, w32_id, jcpy_out, Sum.elim_inl, Sum.elim_inr, jt2, jt3, jt4, jt5, jt6, jt7, jt8] at f86
          try simp (disch := omega) only [jst_eq, jst_ne, jst_ni, jI_i, jcmp_lt, jcmp_gt, w32_id, jcpy_out, Sum.elim_inl, Sum.elim_inr, jt2, jt3, jt4, jt5, jt6, jt7, jt8] at fr6
          try dsimp only [Sum.elim_inl, Sum.elim_inr, jt2, jt3, jt4, jt5, jt6, jt7, jt8]
          try dsimp only [Sum.elim_inl, Sum.elim_inr, jt2, jt3, jt4, jt5, jt6, jt7, jt8]
          refine ⟨?_, ?_, ?_⟩
          · (obtain ⟨z, e, z1, z2⟩ := bz6; exact ⟨z, PS.1 z e, z1, z2⟩) -- o33 e5.1
          · (first | assumption | omega | ((try dsimp only [jt2, jt3, jt4]); first | omega | (simp (disch := omega) only [jst_eq, jst_ne, jst_ni, jst_o, jI_i, jcpy_out, w32_id, jdiv_nn, jshr_k, jand_255] <;> first | done | omega | assumption)) | (intros; simp (disch := omega) only [jst_eq, jst_ne, jst_ni, jst_o, jI_i, jcpy_out, w32_id, jdiv_nn, *] <;> first | done | omega) | (intros; simp (disch := omega) only [jst_eq, jst_ne, jst_ni, jst_o, jI_i, jcpy_out, w32_id, jdiv_nn] at * <;> first | done | omega | assumption) | (intros; first | rfl | (exfalso; omega) | ((repeat' apply And.intro) <;> first | assumption | rfl | omega | trivial))) -- o34 e5.2
          · exact frLp_t fr (frLp_t F74 fr6) -- o35 e5.3
        · skip
          have r11 := r9; clear r9; dsimp only [Sum.elim_inl, Sum.elim_inr] at r11
          obtain ⟨y7, y8⟩ := r
          try dsimp only [Sum.elim_inl, Sum.elim_inr, jt2, jt3, jt4, jt5, jt6, jt7, jt8] at r11
          obtain ⟨cc7, rr7, fr7⟩ := r11
          try simp (disch := omega) only [jst_eq, jst_ne, jst_ni, jI_i, jcmp_lt, jcmp_gt, w32_id, jcpy_out, Sum.elim_inl, Sum.elim_inr, jt2, jt3, jt4, jt5, jt6, jt7, jt8] at cc7
          try simp (disch := omega) only [jst_eq, jst_ne, jst_ni, jI_i, jcmp_lt, jcmp_gt, w32_id, jcpy_out, Sum.elim_inl, Sum.elim_inr, jt2, jt3, jt4, jt5, jt6, jt7, jt8] at rr7
          try simp (disch := omega) only [jst_eq, jst_ne, jst_ni, jI_i, jcmp_lt, jcmp_gt, w32_id, jcpy_out, Sum.elim_inl, Sum.elim_inr, jt2, jt3, jt4, jt5, jt6, jt7, jt8] at fr7
          try dsimp only [Sum.elim_inl, Sum.elim_inr, jt2, jt3, jt4, jt5, jt6, jt7, jt8]
          try dsimp only [Sum.elim_inl, Sum.elim_inr, jt2, jt3, jt4, jt5, jt6, jt7, jt8]
          refine ⟨?_, ?_, ?_⟩
          · exact ou_0 PS rr7 ll cc7 -- o36 e6.1
          · exact frLp_t fr (frLp_t F74 fr7) -- o37 e6.2
          · (first | assumption | omega | ((try dsimp only [jt2, jt3, jt4]); first | omega | (simp (disch := omega) only [jst_eq, jst_ne, jst_ni, jst_o, jI_i, jcpy_out, w32_id, jdiv_nn, jshr_k, jand_255] <;> first | done | omega | assumption)) | (intros; simp (disch := omega) only [jst_eq, jst_ne, jst_ni, jst_o, jI_i, jcpy_out, w32_id, jdiv_nn, *] <;> first | done | omega) | (intros; simp (disch := omega) only [jst_eq, jst_ne, jst_ni, jst_o, jI_i, jcpy_out, w32_id, jdiv_nn] at * <;> first | done | omega | assumption) | (intros; first | rfl | (exfalso; omega) | ((repeat' apply And.intro) <;> first | assumption | rfl | omega | trivial))) -- o38 e6.3
  · try dsimp only [Sum.elim_inl, Sum.elim_inr, jt2, jt3, jt4, jt5, jt6, jt7, jt8]
    refine ⟨?_, ?_, ?_⟩
    · omega -- o39 init.1
    · (rw [h1]; exact ⟨R0, [], 2002, rfl, fun q e => by (have s := c.2.2.1; rw [e] at s; have x := (Sx_inr s).1; have := x.2.2.1; have := x.2.2.2; omega), rfl, Or.inl ⟨rfl, c⟩, ⟨fun i i3 t e => by (cases e), fun i i3 t e => by (cases e)⟩, kk, z16⟩) -- o40 init.2
    · exact frLp_r -- o41 init.3

