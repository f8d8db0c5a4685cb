/-! m: terms of a loop are weighed -/
abbrev isLm (a : Int) : Prop := a = 805 ∨ a = 810
/-- what m needs to weigh a term -/
def wgM (h : AH) (E : EV) (Rf : Int → TR) (l : List Int) : Prop := MI h ∧ (0 ≤ h 454 35 ∧ h 454 35 ≤ 2000) ∧ actM h E ∧ parM h (EL E l) ∧ E.2.2.1 = 0 ∧ ewO E ∧ ownM h E.1.1 E.1.2.2.2.1 Rf
theorem wgM_k {h h' : AH} {E : EV} {Rf : Int → TR} {l : List Int} (w : wgM h E Rf l) (mi : MI h') (f : ∀ a s, ¬ (a = 454 ∧ (s = 30 ∨ s = 31)) → ¬ (461 ≤ a ∧ a ≤ 463 ∧ 0 ≤ s ∧ s < 5500) → ¬ ((a = 807 ∨ a = 812) ∧ 0 ≤ s ∧ s < 3) → h' a s = h a s) : wgM h' E Rf l := by
  obtain ⟨w1, w2, w3, w4, w5, w6, w7⟩ := w
  refine ⟨mi, by rw [f _ _ (by omega) (by omega) (by omega)]; exact w2, actM_fr w3 (f _ _ (by omega) (by omega) (by omega)) (fun a s a0 a1 => f _ _ (by omega) (by omega) (by omega)), ?_, w5, w6, ownM_fr w7 ⟨fun a s a0 a1 a2 s0 s1 => f _ _ (by omega) (by omega) (by omega), fun s s0 s1 => f _ _ (by omega) (by omega) (by omega)⟩ (fun a a0 a1 => f _ _ (by omega) (by omega) (by omega))⟩
  obtain ⟨p1, p2, p3, p4⟩ := w4
  refine ⟨by rw [f _ _ (by omega) (by omega) (by omega)]; exact p1, p2, p3, fun k k0 k1 => ?_⟩
  rw [f 474 k (by omega) (by omega) (by omega), f 475 k (by omega) (by omega) (by omega)]
  exact p4 k k0 k1
/-- a term that was weighed, whatever is changed elsewhere -/
def dnM (h : AH) (E : EV) (t : TR) (d : Int) : Prop := fkE E t 0 0 = 1000000 → ∀ hh, agR d (d + sz t) h hh → resM hh (rsE E t 0) d 0
theorem dnM_f {h h' : AH} {E : EV} {t : TR} {d : Int} (x : dnM h E t d) (f : agR d (d + sz t) h h') : dnM h' E t d := fun z hh g => x z hh (agR_tr f g)
/-- a term that is to be weighed -/
def toW (h : AH) (t : TR) (d : Int) : Prop := okN h t d 30 ∧ hlT t = 0 ∧ sz t ≤ 1100
theorem toW_f {h h' : AH} {t : TR} {d : Int} (x : toW h t d) (f : agM d (d + sz t) h h') : toW h' t d := by
  obtain ⟨⟨r, g, w, d0, d1, k⟩, y⟩ := x
  have st := sz_pos t
  exact ⟨⟨rawM_ag (h := h) f (Int.le_refl _) (Int.le_refl _) (by omega) (by omega) (by omega) r, g, w, d0, d1, k⟩, y⟩
theorem toW_p {h : AH} {t : TR} {d : Int} (x : toW h t d) : h 468 d = plT t ∧ 0 ≤ plT t ∧ plT t ≤ 2001 ∧ 0 ≤ d ∧ d < 8800 := by
  have g := gT_i x.1.2.1
  have st := sz_pos t
  have d1 := x.1.2.2.2.2.1
  exact ⟨(rawM_n x.1.1).2.2.2.2, g.1, g.2.1, x.1.2.2.2.1, by omega⟩
theorem vX14_weighedW (a1 a2 : Int) {h : AH} {E : EV} {T : TR} {Rf : Int → TR} {l : List Int} (z : a2 = 0) (w : wgM h E Rf l) (t : toW h T a1) (rg : a1 + sz T ≤ 5500) : OK (gX14_weighed a1 a2 h) (fun r => jt2 r fun v h' => (v = kch (kdE (EL E l) T) ∧ -1 ≤ kdE (EL E l) T ∧ kdE (EL E l) T ≤ 2) ∧ wgM h' E Rf l ∧ MK h' = min (MK h) (keyE (EL E l) (-1) T) ∧ dnM h' (EL E l) T a1 ∧ h' 468 a1 = plT T ∧ (∀ a s, ¬ (a = 454 ∧ (s = 30 ∨ s = 31)) → ¬ (461 ≤ a ∧ a ≤ 463 ∧ a1 ≤ s ∧ s < a1 + sz T) → h' a s = h a s)) := by
  subst z
  obtain ⟨w1, w2, w3, w4, w5, w6, w7⟩ := w
  have ev : evM h 0 (EL E l) := ⟨w3, w4, Or.inl ⟨rfl, w5⟩⟩
  have KD := kdE_r ev t.1.2.1
  have pl := toW_p t
  have hl := t.2.1
  have st := sz_pos T
  refine OK_mono (vX14_weighed a1 0 (E := EL E l) (T := T) (Rf := Rf) ev t.1 w1 (by rw [hl]; omega) w6 w7 ⟨t.2.2, rg⟩) (fun r p => ?_)
  obtain ⟨v, h'⟩ := r
  have p : posW (EL E l) T a1 h v h' := p
  obtain ⟨p1, p2, p3, p4, p5, p6, p7⟩ := p
  have c := (okN_C (E := EL E l) (by decide : (30 : Int) ≤ 50) t.2.2 t.1 p7 p5).1
  rw [fkE_h0 hl] at p3 p6
  have e35 : h' 454 35 = h 454 35 := by omega
  have F : ∀ a s, ¬ (a = 454 ∧ (s = 30 ∨ s = 31)) → ¬ (461 ≤ a ∧ a ≤ 463 ∧ a1 ≤ s ∧ s < a1 + sz T) → h' a s = h a s := fun a s y1 y2 => by
    by_cases q : a = 454 ∧ s = 35
    · rw [q.1, q.2]; exact e35
    · exact p7 a s (by omega) (by omega)
  have mr := MK_r w1
  refine ⟨⟨p1, KD⟩, wgM_k ⟨w1, w2, w3, w4, w5, w6, w7⟩ p2 (fun a s y1 y2 _ => F a s y1 (by omega)), ?_, fun z hh g => ?_, (F 468 a1 (by omega) (by omega)).trans pl.1, F⟩
  · rw [p3]
    unfold keyE toE
    rw [if_neg (show ¬ ((-1 : Int) ≠ -1 ∧ kdE (EL E l) T ≠ -1 ∧ kdE (EL E l) T ≠ -1) from fun z => z.1 rfl)]
    omega
  · have m := p6 z
    rw [rsE_h0 hl t.1.2.1] at m
    exact resM_ag (h := h') g (Int.le_refl _) (Int.le_refl _) (by omega) (by omega) (by omega) c m
theorem szL_tk2 {l : List TR} {i j : Nat} {t : TR} (ij : i < j) (e : l[i]? = some t) : szL (l.take i) + sz t ≤ szL (l.take j) := by
  have k := szL_tk (l.take j) i t (by rw [List.getElem?_take_of_lt ij]; exact e)
  rw [List.take_take, show min i j = i by omega] at k
  exact k
theorem szL_tk0 (l : List TR) (i : Nat) : szL (l.take i) ≤ szL l := by
  have e : szL (l.take i ++ l.drop i) = szL (l.take i) + szL (l.drop i) := szL_app _ _
  rw [List.take_append_drop] at e
  have := szL_0 (l.drop i)
  omega
theorem fkF_tk {E : EV} {l : List TR} {k : Nat} {t : TR} (e : l[k]? = some t) : fkF E (l.take (k + 1)) 0 = min (fkF E (l.take k) 0) (ff1 E t k) := by
  have il : k < l.length := (List.getElem?_eq_some_iff.mp e).1
  rw [List.take_add_one, e]
  show fkF E (l.take k ++ [t]) 0 = _
  rw [fkF_app, List.length_take, show min k l.length = k by omega, Int.zero_add]
theorem fkG_tk {E : EV} {sk : List Int} {l : List TR} {k : Nat} {t : TR} (e : l[k]? = some t) : fkG E sk (l.take (k + 1)) 0 = min (fkG E sk (l.take k) 0) (keyE E (wnG sk k) t) := by
  have il : k < l.length := (List.getElem?_eq_some_iff.mp e).1
  rw [List.take_add_one, e]
  show fkG E sk (l.take k ++ [t]) 0 = _
  rw [fkG_app, List.length_take, show min k l.length = k by omega, Int.zero_add]
/-- terms of a list, weighed up to n, the others to be weighed -/
def lsW (h : AH) (a D : Int) (E : EV) (l : List TR) (n : Int) : Prop := ∀ i : Nat, i < 4 → ∀ t, l[i]? = some t → h a i = D + szL (l.take i) ∧ ((n ≤ i ∧ toW h t (h a i)) ∨ ((i : Int) < n ∧ dnM h E t (h a i)))
theorem lsW_f {h h' : AH} {a D n m : Int} {E : EV} {l : List TR} (x : lsW h a D E l n) (le : n ≤ m) (ea : ∀ i, 0 ≤ i → i < 4 → h' a i = h a i)
    (f : ∀ i : Nat, i < 4 → ∀ t, l[i]? = some t → (m ≤ i → agM (D + szL (l.take i)) (D + szL (l.take i) + sz t) h h') ∧ ((i : Int) < n → agR (D + szL (l.take i)) (D + szL (l.take i) + sz t) h h') ∧ (n ≤ i → (i : Int) < m → dnM h' E t (D + szL (l.take i)))) : lsW h' a D E l m := fun i i4 t e => by
  obtain ⟨x1, x2⟩ := x i i4 t e
  obtain ⟨f1, f2, f3⟩ := f i i4 t e
  rw [ea i (by omega) (by omega)]
  refine ⟨x1, ?_⟩
  rcases x2 with ⟨y1, y2⟩ | ⟨y1, y2⟩
  · by_cases z : m ≤ i
    · left; refine ⟨z, ?_⟩
      rw [x1] at y2 ⊢
      exact toW_f y2 (f1 z)
    · right; refine ⟨by omega, ?_⟩
      rw [x1]; exact f3 y1 (by omega)
  · right; refine ⟨by omega, ?_⟩
    rw [x1] at y2 ⊢
    exact dnM_f y2 (f2 y1)
theorem agM_x {lo hi d z : Int} {h h' : AH} (f : ∀ a s, ¬ (a = 454 ∧ (s = 30 ∨ s = 31)) → ¬ (461 ≤ a ∧ a ≤ 463 ∧ d ≤ s ∧ s < d + z) → ¬ ((a = 807 ∨ a = 812) ∧ 0 ≤ s ∧ s < 3) → h' a s = h a s) (o : hi ≤ d ∨ d + z ≤ lo) : agM lo hi h h' ∧ agR lo hi h h' :=
  ⟨⟨fun a s _ _ _ _ _ _ => f _ _ (by omega) (by omega) (by omega), fun s _ _ => f _ _ (by omega) (by omega) (by omega), fun s _ _ => f _ _ (by omega) (by omega) (by omega)⟩, ⟨fun a s _ _ _ _ _ => f _ _ (by omega) (by omega) (by omega), fun s _ _ => f _ _ (by omega) (by omega) (by omega)⟩⟩
/-- one term more is weighed -/
theorem lsW_s {h h' : AH} {a D d : Int} {k : Nat} {E : EV} {l : List TR} {T : TR} (x : lsW h a D E l k) (na : a ≠ 454 ∧ ¬ (461 ≤ a ∧ a ≤ 463) ∧ a ≠ 807 ∧ a ≠ 812) (eT : l[k]? = some T) (ed : d = D + szL (l.take k)) (dn : dnM h' E T d)
    (f : ∀ a s, ¬ (a = 454 ∧ (s = 30 ∨ s = 31)) → ¬ (461 ≤ a ∧ a ≤ 463 ∧ d ≤ s ∧ s < d + sz T) → ¬ ((a = 807 ∨ a = 812) ∧ 0 ≤ s ∧ s < 3) → h' a s = h a s) : lsW h' a D E l ((k : Int) + 1) := by
  refine lsW_f x (by omega) (fun i i0 i1 => f _ _ (by omega) (by omega) (by omega)) (fun i i4 t e => ⟨fun y => ?_, fun y => ?_, fun y1 y2 => ?_⟩)
  · have q := szL_tk2 (l := l) (i := k) (j := i) (by omega) eT
    exact (agM_x f (Or.inr (by omega))).1
  · have q := szL_tk2 (l := l) (i := i) (j := k) (by omega) e
    exact (agM_x f (Or.inl (by omega))).2
  · have ik : i = k := by omega
    subst ik
    rw [eT] at e; cases e
    rw [← ed]; exact dn
theorem vX14_readLoop_j188_138 (a1 : Int) (a2 : Int) (a3 : Int) (a4 : Int) (a5 : Int) (a6 : Int) {h : AH} {P : Int} (x : 0 ≤ a5 ∧ a5 < 4) (lo : isLm a1) (m : MI h) (pl : 0 ≤ h (a1 + 3) a5 ∧ h (a1 + 3) a5 < 8800 ∧ h 468 (h (a1 + 3) a5) = P ∧ 0 ≤ P ∧ P ≤ 2001) : OK (gX14_readLoop_j188_138 a1 a2 a3 a4 a5 a6 h) (Sum.elim (fun r => jt2 r fun y h' => (y = a5 + 1) ∧ (MI h' ∧ MK h' = min (MK h) (if a5 = 3 then P * 8 + 4 else 1000000)) ∧ (a5 < 3 → h' (a1 + 2) a5 = a6) ∧ (∀ a s, ¬ (a = 454 ∧ (s = 30 ∨ s = 31)) → ¬ (a = a1 + 2 ∧ s = a5 ∧ a5 < 3) → h' a s = h a s)) (fun h' => (0 : Int) = 1)) := by
  have LA : a1 = 805 ∨ a1 = 810 := lo
  have mr := MK_r m
  unfold gX14_readLoop_j188_138
  refine OK_if (fun c1 => ?_) (fun c1 => ?_)
  · skip
    try simp (disch := omega) only [jst_eq, jst_ne, jst_ni, jI_i, jcmp_lt, jcmp_gt, w32_id, jcpy_out, Sum.elim_inl, Sum.elim_inr, jt2, jt3, jt4, jt5, jt6, jt7, jt8] at c1
    refine OK_jg (by (first | assumption | omega | ((try dsimp only [jt2, jt3, jt4]); first | omega | (simp (disch := omega) only [jst_eq, jst_ne, jst_ni, jst_o, jI_i, jcpy_out, w32_id, jdiv_nn, jshr_k, jand_255] <;> first | done | omega | assumption)) | (intros; simp (disch := omega) only [jst_eq, jst_ne, jst_ni, jst_o, jI_i, jcpy_out, w32_id, jdiv_nn, *] <;> first | done | omega) | (intros; simp (disch := omega) only [jst_eq, jst_ne, jst_ni, jst_o, jI_i, jcpy_out, w32_id, jdiv_nn] at * <;> first | done | omega | assumption) | (intros; first | rfl | (exfalso; omega) | ((repeat' apply And.intro) <;> first | assumption | rfl | omega | trivial)))) ?_ -- o1
    refine OK_jg (by (first | assumption | omega | ((try dsimp only [jt2, jt3, jt4]); first | omega | (simp (disch := omega) only [jst_eq, jst_ne, jst_ni, jst_o, jI_i, jcpy_out, w32_id, jdiv_nn, jshr_k, jand_255] <;> first | done | omega | assumption)) | (intros; simp (disch := omega) only [jst_eq, jst_ne, jst_ni, jst_o, jI_i, jcpy_out, w32_id, jdiv_nn, *] <;> first | done | omega) | (intros; simp (disch := omega) only [jst_eq, jst_ne, jst_ni, jst_o, jI_i, jcpy_out, w32_id, jdiv_nn] at * <;> first | done | omega | assumption) | (intros; first | rfl | (exfalso; omega) | ((repeat' apply And.intro) <;> first | assumption | rfl | omega | trivial)))) ?_ -- o2
    refine OK_jb (vX14_note _ _ (by (first | assumption | omega | ((try dsimp only [jt2, jt3, jt4]); first | omega | (simp (disch := omega) only [jst_eq, jst_ne, jst_ni, jst_o, jI_i, jcpy_out, w32_id, jdiv_nn, jshr_k, jand_255] <;> first | done | omega | assumption)) | (intros; simp (disch := omega) only [jst_eq, jst_ne, jst_ni, jst_o, jI_i, jcpy_out, w32_id, jdiv_nn, *] <;> first | done | omega) | (intros; simp (disch := omega) only [jst_eq, jst_ne, jst_ni, jst_o, jI_i, jcpy_out, w32_id, jdiv_nn] at * <;> first | done | omega | assumption) | (intros; first | rfl | (exfalso; omega) | ((repeat' apply And.intro) <;> first | assumption | rfl | omega | trivial)))) (by (first | assumption | omega | ((try dsimp only [jt2, jt3, jt4]); first | omega | (simp (disch := omega) only [jst_eq, jst_ne, jst_ni, jst_o, jI_i, jcpy_out, w32_id, jdiv_nn, jshr_k, jand_255] <;> first | done | omega | assumption)) | (intros; simp (disch := omega) only [jst_eq, jst_ne, jst_ni, jst_o, jI_i, jcpy_out, w32_id, jdiv_nn, *] <;> first | done | omega) | (intros; simp (disch := omega) only [jst_eq, jst_ne, jst_ni, jst_o, jI_i, jcpy_out, w32_id, jdiv_nn] at * <;> first | done | omega | assumption) | (intros; first | rfl | (exfalso; omega) | ((repeat' apply And.intro) <;> first | assumption | rfl | omega | trivial))))) (fun h113 r1 => ?_)
    try dsimp only [Sum.elim_inl, Sum.elim_inr, jt2, jt3, jt4, jt5, jt6, jt7, jt8] at r1
    obtain ⟨m1, k1, fr1⟩ := r1
    try simp (disch := omega) only [jst_eq, jst_ne, jst_ni, jI_i, jcmp_lt, jcmp_gt, w32_id, jcpy_out, Sum.elim_inl, Sum.elim_inr, jt2, jt3, jt4, jt5, jt6, jt7, jt8] at m1
    try simp (disch := omega) only [jst_eq, jst_ne, jst_ni, jI_i, jcmp_lt, jcmp_gt, w32_id, jcpy_out, Sum.elim_inl, Sum.elim_inr, jt2, jt3, jt4, jt5, jt6, jt7, jt8] at k1
    try simp (disch := omega) only [jst_eq, jst_ne, jst_ni, jI_i, jcmp_lt, jcmp_gt, w32_id, jcpy_out, Sum.elim_inl, Sum.elim_inr, jt2, jt3, jt4, jt5, jt6, jt7, jt8] at fr1
    unfold gX14_readLoop_j211_138
    refine OK_if (fun c2 => ?_) (fun c2 => ?_)
    · skip
      try simp (disch := omega) only [jst_eq, jst_ne, jst_ni, jI_i, jcmp_lt, jcmp_gt, w32_id, jcpy_out, Sum.elim_inl, Sum.elim_inr, jt2, jt3, jt4, jt5, jt6, jt7, jt8] at c2
      unfold gX14_readLoop_j226_138
      refine OK_jlx (fun x116 ex116 => ?_)
      try simp (disch := omega) only [jst_eq, jst_ne, jst_ni, jI_i, jcmp_lt, jcmp_gt, w32_id, jcpy_out, Sum.elim_inl, Sum.elim_inr, jt2, jt3, jt4, jt5, jt6, jt7, jt8] at ex116
      refine OK_some ?_
      try dsimp only [Sum.elim_inl, Sum.elim_inr, jt2, jt3, jt4, jt5, jt6, jt7, jt8]
      try dsimp only [Sum.elim_inl, Sum.elim_inr, jt2, jt3, jt4, jt5, jt6, jt7, jt8]
      refine ⟨?_, ?_, ?_, ?_⟩
      · (first | assumption | omega | ((try dsimp only [jt2, jt3, jt4]); first | omega | (simp (disch := omega) only [jst_eq, jst_ne, jst_ni, jst_o, jI_i, jcpy_out, w32_id, jdiv_nn, jshr_k, jand_255] <;> first | done | omega | assumption)) | (intros; simp (disch := omega) only [jst_eq, jst_ne, jst_ni, jst_o, jI_i, jcpy_out, w32_id, jdiv_nn, *] <;> first | done | omega) | (intros; simp (disch := omega) only [jst_eq, jst_ne, jst_ni, jst_o, jI_i, jcpy_out, w32_id, jdiv_nn] at * <;> first | done | omega | assumption) | (intros; first | rfl | (exfalso; omega) | ((repeat' apply And.intro) <;> first | assumption | rfl | omega | trivial))) -- o5 e1.1
      · (rw [if_pos c1]; exact ⟨m1, by rw [k1, pl.2.2.1]⟩) -- o6 e1.2
      · (intro z; omega) -- o7 e1.3
      · exact fun a s y1 _ => fr1 a s y1 -- o8 e1.4
    · skip
      try simp (disch := omega) only [jst_eq, jst_ne, jst_ni, jI_i, jcmp_lt, jcmp_gt, w32_id, jcpy_out, Sum.elim_inl, Sum.elim_inr, jt2, jt3, jt4, jt5, jt6, jt7, jt8] at c2
      exfalso
      omega
  · skip
    try simp (disch := omega) only [jst_eq, jst_ne, jst_ni, jI_i, jcmp_lt, jcmp_gt, w32_id, jcpy_out, Sum.elim_inl, Sum.elim_inr, jt2, jt3, jt4, jt5, jt6, jt7, jt8] at c1
    unfold gX14_readLoop_j211_138
    refine OK_if (fun c3 => ?_) (fun c3 => ?_)
    · skip
      try simp (disch := omega) only [jst_eq, jst_ne, jst_ni, jI_i, jcmp_lt, jcmp_gt, w32_id, jcpy_out, Sum.elim_inl, Sum.elim_inr, jt2, jt3, jt4, jt5, jt6, jt7, jt8] at c3
      exfalso
      omega
    · skip
      try simp (disch := omega) only [jst_eq, jst_ne, jst_ni, jI_i, jcmp_lt, jcmp_gt, w32_id, jcpy_out, Sum.elim_inl, Sum.elim_inr, jt2, jt3, jt4, jt5, jt6, jt7, jt8] at c3
      refine OK_jg (by (first | assumption | omega | ((try dsimp only [jt2, jt3, jt4]); first | omega | (simp (disch := omega) only [jst_eq, jst_ne, jst_ni, jst_o, jI_i, jcpy_out, w32_id, jdiv_nn, jshr_k, jand_255] <;> first | done | omega | assumption)) | (intros; simp (disch := omega) only [jst_eq, jst_ne, jst_ni, jst_o, jI_i, jcpy_out, w32_id, jdiv_nn, *] <;> first | done | omega) | (intros; simp (disch := omega) only [jst_eq, jst_ne, jst_ni, jst_o, jI_i, jcpy_out, w32_id, jdiv_nn] at * <;> first | done | omega | assumption) | (intros; first | rfl | (exfalso; omega) | ((repeat' apply And.intro) <;> first | assumption | rfl | omega | trivial)))) ?_ -- o9
      refine OK_jl ?_
      have F115 : ∀ a s, ¬ (a = a1 + 2 ∧ s = a5) → jst h (a1 + 2) a5 a6 a s = h a s := fun a s y => jst_o y
      have V115 : jst h (a1 + 2) a5 a6 (a1 + 2) a5 = a6 := jst_eq
      generalize jst h (a1 + 2) a5 a6 = g115 at *
      unfold gX14_readLoop_j226_138
      refine OK_jlx (fun x116 ex116 => ?_)
      try simp (disch := omega) only [jst_eq, jst_ne, jst_ni, jI_i, jcmp_lt, jcmp_gt, w32_id, jcpy_out, Sum.elim_inl, Sum.elim_inr, jt2, jt3, jt4, jt5, jt6, jt7, jt8] at ex116
      refine OK_some ?_
      try dsimp only [Sum.elim_inl, Sum.elim_inr, jt2, jt3, jt4, jt5, jt6, jt7, jt8]
      try dsimp only [Sum.elim_inl, Sum.elim_inr, jt2, jt3, jt4, jt5, jt6, jt7, jt8]
      refine ⟨?_, ?_, ?_, ?_⟩
      · (first | assumption | omega | ((try dsimp only [jt2, jt3, jt4]); first | omega | (simp (disch := omega) only [jst_eq, jst_ne, jst_ni, jst_o, jI_i, jcpy_out, w32_id, jdiv_nn, jshr_k, jand_255] <;> first | done | omega | assumption)) | (intros; simp (disch := omega) only [jst_eq, jst_ne, jst_ni, jst_o, jI_i, jcpy_out, w32_id, jdiv_nn, *] <;> first | done | omega) | (intros; simp (disch := omega) only [jst_eq, jst_ne, jst_ni, jst_o, jI_i, jcpy_out, w32_id, jdiv_nn] at * <;> first | done | omega | assumption) | (intros; first | rfl | (exfalso; omega) | ((repeat' apply And.intro) <;> first | assumption | rfl | omega | trivial))) -- o10 e2.1
      · (rw [if_neg c1, MK_fr (F115 _ _ (by omega)) (F115 _ _ (by omega))]; exact ⟨MI_fr (F115 _ _ (by omega)) (F115 _ _ (by omega)) m, by omega⟩) -- o11 e2.2
      · exact fun _ => V115 -- o12 e2.3
      · exact fun a s _ y2 => F115 a s (by omega) -- o13 e2.4

