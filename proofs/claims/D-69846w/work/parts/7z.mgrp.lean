/-! m: groups of places -/
noncomputable def cntO (e : CE) (o : Int → Int) (t : Int) : Nat → Int
  | 0 => 0
  | n + 1 => cntO e o t n + cif (isP e n ∧ o n = t) 1 0
noncomputable def prcO (e : CE) (o : Int → Int) (t : Int) : Nat → Int
  | 0 => 2
  | n + 1 => cif (isP e n ∧ o n = t) (min (prcO e o t n) (spR n)) (prcO e o t n)
theorem cntO_s {e : CE} {o : Int → Int} {t : Int} {n : Nat} : cntO e o t (n + 1) = cntO e o t n + cif (isP e n ∧ o n = t) 1 0 := rfl
theorem prcO_s {e : CE} {o : Int → Int} {t : Int} {n : Nat} : prcO e o t (n + 1) = cif (isP e n ∧ o n = t) (min (prcO e o t n) (spR n)) (prcO e o t n) := rfl
theorem cntO_c {e : CE} {o p : Int → Int} {t : Int} : ∀ {n : Nat}, (∀ k : Nat, k < n → o k = p k) → cntO e o t n = cntO e p t n ∧ prcO e o t n = prcO e p t n
  | 0, _ => ⟨rfl, rfl⟩
  | n + 1, h => by
    have q := cntO_c (e := e) (t := t) (n := n) (fun k l => h k (by omega))
    rw [cntO_s, cntO_s, prcO_s, prcO_s, q.1, q.2, h n (by omega)]
    exact ⟨rfl, rfl⟩
theorem cntO_z {e : CE} {o : Int → Int} {t : Int} : ∀ {n : Nat}, (∀ k : Nat, k < n → isP e k → o k ≠ t) → cntO e o t n = 0 ∧ prcO e o t n = 2
  | 0, _ => ⟨rfl, rfl⟩
  | n + 1, h => by
    have q := cntO_z (e := e) (o := o) (t := t) (n := n) (fun k l => h k (by omega))
    have z : ¬ (isP e n ∧ o n = t) := fun y => h n (by omega) y.1 y.2
    rw [cntO_s, prcO_s, cif_n z, cif_n z, q.1, q.2]
    exact ⟨rfl, rfl⟩
theorem cntO_b {e : CE} {o : Int → Int} {t : Int} : ∀ n : Nat, (0 ≤ cntO e o t n ∧ cntO e o t n ≤ n) ∧ 1 ≤ prcO e o t n ∧ prcO e o t n ≤ 2
  | 0 => ⟨⟨Int.le_refl _, Int.le_refl _⟩, (show (1 : Int) ≤ 2 by decide), Int.le_refl _⟩
  | n + 1 => by
    have q := cntO_b (e := e) (o := o) (t := t) n
    have s := spR_b (n : Int)
    rw [cntO_s, prcO_s]
    by_cases y : isP e n ∧ o n = t
    · rw [cif_y y, cif_y y]; omega
    · rw [cif_n y, cif_n y]; omega
def GRI (h : AH) (e : CE) (n : Int) : Prop := (∀ s, 0 ≤ s → s < n → spM h e s) ∧ (∀ s, 0 ≤ s → s < n → isP e s → (0 ≤ h 825 s ∧ h 825 s ≤ s) ∧ isP e (h 825 s) ∧ seE e (h 825 s) s ∧ h 825 (h 825 s) = h 825 s) ∧ ∀ t, 0 ≤ t → t < n → isP e t → h 825 t = t → h 826 t = cntO e (h 825) t n.toNat ∧ h 827 t = prcO e (h 825) t n.toNat
theorem GRI_s {h H : AH} {e : CE} {a : Int} (g : GRI h e a) (a0 : 0 ≤ a) (e8 : e.1 ≤ 8) (sp : spM H e a) (f3 : ∀ x, x < 8 * a → H 823 x = h 823 x) (f4 : ∀ x, x < a → H 824 x = h 824 x ∧ H 825 x = h 825 x ∧ H 826 x = h 826 x ∧ H 827 x = h 827 x) (z : H 826 a = 0 ∧ H 827 a = 2) (gr : isP e a → (0 ≤ H 825 a ∧ H 825 a ≤ a) ∧ isP e (H 825 a) ∧ seE e (H 825 a) a ∧ H 825 (H 825 a) = H 825 a) : (∀ s, 0 ≤ s → s < a + 1 → spM H e s) ∧ (∀ s, 0 ≤ s → s < a + 1 → isP e s → (0 ≤ H 825 s ∧ H 825 s ≤ s) ∧ isP e (H 825 s) ∧ seE e (H 825 s) s ∧ H 825 (H 825 s) = H 825 s) ∧ ∀ t, 0 ≤ t → t < a + 1 → isP e t → H 825 t = t → H 826 t = cntO e (H 825) t a.toNat ∧ H 827 t = prcO e (H 825) t a.toNat := by
  obtain ⟨g1, g2, g3⟩ := g
  refine ⟨fun s s0 s1 => ?_, fun s s0 s1 p => ?_, fun t t0 t1 p q => ?_⟩
  · by_cases y : s = a
    · rw [y]; exact sp
    · exact spM_f (g1 s s0 (by omega)) e8 (fun a' x q => by
        rcases q with ⟨q1, q2⟩ | ⟨q1, q2, q3⟩
        · rw [q1]; exact (f4 x (by omega)).1
        · rw [q1]; exact f3 x (by omega))
  · by_cases y : s = a
    · rw [y] at p ⊢; exact gr p
    · have f := (f4 s (by omega)).2.1
      obtain ⟨c1, c2, c3, c4⟩ := g2 s s0 (by omega) p
      rw [f]
      exact ⟨c1, c2, c3, by rw [(f4 (h 825 s) (by omega)).2.1]; exact c4⟩
  · have cc := cntO_c (e := e) (o := H 825) (p := h 825) (t := t) (n := a.toNat) (fun k l => (f4 k (by omega)).2.1)
    by_cases y : t = a
    · have zz := cntO_z (e := e) (o := H 825) (t := t) (n := a.toNat) (fun k l pk w => by
        have f := (f4 k (by omega)).2.1
        have := (g2 k (by omega) (by omega) pk).1
        omega)
      rw [zz.1, zz.2, y]
      exact z
    · have f := f4 t (by omega)
      have := g3 t t0 (by omega) p (by rw [← f.2.1]; exact q)
      rw [cc.1, cc.2, f.2.2.1, f.2.2.2]
      exact this
theorem GRI_n {h H : AH} {e : CE} {a : Int} (g : GRI h e a) (a0 : 0 ≤ a) (e8 : e.1 ≤ 8) (sp : spM H e a) (f3 : ∀ x, x < 8 * a → H 823 x = h 823 x) (f4 : ∀ x, x < a → H 824 x = h 824 x ∧ H 825 x = h 825 x ∧ H 826 x = h 826 x ∧ H 827 x = h 827 x) (z : H 826 a = 0 ∧ H 827 a = 2) (np : ¬ isP e a) : GRI H e (a + 1) := by
  obtain ⟨g1, g2, g3⟩ := GRI_s g a0 e8 sp f3 f4 z (fun p => absurd p np)
  refine ⟨g1, g2, fun t t0 t1 p q => ?_⟩
  have ea : ((a.toNat : Nat) : Int) = a := by omega
  have := g3 t t0 t1 p q
  rw [show (a + 1).toNat = a.toNat + 1 by omega, cntO_s, prcO_s, ea, cif_n (fun y => np y.1), cif_n (fun y => np y.1)]
  rw [this.1, this.2]
  exact ⟨by omega, rfl⟩
theorem GRI_y {h H H' : AH} {e : CE} {a : Int} (g : GRI h e a) (a0 : 0 ≤ a) (e8 : e.1 ≤ 8) (sp : spM H e a) (f3 : ∀ x, x < 8 * a → H 823 x = h 823 x) (f4 : ∀ x, x < a → H 824 x = h 824 x ∧ H 825 x = h 825 x ∧ H 826 x = h 826 x ∧ H 827 x = h 827 x) (z : H 826 a = 0 ∧ H 827 a = 2) (gr : (0 ≤ H 825 a ∧ H 825 a ≤ a) ∧ isP e (H 825 a) ∧ seE e (H 825 a) a ∧ H 825 (H 825 a) = H 825 a) (p : isP e a) (k3 : H' 823 = H 823 ∧ H' 824 = H 824 ∧ H' 825 = H 825) (k6 : ∀ x, H' 826 x = if x = H 825 a then H 826 x + 1 else H 826 x) (k7 : ∀ x, H' 827 x = if x = H 825 a then min (H 827 x) (spR a) else H 827 x) : GRI H' e (a + 1) := by
  obtain ⟨g1, g2, g3⟩ := GRI_s g a0 e8 sp f3 f4 z (fun _ => gr)
  have ea : ((a.toNat : Nat) : Int) = a := by omega
  refine ⟨fun s s0 s1 => spM_f (g1 s s0 s1) e8 (fun a' x q => by
    rcases q with q | q
    · rw [q.1, k3.2.1]
    · rw [q.1, k3.1]), fun s s0 s1 => by rw [k3.2.2]; exact g2 s s0 s1, fun t t0 t1 p' q => ?_⟩
  rw [k3.2.2] at q ⊢
  have := g3 t t0 t1 p' q
  rw [show (a + 1).toNat = a.toNat + 1 by omega, cntO_s, prcO_s, ea, k6, k7]
  by_cases y : t = H 825 a
  · rw [if_pos y, if_pos y, cif_y ⟨p, y.symm⟩, cif_y ⟨p, y.symm⟩, this.1, this.2]
    exact ⟨rfl, rfl⟩
  · rw [if_neg y, if_neg y, cif_n (fun w => y w.2.symm), cif_n (fun w => y w.2.symm), this.1, this.2]
    exact ⟨by omega, rfl⟩
theorem vX14_makeSpots_l2 (a10 : Int) {h0 : AH} {e : CE} (hc : cuM h0 e) (hv : vCE e) (hk : kM h0) (h1 : a10 = 0) : OK (gX14_makeSpots_l2 a10 h0) (fun h' => (GRI h' e 178) ∧ (∀ a x, ¬ ((823 ≤ a ∧ a ≤ 827) ∧ 0 ≤ x) → h' a x = h0 a x)) := by
  have n8 := hv.1
  unfold gX14_makeSpots_l2
  refine OK_jit (I := (fun (s : Int × AH) => jt2 s fun a1 h => (0 ≤ a1 ∧ a1 ≤ 178) ∧ (GRI h e a1) ∧ (∀ a x, ¬ ((823 ≤ a ∧ a ≤ 827) ∧ 0 ≤ x) → h a x = h0 a x))) (m := (fun (s : Int × AH) => jt2 s fun a1 h => (178 - a1).toNat)) ?_ ?_
  · intro s hs
    obtain ⟨a1, h⟩ := s
    dsimp only [Sum.elim_inl, Sum.elim_inr, jt2, jt3, jt4, jt5, jt6, jt7, jt8] at hs
    obtain ⟨q0, q1, fr⟩ := hs
    unfold gX14_makeSpots_b2
    refine OK_jt2 ?_
    refine OK_if (fun c1 => ?_) (fun c1 => ?_)
    · skip
      try simp (disch := omega) only [jst_eq, jst_ne, jst_ni, jI_i, jcmp_lt, jcmp_gt, w32_id, jcpy_out, Sum.elim_inl, Sum.elim_inr, jt2, jt3, jt4, jt5, jt6, jt7, jt8] at c1
      refine OK_ir ?_
      try dsimp only [Sum.elim_inl, Sum.elim_inr, jt2, jt3, jt4, jt5, jt6, jt7, jt8]
      refine ⟨?_, ?_⟩
      · (rw [show (178 : Int) = a1 by omega]; exact q1) -- o1 e1.1
      · (first | assumption | omega | ((try dsimp only [jt2, jt3, jt4]); first | omega | (simp (disch := omega) only [jst_eq, jst_ne, jst_ni, jst_o, jI_i, jcpy_out, w32_id, jdiv_nn, jshr_k, jand_255] <;> first | done | omega | assumption)) | (intros; simp (disch := omega) only [jst_eq, jst_ne, jst_ni, jst_o, jI_i, jcpy_out, w32_id, jdiv_nn, *] <;> first | done | omega) | (intros; simp (disch := omega) only [jst_eq, jst_ne, jst_ni, jst_o, jI_i, jcpy_out, w32_id, jdiv_nn] at * <;> first | done | omega | assumption) | (intros; first | rfl | (exfalso; omega) | ((repeat' apply And.intro) <;> first | assumption | rfl | omega | trivial))) -- o2 e1.2
    · skip
      try simp (disch := omega) only [jst_eq, jst_ne, jst_ni, jI_i, jcmp_lt, jcmp_gt, w32_id, jcpy_out, Sum.elim_inl, Sum.elim_inr, jt2, jt3, jt4, jt5, jt6, jt7, jt8] at c1
      refine OK_jg (by (first | assumption | omega | ((try dsimp only [jt2, jt3, jt4]); first | omega | (simp (disch := omega) only [jst_eq, jst_ne, jst_ni, jst_o, jI_i, jcpy_out, w32_id, jdiv_nn, jshr_k, jand_255] <;> first | done | omega | assumption)) | (intros; simp (disch := omega) only [jst_eq, jst_ne, jst_ni, jst_o, jI_i, jcpy_out, w32_id, jdiv_nn, *] <;> first | done | omega) | (intros; simp (disch := omega) only [jst_eq, jst_ne, jst_ni, jst_o, jI_i, jcpy_out, w32_id, jdiv_nn] at * <;> first | done | omega | assumption) | (intros; first | rfl | (exfalso; omega) | ((repeat' apply And.intro) <;> first | assumption | rfl | omega | trivial)))) ?_ -- o3
      refine OK_jl ?_
      refine OK_jb (vX14_makeSpots_l18 (e := e) _ _ (by exact cuM_f hc (fun a s y => by rw [jst_o (by omega)]; exact fr _ _ (by omega))) (by (first | assumption | omega | ((try dsimp only [jt2, jt3, jt4]); first | omega | (simp (disch := omega) only [jst_eq, jst_ne, jst_ni, jst_o, jI_i, jcpy_out, w32_id, jdiv_nn, jshr_k, jand_255] <;> first | done | omega | assumption)) | (intros; simp (disch := omega) only [jst_eq, jst_ne, jst_ni, jst_o, jI_i, jcpy_out, w32_id, jdiv_nn, *] <;> first | done | omega) | (intros; simp (disch := omega) only [jst_eq, jst_ne, jst_ni, jst_o, jI_i, jcpy_out, w32_id, jdiv_nn] at * <;> first | done | omega | assumption) | (intros; first | rfl | (exfalso; omega) | ((repeat' apply And.intro) <;> first | assumption | rfl | omega | trivial)))) (by exact ⟨by rw [jst_ne (by decide), fr _ _ (by omega)]; exact hk.1, by rw [jst_ne (by decide), fr _ _ (by omega)]; exact hk.2⟩) (by omega) (by (rw [jst_eq]; rfl)) (by (first | assumption | omega | ((try dsimp only [jt2, jt3, jt4]); first | omega | (simp (disch := omega) only [jst_eq, jst_ne, jst_ni, jst_o, jI_i, jcpy_out, w32_id, jdiv_nn, jshr_k, jand_255] <;> first | done | omega | assumption)) | (intros; simp (disch := omega) only [jst_eq, jst_ne, jst_ni, jst_o, jI_i, jcpy_out, w32_id, jdiv_nn, *] <;> first | done | omega) | (intros; simp (disch := omega) only [jst_eq, jst_ne, jst_ni, jst_o, jI_i, jcpy_out, w32_id, jdiv_nn] at * <;> first | done | omega | assumption) | (intros; first | rfl | (exfalso; omega) | ((repeat' apply And.intro) <;> first | assumption | rfl | omega | trivial))))) (fun o5 r1 => ?_)
      try dsimp only [Sum.elim_inl, Sum.elim_inr, jt2, jt3, jt4, jt5, jt6, jt7, jt8] at r1
      obtain ⟨sp1, fr1⟩ := r1
      try simp (disch := omega) only [jst_eq, jst_ne, jst_ni, jI_i, jcmp_lt, jcmp_gt, w32_id, jcpy_out, Sum.elim_inl, Sum.elim_inr, jt2, jt3, jt4, jt5, jt6, jt7, jt8] at sp1
      try simp (disch := omega) only [jst_eq, jst_ne, jst_ni, jI_i, jcmp_lt, jcmp_gt, w32_id, jcpy_out, Sum.elim_inl, Sum.elim_inr, jt2, jt3, jt4, jt5, jt6, jt7, jt8] at fr1
      have F5 : ∀ a x, ¬ (a = 824 ∧ x = a1) → ¬ (a = 823 ∧ 8 * a1 ≤ x ∧ x < 8 * a1 + 8) → o5 a x = h a x := fun a x y1 y2 => by { rw [fr1 a x y1 y2, jst_o (by omega)] }
      unfold gX14_makeSpots_j96_2
      refine OK_jg (by (first | assumption | omega | ((try dsimp only [jt2, jt3, jt4]); first | omega | (simp (disch := omega) only [jst_eq, jst_ne, jst_ni, jst_o, jI_i, jcpy_out, w32_id, jdiv_nn, jshr_k, jand_255] <;> first | done | omega | assumption)) | (intros; simp (disch := omega) only [jst_eq, jst_ne, jst_ni, jst_o, jI_i, jcpy_out, w32_id, jdiv_nn, *] <;> first | done | omega) | (intros; simp (disch := omega) only [jst_eq, jst_ne, jst_ni, jst_o, jI_i, jcpy_out, w32_id, jdiv_nn] at * <;> first | done | omega | assumption) | (intros; first | rfl | (exfalso; omega) | ((repeat' apply And.intro) <;> first | assumption | rfl | omega | trivial)))) ?_ -- o10
      refine OK_jl ?_
      refine OK_jl ?_
      refine OK_jl ?_
      have F9 : ∀ a x, ¬ ((a = 825 ∨ a = 826 ∨ a = 827) ∧ x = a1) → jst (jst (jst o5 825 a1 a1) 826 a1 0) 827 a1 2 a x = o5 a x := fun a x y => by { rw [jst_o (by omega), jst_o (by omega), jst_o (by omega)] }
      refine OK_jb (vX14_makeSpots_l119 (e := e) _ _ (by (rw [F9 _ _ (by omega), F5 _ _ (by omega) (by omega), fr _ _ (by omega)]; exact ⟨hc.1, by omega, by omega⟩)) (by omega) (by (intro s s0 s1; by_cases y : s = a1; { rw [y]; exact spM_f sp1 n8.2 (fun a x z => F9 a x (by omega)) }; { exact spM_f (q1.1 s s0 (by omega)) n8.2 (fun a x z => by rw [F9 a x (by omega)]; exact F5 a x (by omega) (by omega)) })) (by (rw [jst_ne (by decide), jst_ne (by decide), jst_eq])) (by (first | assumption | omega | ((try dsimp only [jt2, jt3, jt4]); first | omega | (simp (disch := omega) only [jst_eq, jst_ne, jst_ni, jst_o, jI_i, jcpy_out, w32_id, jdiv_nn, jshr_k, jand_255] <;> first | done | omega | assumption)) | (intros; simp (disch := omega) only [jst_eq, jst_ne, jst_ni, jst_o, jI_i, jcpy_out, w32_id, jdiv_nn, *] <;> first | done | omega) | (intros; simp (disch := omega) only [jst_eq, jst_ne, jst_ni, jst_o, jI_i, jcpy_out, w32_id, jdiv_nn] at * <;> first | done | omega | assumption) | (intros; first | rfl | (exfalso; omega) | ((repeat' apply And.intro) <;> first | assumption | rfl | omega | trivial))))) (fun o10 r2 => ?_)
      try dsimp only [Sum.elim_inl, Sum.elim_inr, jt2, jt3, jt4, jt5, jt6, jt7, jt8] at r2
      obtain ⟨gr2, fr2⟩ := r2
      try simp (disch := omega) only [jst_eq, jst_ne, jst_ni, jI_i, jcmp_lt, jcmp_gt, w32_id, jcpy_out, Sum.elim_inl, Sum.elim_inr, jt2, jt3, jt4, jt5, jt6, jt7, jt8] at gr2
      try simp (disch := omega) only [jst_eq, jst_ne, jst_ni, jI_i, jcmp_lt, jcmp_gt, w32_id, jcpy_out, Sum.elim_inl, Sum.elim_inr, jt2, jt3, jt4, jt5, jt6, jt7, jt8] at fr2
      have SA : spM o10 e a1 := spM_f sp1 n8.2 (fun a x z => by { rw [fr2 a x (by omega)]; exact F9 a x (by omega) })
      have K3 : ∀ x, x < 8 * a1 → o10 823 x = h 823 x := fun x l => by { rw [fr2 _ _ (by omega), F9 _ _ (by omega), F5 _ _ (by omega) (by omega)] }
      have K4 : ∀ x, x < a1 → o10 824 x = h 824 x ∧ o10 825 x = h 825 x ∧ o10 826 x = h 826 x ∧ o10 827 x = h 827 x := fun x l => by { rw [fr2 824 x (by omega), fr2 825 x (by omega), fr2 826 x (by omega), fr2 827 x (by omega), F9 824 x (by omega), F9 825 x (by omega), F9 826 x (by omega), F9 827 x (by omega), F5 824 x (by omega) (by omega), F5 825 x (by omega) (by omega), F5 826 x (by omega) (by omega), F5 827 x (by omega) (by omega)]; exact ⟨rfl, rfl, rfl, rfl⟩ }
      have KZ : o10 826 a1 = 0 ∧ o10 827 a1 = 2 := by { rw [fr2 826 a1 (by omega), fr2 827 a1 (by omega)]; exact ⟨by rw [jst_ne (by decide), jst_eq], jst_eq⟩ }
      have KG : isP e a1 → (0 ≤ o10 825 a1 ∧ o10 825 a1 ≤ a1) ∧ isP e (o10 825 a1) ∧ seE e (o10 825 a1) a1 ∧ o10 825 (o10 825 a1) = o10 825 a1 := fun p => by { rcases gr2 with w | w; { rw [w.1, w.1]; exact ⟨⟨q0.1, Int.le_refl _⟩, p, fun _ _ _ => rfl, rfl⟩ }; { exact ⟨⟨w.2.1.1, by omega⟩, w.2.2.1, w.2.2.2.1, by rw [fr2 825 (o10 825 a1) (by omega)]; exact w.2.2.2.2⟩ } }
      have KF : ∀ a x, ¬ ((823 ≤ a ∧ a ≤ 827) ∧ 0 ≤ x) → o10 a x = h0 a x := fun a x y => by { rw [fr2 a x (by omega), F9 a x (by omega), F5 a x (by omega) (by omega)]; exact fr a x y }
      unfold gX14_makeSpots_j244_2
      refine OK_jg (by (first | assumption | omega | ((try dsimp only [jt2, jt3, jt4]); first | omega | (simp (disch := omega) only [jst_eq, jst_ne, jst_ni, jst_o, jI_i, jcpy_out, w32_id, jdiv_nn, jshr_k, jand_255] <;> first | done | omega | assumption)) | (intros; simp (disch := omega) only [jst_eq, jst_ne, jst_ni, jst_o, jI_i, jcpy_out, w32_id, jdiv_nn, *] <;> first | done | omega) | (intros; simp (disch := omega) only [jst_eq, jst_ne, jst_ni, jst_o, jI_i, jcpy_out, w32_id, jdiv_nn] at * <;> first | done | omega | assumption) | (intros; first | rfl | (exfalso; omega) | ((repeat' apply And.intro) <;> first | assumption | rfl | omega | trivial)))) ?_ -- o16
      refine OK_if (fun c2 => ?_) (fun c2 => ?_)
      · skip
        try simp (disch := omega) only [jst_eq, jst_ne, jst_ni, jI_i, jcmp_lt, jcmp_gt, w32_id, jcpy_out, Sum.elim_inl, Sum.elim_inr, jt2, jt3, jt4, jt5, jt6, jt7, jt8] at c2
        have NP : ¬ isP e a1 := by { rcases SA with z | z; { have := z.1; omega }; { exact z.2 } }
        unfold gX14_makeSpots_j268_2
        refine OK_jg (by (first | assumption | omega | ((try dsimp only [jt2, jt3, jt4]); first | omega | (simp (disch := omega) only [jst_eq, jst_ne, jst_ni, jst_o, jI_i, jcpy_out, w32_id, jdiv_nn, jshr_k, jand_255] <;> first | done | omega | assumption)) | (intros; simp (disch := omega) only [jst_eq, jst_ne, jst_ni, jst_o, jI_i, jcpy_out, w32_id, jdiv_nn, *] <;> first | done | omega) | (intros; simp (disch := omega) only [jst_eq, jst_ne, jst_ni, jst_o, jI_i, jcpy_out, w32_id, jdiv_nn] at * <;> first | done | omega | assumption) | (intros; first | rfl | (exfalso; omega) | ((repeat' apply And.intro) <;> first | assumption | rfl | omega | trivial)))) ?_ -- o17
        refine OK_if (fun c3 => ?_) (fun c3 => ?_)
        · skip
          try simp (disch := omega) only [jst_eq, jst_ne, jst_ni, jI_i, jcmp_lt, jcmp_gt, w32_id, jcpy_out, Sum.elim_inl, Sum.elim_inr, jt2, jt3, jt4, jt5, jt6, jt7, jt8] at c3
          unfold gX14_makeSpots_j306_2
          refine OK_jlx (fun x18 ex18 => ?_)
          try simp (disch := omega) only [jst_eq, jst_ne, jst_ni, jI_i, jcmp_lt, jcmp_gt, w32_id, jcpy_out, Sum.elim_inl, Sum.elim_inr, jt2, jt3, jt4, jt5, jt6, jt7, jt8] at ex18
          refine OK_il ?_ ?_
          · try dsimp only [Sum.elim_inl, Sum.elim_inr, jt2, jt3, jt4, jt5, jt6, jt7, jt8]
            refine ⟨?_, ?_, ?_⟩
            · (first | assumption | omega | ((try dsimp only [jt2, jt3, jt4]); first | omega | (simp (disch := omega) only [jst_eq, jst_ne, jst_ni, jst_o, jI_i, jcpy_out, w32_id, jdiv_nn, jshr_k, jand_255] <;> first | done | omega | assumption)) | (intros; simp (disch := omega) only [jst_eq, jst_ne, jst_ni, jst_o, jI_i, jcpy_out, w32_id, jdiv_nn, *] <;> first | done | omega) | (intros; simp (disch := omega) only [jst_eq, jst_ne, jst_ni, jst_o, jI_i, jcpy_out, w32_id, jdiv_nn] at * <;> first | done | omega | assumption) | (intros; first | rfl | (exfalso; omega) | ((repeat' apply And.intro) <;> first | assumption | rfl | omega | trivial))) -- o18 e2i.1
            · (rw [ex18]; exact GRI_n q1 q0.1 n8.2 SA K3 K4 KZ NP) -- o19 e2i.2
            · (first | assumption | omega | ((try dsimp only [jt2, jt3, jt4]); first | omega | (simp (disch := omega) only [jst_eq, jst_ne, jst_ni, jst_o, jI_i, jcpy_out, w32_id, jdiv_nn, jshr_k, jand_255] <;> first | done | omega | assumption)) | (intros; simp (disch := omega) only [jst_eq, jst_ne, jst_ni, jst_o, jI_i, jcpy_out, w32_id, jdiv_nn, *] <;> first | done | omega) | (intros; simp (disch := omega) only [jst_eq, jst_ne, jst_ni, jst_o, jI_i, jcpy_out, w32_id, jdiv_nn] at * <;> first | done | omega | assumption) | (intros; first | rfl | (exfalso; omega) | ((repeat' apply And.intro) <;> first | assumption | rfl | omega | trivial))) -- o20 e2i.3
          · (first | assumption | omega | ((try dsimp only [jt2, jt3, jt4]); first | omega | (simp (disch := omega) only [jst_eq, jst_ne, jst_ni, jst_o, jI_i, jcpy_out, w32_id, jdiv_nn, jshr_k, jand_255] <;> first | done | omega | assumption)) | (intros; simp (disch := omega) only [jst_eq, jst_ne, jst_ni, jst_o, jI_i, jcpy_out, w32_id, jdiv_nn, *] <;> first | done | omega) | (intros; simp (disch := omega) only [jst_eq, jst_ne, jst_ni, jst_o, jI_i, jcpy_out, w32_id, jdiv_nn] at * <;> first | done | omega | assumption) | (intros; first | rfl | (exfalso; omega) | ((repeat' apply And.intro) <;> first | assumption | rfl | omega | trivial))) -- o21 e2m
        · skip
          try simp (disch := omega) only [jst_eq, jst_ne, jst_ni, jI_i, jcmp_lt, jcmp_gt, w32_id, jcpy_out, Sum.elim_inl, Sum.elim_inr, jt2, jt3, jt4, jt5, jt6, jt7, jt8] at c3
          refine OK_jg (by (first | assumption | omega | ((try dsimp only [jt2, jt3, jt4]); first | omega | (simp (disch := omega) only [jst_eq, jst_ne, jst_ni, jst_o, jI_i, jcpy_out, w32_id, jdiv_nn, jshr_k, jand_255] <;> first | done | omega | assumption)) | (intros; simp (disch := omega) only [jst_eq, jst_ne, jst_ni, jst_o, jI_i, jcpy_out, w32_id, jdiv_nn, *] <;> first | done | omega) | (intros; simp (disch := omega) only [jst_eq, jst_ne, jst_ni, jst_o, jI_i, jcpy_out, w32_id, jdiv_nn] at * <;> first | done | omega | assumption) | (intros; first | rfl | (exfalso; omega) | ((repeat' apply And.intro) <;> first | assumption | rfl | omega | trivial)))) ?_ -- o22
          refine OK_jb (vX14_spotPrice _) (fun v16 r3 => ?_)
          try dsimp only [Sum.elim_inl, Sum.elim_inr, jt2, jt3, jt4, jt5, jt6, jt7, jt8] at r3
          have v3 := r3
          clear r3
          try simp (disch := omega) only [jst_eq, jst_ne, jst_ni, jI_i, jcmp_lt, jcmp_gt, w32_id, jcpy_out, Sum.elim_inl, Sum.elim_inr, jt2, jt3, jt4, jt5, jt6, jt7, jt8] at v3
          refine OK_jl ?_
          unfold gX14_makeSpots_j306_2
          refine OK_jlx (fun x18 ex18 => ?_)
          try simp (disch := omega) only [jst_eq, jst_ne, jst_ni, jI_i, jcmp_lt, jcmp_gt, w32_id, jcpy_out, Sum.elim_inl, Sum.elim_inr, jt2, jt3, jt4, jt5, jt6, jt7, jt8] at ex18
          refine OK_il ?_ ?_
          · try dsimp only [Sum.elim_inl, Sum.elim_inr, jt2, jt3, jt4, jt5, jt6, jt7, jt8]
            refine ⟨?_, ?_, ?_⟩
            · (first | assumption | omega | ((try dsimp only [jt2, jt3, jt4]); first | omega | (simp (disch := omega) only [jst_eq, jst_ne, jst_ni, jst_o, jI_i, jcpy_out, w32_id, jdiv_nn, jshr_k, jand_255] <;> first | done | omega | assumption)) | (intros; simp (disch := omega) only [jst_eq, jst_ne, jst_ni, jst_o, jI_i, jcpy_out, w32_id, jdiv_nn, *] <;> first | done | omega) | (intros; simp (disch := omega) only [jst_eq, jst_ne, jst_ni, jst_o, jI_i, jcpy_out, w32_id, jdiv_nn] at * <;> first | done | omega | assumption) | (intros; first | rfl | (exfalso; omega) | ((repeat' apply And.intro) <;> first | assumption | rfl | omega | trivial))) -- o23 e3i.1
            · (first | assumption | omega | ((try dsimp only [jt2, jt3, jt4]); first | omega | (simp (disch := omega) only [jst_eq, jst_ne, jst_ni, jst_o, jI_i, jcpy_out, w32_id, jdiv_nn, jshr_k, jand_255] <;> first | done | omega | assumption)) | (intros; simp (disch := omega) only [jst_eq, jst_ne, jst_ni, jst_o, jI_i, jcpy_out, w32_id, jdiv_nn, *] <;> first | done | omega) | (intros; simp (disch := omega) only [jst_eq, jst_ne, jst_ni, jst_o, jI_i, jcpy_out, w32_id, jdiv_nn] at * <;> first | done | omega | assumption) | (intros; first | rfl | (exfalso; omega) | ((repeat' apply And.intro) <;> first | assumption | rfl | omega | trivial))) -- o24 e3i.2
            · (first | assumption | omega | ((try dsimp only [jt2, jt3, jt4]); first | omega | (simp (disch := omega) only [jst_eq, jst_ne, jst_ni, jst_o, jI_i, jcpy_out, w32_id, jdiv_nn, jshr_k, jand_255] <;> first | done | omega | assumption)) | (intros; simp (disch := omega) only [jst_eq, jst_ne, jst_ni, jst_o, jI_i, jcpy_out, w32_id, jdiv_nn, *] <;> first | done | omega) | (intros; simp (disch := omega) only [jst_eq, jst_ne, jst_ni, jst_o, jI_i, jcpy_out, w32_id, jdiv_nn] at * <;> first | done | omega | assumption) | (intros; first | rfl | (exfalso; omega) | ((repeat' apply And.intro) <;> first | assumption | rfl | omega | trivial))) -- o25 e3i.3
          · (first | assumption | omega | ((try dsimp only [jt2, jt3, jt4]); first | omega | (simp (disch := omega) only [jst_eq, jst_ne, jst_ni, jst_o, jI_i, jcpy_out, w32_id, jdiv_nn, jshr_k, jand_255] <;> first | done | omega | assumption)) | (intros; simp (disch := omega) only [jst_eq, jst_ne, jst_ni, jst_o, jI_i, jcpy_out, w32_id, jdiv_nn, *] <;> first | done | omega) | (intros; simp (disch := omega) only [jst_eq, jst_ne, jst_ni, jst_o, jI_i, jcpy_out, w32_id, jdiv_nn] at * <;> first | done | omega | assumption) | (intros; first | rfl | (exfalso; omega) | ((repeat' apply And.intro) <;> first | assumption | rfl | omega | trivial))) -- o26 e3m
      · skip
        try simp (disch := omega) only [jst_eq, jst_ne, jst_ni, jI_i, jcmp_lt, jcmp_gt, w32_id, jcpy_out, Sum.elim_inl, Sum.elim_inr, jt2, jt3, jt4, jt5, jt6, jt7, jt8] at c2
        have PA : isP e a1 := by { rcases SA with z | z; { exact z.2.1 }; { exact absurd z.1 c2 } }
        have KB := KG PA
        have KT := (GRI_s q1 q0.1 n8.2 SA K3 K4 KZ KG).2.2 (o10 825 a1) KB.1.1 (by omega) KB.2.1 KB.2.2.2
        have KC := (cntO_b (e := e) (o := o10 825) (t := o10 825 a1) a1.toNat).1
        refine OK_jg (by (first | assumption | omega | ((try dsimp only [jt2, jt3, jt4]); first | omega | (simp (disch := omega) only [jst_eq, jst_ne, jst_ni, jst_o, jI_i, jcpy_out, w32_id, jdiv_nn, jshr_k, jand_255] <;> first | done | omega | assumption)) | (intros; simp (disch := omega) only [jst_eq, jst_ne, jst_ni, jst_o, jI_i, jcpy_out, w32_id, jdiv_nn, *] <;> first | done | omega) | (intros; simp (disch := omega) only [jst_eq, jst_ne, jst_ni, jst_o, jI_i, jcpy_out, w32_id, jdiv_nn] at * <;> first | done | omega | assumption) | (intros; first | rfl | (exfalso; omega) | ((repeat' apply And.intro) <;> first | assumption | rfl | omega | trivial)))) ?_ -- o27
        refine OK_jl ?_
        unfold gX14_makeSpots_j268_2
        refine OK_jg (by (first | assumption | omega | ((try dsimp only [jt2, jt3, jt4]); first | omega | (simp (disch := omega) only [jst_eq, jst_ne, jst_ni, jst_o, jI_i, jcpy_out, w32_id, jdiv_nn, jshr_k, jand_255] <;> first | done | omega | assumption)) | (intros; simp (disch := omega) only [jst_eq, jst_ne, jst_ni, jst_o, jI_i, jcpy_out, w32_id, jdiv_nn, *] <;> first | done | omega) | (intros; simp (disch := omega) only [jst_eq, jst_ne, jst_ni, jst_o, jI_i, jcpy_out, w32_id, jdiv_nn] at * <;> first | done | omega | assumption) | (intros; first | rfl | (exfalso; omega) | ((repeat' apply And.intro) <;> first | assumption | rfl | omega | trivial)))) ?_ -- o28
        refine OK_if (fun c4 => ?_) (fun c4 => ?_)
        · skip
          try simp (disch := omega) only [jst_eq, jst_ne, jst_ni, jI_i, jcmp_lt, jcmp_gt, w32_id, jcpy_out, Sum.elim_inl, Sum.elim_inr, jt2, jt3, jt4, jt5, jt6, jt7, jt8] at c4
          unfold gX14_makeSpots_j306_2
          refine OK_jlx (fun x18 ex18 => ?_)
          try simp (disch := omega) only [jst_eq, jst_ne, jst_ni, jI_i, jcmp_lt, jcmp_gt, w32_id, jcpy_out, Sum.elim_inl, Sum.elim_inr, jt2, jt3, jt4, jt5, jt6, jt7, jt8] at ex18
          refine OK_il ?_ ?_
          · try dsimp only [Sum.elim_inl, Sum.elim_inr, jt2, jt3, jt4, jt5, jt6, jt7, jt8]
            refine ⟨?_, ?_, ?_⟩
            · (first | assumption | omega | ((try dsimp only [jt2, jt3, jt4]); first | omega | (simp (disch := omega) only [jst_eq, jst_ne, jst_ni, jst_o, jI_i, jcpy_out, w32_id, jdiv_nn, jshr_k, jand_255] <;> first | done | omega | assumption)) | (intros; simp (disch := omega) only [jst_eq, jst_ne, jst_ni, jst_o, jI_i, jcpy_out, w32_id, jdiv_nn, *] <;> first | done | omega) | (intros; simp (disch := omega) only [jst_eq, jst_ne, jst_ni, jst_o, jI_i, jcpy_out, w32_id, jdiv_nn] at * <;> first | done | omega | assumption) | (intros; first | rfl | (exfalso; omega) | ((repeat' apply And.intro) <;> first | assumption | rfl | omega | trivial))) -- o29 e4i.1
            · (first | assumption | omega | ((try dsimp only [jt2, jt3, jt4]); first | omega | (simp (disch := omega) only [jst_eq, jst_ne, jst_ni, jst_o, jI_i, jcpy_out, w32_id, jdiv_nn, jshr_k, jand_255] <;> first | done | omega | assumption)) | (intros; simp (disch := omega) only [jst_eq, jst_ne, jst_ni, jst_o, jI_i, jcpy_out, w32_id, jdiv_nn, *] <;> first | done | omega) | (intros; simp (disch := omega) only [jst_eq, jst_ne, jst_ni, jst_o, jI_i, jcpy_out, w32_id, jdiv_nn] at * <;> first | done | omega | assumption) | (intros; first | rfl | (exfalso; omega) | ((repeat' apply And.intro) <;> first | assumption | rfl | omega | trivial))) -- o30 e4i.2
            · (first | assumption | omega | ((try dsimp only [jt2, jt3, jt4]); first | omega | (simp (disch := omega) only [jst_eq, jst_ne, jst_ni, jst_o, jI_i, jcpy_out, w32_id, jdiv_nn, jshr_k, jand_255] <;> first | done | omega | assumption)) | (intros; simp (disch := omega) only [jst_eq, jst_ne, jst_ni, jst_o, jI_i, jcpy_out, w32_id, jdiv_nn, *] <;> first | done | omega) | (intros; simp (disch := omega) only [jst_eq, jst_ne, jst_ni, jst_o, jI_i, jcpy_out, w32_id, jdiv_nn] at * <;> first | done | omega | assumption) | (intros; first | rfl | (exfalso; omega) | ((repeat' apply And.intro) <;> first | assumption | rfl | omega | trivial))) -- o31 e4i.3
          · (first | assumption | omega | ((try dsimp only [jt2, jt3, jt4]); first | omega | (simp (disch := omega) only [jst_eq, jst_ne, jst_ni, jst_o, jI_i, jcpy_out, w32_id, jdiv_nn, jshr_k, jand_255] <;> first | done | omega | assumption)) | (intros; simp (disch := omega) only [jst_eq, jst_ne, jst_ni, jst_o, jI_i, jcpy_out, w32_id, jdiv_nn, *] <;> first | done | omega) | (intros; simp (disch := omega) only [jst_eq, jst_ne, jst_ni, jst_o, jI_i, jcpy_out, w32_id, jdiv_nn] at * <;> first | done | omega | assumption) | (intros; first | rfl | (exfalso; omega) | ((repeat' apply And.intro) <;> first | assumption | rfl | omega | trivial))) -- o32 e4m
        · skip
          try simp (disch := omega) only [jst_eq, jst_ne, jst_ni, jI_i, jcmp_lt, jcmp_gt, w32_id, jcpy_out, Sum.elim_inl, Sum.elim_inr, jt2, jt3, jt4, jt5, jt6, jt7, jt8] at c4
          refine OK_jg (by (first | assumption | omega | ((try dsimp only [jt2, jt3, jt4]); first | omega | (simp (disch := omega) only [jst_eq, jst_ne, jst_ni, jst_o, jI_i, jcpy_out, w32_id, jdiv_nn, jshr_k, jand_255] <;> first | done | omega | assumption)) | (intros; simp (disch := omega) only [jst_eq, jst_ne, jst_ni, jst_o, jI_i, jcpy_out, w32_id, jdiv_nn, *] <;> first | done | omega) | (intros; simp (disch := omega) only [jst_eq, jst_ne, jst_ni, jst_o, jI_i, jcpy_out, w32_id, jdiv_nn] at * <;> first | done | omega | assumption) | (intros; first | rfl | (exfalso; omega) | ((repeat' apply And.intro) <;> first | assumption | rfl | omega | trivial)))) ?_ -- o33
          refine OK_jb (vX14_spotPrice _) (fun v16 r4 => ?_)
          try dsimp only [Sum.elim_inl, Sum.elim_inr, jt2, jt3, jt4, jt5, jt6, jt7, jt8] at r4
          have v4 := r4
          clear r4
          try simp (disch := omega) only [jst_eq, jst_ne, jst_ni, jI_i, jcmp_lt, jcmp_gt, w32_id, jcpy_out, Sum.elim_inl, Sum.elim_inr, jt2, jt3, jt4, jt5, jt6, jt7, jt8] at v4
          refine OK_jl ?_
          unfold gX14_makeSpots_j306_2
          refine OK_jlx (fun x18 ex18 => ?_)
          try simp (disch := omega) only [jst_eq, jst_ne, jst_ni, jI_i, jcmp_lt, jcmp_gt, w32_id, jcpy_out, Sum.elim_inl, Sum.elim_inr, jt2, jt3, jt4, jt5, jt6, jt7, jt8] at ex18
          refine OK_il ?_ ?_
          · try dsimp only [Sum.elim_inl, Sum.elim_inr, jt2, jt3, jt4, jt5, jt6, jt7, jt8]
            refine ⟨?_, ?_, ?_⟩
            · (first | assumption | omega | ((try dsimp only [jt2, jt3, jt4]); first | omega | (simp (disch := omega) only [jst_eq, jst_ne, jst_ni, jst_o, jI_i, jcpy_out, w32_id, jdiv_nn, jshr_k, jand_255] <;> first | done | omega | assumption)) | (intros; simp (disch := omega) only [jst_eq, jst_ne, jst_ni, jst_o, jI_i, jcpy_out, w32_id, jdiv_nn, *] <;> first | done | omega) | (intros; simp (disch := omega) only [jst_eq, jst_ne, jst_ni, jst_o, jI_i, jcpy_out, w32_id, jdiv_nn] at * <;> first | done | omega | assumption) | (intros; first | rfl | (exfalso; omega) | ((repeat' apply And.intro) <;> first | assumption | rfl | omega | trivial))) -- o34 e5i.1
            · (rw [ex18]; have V16 : v16 = spR a1 := (by assumption); have E : jst o10 826 (o10 825 a1) (w32 (o10 826 (o10 825 a1) + 1)) 825 a1 = o10 825 a1 := jst_ne (by decide); rw [E]; refine GRI_y q1 q0.1 n8.2 SA K3 K4 KZ KB PA ⟨funext fun x => by rw [jst_ne (by decide), jst_ne (by decide)], funext fun x => by rw [jst_ne (by decide), jst_ne (by decide)], funext fun x => by rw [jst_ne (by decide), jst_ne (by decide)]⟩ (fun x => ?_) (fun x => ?_); { rw [jst_ne (by decide)]; by_cases y : x = o10 825 a1; { rw [if_pos y, y, jst_eq, w32_id (by omega) (by omega)] }; { rw [if_neg y, jst_ni y] } }; { by_cases y : x = o10 825 a1; { rw [if_pos y, y, jst_eq, V16, jst_ne (by decide)] }; { rw [if_neg y, jst_ni y, jst_ne (by decide)] } }) -- o35 e5i.2
            · (first | assumption | omega | ((try dsimp only [jt2, jt3, jt4]); first | omega | (simp (disch := omega) only [jst_eq, jst_ne, jst_ni, jst_o, jI_i, jcpy_out, w32_id, jdiv_nn, jshr_k, jand_255] <;> first | done | omega | assumption)) | (intros; simp (disch := omega) only [jst_eq, jst_ne, jst_ni, jst_o, jI_i, jcpy_out, w32_id, jdiv_nn, *] <;> first | done | omega) | (intros; simp (disch := omega) only [jst_eq, jst_ne, jst_ni, jst_o, jI_i, jcpy_out, w32_id, jdiv_nn] at * <;> first | done | omega | assumption) | (intros; first | rfl | (exfalso; omega) | ((repeat' apply And.intro) <;> first | assumption | rfl | omega | trivial))) -- o36 e5i.3
          · (first | assumption | omega | ((try dsimp only [jt2, jt3, jt4]); first | omega | (simp (disch := omega) only [jst_eq, jst_ne, jst_ni, jst_o, jI_i, jcpy_out, w32_id, jdiv_nn, jshr_k, jand_255] <;> first | done | omega | assumption)) | (intros; simp (disch := omega) only [jst_eq, jst_ne, jst_ni, jst_o, jI_i, jcpy_out, w32_id, jdiv_nn, *] <;> first | done | omega) | (intros; simp (disch := omega) only [jst_eq, jst_ne, jst_ni, jst_o, jI_i, jcpy_out, w32_id, jdiv_nn] at * <;> first | done | omega | assumption) | (intros; first | rfl | (exfalso; omega) | ((repeat' apply And.intro) <;> first | assumption | rfl | omega | trivial))) -- o37 e5m
  · try dsimp only [Sum.elim_inl, Sum.elim_inr, jt2, jt3, jt4, jt5, jt6, jt7, jt8]
    refine ⟨?_, ?_, ?_⟩
    · (first | assumption | omega | ((try dsimp only [jt2, jt3, jt4]); first | omega | (simp (disch := omega) only [jst_eq, jst_ne, jst_ni, jst_o, jI_i, jcpy_out, w32_id, jdiv_nn, jshr_k, jand_255] <;> first | done | omega | assumption)) | (intros; simp (disch := omega) only [jst_eq, jst_ne, jst_ni, jst_o, jI_i, jcpy_out, w32_id, jdiv_nn, *] <;> first | done | omega) | (intros; simp (disch := omega) only [jst_eq, jst_ne, jst_ni, jst_o, jI_i, jcpy_out, w32_id, jdiv_nn] at * <;> first | done | omega | assumption) | (intros; first | rfl | (exfalso; omega) | ((repeat' apply And.intro) <;> first | assumption | rfl | omega | trivial))) -- o38 init.1
    · (rw [h1]; exact ⟨fun s s0 s1 => by omega, fun s s0 s1 => by omega, fun s s0 s1 => by omega⟩) -- o39 init.2
    · exact fun _ _ _ => rfl -- o40 init.3
theorem vX14_makeSpots {h : AH} {e : CE} (hc : cuM h e) (hv : vCE e) (hk : kM h) : OK (gX14_makeSpots h) (fun h' => (GRI h' e 178) ∧ (∀ a x, ¬ ((823 ≤ a ∧ a ≤ 827) ∧ 0 ≤ x) → h' a x = h a x)) := by
  unfold gX14_makeSpots
  refine OK_jb (vX14_makeSpots_l2 (e := e) _ (by (first | assumption | omega | ((try dsimp only [jt2, jt3, jt4]); first | omega | (simp (disch := omega) only [jst_eq, jst_ne, jst_ni, jst_o, jI_i, jcpy_out, w32_id, jdiv_nn, jshr_k, jand_255] <;> first | done | omega | assumption)) | (intros; simp (disch := omega) only [jst_eq, jst_ne, jst_ni, jst_o, jI_i, jcpy_out, w32_id, jdiv_nn, *] <;> first | done | omega) | (intros; simp (disch := omega) only [jst_eq, jst_ne, jst_ni, jst_o, jI_i, jcpy_out, w32_id, jdiv_nn] at * <;> first | done | omega | assumption) | (intros; first | rfl | (exfalso; omega) | ((repeat' apply And.intro) <;> first | assumption | rfl | omega | trivial)))) (by (first | assumption | omega | ((try dsimp only [jt2, jt3, jt4]); first | omega | (simp (disch := omega) only [jst_eq, jst_ne, jst_ni, jst_o, jI_i, jcpy_out, w32_id, jdiv_nn, jshr_k, jand_255] <;> first | done | omega | assumption)) | (intros; simp (disch := omega) only [jst_eq, jst_ne, jst_ni, jst_o, jI_i, jcpy_out, w32_id, jdiv_nn, *] <;> first | done | omega) | (intros; simp (disch := omega) only [jst_eq, jst_ne, jst_ni, jst_o, jI_i, jcpy_out, w32_id, jdiv_nn] at * <;> first | done | omega | assumption) | (intros; first | rfl | (exfalso; omega) | ((repeat' apply And.intro) <;> first | assumption | rfl | omega | trivial)))) (by (first | assumption | omega | ((try dsimp only [jt2, jt3, jt4]); first | omega | (simp (disch := omega) only [jst_eq, jst_ne, jst_ni, jst_o, jI_i, jcpy_out, w32_id, jdiv_nn, jshr_k, jand_255] <;> first | done | omega | assumption)) | (intros; simp (disch := omega) only [jst_eq, jst_ne, jst_ni, jst_o, jI_i, jcpy_out, w32_id, jdiv_nn, *] <;> first | done | omega) | (intros; simp (disch := omega) only [jst_eq, jst_ne, jst_ni, jst_o, jI_i, jcpy_out, w32_id, jdiv_nn] at * <;> first | done | omega | assumption) | (intros; first | rfl | (exfalso; omega) | ((repeat' apply And.intro) <;> first | assumption | rfl | omega | trivial)))) (by (first | assumption | omega | ((try dsimp only [jt2, jt3, jt4]); first | omega | (simp (disch := omega) only [jst_eq, jst_ne, jst_ni, jst_o, jI_i, jcpy_out, w32_id, jdiv_nn, jshr_k, jand_255] <;> first | done | omega | assumption)) | (intros; simp (disch := omega) only [jst_eq, jst_ne, jst_ni, jst_o, jI_i, jcpy_out, w32_id, jdiv_nn, *] <;> first | done | omega) | (intros; simp (disch := omega) only [jst_eq, jst_ne, jst_ni, jst_o, jI_i, jcpy_out, w32_id, jdiv_nn] at * <;> first | done | omega | assumption) | (intros; first | rfl | (exfalso; omega) | ((repeat' apply And.intro) <;> first | assumption | rfl | omega | trivial))))) (fun o1 r1 => ?_)
  try dsimp only [Sum.elim_inl, Sum.elim_inr, jt2, jt3, jt4, jt5, jt6, jt7, jt8] at r1
  obtain ⟨gi1, fr1⟩ := r1
  try simp (disch := omega) only [jst_eq, jst_ne, jst_ni, jI_i, jcmp_lt, jcmp_gt, w32_id, jcpy_out, Sum.elim_inl, Sum.elim_inr, jt2, jt3, jt4, jt5, jt6, jt7, jt8] at gi1
  try simp (disch := omega) only [jst_eq, jst_ne, jst_ni, jI_i, jcmp_lt, jcmp_gt, w32_id, jcpy_out, Sum.elim_inl, Sum.elim_inr, jt2, jt3, jt4, jt5, jt6, jt7, jt8] at fr1
  refine OK_some ?_
  try dsimp only [Sum.elim_inl, Sum.elim_inr, jt2, jt3, jt4, jt5, jt6, jt7, jt8]
  try dsimp only [Sum.elim_inl, Sum.elim_inr, jt2, jt3, jt4, jt5, jt6, jt7, jt8]
  refine ⟨?_, ?_⟩
  · (first | assumption | omega | ((try dsimp only [jt2, jt3, jt4]); first | omega | (simp (disch := omega) only [jst_eq, jst_ne, jst_ni, jst_o, jI_i, jcpy_out, w32_id, jdiv_nn, jshr_k, jand_255] <;> first | done | omega | assumption)) | (intros; simp (disch := omega) only [jst_eq, jst_ne, jst_ni, jst_o, jI_i, jcpy_out, w32_id, jdiv_nn, *] <;> first | done | omega) | (intros; simp (disch := omega) only [jst_eq, jst_ne, jst_ni, jst_o, jI_i, jcpy_out, w32_id, jdiv_nn] at * <;> first | done | omega | assumption) | (intros; first | rfl | (exfalso; omega) | ((repeat' apply And.intro) <;> first | assumption | rfl | omega | trivial))) -- o5 e1.1
  · (first | assumption | omega | ((try dsimp only [jt2, jt3, jt4]); first | omega | (simp (disch := omega) only [jst_eq, jst_ne, jst_ni, jst_o, jI_i, jcpy_out, w32_id, jdiv_nn, jshr_k, jand_255] <;> first | done | omega | assumption)) | (intros; simp (disch := omega) only [jst_eq, jst_ne, jst_ni, jst_o, jI_i, jcpy_out, w32_id, jdiv_nn, *] <;> first | done | omega) | (intros; simp (disch := omega) only [jst_eq, jst_ne, jst_ni, jst_o, jI_i, jcpy_out, w32_id, jdiv_nn] at * <;> first | done | omega | assumption) | (intros; first | rfl | (exfalso; omega) | ((repeat' apply And.intro) <;> first | assumption | rfl | omega | trivial))) -- o6 e1.2

