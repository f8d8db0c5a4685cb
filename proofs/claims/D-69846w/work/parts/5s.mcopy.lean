/-! copies of terms: m -/
def lfM (h : AH) (d n : Int) (i : NI) : Prop := 0 ≤ d ∧ d < 8800 ∧ h 465 d = n ∧ h 466 d = -1 ∧ h 461 d = kch i.2.2.1 ∧ (i.1 = 0 → h 460 d = 1 ∧ h 462 d = i.2.1) ∧ (i.1 = 1 → h 460 d = 0 ∧ h 462 d = i.2.1) ∧ (i.1 = 2 → h 460 d = 2 ∧ h 463 d = i.2.1) ∧ (i.1 = 4 → h 460 d = 2 ∧ h 463 d = -1) ∧ (i.1 = 3 → h 460 d = 3) ∧ 0 ≤ i.1 ∧ i.1 ≤ 4
def resQ (h : AH) (Q : Int → Prop) : TR → Int → Int → Prop
  | .leaf i, d, j => Q d ∧ lfM h d j i
  | .branch _ s r, d, j => 0 ≤ j ∧ j < 3 ∧ resQ h Q s (h 464 (3 * d + j)) 0 ∧ resQ h Q r d (j + 1)
theorem resQ_M {h : AH} {Q : Int → Prop} : ∀ {R : TR} {d j : Int}, resQ h Q R d j → resM h R d j
  | .leaf _, _, _, r => r.2
  | .branch _ _ _, _, _, r => ⟨r.2.1, resQ_M r.2.2.1, resQ_M r.2.2.2⟩
theorem resQ_nd {h : AH} {Q : Int → Prop} : ∀ {R : TR} {d j : Int}, resQ h Q R d j → Q d ∧ lfM h d (j + nk R) (inf R)
  | .leaf i, d, j, r => ⟨r.1, by rw [show j + nk (.leaf i) = j from Int.add_zero j]; exact r.2⟩
  | .branch b s t, d, j, r => by
    have q := resQ_nd (R := t) r.2.2.2
    rw [show j + nk (.branch b s t) = j + 1 + nk t by show j + (nk t + 1) = _; omega]
    exact q
theorem resQ_fr {h h' : AH} {Q : Int → Prop} (f : ∀ a s, 460 ≤ a → a ≤ 466 → a ≠ 464 → Q s → h' a s = h a s) (g : ∀ s j, Q s → 0 ≤ j → j < 3 → h' 464 (3 * s + j) = h 464 (3 * s + j)) : ∀ {R : TR} {d j : Int}, resQ h Q R d j → resQ h' Q R d j
  | .leaf i, d, j, r => by
    refine ⟨r.1, ?_⟩
    have q := r.2
    have q0 := r.1
    unfold lfM at *
    rw [f 465 d (by decide) (by decide) (by decide) q0, f 466 d (by decide) (by decide) (by decide) q0, f 461 d (by decide) (by decide) (by decide) q0, f 460 d (by decide) (by decide) (by decide) q0, f 462 d (by decide) (by decide) (by decide) q0, f 463 d (by decide) (by decide) (by decide) q0]
    exact q
  | .branch b s t, d, j, r => ⟨r.1, r.2.1, by rw [g d j (resQ_nd r.2.2.2).1 r.1 r.2.1]; exact resQ_fr f g r.2.2.1, resQ_fr f g r.2.2.2⟩
theorem resQ_le {h : AH} {Q P : Int → Prop} (l : ∀ x, Q x → P x) : ∀ {R : TR} {d j : Int}, resQ h Q R d j → resQ h P R d j
  | .leaf _, _, _, r => ⟨l _ r.1, r.2⟩
  | .branch _ _ _, _, _, r => ⟨r.1, r.2.1, resQ_le l r.2.2.1, resQ_le l r.2.2.2⟩
/-- a term of which node w is seen as the term at ins -/
def rwM (h : AH) (Q : Int → Prop) (w ins : Int) : TR → Int → Int → Prop
  | .leaf i, d, j => (d = w ∧ 0 ≤ d ∧ j = 0 ∧ resQ h Q (.leaf i) ins 0) ∨ (d ≠ w ∧ Q d ∧ lfM h d j i)
  | .branch b s r, d, j => (d = w ∧ 0 ≤ d ∧ j = 0 ∧ resQ h Q (.branch b s r) ins 0) ∨ (d ≠ w ∧ 0 ≤ j ∧ j < 3 ∧ rwM h Q w ins s (h 464 (3 * d + j)) 0 ∧ rwM h Q w ins r d (j + 1))
theorem resQ_rw {h : AH} {Q : Int → Prop} {ins : Int} : ∀ {R : TR} {d j : Int}, resQ h Q R d j → rwM h Q (-1) ins R d j
  | .leaf _, d, _, r => Or.inr ⟨by have := r.2.1; omega, r.1, r.2⟩
  | .branch _ _ t, d, _, r => Or.inr ⟨by have := (resQ_nd (R := t) r.2.2.2).2.1; omega, r.1, r.2.1, resQ_rw r.2.2.1, resQ_rw r.2.2.2⟩
theorem rwM_w {h : AH} {Q : Int → Prop} {w ins : Int} : ∀ {R : TR}, rwM h Q w ins R w 0 → resQ h Q R ins 0
  | .leaf _, r => (r.resolve_right (fun y => y.1 rfl)).2.2.2
  | .branch _ _ _, r => (r.resolve_right (fun y => y.1 rfl)).2.2.2
theorem rwM_nd {h : AH} {Q : Int → Prop} {w ins : Int} : ∀ {R : TR} {d j : Int}, rwM h Q w ins R d j → d ≠ w → 0 ≤ j → Q d ∧ lfM h d (j + nk R) (inf R) ∧ (j ≤ 3 → j + nk R ≤ 3)
  | .leaf i, d, j, r, n, _ => by
    have q := (r.resolve_left (fun y => n y.1)).2
    exact ⟨q.1, by rw [show j + nk (.leaf i) = j from Int.add_zero j]; exact q.2, fun a => by show j + 0 ≤ 3; omega⟩
  | .branch b s t, d, j, r, n, j0 => by
    have q := (r.resolve_left (fun y => n y.1)).2
    have z := rwM_nd (R := t) q.2.2.2 n (by omega)
    rw [show j + nk (.branch b s t) = j + 1 + nk t by show j + (nk t + 1) = _; omega]
    exact ⟨z.1, z.2.1, fun _ => z.2.2 (by omega)⟩
theorem rwM_0 {h : AH} {Q : Int → Prop} {w ins : Int} : ∀ {R : TR} {d j : Int}, rwM h Q w ins R d j → 0 ≤ d
  | .leaf _, _, _, r => r.elim (fun y => y.2.1) (fun y => y.2.2.1)
  | .branch _ _ t, _, _, r => r.elim (fun y => y.2.1) (fun y => rwM_0 (R := t) y.2.2.2.2)
theorem rwM_kd {h : AH} {Q : Int → Prop} {w ins : Int} : ∀ {R : TR} {d j : Int} (k : Nat), rwM h Q w ins R d j → d ≠ w → (k : Int) < nk R → rwM h Q w ins (kdA R k) (h 464 (3 * d + (j + k))) 0
  | .leaf i, d, j, k, _, _, l => by have e : nk (.leaf i) = 0 := rfl; omega
  | .branch b s r, d, j, 0, v, n, _ => by
    rw [show j + ((0 : Nat) : Int) = j from Int.add_zero j]
    exact (v.resolve_left (fun y => n y.1)).2.2.2.1
  | .branch b s r, d, j, k + 1, v, n, l => by
    have e : nk (.branch b s r) = nk r + 1 := rfl
    have q := rwM_kd (R := r) k ((v.resolve_left (fun y => n y.1)).2.2.2.2) n (by omega)
    rw [show j + ((k + 1 : Nat) : Int) = j + 1 + (k : Int) by omega]
    exact q
theorem rwM_fr {h h' : AH} {Q : Int → Prop} {w ins : Int} (f : ∀ a s, 460 ≤ a → a ≤ 466 → a ≠ 464 → Q s → h' a s = h a s) (g : ∀ s j, Q s → 0 ≤ j → j < 3 → h' 464 (3 * s + j) = h 464 (3 * s + j)) : ∀ {R : TR} {d j : Int}, rwM h Q w ins R d j → rwM h' Q w ins R d j
  | .leaf i, d, j, r => by
    rcases r with ⟨a, a', b, c⟩ | ⟨a, b, c⟩
    · exact Or.inl ⟨a, a', b, resQ_fr f g c⟩
    · exact Or.inr ⟨a, resQ_fr (R := .leaf i) f g ⟨b, c⟩⟩
  | .branch b s t, d, j, r => by
    rcases r with ⟨a, a', b, c⟩ | ⟨a, b, c, e, k⟩
    · exact Or.inl ⟨a, a', b, resQ_fr f g c⟩
    · refine Or.inr ⟨a, b, c, ?_, rwM_fr f g k⟩
      rw [g d j (rwM_nd k a (by omega)).1 b c]
      exact rwM_fr f g e
theorem resQ_of {h : AH} {Q : Int → Prop} : ∀ {R : TR} {d j p : Int}, (∀ m : Nat, (m : Int) < nk R → h 464 (3 * d + (j + m)) = p + kss sz R m ∧ resQ h Q (kdA R m) (p + kss sz R m) 0) → Q d → lfM h d (j + nk R) (inf R) → 0 ≤ j → j + nk R ≤ 3 → resQ h Q R d j
  | .leaf i, d, j, p, _, c, n, j0, _ => ⟨c, by rw [show j + nk (.leaf i) = j from Int.add_zero j] at n; exact n⟩
  | .branch b s r, d, j, p, K, c, n, j0, j3 => by
    have e : nk (.branch b s r) = nk r + 1 := rfl
    have n0 := nk_0 r
    have k0 := K 0 (by omega)
    have e0 : kss sz (.branch b s r) 0 = 0 := rfl
    rw [e0, show j + ((0 : Nat) : Int) = j from Int.add_zero j, Int.add_zero] at k0
    refine ⟨j0, by omega, by rw [k0.1]; exact k0.2, resQ_of (p := p + sz s) (fun m ml => ?_) c (by rw [show j + 1 + nk r = j + nk (.branch b s r) by rw [e]; omega]; exact n) (by omega) (by omega)⟩
    have km := K (m + 1) (by omega)
    rw [kss_br, show j + ((m + 1 : Nat) : Int) = j + 1 + (m : Int) by omega, show p + (sz s + kss sz r m) = p + sz s + kss sz r m by omega] at km
    exact km
def rgN (N n : Int) (x : Int) : Prop := N ≤ x ∧ x < N + n
def frD (N n : Int) (h h' : AH) : Prop := ∀ a s, ¬ (a = 454 ∧ s = 17) → ¬ (460 ≤ a ∧ a ≤ 469 ∧ a ≠ 464 ∧ N ≤ s ∧ s < N + n) → ¬ (a = 464 ∧ 3 * N ≤ s ∧ s < 3 * (N + n)) → h' a s = h a s
def poD (R : TR) (h : AH) (v : Int) (h' : AH) : Prop := v = h 454 17 ∧ h' 454 17 = h 454 17 + sz R ∧ resQ h' (rgN (h 454 17) (sz R)) R v 0 ∧ frD (h 454 17) (sz R) h h'
def ivD (N : Int) (R : TR) (h0 : AH) (k : Nat) (h : AH) : Prop := h 454 17 = N + 1 + kss sz R k ∧ (∀ m : Nat, m < k → (m : Int) < nk R → h 464 (3 * N + m) = N + 1 + kss sz R m ∧ resQ h (rgN (N + 1 + kss sz R m) (sz (kdA R m))) (kdA R m) (N + 1 + kss sz R m) 0) ∧ lfM h N k (inf R) ∧ (∀ a s, ¬ (a = 454 ∧ s = 17) → ¬ (460 ≤ a ∧ a ≤ 469 ∧ a ≠ 464 ∧ N ≤ s ∧ s < N + 1 + kss sz R k) → ¬ (a = 464 ∧ 3 * N ≤ s ∧ s < 3 * (N + 1 + kss sz R k)) → h a s = h0 a s)
theorem ivD_st {N v : Int} {R : TR} {h0 h h1 h2 : AH} {k : Nat} (i : ivD N R h0 k h) (l : (k : Int) < nk R) (k3 : (k : Int) < 3) (p : poD (kdA R k) h v h1) (j0 : h2 465 N = h1 465 N + 1) (j1 : h2 464 (3 * N + k) = v) (j2 : ∀ a s, ¬ (a = 465 ∧ s = N) → ¬ (a = 464 ∧ s = 3 * N + k) → h2 a s = h1 a s) : ivD N R h0 (k + 1) h2 := by
  obtain ⟨i1, i2, i4, i5⟩ := i
  obtain ⟨p1, p2, p3, p4⟩ := p
  have e := kss_s (g := sz) l
  have z0 := kss_0 sz_0 R k
  have sp := sz_pos (kdA R k)
  rw [i1] at p1 p2 p3 p4
  have F : ∀ a s, ¬ (a = 454 ∧ s = 17) → ¬ (460 ≤ a ∧ a ≤ 469 ∧ a ≠ 464 ∧ N + 1 + kss sz R k ≤ s ∧ s < N + 1 + kss sz R k + sz (kdA R k)) → ¬ (a = 464 ∧ 3 * (N + 1 + kss sz R k) ≤ s ∧ s < 3 * (N + 1 + kss sz R k + sz (kdA R k))) → ¬ (a = 465 ∧ s = N) → ¬ (a = 464 ∧ s = 3 * N + k) → h2 a s = h a s := fun a s y1 y2 y3 y4 y5 => by rw [j2 a s y4 y5]; exact p4 a s y1 y2 y3
  refine ⟨by rw [j2 _ _ (by omega) (by omega), p2, e]; omega, fun m m1 m2 => ?_, ?_, fun a s y1 y2 y3 => ?_⟩
  · by_cases y : m = k
    · subst y
      refine ⟨by rw [j1, p1], ?_⟩
      rw [p1] at p3
      exact resQ_fr (h := h1) (fun a s a0 a1 a2 q => by unfold rgN at q; exact j2 _ _ (by omega) (by omega)) (fun s j q j0 j1 => by unfold rgN at q; exact j2 _ _ (by omega) (by omega)) p3
    · have q := i2 m (by omega) m2
      have le := kss_le sz_0 R (k := m + 1) k (by omega)
      have em := kss_s (g := sz) m2
      have zm := kss_0 sz_0 R m
      have sm := sz_pos (kdA R m)
      refine ⟨by rw [F _ _ (by omega) (by omega) (by omega) (by omega) (by omega)]; exact q.1, ?_⟩
      exact resQ_fr (h := h) (fun a s a0 a1 a2 q => by unfold rgN at q; exact F _ _ (by omega) (by omega) (by omega) (by omega) (by omega)) (fun s j q j0 j1 => by unfold rgN at q; exact F _ _ (by omega) (by omega) (by omega) (by omega) (by omega)) q.2
  · have f465 : h1 465 N = h 465 N := p4 _ _ (by omega) (by omega) (by omega)
    unfold lfM at *
    rw [F 466 N (by omega) (by omega) (by omega) (by omega) (by omega), F 461 N (by omega) (by omega) (by omega) (by omega) (by omega), F 460 N (by omega) (by omega) (by omega) (by omega) (by omega), F 462 N (by omega) (by omega) (by omega) (by omega) (by omega), F 463 N (by omega) (by omega) (by omega) (by omega) (by omega)]
    exact ⟨i4.1, i4.2.1, by have := i4.2.2.1; omega, i4.2.2.2⟩
  · rw [e] at y2 y3
    rw [F a s y1 (by omega) (by omega) (by omega) (by omega)]
    exact i5 a s y1 (by omega) (by omega)
theorem ivD_end {N : Int} {R : TR} {h0 h : AH} {k : Nat} (n3 : nk R ≤ 3) (ek : (k : Int) = nk R) (i : ivD N R h0 k h) : h 454 17 = N + sz R ∧ resQ h (rgN N (sz R)) R N 0 ∧ frD N (sz R) h0 h := by
  obtain ⟨i1, i2, i4, i5⟩ := i
  have k3 := kss_sz R k (by omega)
  have sp := sz_pos R
  refine ⟨by omega, resQ_of (p := N + 1) (fun m ml => ?_) ⟨Int.le_refl _, by omega⟩ (by rw [Int.zero_add, ← ek]; exact i4) (Int.le_refl _) (by omega), fun a s y1 y2 y3 => i5 a s y1 (by omega) (by omega)⟩
  have q := i2 m (by omega) ml
  have le := kss_le sz_0 R (k := m + 1) k (by omega)
  have em := kss_s (g := sz) ml
  have zm := kss_0 sz_0 R m
  rw [Int.zero_add]
  exact ⟨q.1, resQ_le (fun x z => by unfold rgN at *; omega) q.2⟩
theorem vX14_copyNode (a1 : Int) {h : AH} {i : NI} {n : Int} (l : lfM h a1 n i) (tp : 0 ≤ h 454 17 ∧ h 454 17 < 8800) (ne : a1 ≠ h 454 17) : OK (gX14_copyNode a1 h) (fun r => jt2 r fun v h' => (v = h 454 17 ∧ h' 454 17 = h 454 17 + 1) ∧ (lfM h' v 0 i) ∧ (∀ a s, ¬ (a = 454 ∧ s = 17) → ¬ (460 ≤ a ∧ a ≤ 469 ∧ a ≠ 464 ∧ s = h 454 17) → h' a s = h a s)) := by
  obtain ⟨l1, l2, l3, l4, l5, l6, l7, l8, l9, l10, l11, l12⟩ := l
  unfold gX14_copyNode
  refine OK_jg (by (first | assumption | omega | ((try dsimp only [jt2, jt3, jt4]); first | omega | (simp (disch := omega) only [jst_eq, jst_ne, jst_ni, jst_o, jI_i, jcpy_out, w32_id, jdiv_nn, jshr_k, jand_255] <;> first | done | omega | assumption)) | (intros; simp (disch := omega) only [jst_eq, jst_ne, jst_ni, jst_o, jI_i, jcpy_out, w32_id, jdiv_nn, *] <;> first | done | omega) | (intros; simp (disch := omega) only [jst_eq, jst_ne, jst_ni, jst_o, jI_i, jcpy_out, w32_id, jdiv_nn] at * <;> first | done | omega | assumption) | (intros; first | rfl | (exfalso; omega) | ((repeat' apply And.intro) <;> first | assumption | rfl | omega | trivial)))) ?_ -- o1
  refine OK_jb2 (vX14_node _ _ _ (by (first | assumption | omega | ((try dsimp only [jt2, jt3, jt4]); first | omega | (simp (disch := omega) only [jst_eq, jst_ne, jst_ni, jst_o, jI_i, jcpy_out, w32_id, jdiv_nn, jshr_k, jand_255] <;> first | done | omega | assumption)) | (intros; simp (disch := omega) only [jst_eq, jst_ne, jst_ni, jst_o, jI_i, jcpy_out, w32_id, jdiv_nn, *] <;> first | done | omega) | (intros; simp (disch := omega) only [jst_eq, jst_ne, jst_ni, jst_o, jI_i, jcpy_out, w32_id, jdiv_nn] at * <;> first | done | omega | assumption) | (intros; first | rfl | (exfalso; omega) | ((repeat' apply And.intro) <;> first | assumption | rfl | omega | trivial))))) (fun v2 h3 r1 => ?_)
  try dsimp only [Sum.elim_inl, Sum.elim_inr, jt2, jt3, jt4, jt5, jt6, jt7, jt8] at r1
  obtain ⟨nv1, na1, fr1⟩ := r1
  try simp (disch := omega) only [jst_eq, jst_ne, jst_ni, jI_i, jcmp_lt, jcmp_gt, w32_id, jcpy_out, Sum.elim_inl, Sum.elim_inr, jt2, jt3, jt4, jt5, jt6, jt7, jt8] at nv1
  try simp (disch := omega) only [jst_eq, jst_ne, jst_ni, jI_i, jcmp_lt, jcmp_gt, w32_id, jcpy_out, Sum.elim_inl, Sum.elim_inr, jt2, jt3, jt4, jt5, jt6, jt7, jt8] at na1
  try simp (disch := omega) only [jst_eq, jst_ne, jst_ni, jI_i, jcmp_lt, jcmp_gt, w32_id, jcpy_out, Sum.elim_inl, Sum.elim_inr, jt2, jt3, jt4, jt5, jt6, jt7, jt8] at fr1
  refine OK_jg (by (first | assumption | omega | ((try dsimp only [jt2, jt3, jt4]); first | omega | (simp (disch := omega) only [jst_eq, jst_ne, jst_ni, jst_o, jI_i, jcpy_out, w32_id, jdiv_nn, jshr_k, jand_255] <;> first | done | omega | assumption)) | (intros; simp (disch := omega) only [jst_eq, jst_ne, jst_ni, jst_o, jI_i, jcpy_out, w32_id, jdiv_nn, *] <;> first | done | omega) | (intros; simp (disch := omega) only [jst_eq, jst_ne, jst_ni, jst_o, jI_i, jcpy_out, w32_id, jdiv_nn] at * <;> first | done | omega | assumption) | (intros; first | rfl | (exfalso; omega) | ((repeat' apply And.intro) <;> first | assumption | rfl | omega | trivial)))) ?_ -- o3
  refine OK_jl ?_
  refine OK_jl ?_
  have v0 := nv1.1
  have n0 := na1.1
  have n1 := na1.2.1
  have n2 := na1.2.2.1
  have n3 := na1.2.2.2.1
  have n4 := na1.2.2.2.2
  have f463 : h3 463 a1 = h 463 a1 := fr1 _ _ (by omega) (by omega)
  have f469 : jst h3 463 v2 (h3 463 a1) 469 a1 = h 469 a1 := by { rw [jst_o (by omega)]; exact fr1 _ _ (by omega) (by omega) }
  refine OK_some ?_
  try dsimp only [Sum.elim_inl, Sum.elim_inr, jt2, jt3, jt4, jt5, jt6, jt7, jt8]
  try dsimp only [Sum.elim_inl, Sum.elim_inr, jt2, jt3, jt4, jt5, jt6, jt7, jt8]
  refine ⟨?_, ?_, ?_⟩
  · exact ⟨v0, by rw [jst_o (by omega), jst_o (by omega)]; exact nv1.2⟩ -- o4 e1.1
  · (have G : ∀ a, a ≠ 463 → a ≠ 469 → jst (jst h3 463 v2 (h3 463 a1)) 469 v2 (jst h3 463 v2 (h3 463 a1) 469 a1) a v2 = h3 a v2 := (fun a y1 y2 => by rw [jst_o (by omega), jst_o (by omega)]); have G3 : jst (jst h3 463 v2 (h3 463 a1)) 469 v2 (jst h3 463 v2 (h3 463 a1) 469 a1) 463 v2 = h 463 a1 := (by rw [jst_o (by omega), jst_eq]; exact f463); unfold lfM; rw [G 465 (by decide) (by decide), G 466 (by decide) (by decide), G 461 (by decide) (by decide), G 460 (by decide) (by decide), G 462 (by decide) (by decide), G3, n0, n1, n2, n3, n4]; exact ⟨by omega, by omega, rfl, rfl, l5, l6, l7, l8, l9, l10, l11, l12⟩) -- o5 e1.2
  · (intro a s y1 y2; rw [jst_o (by omega), jst_o (by omega)]; exact fr1 a s y1 (by omega)) -- o6 e1.3
def CCD (F : Int → Int → Int → AH → Option (Int × AH)) (k : Int) : Prop := ∀ (d w ins : Int) (h : AH) (Q : Int → Prop) (R : TR), rwM h Q w ins R d 0 → (∀ x, Q x → ¬ (h 454 17 ≤ x ∧ x < h 454 17 + sz R)) → (0 ≤ h 454 17 ∧ h 454 17 + sz R ≤ 8800) → 0 ≤ d → ((w = -1 ∧ dpT R + 1 ≤ k) ∨ dpT R + 2 ≤ k) → OK (F d w ins h) (fun r => jt2 r fun v h' => poD R h v h')
theorem vX14_copy_l23 {F : Int → Int → Int → AH → Option (Int × AH)} (i1 : Int) (i2 : Int) (i3 : Int) (i4 : Int) (a50 : Int) {h0 : AH} {k : Int} {R : TR} {hb : AH} {Q : Int → Prop} (hF : CCD F k) (t : rwM h0 Q i2 i3 R i1 0) (nw : i1 ≠ i2 ∧ 0 ≤ i1) (q : ∀ x, Q x → ¬ (i4 ≤ x ∧ x < i4 + sz R)) (n : 0 ≤ i4 ∧ i4 + sz R ≤ 8800) (dk : (i2 = -1 ∧ dpT R ≤ k) ∨ dpT R + 1 ≤ k) (z : a50 = 0) (b : ivD i4 R hb 0 h0) : OK (gX14_copy_l23 F i1 i2 i3 i4 a50 h0) (fun h' => ivD i4 R hb (nk R).toNat h') := by
  unfold gX14_copy_l23
  refine OK_jit (I := (fun (s : Int × AH) => jt2 s fun a5 h => (0 ≤ a5 ∧ a5 ≤ nk R) ∧ (ivD i4 R hb a5.toNat h) ∧ (∀ a s, ¬ (a = 454 ∧ s = 17) → ¬ (460 ≤ a ∧ a ≤ 469 ∧ a ≠ 464 ∧ i4 ≤ s ∧ s < i4 + sz R) → ¬ (a = 464 ∧ 3 * i4 ≤ s ∧ s < 3 * (i4 + sz R)) → h a s = h0 a s))) (m := (fun (s : Int × AH) => jt2 s fun a5 h => (3 - a5).toNat)) ?_ ?_
  · intro s hs
    obtain ⟨a5, h⟩ := s
    dsimp only [Sum.elim_inl, Sum.elim_inr, jt2, jt3, jt4, jt5, jt6, jt7, jt8] at hs
    obtain ⟨q0, q1, q2⟩ := hs
    unfold gX14_copy_b23
    refine OK_jt2 ?_
    have T' : rwM h Q i2 i3 R i1 0 := rwM_fr (fun a s a0 a1 a2 qs => q2 _ _ (by omega) (by have := q s qs; omega) (by omega)) (fun s j qs j0 j1 => q2 _ _ (by omega) (by omega) (by have := q s qs; omega)) t
    have nd := rwM_nd T' nw.1 (Int.le_refl 0)
    have n3 := nd.2.2 (by decide)
    have lf := nd.2.1
    have l465 := lf.2.2.1
    have l88 := lf.2.1
    have ea : ((a5.toNat : Nat) : Int) = a5 := by omega
    have hT := q1.1
    have k0 := kss_0 sz_0 R a5.toNat
    refine OK_jg (by (first | assumption | omega | ((try dsimp only [jt2, jt3, jt4]); first | omega | (simp (disch := omega) only [jst_eq, jst_ne, jst_ni, jst_o, jI_i, jcpy_out, w32_id, jdiv_nn, jshr_k, jand_255] <;> first | done | omega | assumption)) | (intros; simp (disch := omega) only [jst_eq, jst_ne, jst_ni, jst_o, jI_i, jcpy_out, w32_id, jdiv_nn, *] <;> first | done | omega) | (intros; simp (disch := omega) only [jst_eq, jst_ne, jst_ni, jst_o, jI_i, jcpy_out, w32_id, jdiv_nn] at * <;> first | done | omega | assumption) | (intros; first | rfl | (exfalso; omega) | ((repeat' apply And.intro) <;> first | assumption | rfl | omega | trivial)))) ?_ -- o1
    refine OK_if (fun c1 => ?_) (fun c1 => ?_)
    · skip
      try simp (disch := omega) only [jst_eq, jst_ne, jst_ni, jI_i, jcmp_lt, jcmp_gt, w32_id, jcpy_out, Sum.elim_inl, Sum.elim_inr, jt2, jt3, jt4, jt5, jt6, jt7, jt8] at c1
      refine OK_ir ?_
      (rw [show nk R = a5 by omega]; exact q1) -- o2 e1
    · skip
      try simp (disch := omega) only [jst_eq, jst_ne, jst_ni, jI_i, jcmp_lt, jcmp_gt, w32_id, jcpy_out, Sum.elim_inl, Sum.elim_inr, jt2, jt3, jt4, jt5, jt6, jt7, jt8] at c1
      have lk : ((a5.toNat : Nat) : Int) < nk R := by omega
      have kt := rwM_kd a5.toNat T' nw.1 lk
      have kd := dpT_kd R a5.toNat lk
      rw [ea, Int.zero_add] at kt
      have ks := kss_s (g := sz) lk
      have kl := kss_le sz_0 R (k := a5.toNat + 1) 3 (by omega)
      have k3 := kss_sz R 3 (by omega)
      have iw : w32 (w32 (3 * i1) + a5) = 3 * i1 + a5 := by { rw [w32_id (x := 3 * i1) (by omega) (by omega), w32_id (by omega) (by omega)] }
      refine OK_jg (by (first | assumption | omega | ((try dsimp only [jt2, jt3, jt4]); first | omega | (simp (disch := omega) only [jst_eq, jst_ne, jst_ni, jst_o, jI_i, jcpy_out, w32_id, jdiv_nn, jshr_k, jand_255] <;> first | done | omega | assumption)) | (intros; simp (disch := omega) only [jst_eq, jst_ne, jst_ni, jst_o, jI_i, jcpy_out, w32_id, jdiv_nn, *] <;> first | done | omega) | (intros; simp (disch := omega) only [jst_eq, jst_ne, jst_ni, jst_o, jI_i, jcpy_out, w32_id, jdiv_nn] at * <;> first | done | omega | assumption) | (intros; first | rfl | (exfalso; omega) | ((repeat' apply And.intro) <;> first | assumption | rfl | omega | trivial)))) ?_ -- o3
      refine OK_jb2 (hF _ _ _ _ Q (kdA R a5.toNat) (by (rw [iw]; exact kt)) (by (intro x qx; have := q x qx; omega)) (by omega) (by (rw [iw]; exact rwM_0 kt)) (by omega)) (fun v12 h13 r1 => ?_)
      try dsimp only [Sum.elim_inl, Sum.elim_inr, jt2, jt3, jt4, jt5, jt6, jt7, jt8] at r1
      have po1 := r1
      clear r1
      try simp (disch := omega) only [jst_eq, jst_ne, jst_ni, jI_i, jcmp_lt, jcmp_gt, w32_id, jcpy_out, Sum.elim_inl, Sum.elim_inr, jt2, jt3, jt4, jt5, jt6, jt7, jt8] at po1
      have P2 := po1.2.2.2
      have v12e := po1.1
      have sp := sz_pos (kdA R a5.toNat)
      have L465 : h13 465 i4 = a5 := by { rw [P2 _ _ (by omega) (by omega) (by omega), q1.2.2.1.2.2.1]; exact ea }
      refine OK_jb (vX14_addKid _ _ (by omega)) (fun h15 r2 => ?_)
      try dsimp only [Sum.elim_inl, Sum.elim_inr, jt2, jt3, jt4, jt5, jt6, jt7, jt8] at r2
      obtain ⟨n2, k2, x2, fr2⟩ := r2
      try simp (disch := omega) only [jst_eq, jst_ne, jst_ni, jI_i, jcmp_lt, jcmp_gt, w32_id, jcpy_out, Sum.elim_inl, Sum.elim_inr, jt2, jt3, jt4, jt5, jt6, jt7, jt8] at n2
      try simp (disch := omega) only [jst_eq, jst_ne, jst_ni, jI_i, jcmp_lt, jcmp_gt, w32_id, jcpy_out, Sum.elim_inl, Sum.elim_inr, jt2, jt3, jt4, jt5, jt6, jt7, jt8] at k2
      try simp (disch := omega) only [jst_eq, jst_ne, jst_ni, jI_i, jcmp_lt, jcmp_gt, w32_id, jcpy_out, Sum.elim_inl, Sum.elim_inr, jt2, jt3, jt4, jt5, jt6, jt7, jt8] at x2
      try simp (disch := omega) only [jst_eq, jst_ne, jst_ni, jI_i, jcmp_lt, jcmp_gt, w32_id, jcpy_out, Sum.elim_inl, Sum.elim_inr, jt2, jt3, jt4, jt5, jt6, jt7, jt8] at fr2
      refine OK_jlx (fun x16 ex16 => ?_)
      try simp (disch := omega) only [jst_eq, jst_ne, jst_ni, jI_i, jcmp_lt, jcmp_gt, w32_id, jcpy_out, Sum.elim_inl, Sum.elim_inr, jt2, jt3, jt4, jt5, jt6, jt7, jt8] at ex16
      have e16 : x16.toNat = a5.toNat + 1 := by omega
      refine OK_il ?_ ?_
      · try dsimp only [Sum.elim_inl, Sum.elim_inr, jt2, jt3, jt4, jt5, jt6, jt7, jt8]
        refine ⟨?_, ?_, ?_⟩
        · (first | assumption | omega | ((try dsimp only [jt2, jt3, jt4]); first | omega | (simp (disch := omega) only [jst_eq, jst_ne, jst_ni, jst_o, jI_i, jcpy_out, w32_id, jdiv_nn, jshr_k, jand_255] <;> first | done | omega | assumption)) | (intros; simp (disch := omega) only [jst_eq, jst_ne, jst_ni, jst_o, jI_i, jcpy_out, w32_id, jdiv_nn, *] <;> first | done | omega) | (intros; simp (disch := omega) only [jst_eq, jst_ne, jst_ni, jst_o, jI_i, jcpy_out, w32_id, jdiv_nn] at * <;> first | done | omega | assumption) | (intros; first | rfl | (exfalso; omega) | ((repeat' apply And.intro) <;> first | assumption | rfl | omega | trivial))) -- o10 e2i.1
        · (rw [e16]; have kk := k2 (by omega); rw [L465] at kk fr2; exact ivD_st q1 lk (by omega) po1 n2 (by rw [ea]; exact kk.1) (fun a s y1 y2 => fr2 a s y1 (by omega) (by omega) (by omega))) -- o11 e2i.2
        · (intro a s y1 y2 y3; rw [L465] at fr2; rw [fr2 a s (by omega) (by omega) (by omega) (by omega), P2 a s (by omega) (by omega) (by omega)]; exact q2 a s y1 y2 y3) -- o12 e2i.3
      · (first | assumption | omega | ((try dsimp only [jt2, jt3, jt4]); first | omega | (simp (disch := omega) only [jst_eq, jst_ne, jst_ni, jst_o, jI_i, jcpy_out, w32_id, jdiv_nn, jshr_k, jand_255] <;> first | done | omega | assumption)) | (intros; simp (disch := omega) only [jst_eq, jst_ne, jst_ni, jst_o, jI_i, jcpy_out, w32_id, jdiv_nn, *] <;> first | done | omega) | (intros; simp (disch := omega) only [jst_eq, jst_ne, jst_ni, jst_o, jI_i, jcpy_out, w32_id, jdiv_nn] at * <;> first | done | omega | assumption) | (intros; first | rfl | (exfalso; omega) | ((repeat' apply And.intro) <;> first | assumption | rfl | omega | trivial))) -- o13 e2m
  · try dsimp only [Sum.elim_inl, Sum.elim_inr, jt2, jt3, jt4, jt5, jt6, jt7, jt8]
    refine ⟨?_, ?_, ?_⟩
    · (have := nk_0 R; omega) -- o14 init.1
    · (rw [z]; exact b) -- o15 init.2
    · (first | assumption | omega | ((try dsimp only [jt2, jt3, jt4]); first | omega | (simp (disch := omega) only [jst_eq, jst_ne, jst_ni, jst_o, jI_i, jcpy_out, w32_id, jdiv_nn, jshr_k, jand_255] <;> first | done | omega | assumption)) | (intros; simp (disch := omega) only [jst_eq, jst_ne, jst_ni, jst_o, jI_i, jcpy_out, w32_id, jdiv_nn, *] <;> first | done | omega) | (intros; simp (disch := omega) only [jst_eq, jst_ne, jst_ni, jst_o, jI_i, jcpy_out, w32_id, jdiv_nn] at * <;> first | done | omega | assumption) | (intros; first | rfl | (exfalso; omega) | ((repeat' apply And.intro) <;> first | assumption | rfl | omega | trivial))) -- o16 init.3
theorem vX14_copy_ {F : Int → Int → Int → AH → Option (Int × AH)} (a1 : Int) (a2 : Int) (a3 : Int) {h : AH} {k : Int} {R : TR} {Q : Int → Prop} (hF : CCD F k) (t : rwM h Q a2 a3 R a1 0) (q : ∀ x, Q x → ¬ (h 454 17 ≤ x ∧ x < h 454 17 + sz R)) (n : 0 ≤ h 454 17 ∧ h 454 17 + sz R ≤ 8800) (d0 : 0 ≤ a1) (dk : (a2 = -1 ∧ dpT R + 1 ≤ k + 1) ∨ dpT R + 2 ≤ k + 1) : OK (gX14_copy_ F a1 a2 a3 h) (fun r => jt2 r fun v h' => poD R h v h') := by
  have sp := sz_pos R
  unfold gX14_copy_
  refine OK_if (fun c1 => ?_) (fun c1 => ?_)
  · skip
    try simp (disch := omega) only [jst_eq, jst_ne, jst_ni, jI_i, jcmp_lt, jcmp_gt, w32_id, jcpy_out, Sum.elim_inl, Sum.elim_inr, jt2, jt3, jt4, jt5, jt6, jt7, jt8] at c1
    have tw : rwM h Q (-1) (-1) R a3 0 := resQ_rw (rwM_w (w := a2) (by rw [c1] at t; exact t))
    refine OK_jb2 (hF _ _ _ _ Q R (by (first | assumption | omega | ((try dsimp only [jt2, jt3, jt4]); first | omega | (simp (disch := omega) only [jst_eq, jst_ne, jst_ni, jst_o, jI_i, jcpy_out, w32_id, jdiv_nn, jshr_k, jand_255] <;> first | done | omega | assumption)) | (intros; simp (disch := omega) only [jst_eq, jst_ne, jst_ni, jst_o, jI_i, jcpy_out, w32_id, jdiv_nn, *] <;> first | done | omega) | (intros; simp (disch := omega) only [jst_eq, jst_ne, jst_ni, jst_o, jI_i, jcpy_out, w32_id, jdiv_nn] at * <;> first | done | omega | assumption) | (intros; first | rfl | (exfalso; omega) | ((repeat' apply And.intro) <;> first | assumption | rfl | omega | trivial)))) (by (first | assumption | omega | ((try dsimp only [jt2, jt3, jt4]); first | omega | (simp (disch := omega) only [jst_eq, jst_ne, jst_ni, jst_o, jI_i, jcpy_out, w32_id, jdiv_nn, jshr_k, jand_255] <;> first | done | omega | assumption)) | (intros; simp (disch := omega) only [jst_eq, jst_ne, jst_ni, jst_o, jI_i, jcpy_out, w32_id, jdiv_nn, *] <;> first | done | omega) | (intros; simp (disch := omega) only [jst_eq, jst_ne, jst_ni, jst_o, jI_i, jcpy_out, w32_id, jdiv_nn] at * <;> first | done | omega | assumption) | (intros; first | rfl | (exfalso; omega) | ((repeat' apply And.intro) <;> first | assumption | rfl | omega | trivial)))) (by (first | assumption | omega | ((try dsimp only [jt2, jt3, jt4]); first | omega | (simp (disch := omega) only [jst_eq, jst_ne, jst_ni, jst_o, jI_i, jcpy_out, w32_id, jdiv_nn, jshr_k, jand_255] <;> first | done | omega | assumption)) | (intros; simp (disch := omega) only [jst_eq, jst_ne, jst_ni, jst_o, jI_i, jcpy_out, w32_id, jdiv_nn, *] <;> first | done | omega) | (intros; simp (disch := omega) only [jst_eq, jst_ne, jst_ni, jst_o, jI_i, jcpy_out, w32_id, jdiv_nn] at * <;> first | done | omega | assumption) | (intros; first | rfl | (exfalso; omega) | ((repeat' apply And.intro) <;> first | assumption | rfl | omega | trivial)))) (by exact rwM_0 tw) (by exact Or.inl ⟨rfl, by omega⟩)) (fun v3 h4 r1 => ?_)
    try dsimp only [Sum.elim_inl, Sum.elim_inr, jt2, jt3, jt4, jt5, jt6, jt7, jt8] at r1
    have po1 := r1
    clear r1
    try simp (disch := omega) only [jst_eq, jst_ne, jst_ni, jI_i, jcmp_lt, jcmp_gt, w32_id, jcpy_out, Sum.elim_inl, Sum.elim_inr, jt2, jt3, jt4, jt5, jt6, jt7, jt8] at po1
    refine OK_some ?_
    try dsimp only [Sum.elim_inl, Sum.elim_inr, jt2, jt3, jt4, jt5, jt6, jt7, jt8]
    (first | assumption | omega | ((try dsimp only [jt2, jt3, jt4]); first | omega | (simp (disch := omega) only [jst_eq, jst_ne, jst_ni, jst_o, jI_i, jcpy_out, w32_id, jdiv_nn, jshr_k, jand_255] <;> first | done | omega | assumption)) | (intros; simp (disch := omega) only [jst_eq, jst_ne, jst_ni, jst_o, jI_i, jcpy_out, w32_id, jdiv_nn, *] <;> first | done | omega) | (intros; simp (disch := omega) only [jst_eq, jst_ne, jst_ni, jst_o, jI_i, jcpy_out, w32_id, jdiv_nn] at * <;> first | done | omega | assumption) | (intros; first | rfl | (exfalso; omega) | ((repeat' apply And.intro) <;> first | assumption | rfl | omega | trivial))) -- o6 e1
  · skip
    try simp (disch := omega) only [jst_eq, jst_ne, jst_ni, jI_i, jcmp_lt, jcmp_gt, w32_id, jcpy_out, Sum.elim_inl, Sum.elim_inr, jt2, jt3, jt4, jt5, jt6, jt7, jt8] at c1
    have nd := rwM_nd t c1 (Int.le_refl 0)
    refine OK_jb2 (vX14_copyNode (i := inf R) (n := 0 + nk R) _ (by exact nd.2.1) (by (first | assumption | omega | ((try dsimp only [jt2, jt3, jt4]); first | omega | (simp (disch := omega) only [jst_eq, jst_ne, jst_ni, jst_o, jI_i, jcpy_out, w32_id, jdiv_nn, jshr_k, jand_255] <;> first | done | omega | assumption)) | (intros; simp (disch := omega) only [jst_eq, jst_ne, jst_ni, jst_o, jI_i, jcpy_out, w32_id, jdiv_nn, *] <;> first | done | omega) | (intros; simp (disch := omega) only [jst_eq, jst_ne, jst_ni, jst_o, jI_i, jcpy_out, w32_id, jdiv_nn] at * <;> first | done | omega | assumption) | (intros; first | rfl | (exfalso; omega) | ((repeat' apply And.intro) <;> first | assumption | rfl | omega | trivial)))) (by (intro y; have := q a1 nd.1; omega))) (fun v6 h7 r2 => ?_)
    try dsimp only [Sum.elim_inl, Sum.elim_inr, jt2, jt3, jt4, jt5, jt6, jt7, jt8] at r2
    obtain ⟨vv2, lf2, fr2⟩ := r2
    try simp (disch := omega) only [jst_eq, jst_ne, jst_ni, jI_i, jcmp_lt, jcmp_gt, w32_id, jcpy_out, Sum.elim_inl, Sum.elim_inr, jt2, jt3, jt4, jt5, jt6, jt7, jt8] at vv2
    try simp (disch := omega) only [jst_eq, jst_ne, jst_ni, jI_i, jcmp_lt, jcmp_gt, w32_id, jcpy_out, Sum.elim_inl, Sum.elim_inr, jt2, jt3, jt4, jt5, jt6, jt7, jt8] at lf2
    try simp (disch := omega) only [jst_eq, jst_ne, jst_ni, jI_i, jcmp_lt, jcmp_gt, w32_id, jcpy_out, Sum.elim_inl, Sum.elim_inr, jt2, jt3, jt4, jt5, jt6, jt7, jt8] at fr2
    have v0 : v6 = h 454 17 := vv2.1
    have a1n : a1 ≠ h 454 17 := fun y => by { have := q a1 nd.1; omega }
    refine OK_jb (vX14_copy_l23 (k := k) (R := R) (hb := h) (Q := Q) _ _ _ _ _ (by (first | assumption | omega | ((try dsimp only [jt2, jt3, jt4]); first | omega | (simp (disch := omega) only [jst_eq, jst_ne, jst_ni, jst_o, jI_i, jcpy_out, w32_id, jdiv_nn, jshr_k, jand_255] <;> first | done | omega | assumption)) | (intros; simp (disch := omega) only [jst_eq, jst_ne, jst_ni, jst_o, jI_i, jcpy_out, w32_id, jdiv_nn, *] <;> first | done | omega) | (intros; simp (disch := omega) only [jst_eq, jst_ne, jst_ni, jst_o, jI_i, jcpy_out, w32_id, jdiv_nn] at * <;> first | done | omega | assumption) | (intros; first | rfl | (exfalso; omega) | ((repeat' apply And.intro) <;> first | assumption | rfl | omega | trivial)))) (by exact rwM_fr (fun a s x0 x1 x2 qs => fr2 _ _ (by omega) (by have := q s qs; omega)) (fun s j qs j0 j1 => fr2 _ _ (by omega) (by omega)) t) (by (first | assumption | omega | ((try dsimp only [jt2, jt3, jt4]); first | omega | (simp (disch := omega) only [jst_eq, jst_ne, jst_ni, jst_o, jI_i, jcpy_out, w32_id, jdiv_nn, jshr_k, jand_255] <;> first | done | omega | assumption)) | (intros; simp (disch := omega) only [jst_eq, jst_ne, jst_ni, jst_o, jI_i, jcpy_out, w32_id, jdiv_nn, *] <;> first | done | omega) | (intros; simp (disch := omega) only [jst_eq, jst_ne, jst_ni, jst_o, jI_i, jcpy_out, w32_id, jdiv_nn] at * <;> first | done | omega | assumption) | (intros; first | rfl | (exfalso; omega) | ((repeat' apply And.intro) <;> first | assumption | rfl | omega | trivial)))) (by (rw [v0]; exact q)) (by (rw [v0]; exact n)) (by omega) (by (first | assumption | omega | ((try dsimp only [jt2, jt3, jt4]); first | omega | (simp (disch := omega) only [jst_eq, jst_ne, jst_ni, jst_o, jI_i, jcpy_out, w32_id, jdiv_nn, jshr_k, jand_255] <;> first | done | omega | assumption)) | (intros; simp (disch := omega) only [jst_eq, jst_ne, jst_ni, jst_o, jI_i, jcpy_out, w32_id, jdiv_nn, *] <;> first | done | omega) | (intros; simp (disch := omega) only [jst_eq, jst_ne, jst_ni, jst_o, jI_i, jcpy_out, w32_id, jdiv_nn] at * <;> first | done | omega | assumption) | (intros; first | rfl | (exfalso; omega) | ((repeat' apply And.intro) <;> first | assumption | rfl | omega | trivial)))) (by (rw [v0]; rw [v0] at lf2; exact ⟨by rw [vv2.2]; show _ = _ + (0 : Int); omega, fun m m1 _ => absurd m1 (Nat.not_lt_zero m), lf2, fun a s y1 y2 y3 => fr2 a s y1 (by intro z; apply y2; have e : kss sz R 0 = 0 := rfl; omega)⟩))) (fun o8 r3 => ?_)
    try dsimp only [Sum.elim_inl, Sum.elim_inr, jt2, jt3, jt4, jt5, jt6, jt7, jt8] at r3
    have iv3 := r3
    clear r3
    try simp (disch := omega) only [jst_eq, jst_ne, jst_ni, jI_i, jcmp_lt, jcmp_gt, w32_id, jcpy_out, Sum.elim_inl, Sum.elim_inr, jt2, jt3, jt4, jt5, jt6, jt7, jt8] at iv3
    refine OK_some ?_
    try dsimp only [Sum.elim_inl, Sum.elim_inr, jt2, jt3, jt4, jt5, jt6, jt7, jt8]
    (rw [v0]; rw [v0] at iv3; have E := ivD_end (by have := nd.2.2 (by decide); omega) (by have := nk_0 R; omega) iv3; exact ⟨rfl, E.1, E.2.1, E.2.2⟩) -- o18 e2
theorem CCD_D : ∀ D : Nat, CCD (gX14_copyD D) D
  | 0 => fun d w ins h Q R _ _ _ _ dk => by have := dpT_0 R; omega
  | D + 1 => fun d w ins h Q R t q n d0 dk => vX14_copy_ d w ins (CCD_D D) t q n d0 (by omega)
theorem vX14_copy (a1 a2 a3 : Int) {h : AH} {Q : Int → Prop} {R : TR} (t : rwM h Q a2 a3 R a1 0) (q : ∀ x, Q x → ¬ (h 454 17 ≤ x ∧ x < h 454 17 + sz R)) (n : 0 ≤ h 454 17 ∧ h 454 17 + sz R ≤ 8800) (dk : dpT R ≤ 38) : OK (gX14_copy a1 a2 a3 h) (fun r => jt2 r fun v h' => poD R h v h') := CCD_D 40 a1 a2 a3 h Q R t q n (rwM_0 t) (by omega)

