/-! x: the cheapest program, whole -/
def bsW (e : CE) (v : Nat) : Prop := (1 ≤ v ∧ v ≤ 4) ∧ (∀ k : Nat, 1 ≤ k → k < v → chP e v 0 < chP e k 0) ∧ ∀ k : Nat, v ≤ k → k ≤ 4 → chP e v 0 ≤ chP e k 0
theorem bsW_u {e : CE} {v w : Nat} (a : bsW e v) (b : bsW e w) : v = w := by
  rcases Nat.lt_trichotomy v w with q | q | q
  · have := b.2.1 v a.1.1 q
    have := a.2.2 w (by omega) b.1.2
    omega
  · exact q
  · have := a.2.1 w b.1.1 q
    have := b.2.2 v (by omega) a.1.2
    omega
def itsX (h : AH) : Int → List (Int × Int) → Prop
  | _, [] => True
  | i, it :: l => itX h i it ∧ itsX h (i + 1) l
theorem itsX_a {h : AH} : ∀ {l : List (Int × Int)} {i : Int} {it : Int × Int}, itsX h i l → itX h (i + l.length) it → itsX h i (l ++ [it])
  | [], i, it, _, b => ⟨by have e : i + (([] : List (Int × Int)).length : Int) = i := Int.add_zero i; rw [e] at b; exact b, trivial⟩
  | x :: l, i, it, a, b => ⟨a.1, itsX_a (l := l) (i := i + 1) a.2 (by have e : i + ((x :: l).length : Int) = i + 1 + (l.length : Int) := by { show i + ((l.length + 1 : Nat) : Int) = _; omega }; rw [e] at b; exact b)⟩
theorem itsX_f {h h' : AH} : ∀ {l : List (Int × Int)} {i : Int}, itsX h i l → (∀ a s, 421 ≤ a → a ≤ 423 → i ≤ s → s < i + l.length → h' a s = h a s) → itsX h' i l
  | [], _, _, _ => trivial
  | x :: l, i, a, f => by
    have z : ((x :: l).length : Int) = (l.length : Int) + 1 := rfl
    refine ⟨?_, itsX_f (l := l) a.2 (fun b s b0 b1 s0 s1 => f b s b0 b1 (by omega) (by omega))⟩
    have q := a.1
    unfold itX at q ⊢
    rw [f 421 i (by omega) (by omega) (by omega) (by omega), f 422 i (by omega) (by omega) (by omega) (by omega), f 423 i (by omega) (by omega) (by omega) (by omega)]
    exact q
theorem wyP_l {e : CE} : ∀ {k : Nat} {u : Int} {l : List (Int × Int)}, wyP e k u l → l.length = k
  | 0, _, _, a => by rw [show _ = [] from a]; rfl
  | k + 1, _, _, a => by
    obtain ⟨i, v, r, f, w, q⟩ := a
    rw [q]
    show r.length + 1 = k + 1
    rw [wyP_l w]
theorem vX9_fit_l21 (a20 : Int) (a30 : Int) {h : AH} {e : CE} {t d : Int → Int} {N : Int} (ti : TI e t d N) (pk : ∀ k : Nat, k ≤ 4 → pok (h 419) e t d N k) (h0 : a20 = 1 ∧ a30 = 2) : OK (gX9_fit_l21 a20 a30 h) (fun r => 0 ≤ r ∧ bsW e r.toNat) := by
  have N4 := ti.1
  have PZ : ∀ k : Nat, k ≤ 4 → h 419 (400 * k) = chP e k 0 := fun k l => by have z := pk k l 0 (by omega) (by omega) (by rw [ti.2.1.2]; omega); rw [ti.2.1.1, Int.add_zero] at z; exact z
  unfold gX9_fit_l21
  refine OK_jit (I := (fun (s : Int × Int) => jt2 s fun a2 a3 => ((1 ≤ a2 ∧ a2 < a3) ∧ 2 ≤ a3 ∧ a3 ≤ 5) ∧ ((∀ k : Nat, 1 ≤ k → (k : Int) < a2 → chP e a2.toNat 0 < chP e k 0) ∧ ∀ k : Nat, a2 ≤ k → (k : Int) < a3 → chP e a2.toNat 0 ≤ chP e k 0))) (m := (fun (s : Int × Int) => jt2 s fun a2 a3 => (5 - a3).toNat)) ?_ ?_
  · intro s hs
    obtain ⟨a2, a3⟩ := s
    dsimp only [Sum.elim_inl, Sum.elim_inr, jt2, jt3, jt4, jt5, jt6, jt7, jt8] at hs
    obtain ⟨q0, q1⟩ := hs
    unfold gX9_fit_b21
    refine OK_jt2 ?_
    refine OK_if (fun c1 => ?_) (fun c1 => ?_)
    · skip
      try simp (disch := omega) only [jst_eq, jst_ne, jst_ni, jI_i, jcmp_lt, jcmp_gt, w32_id, jcpy_out, Sum.elim_inl, Sum.elim_inr, jt2, jt3, jt4, jt5, jt6, jt7, jt8] at c1
      refine OK_ir ?_
      exact ⟨by omega, ⟨by omega, by omega⟩, fun k k0 k1 => q1.1 k k0 (by omega), fun k k0 k1 => q1.2 k (by omega) (by omega)⟩ -- o1 e1
    · skip
      try simp (disch := omega) only [jst_eq, jst_ne, jst_ni, jI_i, jcmp_lt, jcmp_gt, w32_id, jcpy_out, Sum.elim_inl, Sum.elim_inr, jt2, jt3, jt4, jt5, jt6, jt7, jt8] at c1
      have W2 : w32 (a2 * 400) = 400 * ((a2.toNat : Nat) : Int) := by { rw [w32_id (by omega) (by omega)]; omega }
      have W3 : w32 (a3 * 400) = 400 * ((a3.toNat : Nat) : Int) := by { rw [w32_id (by omega) (by omega)]; omega }
      have PA := PZ a2.toNat (by omega)
      have PB := PZ a3.toNat (by omega)
      rw [W2, W3, PA, PB]
      refine OK_jg (by (first | assumption | omega | ((try dsimp only [jt2, jt3, jt4]); first | omega | (simp (disch := omega) only [jst_eq, jst_ne, jst_ni, jst_o, jI_i, jcpy_out, w32_id, jdiv_nn, jshr_k, jand_255] <;> first | done | omega | assumption)) | (intros; simp (disch := omega) only [jst_eq, jst_ne, jst_ni, jst_o, jI_i, jcpy_out, w32_id, jdiv_nn, *] <;> first | done | omega) | (intros; simp (disch := omega) only [jst_eq, jst_ne, jst_ni, jst_o, jI_i, jcpy_out, w32_id, jdiv_nn] at * <;> first | done | omega | assumption) | (intros; first | rfl | (exfalso; omega) | ((repeat' apply And.intro) <;> first | assumption | rfl | omega | trivial)))) ?_ -- o2
      refine OK_jg (by (first | assumption | omega | ((try dsimp only [jt2, jt3, jt4]); first | omega | (simp (disch := omega) only [jst_eq, jst_ne, jst_ni, jst_o, jI_i, jcpy_out, w32_id, jdiv_nn, jshr_k, jand_255] <;> first | done | omega | assumption)) | (intros; simp (disch := omega) only [jst_eq, jst_ne, jst_ni, jst_o, jI_i, jcpy_out, w32_id, jdiv_nn, *] <;> first | done | omega) | (intros; simp (disch := omega) only [jst_eq, jst_ne, jst_ni, jst_o, jI_i, jcpy_out, w32_id, jdiv_nn] at * <;> first | done | omega | assumption) | (intros; first | rfl | (exfalso; omega) | ((repeat' apply And.intro) <;> first | assumption | rfl | omega | trivial)))) ?_ -- o3
      refine OK_if (fun c2 => ?_) (fun c2 => ?_)
      · skip
        try simp (disch := omega) only [jst_eq, jst_ne, jst_ni, jI_i, jcmp_lt, jcmp_gt, w32_id, jcpy_out, Sum.elim_inl, Sum.elim_inr, jt2, jt3, jt4, jt5, jt6, jt7, jt8] at c2
        unfold gX9_fit_j51_21
        refine OK_jlx (fun x14 ex14 => ?_)
        try simp (disch := omega) only [jst_eq, jst_ne, jst_ni, jI_i, jcmp_lt, jcmp_gt, w32_id, jcpy_out, Sum.elim_inl, Sum.elim_inr, jt2, jt3, jt4, jt5, jt6, jt7, jt8] at ex14
        refine OK_il ?_ ?_
        · try dsimp only [Sum.elim_inl, Sum.elim_inr, jt2, jt3, jt4, jt5, jt6, jt7, jt8]
          refine ⟨?_, ?_⟩
          · (first | assumption | omega | ((try dsimp only [jt2, jt3, jt4]); first | omega | (simp (disch := omega) only [jst_eq, jst_ne, jst_ni, jst_o, jI_i, jcpy_out, w32_id, jdiv_nn, jshr_k, jand_255] <;> first | done | omega | assumption)) | (intros; simp (disch := omega) only [jst_eq, jst_ne, jst_ni, jst_o, jI_i, jcpy_out, w32_id, jdiv_nn, *] <;> first | done | omega) | (intros; simp (disch := omega) only [jst_eq, jst_ne, jst_ni, jst_o, jI_i, jcpy_out, w32_id, jdiv_nn] at * <;> first | done | omega | assumption) | (intros; first | rfl | (exfalso; omega) | ((repeat' apply And.intro) <;> first | assumption | rfl | omega | trivial))) -- o4 e2i.1
          · (refine ⟨q1.1, fun k k0 k1 => ?_⟩; by_cases y : (k : Int) = a3; { rw [show k = a3.toNat by omega]; omega }; { exact q1.2 k k0 (by omega) }) -- o5 e2i.2
        · (first | assumption | omega | ((try dsimp only [jt2, jt3, jt4]); first | omega | (simp (disch := omega) only [jst_eq, jst_ne, jst_ni, jst_o, jI_i, jcpy_out, w32_id, jdiv_nn, jshr_k, jand_255] <;> first | done | omega | assumption)) | (intros; simp (disch := omega) only [jst_eq, jst_ne, jst_ni, jst_o, jI_i, jcpy_out, w32_id, jdiv_nn, *] <;> first | done | omega) | (intros; simp (disch := omega) only [jst_eq, jst_ne, jst_ni, jst_o, jI_i, jcpy_out, w32_id, jdiv_nn] at * <;> first | done | omega | assumption) | (intros; first | rfl | (exfalso; omega) | ((repeat' apply And.intro) <;> first | assumption | rfl | omega | trivial))) -- o6 e2m
      · skip
        try simp (disch := omega) only [jst_eq, jst_ne, jst_ni, jI_i, jcmp_lt, jcmp_gt, w32_id, jcpy_out, Sum.elim_inl, Sum.elim_inr, jt2, jt3, jt4, jt5, jt6, jt7, jt8] at c2
        unfold gX9_fit_j51_21
        refine OK_jlx (fun x14 ex14 => ?_)
        try simp (disch := omega) only [jst_eq, jst_ne, jst_ni, jI_i, jcmp_lt, jcmp_gt, w32_id, jcpy_out, Sum.elim_inl, Sum.elim_inr, jt2, jt3, jt4, jt5, jt6, jt7, jt8] at ex14
        refine OK_il ?_ ?_
        · try dsimp only [Sum.elim_inl, Sum.elim_inr, jt2, jt3, jt4, jt5, jt6, jt7, jt8]
          refine ⟨?_, ?_⟩
          · (first | assumption | omega | ((try dsimp only [jt2, jt3, jt4]); first | omega | (simp (disch := omega) only [jst_eq, jst_ne, jst_ni, jst_o, jI_i, jcpy_out, w32_id, jdiv_nn, jshr_k, jand_255] <;> first | done | omega | assumption)) | (intros; simp (disch := omega) only [jst_eq, jst_ne, jst_ni, jst_o, jI_i, jcpy_out, w32_id, jdiv_nn, *] <;> first | done | omega) | (intros; simp (disch := omega) only [jst_eq, jst_ne, jst_ni, jst_o, jI_i, jcpy_out, w32_id, jdiv_nn] at * <;> first | done | omega | assumption) | (intros; first | rfl | (exfalso; omega) | ((repeat' apply And.intro) <;> first | assumption | rfl | omega | trivial))) -- o7 e3i.1
          · (refine ⟨fun k k0 k1 => ?_, fun k k0 k1 => ?_⟩; { by_cases y : (k : Int) < a2; { have := q1.1 k k0 y; omega }; { have := q1.2 k (by omega) k1; omega } }; { rw [show k = a3.toNat by omega]; exact Int.le_refl _ }) -- o8 e3i.2
        · (first | assumption | omega | ((try dsimp only [jt2, jt3, jt4]); first | omega | (simp (disch := omega) only [jst_eq, jst_ne, jst_ni, jst_o, jI_i, jcpy_out, w32_id, jdiv_nn, jshr_k, jand_255] <;> first | done | omega | assumption)) | (intros; simp (disch := omega) only [jst_eq, jst_ne, jst_ni, jst_o, jI_i, jcpy_out, w32_id, jdiv_nn, *] <;> first | done | omega) | (intros; simp (disch := omega) only [jst_eq, jst_ne, jst_ni, jst_o, jI_i, jcpy_out, w32_id, jdiv_nn] at * <;> first | done | omega | assumption) | (intros; first | rfl | (exfalso; omega) | ((repeat' apply And.intro) <;> first | assumption | rfl | omega | trivial))) -- o9 e3m
  · try dsimp only [Sum.elim_inl, Sum.elim_inr, jt2, jt3, jt4, jt5, jt6, jt7, jt8]
    refine ⟨?_, ?_⟩
    · (first | assumption | omega | ((try dsimp only [jt2, jt3, jt4]); first | omega | (simp (disch := omega) only [jst_eq, jst_ne, jst_ni, jst_o, jI_i, jcpy_out, w32_id, jdiv_nn, jshr_k, jand_255] <;> first | done | omega | assumption)) | (intros; simp (disch := omega) only [jst_eq, jst_ne, jst_ni, jst_o, jI_i, jcpy_out, w32_id, jdiv_nn, *] <;> first | done | omega) | (intros; simp (disch := omega) only [jst_eq, jst_ne, jst_ni, jst_o, jI_i, jcpy_out, w32_id, jdiv_nn] at * <;> first | done | omega | assumption) | (intros; first | rfl | (exfalso; omega) | ((repeat' apply And.intro) <;> first | assumption | rfl | omega | trivial))) -- o10 init.1
    · (rw [h0.1, h0.2]; exact ⟨fun k k0 k1 => by omega, fun k k0 k1 => by rw [show k = 1 by omega]; exact Int.le_refl _⟩) -- o11 init.2
theorem vX9_fit_l84 (i2 : Int) (a30 : Int) (a40 : Int) {h0 : AH} {e : CE} {t d : Int → Int} {N : Int} {m : Nat} (hc : cuX h0 e) (hv : vCE e) (sp : spX h0 e 178) (tb : tbC h0 t d N) (ti : TI e t d N) (fx : FX (h0 417) (h0 418) e t d N N) (pk : ∀ k : Nat, k ≤ 4 → pok (h0 419) e t d N k) (hm : h0 408 16 = m ∧ m ≤ 4) (lt : chP e m 0 < 1000000) (hh : a30 = 0 ∧ a40 = m) : OK (gX9_fit_l84 i2 a30 a40 h0) (fun h' => (∃ l, wyP e m 0 l ∧ itsX h' 0 l) ∧ (∀ a s, ¬ (421 ≤ a ∧ a ≤ 423 ∧ 0 ≤ s) → h' a s = h0 a s)) := by
  have N4 := ti.1
  unfold gX9_fit_l84
  refine OK_jit (I := (fun (s : Int × Int × AH) => jt3 s fun a3 a4 h => (0 ≤ a4 ∧ a4 ≤ m) ∧ (0 ≤ a3 ∧ a3 < N ∧ d a3 + a4 ≤ m) ∧ (chP e a4.toNat (t a3) < 1000000) ∧ (∃ l1 : List (Int × Int), (l1.length : Int) = m - a4 ∧ itsX h 0 l1 ∧ ∀ l2, wyP e a4.toNat (t a3) l2 → wyP e m 0 (l1 ++ l2)) ∧ (∀ a s, ¬ (421 ≤ a ∧ a ≤ 423 ∧ 0 ≤ s) → h a s = h0 a s))) (m := (fun (s : Int × Int × AH) => jt3 s fun a3 a4 h => a4.toNat)) ?_ ?_
  · intro s hs
    obtain ⟨a3, a4, h⟩ := s
    dsimp only [Sum.elim_inl, Sum.elim_inr, jt2, jt3, jt4, jt5, jt6, jt7, jt8] at hs
    obtain ⟨q0, q1, q2, q3, fr⟩ := hs
    unfold gX9_fit_b84
    refine OK_jt3 ?_
    obtain ⟨l1, l1a, l1b, l1c⟩ := q3
    obtain ⟨⟨u, tu, su⟩, d04, _⟩ := ti.2.2.1 a3 q1.1 q1.2.1
    refine OK_if (fun c1 => ?_) (fun c1 => ?_)
    · skip
      try simp (disch := omega) only [jst_eq, jst_ne, jst_ni, jI_i, jcmp_lt, jcmp_gt, w32_id, jcpy_out, Sum.elim_inl, Sum.elim_inr, jt2, jt3, jt4, jt5, jt6, jt7, jt8] at c1
      refine OK_ir ?_
      try dsimp only [Sum.elim_inl, Sum.elim_inr, jt2, jt3, jt4, jt5, jt6, jt7, jt8]
      refine ⟨?_, ?_⟩
      · (refine ⟨l1 ++ [], l1c [] (by rw [show a4.toNat = 0 by omega]; rfl), ?_⟩; rw [List.append_nil]; exact l1b) -- o1 e1.1
      · (first | assumption | omega | ((try dsimp only [jt2, jt3, jt4]); first | omega | (simp (disch := omega) only [jst_eq, jst_ne, jst_ni, jst_o, jI_i, jcpy_out, w32_id, jdiv_nn, jshr_k, jand_255] <;> first | done | omega | assumption)) | (intros; simp (disch := omega) only [jst_eq, jst_ne, jst_ni, jst_o, jI_i, jcpy_out, w32_id, jdiv_nn, *] <;> first | done | omega) | (intros; simp (disch := omega) only [jst_eq, jst_ne, jst_ni, jst_o, jI_i, jcpy_out, w32_id, jdiv_nn] at * <;> first | done | omega | assumption) | (intros; first | rfl | (exfalso; omega) | ((repeat' apply And.intro) <;> first | assumption | rfl | omega | trivial))) -- o2 e1.2
    · skip
      try simp (disch := omega) only [jst_eq, jst_ne, jst_ni, jI_i, jcmp_lt, jcmp_gt, w32_id, jcpy_out, Sum.elim_inl, Sum.elim_inr, jt2, jt3, jt4, jt5, jt6, jt7, jt8] at c1
      have AK : a4.toNat = (a4 - 1).toNat + 1 := by omega
      have CS : chS h e t d N (a4 - 1).toNat := ⟨cuX_f hc (fun a s y => fr a s (by omega)), hv, spX_f sp (fun a s y => fr a s (by omega)), ⟨by rw [fr _ _ (by omega)]; exact tb.1, fun k k0 k1 => by rw [fr _ _ (by omega), fr _ _ (by omega)]; exact tb.2 k k0 k1⟩, ti, by rw [show h 417 = h0 417 from funext fun s => fr _ _ (by omega), show h 418 = h0 418 from funext fun s => fr _ _ (by omega)]; exact fx, by rw [show h 419 = h0 419 from funext fun s => fr _ _ (by omega)]; exact pk _ (by omega), by rw [show h 419 = h0 419 from funext fun s => fr _ _ (by omega)]; exact pk _ (by omega)⟩
      refine OK_jb2 (vX9_choose (e := e) (t := t) (d := d) (N := N) (k := (a4 - 1).toNat) (u := u) (m := m) _ _ (by exact CS) (by exact ⟨q1.1, q1.2.1, tu⟩) (by omega) (by omega) (by (rw [fr _ _ (by omega)]; exact ⟨hm.1, by omega, by omega⟩)) (by (rw [← AK, ← tu]; exact q2))) (fun v17 h18 r1 => ?_)
      try dsimp only [Sum.elim_inl, Sum.elim_inr, jt2, jt3, jt4, jt5, jt6, jt7, jt8] at r1
      obtain ⟨wy1, fr1⟩ := r1
      try simp (disch := omega) only [jst_eq, jst_ne, jst_ni, jI_i, jcmp_lt, jcmp_gt, w32_id, jcpy_out, Sum.elim_inl, Sum.elim_inr, jt2, jt3, jt4, jt5, jt6, jt7, jt8] at wy1
      try simp (disch := omega) only [jst_eq, jst_ne, jst_ni, jI_i, jcmp_lt, jcmp_gt, w32_id, jcpy_out, Sum.elim_inl, Sum.elim_inr, jt2, jt3, jt4, jt5, jt6, jt7, jt8] at fr1
      obtain ⟨w1, w2, it, w3, w4, w5⟩ := wy1
      refine OK_jlx (fun x19 ex19 => ?_)
      try simp (disch := omega) only [jst_eq, jst_ne, jst_ni, jI_i, jcmp_lt, jcmp_gt, w32_id, jcpy_out, Sum.elim_inl, Sum.elim_inr, jt2, jt3, jt4, jt5, jt6, jt7, jt8] at ex19
      refine OK_il ?_ ?_
      · try dsimp only [Sum.elim_inl, Sum.elim_inr, jt2, jt3, jt4, jt5, jt6, jt7, jt8]
        refine ⟨?_, ?_, ?_, ?_, ?_⟩
        · omega -- o9 e2i.1
        · exact ⟨w1.1, w1.2, by omega⟩ -- o10 e2i.2
        · (rw [show x19.toNat = (a4 - 1).toNat by omega]; exact w5) -- o11 e2i.3
        · (refine ⟨l1 ++ [it], by rw [List.length_append]; show ((l1.length + 1 : Nat) : Int) = _; omega, itsX_a (itsX_f l1b (fun a s b0 b1 s0 s1 => fr1 a s (by omega))) (by rw [show (0 : Int) + (l1.length : Int) = m - ((a4 - 1).toNat : Nat) - 1 by omega]; exact w4), fun l2 hl => ?_⟩; rw [show x19.toNat = (a4 - 1).toNat by omega] at hl; rw [List.append_assoc]; refine l1c _ ?_; rw [AK]; exact ⟨it, t v17, l2, by rw [tu, show ((u : Int)).toNat = u by omega]; exact w3, hl, rfl⟩) -- o12 e2i.4
        · exact fun a s y => by rw [fr1 a s (by omega)]; exact fr a s y -- o13 e2i.5
      · (first | assumption | omega | ((try dsimp only [jt2, jt3, jt4]); first | omega | (simp (disch := omega) only [jst_eq, jst_ne, jst_ni, jst_o, jI_i, jcpy_out, w32_id, jdiv_nn, jshr_k, jand_255] <;> first | done | omega | assumption)) | (intros; simp (disch := omega) only [jst_eq, jst_ne, jst_ni, jst_o, jI_i, jcpy_out, w32_id, jdiv_nn, *] <;> first | done | omega) | (intros; simp (disch := omega) only [jst_eq, jst_ne, jst_ni, jst_o, jI_i, jcpy_out, w32_id, jdiv_nn] at * <;> first | done | omega | assumption) | (intros; first | rfl | (exfalso; omega) | ((repeat' apply And.intro) <;> first | assumption | rfl | omega | trivial))) -- o14 e2m
  · try dsimp only [Sum.elim_inl, Sum.elim_inr, jt2, jt3, jt4, jt5, jt6, jt7, jt8]
    refine ⟨?_, ?_, ?_, ?_, ?_⟩
    · (first | assumption | omega | ((try dsimp only [jt2, jt3, jt4]); first | omega | (simp (disch := omega) only [jst_eq, jst_ne, jst_ni, jst_o, jI_i, jcpy_out, w32_id, jdiv_nn, jshr_k, jand_255] <;> first | done | omega | assumption)) | (intros; simp (disch := omega) only [jst_eq, jst_ne, jst_ni, jst_o, jI_i, jcpy_out, w32_id, jdiv_nn, *] <;> first | done | omega) | (intros; simp (disch := omega) only [jst_eq, jst_ne, jst_ni, jst_o, jI_i, jcpy_out, w32_id, jdiv_nn] at * <;> first | done | omega | assumption) | (intros; first | rfl | (exfalso; omega) | ((repeat' apply And.intro) <;> first | assumption | rfl | omega | trivial))) -- o15 init.1
    · (rw [hh.1, hh.2, ti.2.1.2]; omega) -- o16 init.2
    · (rw [hh.1, hh.2, ti.2.1.1]; exact lt) -- o17 init.3
    · exact ⟨[], by rw [hh.2]; show ((0 : Nat) : Int) = _; omega, trivial, fun l2 hl => by rw [hh.1, hh.2, ti.2.1.1] at hl; exact hl⟩ -- o18 init.4
    · exact fun _ _ _ => rfl -- o19 init.5
theorem vX9_fit {h : AH} {e : CE} (hc : cuX h e) (hv : vCE e) (fu : fulX h e) : OK (gX9_fit h) (fun r => jt2 r fun v h' => ((v = 0 ∧ (∀ k : Nat, 1 ≤ k → k ≤ 4 → chP e k 0 = 1000000) ∧ h' 408 16 = h 408 16 ∧ ∀ a s, 421 ≤ a → a ≤ 423 → h' a s = h a s) ∨ ∃ (m : Nat) (l : List (Int × Int)), bsW e m ∧ chP e m 0 < 1000000 ∧ v = chP e m 0 ∧ wyP e m 0 l ∧ h' 408 16 = m ∧ itsX h' 0 l) ∧ (∀ a s, ¬ ((a = 419 ∨ (421 ≤ a ∧ a ≤ 423)) ∧ 0 ≤ s) → ¬ (a = 408 ∧ s = 16) → h' a s = h a s)) := by
  obtain ⟨sp, t, d, N, tb, ti, fx⟩ := fu
  have N4 := ti.1
  unfold gX9_fit
  refine OK_jb (vX9_end (e := e) (t := t) (d := d) (N := N) (by (first | assumption | omega | ((try dsimp only [jt2, jt3, jt4]); first | omega | (simp (disch := omega) only [jst_eq, jst_ne, jst_ni, jst_o, jI_i, jcpy_out, w32_id, jdiv_nn, jshr_k, jand_255] <;> first | done | omega | assumption)) | (intros; simp (disch := omega) only [jst_eq, jst_ne, jst_ni, jst_o, jI_i, jcpy_out, w32_id, jdiv_nn, *] <;> first | done | omega) | (intros; simp (disch := omega) only [jst_eq, jst_ne, jst_ni, jst_o, jI_i, jcpy_out, w32_id, jdiv_nn] at * <;> first | done | omega | assumption) | (intros; first | rfl | (exfalso; omega) | ((repeat' apply And.intro) <;> first | assumption | rfl | omega | trivial)))) (by (first | assumption | omega | ((try dsimp only [jt2, jt3, jt4]); first | omega | (simp (disch := omega) only [jst_eq, jst_ne, jst_ni, jst_o, jI_i, jcpy_out, w32_id, jdiv_nn, jshr_k, jand_255] <;> first | done | omega | assumption)) | (intros; simp (disch := omega) only [jst_eq, jst_ne, jst_ni, jst_o, jI_i, jcpy_out, w32_id, jdiv_nn, *] <;> first | done | omega) | (intros; simp (disch := omega) only [jst_eq, jst_ne, jst_ni, jst_o, jI_i, jcpy_out, w32_id, jdiv_nn] at * <;> first | done | omega | assumption) | (intros; first | rfl | (exfalso; omega) | ((repeat' apply And.intro) <;> first | assumption | rfl | omega | trivial)))) (by (first | assumption | omega | ((try dsimp only [jt2, jt3, jt4]); first | omega | (simp (disch := omega) only [jst_eq, jst_ne, jst_ni, jst_o, jI_i, jcpy_out, w32_id, jdiv_nn, jshr_k, jand_255] <;> first | done | omega | assumption)) | (intros; simp (disch := omega) only [jst_eq, jst_ne, jst_ni, jst_o, jI_i, jcpy_out, w32_id, jdiv_nn, *] <;> first | done | omega) | (intros; simp (disch := omega) only [jst_eq, jst_ne, jst_ni, jst_o, jI_i, jcpy_out, w32_id, jdiv_nn] at * <;> first | done | omega | assumption) | (intros; first | rfl | (exfalso; omega) | ((repeat' apply And.intro) <;> first | assumption | rfl | omega | trivial)))) (by omega)) (fun v2 r1 => ?_)
  try dsimp only [Sum.elim_inl, Sum.elim_inr, jt2, jt3, jt4, jt5, jt6, jt7, jt8] at r1
  have en1 := r1
  clear r1
  try simp (disch := omega) only [jst_eq, jst_ne, jst_ni, jI_i, jcmp_lt, jcmp_gt, w32_id, jcpy_out, Sum.elim_inl, Sum.elim_inr, jt2, jt3, jt4, jt5, jt6, jt7, jt8] at en1
  refine OK_if (fun c1 => ?_) (fun c1 => ?_)
  · skip
    try simp (disch := omega) only [jst_eq, jst_ne, jst_ni, jI_i, jcmp_lt, jcmp_gt, w32_id, jcpy_out, Sum.elim_inl, Sum.elim_inr, jt2, jt3, jt4, jt5, jt6, jt7, jt8] at c1
    refine OK_some ?_
    try dsimp only [Sum.elim_inl, Sum.elim_inr, jt2, jt3, jt4, jt5, jt6, jt7, jt8]
    try dsimp only [Sum.elim_inl, Sum.elim_inr, jt2, jt3, jt4, jt5, jt6, jt7, jt8]
    refine ⟨?_, ?_⟩
    · exact Or.inl ⟨rfl, fun k k0 k1 => by have z := (cn_no ti fx (en1.resolve_left (fun z => by omega)).2 k 0 (by omega) (by omega) (by rw [ti.2.1.2]; omega)).2; rw [ti.2.1.1] at z; exact z, rfl, fun _ _ _ _ => rfl⟩ -- o5 e1.1
    · (first | assumption | omega | ((try dsimp only [jt2, jt3, jt4]); first | omega | (simp (disch := omega) only [jst_eq, jst_ne, jst_ni, jst_o, jI_i, jcpy_out, w32_id, jdiv_nn, jshr_k, jand_255] <;> first | done | omega | assumption)) | (intros; simp (disch := omega) only [jst_eq, jst_ne, jst_ni, jst_o, jI_i, jcpy_out, w32_id, jdiv_nn, *] <;> first | done | omega) | (intros; simp (disch := omega) only [jst_eq, jst_ne, jst_ni, jst_o, jI_i, jcpy_out, w32_id, jdiv_nn] at * <;> first | done | omega | assumption) | (intros; first | rfl | (exfalso; omega) | ((repeat' apply And.intro) <;> first | assumption | rfl | omega | trivial))) -- o6 e1.2
  · skip
    try simp (disch := omega) only [jst_eq, jst_ne, jst_ni, jI_i, jcmp_lt, jcmp_gt, w32_id, jcpy_out, Sum.elim_inl, Sum.elim_inr, jt2, jt3, jt4, jt5, jt6, jt7, jt8] at c1
    refine OK_jb (vX9_findPrices (e := e) (t := t) (d := d) (N := N) _ (by (first | assumption | omega | ((try dsimp only [jt2, jt3, jt4]); first | omega | (simp (disch := omega) only [jst_eq, jst_ne, jst_ni, jst_o, jI_i, jcpy_out, w32_id, jdiv_nn, jshr_k, jand_255] <;> first | done | omega | assumption)) | (intros; simp (disch := omega) only [jst_eq, jst_ne, jst_ni, jst_o, jI_i, jcpy_out, w32_id, jdiv_nn, *] <;> first | done | omega) | (intros; simp (disch := omega) only [jst_eq, jst_ne, jst_ni, jst_o, jI_i, jcpy_out, w32_id, jdiv_nn] at * <;> first | done | omega | assumption) | (intros; first | rfl | (exfalso; omega) | ((repeat' apply And.intro) <;> first | assumption | rfl | omega | trivial)))) (by (first | assumption | omega | ((try dsimp only [jt2, jt3, jt4]); first | omega | (simp (disch := omega) only [jst_eq, jst_ne, jst_ni, jst_o, jI_i, jcpy_out, w32_id, jdiv_nn, jshr_k, jand_255] <;> first | done | omega | assumption)) | (intros; simp (disch := omega) only [jst_eq, jst_ne, jst_ni, jst_o, jI_i, jcpy_out, w32_id, jdiv_nn, *] <;> first | done | omega) | (intros; simp (disch := omega) only [jst_eq, jst_ne, jst_ni, jst_o, jI_i, jcpy_out, w32_id, jdiv_nn] at * <;> first | done | omega | assumption) | (intros; first | rfl | (exfalso; omega) | ((repeat' apply And.intro) <;> first | assumption | rfl | omega | trivial)))) (by (first | assumption | omega | ((try dsimp only [jt2, jt3, jt4]); first | omega | (simp (disch := omega) only [jst_eq, jst_ne, jst_ni, jst_o, jI_i, jcpy_out, w32_id, jdiv_nn, jshr_k, jand_255] <;> first | done | omega | assumption)) | (intros; simp (disch := omega) only [jst_eq, jst_ne, jst_ni, jst_o, jI_i, jcpy_out, w32_id, jdiv_nn, *] <;> first | done | omega) | (intros; simp (disch := omega) only [jst_eq, jst_ne, jst_ni, jst_o, jI_i, jcpy_out, w32_id, jdiv_nn] at * <;> first | done | omega | assumption) | (intros; first | rfl | (exfalso; omega) | ((repeat' apply And.intro) <;> first | assumption | rfl | omega | trivial)))) (by (first | assumption | omega | ((try dsimp only [jt2, jt3, jt4]); first | omega | (simp (disch := omega) only [jst_eq, jst_ne, jst_ni, jst_o, jI_i, jcpy_out, w32_id, jdiv_nn, jshr_k, jand_255] <;> first | done | omega | assumption)) | (intros; simp (disch := omega) only [jst_eq, jst_ne, jst_ni, jst_o, jI_i, jcpy_out, w32_id, jdiv_nn, *] <;> first | done | omega) | (intros; simp (disch := omega) only [jst_eq, jst_ne, jst_ni, jst_o, jI_i, jcpy_out, w32_id, jdiv_nn] at * <;> first | done | omega | assumption) | (intros; first | rfl | (exfalso; omega) | ((repeat' apply And.intro) <;> first | assumption | rfl | omega | trivial)))) (by exact en1.resolve_right (fun z => c1 z.1))) (fun h5 r2 => ?_)
    try dsimp only [Sum.elim_inl, Sum.elim_inr, jt2, jt3, jt4, jt5, jt6, jt7, jt8] at r2
    obtain ⟨cq2, fr2⟩ := r2
    try simp (disch := omega) only [jst_eq, jst_ne, jst_ni, jI_i, jcmp_lt, jcmp_gt, w32_id, jcpy_out, Sum.elim_inl, Sum.elim_inr, jt2, jt3, jt4, jt5, jt6, jt7, jt8] at cq2
    try simp (disch := omega) only [jst_eq, jst_ne, jst_ni, jI_i, jcmp_lt, jcmp_gt, w32_id, jcpy_out, Sum.elim_inl, Sum.elim_inr, jt2, jt3, jt4, jt5, jt6, jt7, jt8] at fr2
    refine OK_jb (vX9_fit_l21 (e := e) (t := t) (d := d) (N := N) _ _ (by (first | assumption | omega | ((try dsimp only [jt2, jt3, jt4]); first | omega | (simp (disch := omega) only [jst_eq, jst_ne, jst_ni, jst_o, jI_i, jcpy_out, w32_id, jdiv_nn, jshr_k, jand_255] <;> first | done | omega | assumption)) | (intros; simp (disch := omega) only [jst_eq, jst_ne, jst_ni, jst_o, jI_i, jcpy_out, w32_id, jdiv_nn, *] <;> first | done | omega) | (intros; simp (disch := omega) only [jst_eq, jst_ne, jst_ni, jst_o, jI_i, jcpy_out, w32_id, jdiv_nn] at * <;> first | done | omega | assumption) | (intros; first | rfl | (exfalso; omega) | ((repeat' apply And.intro) <;> first | assumption | rfl | omega | trivial)))) (by (first | assumption | omega | ((try dsimp only [jt2, jt3, jt4]); first | omega | (simp (disch := omega) only [jst_eq, jst_ne, jst_ni, jst_o, jI_i, jcpy_out, w32_id, jdiv_nn, jshr_k, jand_255] <;> first | done | omega | assumption)) | (intros; simp (disch := omega) only [jst_eq, jst_ne, jst_ni, jst_o, jI_i, jcpy_out, w32_id, jdiv_nn, *] <;> first | done | omega) | (intros; simp (disch := omega) only [jst_eq, jst_ne, jst_ni, jst_o, jI_i, jcpy_out, w32_id, jdiv_nn] at * <;> first | done | omega | assumption) | (intros; first | rfl | (exfalso; omega) | ((repeat' apply And.intro) <;> first | assumption | rfl | omega | trivial)))) (by exact ⟨rfl, rfl⟩)) (fun o6 r3 => ?_)
    try dsimp only [Sum.elim_inl, Sum.elim_inr, jt2, jt3, jt4, jt5, jt6, jt7, jt8] at r3
    have bs3 := r3
    clear r3
    try simp (disch := omega) only [jst_eq, jst_ne, jst_ni, jI_i, jcmp_lt, jcmp_gt, w32_id, jcpy_out, Sum.elim_inl, Sum.elim_inr, jt2, jt3, jt4, jt5, jt6, jt7, jt8] at bs3
    have B : 0 ≤ o6 ∧ bsW e o6.toNat := by assumption
    have B1 := B.2.1
    have W6 : w32 (o6 * 400) = 400 * ((o6.toNat : Nat) : Int) := by { rw [w32_id (by omega) (by omega)]; omega }
    have PZ : h5 419 (400 * ((o6.toNat : Nat) : Int)) = chP e o6.toNat 0 := by { have z := cq2 o6.toNat (by omega) 0 (by omega) (by omega) (by rw [ti.2.1.2]; omega); rw [ti.2.1.1, Int.add_zero] at z; exact z }
    rw [W6, PZ]
    refine OK_jg (by (first | assumption | omega | ((try dsimp only [jt2, jt3, jt4]); first | omega | (simp (disch := omega) only [jst_eq, jst_ne, jst_ni, jst_o, jI_i, jcpy_out, w32_id, jdiv_nn, jshr_k, jand_255] <;> first | done | omega | assumption)) | (intros; simp (disch := omega) only [jst_eq, jst_ne, jst_ni, jst_o, jI_i, jcpy_out, w32_id, jdiv_nn, *] <;> first | done | omega) | (intros; simp (disch := omega) only [jst_eq, jst_ne, jst_ni, jst_o, jI_i, jcpy_out, w32_id, jdiv_nn] at * <;> first | done | omega | assumption) | (intros; first | rfl | (exfalso; omega) | ((repeat' apply And.intro) <;> first | assumption | rfl | omega | trivial)))) ?_ -- o15
    refine OK_if (fun c2 => ?_) (fun c2 => ?_)
    · skip
      try simp (disch := omega) only [jst_eq, jst_ne, jst_ni, jI_i, jcmp_lt, jcmp_gt, w32_id, jcpy_out, Sum.elim_inl, Sum.elim_inr, jt2, jt3, jt4, jt5, jt6, jt7, jt8] at c2
      refine OK_jl ?_
      have FR : ∀ a s, ¬ (a = 419 ∧ 0 ≤ s) → ¬ (a = 408 ∧ s = 16) → jst h5 408 16 o6 a s = h a s := fun a s y1 y2 => by { rw [jst_o (by omega)]; exact fr2 a s y1 }
      refine OK_jb (vX9_fit_l84 (e := e) (t := t) (d := d) (N := N) (m := o6.toNat) _ _ _ (by exact cuX_f hc (fun a s y => FR a s (by omega) (by omega))) (by (first | assumption | omega | ((try dsimp only [jt2, jt3, jt4]); first | omega | (simp (disch := omega) only [jst_eq, jst_ne, jst_ni, jst_o, jI_i, jcpy_out, w32_id, jdiv_nn, jshr_k, jand_255] <;> first | done | omega | assumption)) | (intros; simp (disch := omega) only [jst_eq, jst_ne, jst_ni, jst_o, jI_i, jcpy_out, w32_id, jdiv_nn, *] <;> first | done | omega) | (intros; simp (disch := omega) only [jst_eq, jst_ne, jst_ni, jst_o, jI_i, jcpy_out, w32_id, jdiv_nn] at * <;> first | done | omega | assumption) | (intros; first | rfl | (exfalso; omega) | ((repeat' apply And.intro) <;> first | assumption | rfl | omega | trivial)))) (by exact spX_f sp (fun a s y => FR a s (by omega) (by omega))) (by exact ⟨by rw [FR _ _ (by omega) (by omega)]; exact tb.1, fun k k0 k1 => by rw [FR _ _ (by omega) (by omega), FR _ _ (by omega) (by omega)]; exact tb.2 k k0 k1⟩) (by (first | assumption | omega | ((try dsimp only [jt2, jt3, jt4]); first | omega | (simp (disch := omega) only [jst_eq, jst_ne, jst_ni, jst_o, jI_i, jcpy_out, w32_id, jdiv_nn, jshr_k, jand_255] <;> first | done | omega | assumption)) | (intros; simp (disch := omega) only [jst_eq, jst_ne, jst_ni, jst_o, jI_i, jcpy_out, w32_id, jdiv_nn, *] <;> first | done | omega) | (intros; simp (disch := omega) only [jst_eq, jst_ne, jst_ni, jst_o, jI_i, jcpy_out, w32_id, jdiv_nn] at * <;> first | done | omega | assumption) | (intros; first | rfl | (exfalso; omega) | ((repeat' apply And.intro) <;> first | assumption | rfl | omega | trivial)))) (by (rw [show jst h5 408 16 o6 417 = h 417 from funext fun s => FR _ _ (by omega) (by omega), show jst h5 408 16 o6 418 = h 418 from funext fun s => FR _ _ (by omega) (by omega)]; exact fx)) (by (intro k l; rw [show jst h5 408 16 o6 419 = h5 419 from funext fun s => jst_ne (by decide)]; exact cq2 k l)) (by (first | assumption | omega | ((try dsimp only [jt2, jt3, jt4]); first | omega | (simp (disch := omega) only [jst_eq, jst_ne, jst_ni, jst_o, jI_i, jcpy_out, w32_id, jdiv_nn, jshr_k, jand_255] <;> first | done | omega | assumption)) | (intros; simp (disch := omega) only [jst_eq, jst_ne, jst_ni, jst_o, jI_i, jcpy_out, w32_id, jdiv_nn, *] <;> first | done | omega) | (intros; simp (disch := omega) only [jst_eq, jst_ne, jst_ni, jst_o, jI_i, jcpy_out, w32_id, jdiv_nn] at * <;> first | done | omega | assumption) | (intros; first | rfl | (exfalso; omega) | ((repeat' apply And.intro) <;> first | assumption | rfl | omega | trivial)))) (by (first | assumption | omega | ((try dsimp only [jt2, jt3, jt4]); first | omega | (simp (disch := omega) only [jst_eq, jst_ne, jst_ni, jst_o, jI_i, jcpy_out, w32_id, jdiv_nn, jshr_k, jand_255] <;> first | done | omega | assumption)) | (intros; simp (disch := omega) only [jst_eq, jst_ne, jst_ni, jst_o, jI_i, jcpy_out, w32_id, jdiv_nn, *] <;> first | done | omega) | (intros; simp (disch := omega) only [jst_eq, jst_ne, jst_ni, jst_o, jI_i, jcpy_out, w32_id, jdiv_nn] at * <;> first | done | omega | assumption) | (intros; first | rfl | (exfalso; omega) | ((repeat' apply And.intro) <;> first | assumption | rfl | omega | trivial)))) (by (first | assumption | omega | ((try dsimp only [jt2, jt3, jt4]); first | omega | (simp (disch := omega) only [jst_eq, jst_ne, jst_ni, jst_o, jI_i, jcpy_out, w32_id, jdiv_nn, jshr_k, jand_255] <;> first | done | omega | assumption)) | (intros; simp (disch := omega) only [jst_eq, jst_ne, jst_ni, jst_o, jI_i, jcpy_out, w32_id, jdiv_nn, *] <;> first | done | omega) | (intros; simp (disch := omega) only [jst_eq, jst_ne, jst_ni, jst_o, jI_i, jcpy_out, w32_id, jdiv_nn] at * <;> first | done | omega | assumption) | (intros; first | rfl | (exfalso; omega) | ((repeat' apply And.intro) <;> first | assumption | rfl | omega | trivial))))) (fun o10 r4 => ?_)
      try dsimp only [Sum.elim_inl, Sum.elim_inr, jt2, jt3, jt4, jt5, jt6, jt7, jt8] at r4
      obtain ⟨wy4, fr4⟩ := r4
      try simp (disch := omega) only [jst_eq, jst_ne, jst_ni, jI_i, jcmp_lt, jcmp_gt, w32_id, jcpy_out, Sum.elim_inl, Sum.elim_inr, jt2, jt3, jt4, jt5, jt6, jt7, jt8] at wy4
      try simp (disch := omega) only [jst_eq, jst_ne, jst_ni, jI_i, jcmp_lt, jcmp_gt, w32_id, jcpy_out, Sum.elim_inl, Sum.elim_inr, jt2, jt3, jt4, jt5, jt6, jt7, jt8] at fr4
      refine OK_some ?_
      try dsimp only [Sum.elim_inl, Sum.elim_inr, jt2, jt3, jt4, jt5, jt6, jt7, jt8]
      try dsimp only [Sum.elim_inl, Sum.elim_inr, jt2, jt3, jt4, jt5, jt6, jt7, jt8]
      refine ⟨?_, ?_⟩
      · (obtain ⟨l, l1, l2⟩ := wy4; exact Or.inr ⟨o6.toNat, l, B.2, c2, by rw [fr4 _ _ (by omega), jst_ne (by decide)]; exact PZ, l1, by rw [fr4 _ _ (by omega), jst_eq]; omega, l2⟩) -- o26 e2.1
      · exact fun a s y1 y2 => by rw [fr4 a s (by omega), FR a s (by omega) y2] -- o27 e2.2
    · skip
      try simp (disch := omega) only [jst_eq, jst_ne, jst_ni, jI_i, jcmp_lt, jcmp_gt, w32_id, jcpy_out, Sum.elim_inl, Sum.elim_inr, jt2, jt3, jt4, jt5, jt6, jt7, jt8] at c2
      refine OK_some ?_
      try dsimp only [Sum.elim_inl, Sum.elim_inr, jt2, jt3, jt4, jt5, jt6, jt7, jt8]
      try dsimp only [Sum.elim_inl, Sum.elim_inr, jt2, jt3, jt4, jt5, jt6, jt7, jt8]
      refine ⟨?_, ?_⟩
      · exact Or.inl ⟨rfl, fun k k0 k1 => by have b := chP_b hv k 0; by_cases y : k < o6.toNat; { have := B.2.2.1 k k0 y; omega }; { have := B.2.2.2 k (by omega) k1; omega }, fr2 _ _ (by omega), fun a s a0 a1 => fr2 _ _ (by omega)⟩ -- o28 e3.1
      · (first | assumption | omega | ((try dsimp only [jt2, jt3, jt4]); first | omega | (simp (disch := omega) only [jst_eq, jst_ne, jst_ni, jst_o, jI_i, jcpy_out, w32_id, jdiv_nn, jshr_k, jand_255] <;> first | done | omega | assumption)) | (intros; simp (disch := omega) only [jst_eq, jst_ne, jst_ni, jst_o, jI_i, jcpy_out, w32_id, jdiv_nn, *] <;> first | done | omega) | (intros; simp (disch := omega) only [jst_eq, jst_ne, jst_ni, jst_o, jI_i, jcpy_out, w32_id, jdiv_nn] at * <;> first | done | omega | assumption) | (intros; first | rfl | (exfalso; omega) | ((repeat' apply And.intro) <;> first | assumption | rfl | omega | trivial))) -- o29 e3.2

