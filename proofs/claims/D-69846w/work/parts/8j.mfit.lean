/-! m: the cheapest program, whole; how many programs -/
theorem FND_all {h : AH} {e : CE} {t d : Int → Int} {N : Int} (f : FND h e t d N) : ∀ (j : Nat) (w : Int), j ≤ 4 → rcP e j w → ∃ k, 0 ≤ k ∧ k < N ∧ t k = w ∧ d k ≤ j
  | 0, w, _, r => ⟨0, Int.le_refl _, by have := f.2.1.1; omega, by rw [f.2.2.1.1]; exact (show w = 0 from r).symm, by rw [f.2.2.1.2]; exact Int.le_refl _⟩
  | j + 1, w, l, r => by
    obtain ⟨u, r1, m, m1, m2⟩ := r
    obtain ⟨k, k0, k1, k2, k3⟩ := FND_all f j u (by omega) r1
    have q := f.2.2.2.2 k k0 k1 (by omega)
    rw [k2] at q
    have eu : ((u : Int)).toNat = u := by omega
    rw [eu] at q
    obtain ⟨i, i0, i1, i2, i3⟩ := q m m1
    exact ⟨i, i0, i1, i2.trans m2, by omega⟩
theorem FND_no {h : AH} {e : CE} {t d : Int → Int} {N : Int} (f : FND h e t d N) : ¬ ovf e := by
  rintro ⟨g, g1, g2⟩
  have ex : ∀ i : Nat, i ≤ 400 → ∃ k : Nat, k < N.toNat ∧ t k = g i := fun i l => by
    obtain ⟨j, j4, r⟩ := g2 i (by omega) (by omega)
    obtain ⟨k, k0, k1, k2, _⟩ := FND_all f j _ j4 r
    exact ⟨k.toNat, by omega, by rw [show ((k.toNat : Nat) : Int) = k by omega]; exact k2⟩
  have ch : ∃ c : Nat → Nat, ∀ i, i ≤ 400 → c i < N.toNat ∧ t (c i) = g i := ⟨fun i => if l : i ≤ 400 then Classical.choose (ex i l) else 0, fun i l => by
    show (if l : i ≤ 400 then Classical.choose (ex i l) else 0) < _ ∧ t ((if l : i ≤ 400 then Classical.choose (ex i l) else 0 : Nat) : Int) = _
    rw [dif_pos l]
    exact Classical.choose_spec (ex i l)⟩
  obtain ⟨c, hc⟩ := ch
  have p := php N.toNat 400 c (fun i l => (hc i l).1) (fun i j l k q => by
    have a := (hc i (by omega)).2
    have b := (hc j k).2
    rw [q, b] at a
    exact g1 i j (by omega) (by omega) (by omega) a.symm)
  have := f.2.1.2
  omega
theorem GRI_g {h : AH} {e : CE} (g : GRI h e 178) : grM h e (h 825) ∧ grQ e (h 825) 178 := ⟨fun s s0 s1 => ⟨g.1 s s0 s1, rfl, fun p q => g.2.2 s s0 s1 p q⟩, fun s s0 s1 p => g.2.1 s s0 (by omega) p⟩
def itsM (h : AH) : Int → List (Int × Int) → Prop
  | _, [] => True
  | i, it :: l => itM h i it ∧ itsM h (i + 1) l
theorem itsM_a {h : AH} : ∀ {l : List (Int × Int)} {i : Int} {it : Int × Int}, itsM h i l → itM h (i + l.length) it → itsM h i (l ++ [it])
  | [], i, it, _, b => ⟨by have e : i + (([] : List (Int × Int)).length : Int) = i := Int.add_zero i; rw [e] at b; exact b, trivial⟩
  | x :: l, i, it, a, b => ⟨a.1, itsM_a (l := l) (i := i + 1) a.2 (by have e : i + ((x :: l).length : Int) = i + 1 + (l.length : Int) := by { show i + ((l.length + 1 : Nat) : Int) = _; omega }; rw [e] at b; exact b)⟩
theorem itsM_f {h h' : AH} : ∀ {l : List (Int × Int)} {i : Int}, itsM h i l → (∀ a s, 841 ≤ a → a ≤ 842 → i ≤ s → s < i + l.length → h' a s = h a s) → itsM h' i l
  | [], _, _, _ => trivial
  | x :: l, i, a, f => by
    have z : ((x :: l).length : Int) = (l.length : Int) + 1 := rfl
    refine ⟨?_, itsM_f (l := l) a.2 (fun b s b0 b1 s0 s1 => f b s b0 b1 (by omega) (by omega))⟩
    have q := a.1
    unfold itM at q ⊢
    rw [f 841 i (by omega) (by omega) (by omega) (by omega), f 842 i (by omega) (by omega) (by omega) (by omega)]
    exact q
theorem vX14_fit_l38 (a10 : Int) (a20 : Int) {h : AH} {e : CE} (hv : vCE e) (dz : ∀ k : Nat, k ≤ 4 → h (836 + k) 0 = chP e k 0) (hh : a10 = 0 ∧ a20 = 1) : OK (gX14_fit_l38 a10 a20 h) (fun r => (r = 0 ∧ ∀ k : Nat, 1 ≤ k → k ≤ 4 → chP e k 0 = 1000000) ∨ ((1 ≤ r ∧ r ≤ 4) ∧ bsW e r.toNat ∧ chP e r.toNat 0 < 1000000)) := by
  unfold gX14_fit_l38
  refine OK_jit (I := (fun (s : Int × Int) => jt2 s fun a1 a2 => ((1 ≤ a2 ∧ a2 ≤ 5) ∧ 0 ≤ a1 ∧ a1 < a2) ∧ ((a1 = 0 ∧ ∀ k : Nat, 1 ≤ k → (k : Int) < a2 → chP e k 0 = 1000000) ∨ (1 ≤ a1 ∧ chP e a1.toNat 0 < 1000000 ∧ (∀ k : Nat, 1 ≤ k → (k : Int) < a1 → chP e a1.toNat 0 < chP e k 0) ∧ ∀ k : Nat, a1 ≤ k → (k : Int) < a2 → chP e a1.toNat 0 ≤ chP e k 0)))) (m := (fun (s : Int × Int) => jt2 s fun a1 a2 => (5 - a2).toNat)) ?_ ?_
  · intro s hs
    obtain ⟨a1, a2⟩ := s
    dsimp only [Sum.elim_inl, Sum.elim_inr, jt2, jt3, jt4, jt5, jt6, jt7, jt8] at hs
    obtain ⟨q0, q1⟩ := hs
    unfold gX14_fit_b38
    refine OK_jt2 ?_
    have QQ := q1
    refine OK_if (fun c1 => ?_) (fun c1 => ?_)
    · skip
      try simp (disch := omega) only [jst_eq, jst_ne, jst_ni, jI_i, jcmp_lt, jcmp_gt, w32_id, jcpy_out, Sum.elim_inl, Sum.elim_inr, jt2, jt3, jt4, jt5, jt6, jt7, jt8] at c1
      refine OK_ir ?_
      (rcases QQ with q | q; { exact Or.inl ⟨q.1, fun k k0 k1 => q.2 k k0 (by omega)⟩ }; { exact Or.inr ⟨by omega, ⟨by omega, fun k k0 k1 => q.2.2.1 k k0 (by omega), fun k k0 k1 => q.2.2.2 k (by omega) (by omega)⟩, q.2.1⟩ }) -- o1 e1
    · skip
      try simp (disch := omega) only [jst_eq, jst_ne, jst_ni, jI_i, jcmp_lt, jcmp_gt, w32_id, jcpy_out, Sum.elim_inl, Sum.elim_inr, jt2, jt3, jt4, jt5, jt6, jt7, jt8] at c1
      have DA := dz a2.toNat (by omega)
      rw [show ((a2.toNat : Nat) : Int) = a2 by omega] at DA
      have BA := chP_b hv a2.toNat 0
      rw [DA]
      refine OK_jg (by (first | assumption | omega | ((try dsimp only [jt2, jt3, jt4]); first | omega | (simp (disch := omega) only [jst_eq, jst_ne, jst_ni, jst_o, jI_i, jcpy_out, w32_id, jdiv_nn, jshr_k, jand_255] <;> first | done | omega | assumption)) | (intros; simp (disch := omega) only [jst_eq, jst_ne, jst_ni, jst_o, jI_i, jcpy_out, w32_id, jdiv_nn, *] <;> first | done | omega) | (intros; simp (disch := omega) only [jst_eq, jst_ne, jst_ni, jst_o, jI_i, jcpy_out, w32_id, jdiv_nn] at * <;> first | done | omega | assumption) | (intros; first | rfl | (exfalso; omega) | ((repeat' apply And.intro) <;> first | assumption | rfl | omega | trivial)))) ?_ -- o2
      refine OK_if (fun c2 => ?_) (fun c2 => ?_)
      · skip
        try simp (disch := omega) only [jst_eq, jst_ne, jst_ni, jI_i, jcmp_lt, jcmp_gt, w32_id, jcpy_out, Sum.elim_inl, Sum.elim_inr, jt2, jt3, jt4, jt5, jt6, jt7, jt8] at c2
        unfold gX14_fit_j85_38
        refine OK_if (fun c3 => ?_) (fun c3 => ?_)
        · skip
          try simp (disch := omega) only [jst_eq, jst_ne, jst_ni, jI_i, jcmp_lt, jcmp_gt, w32_id, jcpy_out, Sum.elim_inl, Sum.elim_inr, jt2, jt3, jt4, jt5, jt6, jt7, jt8] at c3
          unfold gX14_fit_j95_38
          refine OK_jlx (fun x24 ex24 => ?_)
          try simp (disch := omega) only [jst_eq, jst_ne, jst_ni, jI_i, jcmp_lt, jcmp_gt, w32_id, jcpy_out, Sum.elim_inl, Sum.elim_inr, jt2, jt3, jt4, jt5, jt6, jt7, jt8] at ex24
          refine OK_il ?_ ?_
          · try dsimp only [Sum.elim_inl, Sum.elim_inr, jt2, jt3, jt4, jt5, jt6, jt7, jt8]
            refine ⟨?_, ?_⟩
            · (first | assumption | omega | ((try dsimp only [jt2, jt3, jt4]); first | omega | (simp (disch := omega) only [jst_eq, jst_ne, jst_ni, jst_o, jI_i, jcpy_out, w32_id, jdiv_nn, jshr_k, jand_255] <;> first | done | omega | assumption)) | (intros; simp (disch := omega) only [jst_eq, jst_ne, jst_ni, jst_o, jI_i, jcpy_out, w32_id, jdiv_nn, *] <;> first | done | omega) | (intros; simp (disch := omega) only [jst_eq, jst_ne, jst_ni, jst_o, jI_i, jcpy_out, w32_id, jdiv_nn] at * <;> first | done | omega | assumption) | (intros; first | rfl | (exfalso; omega) | ((repeat' apply And.intro) <;> first | assumption | rfl | omega | trivial))) -- o3 e2i.1
            · (rw [show x24 = a2 + 1 by omega]; rcases QQ with q | q; { exact Or.inl ⟨q.1, fun k k0 k1 => by by_cases y : (k : Int) = a2; { rw [show k = a2.toNat by omega]; omega }; { exact q.2 k k0 (by omega) }⟩ }; { exact Or.inr ⟨q.1, q.2.1, q.2.2.1, fun k k0 k1 => by by_cases y : (k : Int) = a2; { rw [show k = a2.toNat by omega]; omega }; { exact q.2.2.2 k (by omega) (by omega) }⟩ }) -- o4 e2i.2
          · (first | assumption | omega | ((try dsimp only [jt2, jt3, jt4]); first | omega | (simp (disch := omega) only [jst_eq, jst_ne, jst_ni, jst_o, jI_i, jcpy_out, w32_id, jdiv_nn, jshr_k, jand_255] <;> first | done | omega | assumption)) | (intros; simp (disch := omega) only [jst_eq, jst_ne, jst_ni, jst_o, jI_i, jcpy_out, w32_id, jdiv_nn, *] <;> first | done | omega) | (intros; simp (disch := omega) only [jst_eq, jst_ne, jst_ni, jst_o, jI_i, jcpy_out, w32_id, jdiv_nn] at * <;> first | done | omega | assumption) | (intros; first | rfl | (exfalso; omega) | ((repeat' apply And.intro) <;> first | assumption | rfl | omega | trivial))) -- o5 e2m
        · skip
          try simp (disch := omega) only [jst_eq, jst_ne, jst_ni, jI_i, jcmp_lt, jcmp_gt, w32_id, jcpy_out, Sum.elim_inl, Sum.elim_inr, jt2, jt3, jt4, jt5, jt6, jt7, jt8] at c3
          exfalso
          exact c3 trivial
      · skip
        try simp (disch := omega) only [jst_eq, jst_ne, jst_ni, jI_i, jcmp_lt, jcmp_gt, w32_id, jcpy_out, Sum.elim_inl, Sum.elim_inr, jt2, jt3, jt4, jt5, jt6, jt7, jt8] at c2
        refine OK_if (fun c4 => ?_) (fun c4 => ?_)
        · skip
          try simp (disch := omega) only [jst_eq, jst_ne, jst_ni, jI_i, jcmp_lt, jcmp_gt, w32_id, jcpy_out, Sum.elim_inl, Sum.elim_inr, jt2, jt3, jt4, jt5, jt6, jt7, jt8] at c4
          unfold gX14_fit_j85_38
          refine OK_if (fun c5 => ?_) (fun c5 => ?_)
          · skip
            try simp (disch := omega) only [jst_eq, jst_ne, jst_ni, jI_i, jcmp_lt, jcmp_gt, w32_id, jcpy_out, Sum.elim_inl, Sum.elim_inr, jt2, jt3, jt4, jt5, jt6, jt7, jt8] at c5
            exfalso
            exact absurd c5 (by decide)
          · skip
            try simp (disch := omega) only [jst_eq, jst_ne, jst_ni, jI_i, jcmp_lt, jcmp_gt, w32_id, jcpy_out, Sum.elim_inl, Sum.elim_inr, jt2, jt3, jt4, jt5, jt6, jt7, jt8] at c5
            unfold gX14_fit_j95_38
            refine OK_jlx (fun x24 ex24 => ?_)
            try simp (disch := omega) only [jst_eq, jst_ne, jst_ni, jI_i, jcmp_lt, jcmp_gt, w32_id, jcpy_out, Sum.elim_inl, Sum.elim_inr, jt2, jt3, jt4, jt5, jt6, jt7, jt8] at ex24
            refine OK_il ?_ ?_
            · try dsimp only [Sum.elim_inl, Sum.elim_inr, jt2, jt3, jt4, jt5, jt6, jt7, jt8]
              refine ⟨?_, ?_⟩
              · (first | assumption | omega | ((try dsimp only [jt2, jt3, jt4]); first | omega | (simp (disch := omega) only [jst_eq, jst_ne, jst_ni, jst_o, jI_i, jcpy_out, w32_id, jdiv_nn, jshr_k, jand_255] <;> first | done | omega | assumption)) | (intros; simp (disch := omega) only [jst_eq, jst_ne, jst_ni, jst_o, jI_i, jcpy_out, w32_id, jdiv_nn, *] <;> first | done | omega) | (intros; simp (disch := omega) only [jst_eq, jst_ne, jst_ni, jst_o, jI_i, jcpy_out, w32_id, jdiv_nn] at * <;> first | done | omega | assumption) | (intros; first | rfl | (exfalso; omega) | ((repeat' apply And.intro) <;> first | assumption | rfl | omega | trivial))) -- o6 e3i.1
              · (rw [show x24 = a2 + 1 by omega]; have q := QQ.resolve_right (fun z => by omega); exact Or.inr ⟨by omega, by omega, fun k k0 k1 => by have := q.2 k k0 (by omega); omega, fun k k0 k1 => by rw [show k = a2.toNat by omega]; exact Int.le_refl _⟩) -- o7 e3i.2
            · (first | assumption | omega | ((try dsimp only [jt2, jt3, jt4]); first | omega | (simp (disch := omega) only [jst_eq, jst_ne, jst_ni, jst_o, jI_i, jcpy_out, w32_id, jdiv_nn, jshr_k, jand_255] <;> first | done | omega | assumption)) | (intros; simp (disch := omega) only [jst_eq, jst_ne, jst_ni, jst_o, jI_i, jcpy_out, w32_id, jdiv_nn, *] <;> first | done | omega) | (intros; simp (disch := omega) only [jst_eq, jst_ne, jst_ni, jst_o, jI_i, jcpy_out, w32_id, jdiv_nn] at * <;> first | done | omega | assumption) | (intros; first | rfl | (exfalso; omega) | ((repeat' apply And.intro) <;> first | assumption | rfl | omega | trivial))) -- o8 e3m
        · skip
          try simp (disch := omega) only [jst_eq, jst_ne, jst_ni, jI_i, jcmp_lt, jcmp_gt, w32_id, jcpy_out, Sum.elim_inl, Sum.elim_inr, jt2, jt3, jt4, jt5, jt6, jt7, jt8] at c4
          have DB := dz a1.toNat (by omega)
          rw [show ((a1.toNat : Nat) : Int) = a1 by omega] at DB
          rw [DB]
          have Q2 := QQ.resolve_left (fun z => c4 z.1)
          refine OK_jg (by (first | assumption | omega | ((try dsimp only [jt2, jt3, jt4]); first | omega | (simp (disch := omega) only [jst_eq, jst_ne, jst_ni, jst_o, jI_i, jcpy_out, w32_id, jdiv_nn, jshr_k, jand_255] <;> first | done | omega | assumption)) | (intros; simp (disch := omega) only [jst_eq, jst_ne, jst_ni, jst_o, jI_i, jcpy_out, w32_id, jdiv_nn, *] <;> first | done | omega) | (intros; simp (disch := omega) only [jst_eq, jst_ne, jst_ni, jst_o, jI_i, jcpy_out, w32_id, jdiv_nn] at * <;> first | done | omega | assumption) | (intros; first | rfl | (exfalso; omega) | ((repeat' apply And.intro) <;> first | assumption | rfl | omega | trivial)))) ?_ -- o9
          refine OK_if (fun c6 => ?_) (fun c6 => ?_)
          · skip
            try simp (disch := omega) only [jst_eq, jst_ne, jst_ni, jI_i, jcmp_lt, jcmp_gt, w32_id, jcpy_out, Sum.elim_inl, Sum.elim_inr, jt2, jt3, jt4, jt5, jt6, jt7, jt8] at c6
            unfold gX14_fit_j85_38
            refine OK_if (fun c7 => ?_) (fun c7 => ?_)
            · skip
              try simp (disch := omega) only [jst_eq, jst_ne, jst_ni, jI_i, jcmp_lt, jcmp_gt, w32_id, jcpy_out, Sum.elim_inl, Sum.elim_inr, jt2, jt3, jt4, jt5, jt6, jt7, jt8] at c7
              unfold gX14_fit_j95_38
              refine OK_jlx (fun x24 ex24 => ?_)
              try simp (disch := omega) only [jst_eq, jst_ne, jst_ni, jI_i, jcmp_lt, jcmp_gt, w32_id, jcpy_out, Sum.elim_inl, Sum.elim_inr, jt2, jt3, jt4, jt5, jt6, jt7, jt8] at ex24
              refine OK_il ?_ ?_
              · try dsimp only [Sum.elim_inl, Sum.elim_inr, jt2, jt3, jt4, jt5, jt6, jt7, jt8]
                refine ⟨?_, ?_⟩
                · (first | assumption | omega | ((try dsimp only [jt2, jt3, jt4]); first | omega | (simp (disch := omega) only [jst_eq, jst_ne, jst_ni, jst_o, jI_i, jcpy_out, w32_id, jdiv_nn, jshr_k, jand_255] <;> first | done | omega | assumption)) | (intros; simp (disch := omega) only [jst_eq, jst_ne, jst_ni, jst_o, jI_i, jcpy_out, w32_id, jdiv_nn, *] <;> first | done | omega) | (intros; simp (disch := omega) only [jst_eq, jst_ne, jst_ni, jst_o, jI_i, jcpy_out, w32_id, jdiv_nn] at * <;> first | done | omega | assumption) | (intros; first | rfl | (exfalso; omega) | ((repeat' apply And.intro) <;> first | assumption | rfl | omega | trivial))) -- o10 e4i.1
                · (rw [show x24 = a2 + 1 by omega]; exact Or.inr ⟨Q2.1, Q2.2.1, Q2.2.2.1, fun k k0 k1 => by by_cases y : (k : Int) = a2; { rw [show k = a2.toNat by omega]; omega }; { exact Q2.2.2.2 k (by omega) (by omega) }⟩) -- o11 e4i.2
              · (first | assumption | omega | ((try dsimp only [jt2, jt3, jt4]); first | omega | (simp (disch := omega) only [jst_eq, jst_ne, jst_ni, jst_o, jI_i, jcpy_out, w32_id, jdiv_nn, jshr_k, jand_255] <;> first | done | omega | assumption)) | (intros; simp (disch := omega) only [jst_eq, jst_ne, jst_ni, jst_o, jI_i, jcpy_out, w32_id, jdiv_nn, *] <;> first | done | omega) | (intros; simp (disch := omega) only [jst_eq, jst_ne, jst_ni, jst_o, jI_i, jcpy_out, w32_id, jdiv_nn] at * <;> first | done | omega | assumption) | (intros; first | rfl | (exfalso; omega) | ((repeat' apply And.intro) <;> first | assumption | rfl | omega | trivial))) -- o12 e4m
            · skip
              try simp (disch := omega) only [jst_eq, jst_ne, jst_ni, jI_i, jcmp_lt, jcmp_gt, w32_id, jcpy_out, Sum.elim_inl, Sum.elim_inr, jt2, jt3, jt4, jt5, jt6, jt7, jt8] at c7
              exfalso
              exact c7 trivial
          · skip
            try simp (disch := omega) only [jst_eq, jst_ne, jst_ni, jI_i, jcmp_lt, jcmp_gt, w32_id, jcpy_out, Sum.elim_inl, Sum.elim_inr, jt2, jt3, jt4, jt5, jt6, jt7, jt8] at c6
            unfold gX14_fit_j85_38
            refine OK_if (fun c8 => ?_) (fun c8 => ?_)
            · skip
              try simp (disch := omega) only [jst_eq, jst_ne, jst_ni, jI_i, jcmp_lt, jcmp_gt, w32_id, jcpy_out, Sum.elim_inl, Sum.elim_inr, jt2, jt3, jt4, jt5, jt6, jt7, jt8] at c8
              exfalso
              exact absurd c8 (by decide)
            · skip
              try simp (disch := omega) only [jst_eq, jst_ne, jst_ni, jI_i, jcmp_lt, jcmp_gt, w32_id, jcpy_out, Sum.elim_inl, Sum.elim_inr, jt2, jt3, jt4, jt5, jt6, jt7, jt8] at c8
              unfold gX14_fit_j95_38
              refine OK_jlx (fun x24 ex24 => ?_)
              try simp (disch := omega) only [jst_eq, jst_ne, jst_ni, jI_i, jcmp_lt, jcmp_gt, w32_id, jcpy_out, Sum.elim_inl, Sum.elim_inr, jt2, jt3, jt4, jt5, jt6, jt7, jt8] at ex24
              refine OK_il ?_ ?_
              · try dsimp only [Sum.elim_inl, Sum.elim_inr, jt2, jt3, jt4, jt5, jt6, jt7, jt8]
                refine ⟨?_, ?_⟩
                · (first | assumption | omega | ((try dsimp only [jt2, jt3, jt4]); first | omega | (simp (disch := omega) only [jst_eq, jst_ne, jst_ni, jst_o, jI_i, jcpy_out, w32_id, jdiv_nn, jshr_k, jand_255] <;> first | done | omega | assumption)) | (intros; simp (disch := omega) only [jst_eq, jst_ne, jst_ni, jst_o, jI_i, jcpy_out, w32_id, jdiv_nn, *] <;> first | done | omega) | (intros; simp (disch := omega) only [jst_eq, jst_ne, jst_ni, jst_o, jI_i, jcpy_out, w32_id, jdiv_nn] at * <;> first | done | omega | assumption) | (intros; first | rfl | (exfalso; omega) | ((repeat' apply And.intro) <;> first | assumption | rfl | omega | trivial))) -- o13 e5i.1
                · (rw [show x24 = a2 + 1 by omega]; exact Or.inr ⟨by omega, by omega, fun k k0 k1 => by by_cases y : (k : Int) < a1; { have := Q2.2.2.1 k k0 y; omega }; { have := Q2.2.2.2 k (by omega) k1; omega }, fun k k0 k1 => by rw [show k = a2.toNat by omega]; exact Int.le_refl _⟩) -- o14 e5i.2
              · (first | assumption | omega | ((try dsimp only [jt2, jt3, jt4]); first | omega | (simp (disch := omega) only [jst_eq, jst_ne, jst_ni, jst_o, jI_i, jcpy_out, w32_id, jdiv_nn, jshr_k, jand_255] <;> first | done | omega | assumption)) | (intros; simp (disch := omega) only [jst_eq, jst_ne, jst_ni, jst_o, jI_i, jcpy_out, w32_id, jdiv_nn, *] <;> first | done | omega) | (intros; simp (disch := omega) only [jst_eq, jst_ne, jst_ni, jst_o, jI_i, jcpy_out, w32_id, jdiv_nn] at * <;> first | done | omega | assumption) | (intros; first | rfl | (exfalso; omega) | ((repeat' apply And.intro) <;> first | assumption | rfl | omega | trivial))) -- o15 e5m
  · try dsimp only [Sum.elim_inl, Sum.elim_inr, jt2, jt3, jt4, jt5, jt6, jt7, jt8]
    refine ⟨?_, ?_⟩
    · (first | assumption | omega | ((try dsimp only [jt2, jt3, jt4]); first | omega | (simp (disch := omega) only [jst_eq, jst_ne, jst_ni, jst_o, jI_i, jcpy_out, w32_id, jdiv_nn, jshr_k, jand_255] <;> first | done | omega | assumption)) | (intros; simp (disch := omega) only [jst_eq, jst_ne, jst_ni, jst_o, jI_i, jcpy_out, w32_id, jdiv_nn, *] <;> first | done | omega) | (intros; simp (disch := omega) only [jst_eq, jst_ne, jst_ni, jst_o, jI_i, jcpy_out, w32_id, jdiv_nn] at * <;> first | done | omega | assumption) | (intros; first | rfl | (exfalso; omega) | ((repeat' apply And.intro) <;> first | assumption | rfl | omega | trivial))) -- o16 init.1
    · (left; exact ⟨hh.1, fun k k0 k1 => by omega⟩) -- o17 init.2
theorem vX14_fit_l123 (i1 : Int) (i3 : Int) (a20 : Int) (a40 : Int) {h0 : AH} {e : CE} {t d : Int → Int} {N : Int} {m : Nat} (hc : cuM h0 e) (hv : vCE e) (fn : FND h0 e t d N) (sm : ∀ s, 0 ≤ s → s < 178 → spM h0 e s) (dr : ∀ k : Nat, k ≤ 4 → drM (h0 (836 + k)) e t d N k) (hm : h0 454 125 = 0 ∧ m ≤ 4) (lt : chP e m 0 < 1000000) (hh : a20 = 0 ∧ a40 = m) : OK (gX14_fit_l123 i1 i3 a20 a40 h0) (fun h' => (∃ l, wyP e m 0 l ∧ itsM h' 0 l ∧ h' 454 125 = m) ∧ (∀ a x, ¬ (a = 828 ∧ 0 ≤ x) → ¬ ((a = 841 ∨ a = 842) ∧ 0 ≤ x) → ¬ (a = 454 ∧ x = 125) → h' a x = h0 a x)) := by
  have n8 := hv.1
  have N4 := fn.2.1
  unfold gX14_fit_l123
  refine OK_jit (I := (fun (s : Int × Int × AH) => jt3 s fun a2 a4 h => (0 ≤ a4 ∧ a4 ≤ m) ∧ (0 ≤ a2 ∧ a2 < N ∧ d a2 + a4 ≤ m) ∧ (chP e a4.toNat (t a2) < 1000000) ∧ (∃ l1 : List (Int × Int), (l1.length : Int) = m - a4 ∧ itsM h 0 l1 ∧ ∀ l2, wyP e a4.toNat (t a2) l2 → wyP e m 0 (l1 ++ l2)) ∧ (h 454 125 = m - a4) ∧ (∀ a x, ¬ (a = 828 ∧ 0 ≤ x) → ¬ ((a = 841 ∨ a = 842) ∧ 0 ≤ x) → ¬ (a = 454 ∧ x = 125) → h a x = h0 a x))) (m := (fun (s : Int × Int × AH) => jt3 s fun a2 a4 h => a4.toNat)) ?_ ?_
  · intro s hs
    obtain ⟨a2, a4, h⟩ := s
    dsimp only [Sum.elim_inl, Sum.elim_inr, jt2, jt3, jt4, jt5, jt6, jt7, jt8] at hs
    obtain ⟨q0, q1, q2, q3, q4, fr⟩ := hs
    unfold gX14_fit_b123
    refine OK_jt3 ?_
    obtain ⟨l1, l1a, l1b, l1c⟩ := q3
    obtain ⟨u, tu, su, _⟩ := fn.1.2.2.1 a2 q1.1 q1.2.1
    have d0 := (fn.2.2.2.1 a2 q1.1 q1.2.1).1.1
    refine OK_if (fun c1 => ?_) (fun c1 => ?_)
    · skip
      try simp (disch := omega) only [jst_eq, jst_ne, jst_ni, jI_i, jcmp_lt, jcmp_gt, w32_id, jcpy_out, Sum.elim_inl, Sum.elim_inr, jt2, jt3, jt4, jt5, jt6, jt7, jt8] at c1
      refine OK_ir ?_
      try dsimp only [Sum.elim_inl, Sum.elim_inr, jt2, jt3, jt4, jt5, jt6, jt7, jt8]
      refine ⟨?_, ?_⟩
      · (refine ⟨l1 ++ [], l1c [] (by rw [show a4.toNat = 0 by omega]; rfl), ?_, by omega⟩; rw [List.append_nil]; exact l1b) -- o1 e1.1
      · (first | assumption | omega | ((try dsimp only [jt2, jt3, jt4]); first | omega | (simp (disch := omega) only [jst_eq, jst_ne, jst_ni, jst_o, jI_i, jcpy_out, w32_id, jdiv_nn, jshr_k, jand_255] <;> first | done | omega | assumption)) | (intros; simp (disch := omega) only [jst_eq, jst_ne, jst_ni, jst_o, jI_i, jcpy_out, w32_id, jdiv_nn, *] <;> first | done | omega) | (intros; simp (disch := omega) only [jst_eq, jst_ne, jst_ni, jst_o, jI_i, jcpy_out, w32_id, jdiv_nn] at * <;> first | done | omega | assumption) | (intros; first | rfl | (exfalso; omega) | ((repeat' apply And.intro) <;> first | assumption | rfl | omega | trivial))) -- o2 e1.2
    · skip
      try simp (disch := omega) only [jst_eq, jst_ne, jst_ni, jI_i, jcmp_lt, jcmp_gt, w32_id, jcpy_out, Sum.elim_inl, Sum.elim_inr, jt2, jt3, jt4, jt5, jt6, jt7, jt8] at c1
      have AK : a4.toNat = (a4 - 1).toNat + 1 := by omega
      have ak : (((a4 - 1).toNat : Nat) : Int) = a4 - 1 := by omega
      have CM : chN h e t d N (a4 - 1).toNat := ⟨cuM_f hc (fun a s y => fr a s (by omega) (by omega) (by omega)), hv, FND_f fn (fun a s y => fr a s (by omega) (by omega) (by omega)), fun s s0 s1 => spM_f (sm s s0 s1) n8.2 (fun a x y => fr a x (by omega) (by omega) (by omega)), by rw [show h (836 + ((a4 - 1).toNat : Int)) = h0 (836 + ((a4 - 1).toNat : Int)) from funext fun s => fr _ _ (by omega) (by omega) (by omega)]; exact dr _ (by omega), by rw [show h (836 + (((a4 - 1).toNat : Int) + 1)) = h0 (836 + (((a4 - 1).toNat : Int) + 1)) from funext fun s => fr _ _ (by omega) (by omega) (by omega)]; have z := dr ((a4 - 1).toNat + 1) (by omega); rw [show (((a4 - 1).toNat + 1 : Nat) : Int) = ((a4 - 1).toNat : Int) + 1 by omega] at z; exact z⟩
      refine OK_jb2 (vX14_firstWay (e := e) (t := t) (d := d) (N := N) (k := (a4 - 1).toNat) (u := u) (p := m - a4) _ _ _ (by exact CM) (by exact ⟨q1.1, q1.2.1, tu⟩) (by omega) (by omega) (by (rw [← AK, ← tu]; exact q2))) (fun v27 h28 r1 => ?_)
      try dsimp only [Sum.elim_inl, Sum.elim_inr, jt2, jt3, jt4, jt5, jt6, jt7, jt8] at r1
      obtain ⟨wy1, pp1, fr1⟩ := r1
      try simp (disch := omega) only [jst_eq, jst_ne, jst_ni, jI_i, jcmp_lt, jcmp_gt, w32_id, jcpy_out, Sum.elim_inl, Sum.elim_inr, jt2, jt3, jt4, jt5, jt6, jt7, jt8] at wy1
      try simp (disch := omega) only [jst_eq, jst_ne, jst_ni, jI_i, jcmp_lt, jcmp_gt, w32_id, jcpy_out, Sum.elim_inl, Sum.elim_inr, jt2, jt3, jt4, jt5, jt6, jt7, jt8] at pp1
      try simp (disch := omega) only [jst_eq, jst_ne, jst_ni, jI_i, jcmp_lt, jcmp_gt, w32_id, jcpy_out, Sum.elim_inl, Sum.elim_inr, jt2, jt3, jt4, jt5, jt6, jt7, jt8] at fr1
      obtain ⟨w1, w2, it, w3, w4, w5⟩ := wy1
      refine OK_jlx (fun x29 ex29 => ?_)
      try simp (disch := omega) only [jst_eq, jst_ne, jst_ni, jI_i, jcmp_lt, jcmp_gt, w32_id, jcpy_out, Sum.elim_inl, Sum.elim_inr, jt2, jt3, jt4, jt5, jt6, jt7, jt8] at ex29
      refine OK_il ?_ ?_
      · try dsimp only [Sum.elim_inl, Sum.elim_inr, jt2, jt3, jt4, jt5, jt6, jt7, jt8]
        refine ⟨?_, ?_, ?_, ?_, ?_, ?_⟩
        · omega -- o8 e2i.1
        · exact ⟨w1.1, w1.2, by omega⟩ -- o9 e2i.2
        · (rw [show x29.toNat = (a4 - 1).toNat by omega]; exact w5) -- o10 e2i.3
        · (refine ⟨l1 ++ [it], by rw [List.length_append]; show ((l1.length + 1 : Nat) : Int) = _; omega, itsM_a (itsM_f l1b (fun a s b0 b1 s0 s1 => fr1 a s (by omega) (by omega) (by omega))) (by rw [show (0 : Int) + (l1.length : Int) = m - a4 by omega]; exact w4), fun l2 hl => ?_⟩; rw [show x29.toNat = (a4 - 1).toNat by omega] at hl; rw [List.append_assoc]; refine l1c _ ?_; rw [AK]; exact ⟨it, t v27, l2, by rw [tu, show ((u : Int)).toNat = u by omega]; exact w3, hl, rfl⟩) -- o11 e2i.4
        · omega -- o12 e2i.5
        · exact fun a x y1 y2 y3 => by rw [fr1 a x y1 (by omega) y3]; exact fr a x y1 y2 y3 -- o13 e2i.6
      · (first | assumption | omega | ((try dsimp only [jt2, jt3, jt4]); first | omega | (simp (disch := omega) only [jst_eq, jst_ne, jst_ni, jst_o, jI_i, jcpy_out, w32_id, jdiv_nn, jshr_k, jand_255] <;> first | done | omega | assumption)) | (intros; simp (disch := omega) only [jst_eq, jst_ne, jst_ni, jst_o, jI_i, jcpy_out, w32_id, jdiv_nn, *] <;> first | done | omega) | (intros; simp (disch := omega) only [jst_eq, jst_ne, jst_ni, jst_o, jI_i, jcpy_out, w32_id, jdiv_nn] at * <;> first | done | omega | assumption) | (intros; first | rfl | (exfalso; omega) | ((repeat' apply And.intro) <;> first | assumption | rfl | omega | trivial))) -- o14 e2m
  · try dsimp only [Sum.elim_inl, Sum.elim_inr, jt2, jt3, jt4, jt5, jt6, jt7, jt8]
    refine ⟨?_, ?_, ?_, ?_, ?_, ?_⟩
    · (first | assumption | omega | ((try dsimp only [jt2, jt3, jt4]); first | omega | (simp (disch := omega) only [jst_eq, jst_ne, jst_ni, jst_o, jI_i, jcpy_out, w32_id, jdiv_nn, jshr_k, jand_255] <;> first | done | omega | assumption)) | (intros; simp (disch := omega) only [jst_eq, jst_ne, jst_ni, jst_o, jI_i, jcpy_out, w32_id, jdiv_nn, *] <;> first | done | omega) | (intros; simp (disch := omega) only [jst_eq, jst_ne, jst_ni, jst_o, jI_i, jcpy_out, w32_id, jdiv_nn] at * <;> first | done | omega | assumption) | (intros; first | rfl | (exfalso; omega) | ((repeat' apply And.intro) <;> first | assumption | rfl | omega | trivial))) -- o15 init.1
    · (rw [hh.1, hh.2, fn.2.2.1.2]; omega) -- o16 init.2
    · (rw [hh.1, hh.2, fn.2.2.1.1]; exact lt) -- o17 init.3
    · exact ⟨[], by rw [hh.2]; show ((0 : Nat) : Int) = _; omega, trivial, fun l2 hl => by rw [hh.1, hh.2, fn.2.2.1.1] at hl; exact hl⟩ -- o18 init.4
    · omega -- o19 init.5
    · exact fun _ _ _ _ _ => rfl -- o20 init.6
def samPr (h h' : AH) : Prop := h' 454 125 = h 454 125 ∧ ∀ x, h' 841 x = h 841 x ∧ h' 842 x = h 842 x
theorem vX14_fit {h : AH} {e : CE} (hd : h 454 54 = 0 ∨ h 454 54 = 1) (hc : cuM h e) (hv : e.1 = 0 ∨ vCE e) (hk : kM h ∧ kW h) : OK (gX14_fit h) (fun r => jt2 r fun v h' => ((h 454 54 = 1 ∧ v = -5 ∧ h' = jst h 454 51 0) ∨ (h 454 54 = 0 ∧ e.1 = 0 ∧ v = -2 ∧ h' = jst h 454 51 0) ∨ (h 454 54 = 0 ∧ vCE e ∧ ((v = -3 ∧ ovf e ∧ samPr h h') ∨ (¬ ovf e ∧ v = 0 ∧ (∀ k : Nat, 1 ≤ k → k ≤ 4 → chP e k 0 = 1000000) ∧ samPr h h') ∨ (¬ ovf e ∧ ∃ (m : Nat) (l : List (Int × Int)), bsW e m ∧ chP e m 0 < 1000000 ∧ v = chP e m 0 ∧ wyP e m 0 l ∧ h' 454 125 = m ∧ itsM h' 0 l)))) ∧ (∀ a x, ¬ (a = 454 ∧ (x = 51 ∨ x = 114 ∨ x = 125)) → ¬ (((821 ≤ a ∧ a ≤ 840) ∨ a = 841 ∨ a = 842) ∧ 0 ≤ x) → h' a x = h a x) ∧ (h' 454 51 = 0)) := by
  have HD := hd
  unfold gX14_fit
  refine OK_jb2 (vX14_isDown (by (first | assumption | omega | ((try dsimp only [jt2, jt3, jt4]); first | omega | (simp (disch := omega) only [jst_eq, jst_ne, jst_ni, jst_o, jI_i, jcpy_out, w32_id, jdiv_nn, jshr_k, jand_255] <;> first | done | omega | assumption)) | (intros; simp (disch := omega) only [jst_eq, jst_ne, jst_ni, jst_o, jI_i, jcpy_out, w32_id, jdiv_nn, *] <;> first | done | omega) | (intros; simp (disch := omega) only [jst_eq, jst_ne, jst_ni, jst_o, jI_i, jcpy_out, w32_id, jdiv_nn] at * <;> first | done | omega | assumption) | (intros; first | rfl | (exfalso; omega) | ((repeat' apply And.intro) <;> first | assumption | rfl | omega | trivial))))) (fun v2 h3 r1 => ?_)
  try dsimp only [Sum.elim_inl, Sum.elim_inr, jt2, jt3, jt4, jt5, jt6, jt7, jt8] at r1
  obtain ⟨dv1, dh1⟩ := r1
  try simp (disch := omega) only [jst_eq, jst_ne, jst_ni, jI_i, jcmp_lt, jcmp_gt, w32_id, jcpy_out, Sum.elim_inl, Sum.elim_inr, jt2, jt3, jt4, jt5, jt6, jt7, jt8] at dv1
  try simp (disch := omega) only [jst_eq, jst_ne, jst_ni, jI_i, jcmp_lt, jcmp_gt, w32_id, jcpy_out, Sum.elim_inl, Sum.elim_inr, jt2, jt3, jt4, jt5, jt6, jt7, jt8] at dh1
  have F3 : ∀ a x, ¬ (a = 454 ∧ x = 51) → h3 a x = h a x := fun a x y => by { rw [dh1]; exact jst_o y }
  have C3 : cuM h3 e := cuM_f hc (fun a s y => F3 a s (by omega))
  have E3 := C3.1
  refine OK_if (fun c1 => ?_) (fun c1 => ?_)
  · skip
    try simp (disch := omega) only [jst_eq, jst_ne, jst_ni, jI_i, jcmp_lt, jcmp_gt, w32_id, jcpy_out, Sum.elim_inl, Sum.elim_inr, jt2, jt3, jt4, jt5, jt6, jt7, jt8] at c1
    refine OK_if (fun c2 => ?_) (fun c2 => ?_)
    · skip
      try simp (disch := omega) only [jst_eq, jst_ne, jst_ni, jI_i, jcmp_lt, jcmp_gt, w32_id, jcpy_out, Sum.elim_inl, Sum.elim_inr, jt2, jt3, jt4, jt5, jt6, jt7, jt8] at c2
      refine OK_some ?_
      try dsimp only [Sum.elim_inl, Sum.elim_inr, jt2, jt3, jt4, jt5, jt6, jt7, jt8]
      try dsimp only [Sum.elim_inl, Sum.elim_inr, jt2, jt3, jt4, jt5, jt6, jt7, jt8]
      refine ⟨?_, ?_, ?_⟩
      · exact Or.inr (Or.inl ⟨by omega, by omega, rfl, dh1⟩) -- o2 e1.1
      · exact fun a x y1 y2 => F3 a x (by omega) -- o3 e1.2
      · (rw [dh1, jst_eq]) -- o4 e1.3
    · skip
      try simp (disch := omega) only [jst_eq, jst_ne, jst_ni, jI_i, jcmp_lt, jcmp_gt, w32_id, jcpy_out, Sum.elim_inl, Sum.elim_inr, jt2, jt3, jt4, jt5, jt6, jt7, jt8] at c2
      have hv2 : vCE e := hv.resolve_left (fun z => by omega)
      have n8 := hv2.1
      refine OK_jb2 (vX14_makeNodes (e := e) (by exact C3) (by (first | assumption | omega | ((try dsimp only [jt2, jt3, jt4]); first | omega | (simp (disch := omega) only [jst_eq, jst_ne, jst_ni, jst_o, jI_i, jcpy_out, w32_id, jdiv_nn, jshr_k, jand_255] <;> first | done | omega | assumption)) | (intros; simp (disch := omega) only [jst_eq, jst_ne, jst_ni, jst_o, jI_i, jcpy_out, w32_id, jdiv_nn, *] <;> first | done | omega) | (intros; simp (disch := omega) only [jst_eq, jst_ne, jst_ni, jst_o, jI_i, jcpy_out, w32_id, jdiv_nn] at * <;> first | done | omega | assumption) | (intros; first | rfl | (exfalso; omega) | ((repeat' apply And.intro) <;> first | assumption | rfl | omega | trivial)))) (by exact ⟨by rw [F3 _ _ (by omega)]; exact hk.1.1, by rw [F3 _ _ (by omega)]; exact hk.1.2⟩)) (fun v7 h8 r2 => ?_)
      try dsimp only [Sum.elim_inl, Sum.elim_inr, jt2, jt3, jt4, jt5, jt6, jt7, jt8] at r2
      obtain ⟨mn2, fr2⟩ := r2
      try simp (disch := omega) only [jst_eq, jst_ne, jst_ni, jI_i, jcmp_lt, jcmp_gt, w32_id, jcpy_out, Sum.elim_inl, Sum.elim_inr, jt2, jt3, jt4, jt5, jt6, jt7, jt8] at mn2
      try simp (disch := omega) only [jst_eq, jst_ne, jst_ni, jI_i, jcmp_lt, jcmp_gt, w32_id, jcpy_out, Sum.elim_inl, Sum.elim_inr, jt2, jt3, jt4, jt5, jt6, jt7, jt8] at fr2
      have F8 : ∀ a x, ¬ (a = 454 ∧ (x = 51 ∨ x = 114)) → ¬ ((821 ≤ a ∧ a ≤ 828) ∧ 0 ≤ x) → h8 a x = h a x := fun a x y1 y2 => by { rw [fr2 a x (by omega) y2]; exact F3 a x (by omega) }
      refine OK_if (fun c3 => ?_) (fun c3 => ?_)
      · skip
        try simp (disch := omega) only [jst_eq, jst_ne, jst_ni, jI_i, jcmp_lt, jcmp_gt, w32_id, jcpy_out, Sum.elim_inl, Sum.elim_inr, jt2, jt3, jt4, jt5, jt6, jt7, jt8] at c3
        refine OK_some ?_
        try dsimp only [Sum.elim_inl, Sum.elim_inr, jt2, jt3, jt4, jt5, jt6, jt7, jt8]
        try dsimp only [Sum.elim_inl, Sum.elim_inr, jt2, jt3, jt4, jt5, jt6, jt7, jt8]
        refine ⟨?_, ?_, ?_⟩
        · (rcases mn2.2 with z | z; { have := z.1; omega }; { exact Or.inr (Or.inr ⟨by omega, hv2, Or.inl ⟨rfl, z.2, F8 _ _ (by omega) (by omega), fun x => ⟨F8 _ _ (by omega) (by omega), F8 _ _ (by omega) (by omega)⟩⟩⟩) }) -- o8 e2.1
        · exact fun a x y1 y2 => F8 a x (by omega) (by omega) -- o9 e2.2
        · (rw [fr2 _ _ (by omega) (by omega), dh1, jst_eq]) -- o10 e2.3
      · skip
        try simp (disch := omega) only [jst_eq, jst_ne, jst_ni, jI_i, jcmp_lt, jcmp_gt, w32_id, jcpy_out, Sum.elim_inl, Sum.elim_inr, jt2, jt3, jt4, jt5, jt6, jt7, jt8] at c3
        obtain ⟨t, d, N, FN⟩ : ∃ t d N, FND h8 e t d N := by { rcases mn2.2 with z | z; { exact z.2 }; { exact absurd z.1 c3 } }
        have N4 := FN.2.1
        obtain ⟨GM, GQ⟩ := GRI_g mn2.1
        refine OK_jb (vX14_weighNodes (e := e) (t := t) (d := d) (o := h8 825) (N := N) (by exact cuM_f hc (fun a s y => F8 a s (by omega) (by omega))) (by (first | assumption | omega | ((try dsimp only [jt2, jt3, jt4]); first | omega | (simp (disch := omega) only [jst_eq, jst_ne, jst_ni, jst_o, jI_i, jcpy_out, w32_id, jdiv_nn, jshr_k, jand_255] <;> first | done | omega | assumption)) | (intros; simp (disch := omega) only [jst_eq, jst_ne, jst_ni, jst_o, jI_i, jcpy_out, w32_id, jdiv_nn, *] <;> first | done | omega) | (intros; simp (disch := omega) only [jst_eq, jst_ne, jst_ni, jst_o, jI_i, jcpy_out, w32_id, jdiv_nn] at * <;> first | done | omega | assumption) | (intros; first | rfl | (exfalso; omega) | ((repeat' apply And.intro) <;> first | assumption | rfl | omega | trivial)))) (by exact FN) (by (obtain ⟨⟨k1, k2⟩, ⟨k3, k4⟩, k5, k6⟩ := hk.2; exact ⟨⟨by rw [F8 _ _ (by omega) (by omega)]; exact k1, by rw [F8 _ _ (by omega) (by omega)]; exact k2⟩, ⟨by rw [F8 _ _ (by omega) (by omega)]; exact k3, by rw [F8 _ _ (by omega) (by omega)]; exact k4⟩, by rw [F8 _ _ (by omega) (by omega)]; exact k5, by rw [F8 _ _ (by omega) (by omega)]; exact k6⟩)) (by exact GM) (by exact GQ)) (fun h11 r3 => ?_)
        try dsimp only [Sum.elim_inl, Sum.elim_inr, jt2, jt3, jt4, jt5, jt6, jt7, jt8] at r3
        obtain ⟨wq3, fr3⟩ := r3
        try simp (disch := omega) only [jst_eq, jst_ne, jst_ni, jI_i, jcmp_lt, jcmp_gt, w32_id, jcpy_out, Sum.elim_inl, Sum.elim_inr, jt2, jt3, jt4, jt5, jt6, jt7, jt8] at wq3
        try simp (disch := omega) only [jst_eq, jst_ne, jst_ni, jI_i, jcmp_lt, jcmp_gt, w32_id, jcpy_out, Sum.elim_inl, Sum.elim_inr, jt2, jt3, jt4, jt5, jt6, jt7, jt8] at fr3
        have F11 : ∀ a x, ¬ (a = 454 ∧ (x = 51 ∨ x = 114)) → ¬ ((821 ≤ a ∧ a ≤ 840) ∧ 0 ≤ x) → h11 a x = h a x := fun a x y1 y2 => by { rw [fr3 a x (by omega) (by omega)]; exact F8 a x y1 (by omega) }
        have WQ : ∀ k : Nat, k ≤ 4 → wyM (h11 (830 + k)) e t d N k ∧ drM (h11 (836 + k)) e t d N k := wq3
        have DZ : ∀ k : Nat, k ≤ 4 → h11 (836 + k) 0 = chP e k 0 := fun k l => by { rw [(WQ k l).2 0 (by omega) (by omega) (by rw [FN.2.2.1.2]; omega), FN.2.2.1.1] }
        refine OK_jb (vX14_fit_l38 (e := e) _ _ (by (first | assumption | omega | ((try dsimp only [jt2, jt3, jt4]); first | omega | (simp (disch := omega) only [jst_eq, jst_ne, jst_ni, jst_o, jI_i, jcpy_out, w32_id, jdiv_nn, jshr_k, jand_255] <;> first | done | omega | assumption)) | (intros; simp (disch := omega) only [jst_eq, jst_ne, jst_ni, jst_o, jI_i, jcpy_out, w32_id, jdiv_nn, *] <;> first | done | omega) | (intros; simp (disch := omega) only [jst_eq, jst_ne, jst_ni, jst_o, jI_i, jcpy_out, w32_id, jdiv_nn] at * <;> first | done | omega | assumption) | (intros; first | rfl | (exfalso; omega) | ((repeat' apply And.intro) <;> first | assumption | rfl | omega | trivial)))) (by exact DZ) (by exact ⟨rfl, rfl⟩)) (fun o12 r4 => ?_)
        try dsimp only [Sum.elim_inl, Sum.elim_inr, jt2, jt3, jt4, jt5, jt6, jt7, jt8] at r4
        have bs4 := r4
        clear r4
        try simp (disch := omega) only [jst_eq, jst_ne, jst_ni, jI_i, jcmp_lt, jcmp_gt, w32_id, jcpy_out, Sum.elim_inl, Sum.elim_inr, jt2, jt3, jt4, jt5, jt6, jt7, jt8] at bs4
        have BS : (o12 = 0 ∧ ∀ k : Nat, 1 ≤ k → k ≤ 4 → chP e k 0 = 1000000) ∨ ((1 ≤ o12 ∧ o12 ≤ 4) ∧ bsW e o12.toNat ∧ chP e o12.toNat 0 < 1000000) := by assumption
        refine OK_if (fun c4 => ?_) (fun c4 => ?_)
        · skip
          try simp (disch := omega) only [jst_eq, jst_ne, jst_ni, jI_i, jcmp_lt, jcmp_gt, w32_id, jcpy_out, Sum.elim_inl, Sum.elim_inr, jt2, jt3, jt4, jt5, jt6, jt7, jt8] at c4
          refine OK_some ?_
          try dsimp only [Sum.elim_inl, Sum.elim_inr, jt2, jt3, jt4, jt5, jt6, jt7, jt8]
          try dsimp only [Sum.elim_inl, Sum.elim_inr, jt2, jt3, jt4, jt5, jt6, jt7, jt8]
          refine ⟨?_, ?_, ?_⟩
          · (rcases BS with z | z; { exact Or.inr (Or.inr ⟨by omega, hv2, Or.inr (Or.inl ⟨FND_no FN, rfl, z.2, F11 _ _ (by omega) (by omega), fun x => ⟨F11 _ _ (by omega) (by omega), F11 _ _ (by omega) (by omega)⟩⟩)⟩) }; { omega }) -- o20 e3.1
          · exact fun a x y1 y2 => F11 a x (by omega) (by omega) -- o21 e3.2
          · (rw [fr3 _ _ (by omega) (by omega), fr2 _ _ (by omega) (by omega), dh1, jst_eq]) -- o22 e3.3
        · skip
          try simp (disch := omega) only [jst_eq, jst_ne, jst_ni, jI_i, jcmp_lt, jcmp_gt, w32_id, jcpy_out, Sum.elim_inl, Sum.elim_inr, jt2, jt3, jt4, jt5, jt6, jt7, jt8] at c4
          have B2 := BS.resolve_left (fun z => c4 z.1)
          refine OK_jl ?_
          have F15 : ∀ a x, ¬ (a = 454 ∧ x = 125) → jst h11 454 125 0 a x = h11 a x := fun a x y => jst_o y
          refine OK_jlx (fun x16 ex16 => ?_)
          try simp (disch := omega) only [jst_eq, jst_ne, jst_ni, jI_i, jcmp_lt, jcmp_gt, w32_id, jcpy_out, Sum.elim_inl, Sum.elim_inr, jt2, jt3, jt4, jt5, jt6, jt7, jt8] at ex16
          refine OK_jb (vX14_fit_l123 (e := e) (t := t) (d := d) (N := N) (m := o12.toNat) _ _ _ _ (by exact cuM_f hc (fun a s y => by rw [F15 _ _ (by omega)]; exact F11 a s (by omega) (by omega))) (by (first | assumption | omega | ((try dsimp only [jt2, jt3, jt4]); first | omega | (simp (disch := omega) only [jst_eq, jst_ne, jst_ni, jst_o, jI_i, jcpy_out, w32_id, jdiv_nn, jshr_k, jand_255] <;> first | done | omega | assumption)) | (intros; simp (disch := omega) only [jst_eq, jst_ne, jst_ni, jst_o, jI_i, jcpy_out, w32_id, jdiv_nn, *] <;> first | done | omega) | (intros; simp (disch := omega) only [jst_eq, jst_ne, jst_ni, jst_o, jI_i, jcpy_out, w32_id, jdiv_nn] at * <;> first | done | omega | assumption) | (intros; first | rfl | (exfalso; omega) | ((repeat' apply And.intro) <;> first | assumption | rfl | omega | trivial)))) (by exact FND_f FN (fun a s y => by rw [F15 _ _ (by omega)]; exact fr3 a s (by omega) (by omega))) (by exact fun s s0 s1 => spM_f (GM s s0 s1).1 n8.2 (fun a x y => by rw [F15 _ _ (by omega)]; exact fr3 a x (by omega) (by omega))) (by exact fun k l => by rw [show jst h11 454 125 0 (836 + (k : Int)) = h11 (836 + (k : Int)) from funext fun x => F15 _ _ (by omega)]; exact (WQ k l).2) (by exact ⟨jst_eq, by omega⟩) (by exact B2.2.2) (by exact ⟨rfl, by omega⟩)) (fun o17 r5 => ?_)
          try dsimp only [Sum.elim_inl, Sum.elim_inr, jt2, jt3, jt4, jt5, jt6, jt7, jt8] at r5
          obtain ⟨wy5, fr5⟩ := r5
          try simp (disch := omega) only [jst_eq, jst_ne, jst_ni, jI_i, jcmp_lt, jcmp_gt, w32_id, jcpy_out, Sum.elim_inl, Sum.elim_inr, jt2, jt3, jt4, jt5, jt6, jt7, jt8] at wy5
          try simp (disch := omega) only [jst_eq, jst_ne, jst_ni, jI_i, jcmp_lt, jcmp_gt, w32_id, jcpy_out, Sum.elim_inl, Sum.elim_inr, jt2, jt3, jt4, jt5, jt6, jt7, jt8] at fr5
          have FE : ∀ a x, ¬ (a = 828 ∧ 0 ≤ x) → ¬ ((a = 841 ∨ a = 842) ∧ 0 ≤ x) → ¬ (a = 454 ∧ x = 125) → o17 a x = jst h11 454 125 0 a x := by assumption
          have WE : ∃ l, wyP e o12.toNat 0 l ∧ itsM o17 0 l ∧ o17 454 125 = o12.toNat := by assumption
          have V17 : o17 (836 + o12) 0 = chP e o12.toNat 0 := by { rw [FE _ _ (by omega) (by omega) (by omega), F15 _ _ (by omega), ← DZ o12.toNat (by omega), show ((o12.toNat : Nat) : Int) = o12 by omega] }
          rw [V17]
          refine OK_jg (by (first | assumption | omega | ((try dsimp only [jt2, jt3, jt4]); first | omega | (simp (disch := omega) only [jst_eq, jst_ne, jst_ni, jst_o, jI_i, jcpy_out, w32_id, jdiv_nn, jshr_k, jand_255] <;> first | done | omega | assumption)) | (intros; simp (disch := omega) only [jst_eq, jst_ne, jst_ni, jst_o, jI_i, jcpy_out, w32_id, jdiv_nn, *] <;> first | done | omega) | (intros; simp (disch := omega) only [jst_eq, jst_ne, jst_ni, jst_o, jI_i, jcpy_out, w32_id, jdiv_nn] at * <;> first | done | omega | assumption) | (intros; first | rfl | (exfalso; omega) | ((repeat' apply And.intro) <;> first | assumption | rfl | omega | trivial)))) ?_ -- o31
          refine OK_some ?_
          try dsimp only [Sum.elim_inl, Sum.elim_inr, jt2, jt3, jt4, jt5, jt6, jt7, jt8]
          try dsimp only [Sum.elim_inl, Sum.elim_inr, jt2, jt3, jt4, jt5, jt6, jt7, jt8]
          refine ⟨?_, ?_, ?_⟩
          · (obtain ⟨l, l1, l2, l3⟩ := WE; exact Or.inr (Or.inr ⟨by omega, hv2, Or.inr (Or.inr ⟨FND_no FN, o12.toNat, l, B2.2.1, B2.2.2, rfl, l1, l3, l2⟩)⟩)) -- o32 e4.1
          · exact fun a x y1 y2 => by rw [FE a x (by omega) (by omega) (by omega), F15 _ _ (by omega)]; exact F11 a x (by omega) (by omega) -- o33 e4.2
          · (rw [FE _ _ (by omega) (by omega) (by omega), F15 _ _ (by omega), fr3 _ _ (by omega) (by omega), fr2 _ _ (by omega) (by omega), dh1, jst_eq]) -- o34 e4.3
  · skip
    try simp (disch := omega) only [jst_eq, jst_ne, jst_ni, jI_i, jcmp_lt, jcmp_gt, w32_id, jcpy_out, Sum.elim_inl, Sum.elim_inr, jt2, jt3, jt4, jt5, jt6, jt7, jt8] at c1
    refine OK_some ?_
    try dsimp only [Sum.elim_inl, Sum.elim_inr, jt2, jt3, jt4, jt5, jt6, jt7, jt8]
    try dsimp only [Sum.elim_inl, Sum.elim_inr, jt2, jt3, jt4, jt5, jt6, jt7, jt8]
    refine ⟨?_, ?_, ?_⟩
    · exact Or.inl ⟨by omega, rfl, dh1⟩ -- o35 e5.1
    · exact fun a x y1 y2 => F3 a x (by omega) -- o36 e5.2
    · (rw [dh1, jst_eq]) -- o37 e5.3
theorem vX14_fitting (a1 : Int) {h : AH} {e : CE} (hd : h 454 54 = 0 ∨ h 454 54 = 1) (hc : cuM h e) (hv : e.1 = 0 ∨ vCE e) (hk : kM h ∧ kW h) : OK (gX14_fitting a1 h) (fun r => jt2 r fun v h' => ((h 454 54 = 1 ∧ v = -5) ∨ (h 454 54 = 0 ∧ ((¬ (1 ≤ a1 ∧ a1 ≤ 4) ∧ v = -1) ∨ ((1 ≤ a1 ∧ a1 ≤ 4) ∧ ((e.1 = 0 ∧ v = -2) ∨ (vCE e ∧ ((v = -3 ∧ ovf e) ∨ (¬ ovf e ∧ v = cnP e a1.toNat 0)))))))) ∧ (∀ a x, ¬ (a = 454 ∧ (x = 51 ∨ x = 114)) → ¬ ((821 ≤ a ∧ a ≤ 840) ∧ 0 ≤ x) → h' a x = h a x) ∧ (h' 454 51 = 0)) := by
  have HD := hd
  unfold gX14_fitting
  refine OK_jb2 (vX14_isDown (by (first | assumption | omega | ((try dsimp only [jt2, jt3, jt4]); first | omega | (simp (disch := omega) only [jst_eq, jst_ne, jst_ni, jst_o, jI_i, jcpy_out, w32_id, jdiv_nn, jshr_k, jand_255] <;> first | done | omega | assumption)) | (intros; simp (disch := omega) only [jst_eq, jst_ne, jst_ni, jst_o, jI_i, jcpy_out, w32_id, jdiv_nn, *] <;> first | done | omega) | (intros; simp (disch := omega) only [jst_eq, jst_ne, jst_ni, jst_o, jI_i, jcpy_out, w32_id, jdiv_nn] at * <;> first | done | omega | assumption) | (intros; first | rfl | (exfalso; omega) | ((repeat' apply And.intro) <;> first | assumption | rfl | omega | trivial))))) (fun v2 h3 r1 => ?_)
  try dsimp only [Sum.elim_inl, Sum.elim_inr, jt2, jt3, jt4, jt5, jt6, jt7, jt8] at r1
  obtain ⟨dv1, dh1⟩ := r1
  try simp (disch := omega) only [jst_eq, jst_ne, jst_ni, jI_i, jcmp_lt, jcmp_gt, w32_id, jcpy_out, Sum.elim_inl, Sum.elim_inr, jt2, jt3, jt4, jt5, jt6, jt7, jt8] at dv1
  try simp (disch := omega) only [jst_eq, jst_ne, jst_ni, jI_i, jcmp_lt, jcmp_gt, w32_id, jcpy_out, Sum.elim_inl, Sum.elim_inr, jt2, jt3, jt4, jt5, jt6, jt7, jt8] at dh1
  have F3 : ∀ a x, ¬ (a = 454 ∧ x = 51) → h3 a x = h a x := fun a x y => by { rw [dh1]; exact jst_o y }
  have C3 : cuM h3 e := cuM_f hc (fun a s y => F3 a s (by omega))
  have E3 := C3.1
  refine OK_if (fun c1 => ?_) (fun c1 => ?_)
  · skip
    try simp (disch := omega) only [jst_eq, jst_ne, jst_ni, jI_i, jcmp_lt, jcmp_gt, w32_id, jcpy_out, Sum.elim_inl, Sum.elim_inr, jt2, jt3, jt4, jt5, jt6, jt7, jt8] at c1
    refine OK_jb (vX14_in _ _ _) (fun v6 r2 => ?_)
    try dsimp only [Sum.elim_inl, Sum.elim_inr, jt2, jt3, jt4, jt5, jt6, jt7, jt8] at r2
    have v2 := r2
    clear r2
    try simp (disch := omega) only [jst_eq, jst_ne, jst_ni, jI_i, jcmp_lt, jcmp_gt, w32_id, jcpy_out, Sum.elim_inl, Sum.elim_inr, jt2, jt3, jt4, jt5, jt6, jt7, jt8] at v2
    refine OK_if (fun c2 => ?_) (fun c2 => ?_)
    · skip
      try simp (disch := omega) only [jst_eq, jst_ne, jst_ni, jI_i, jcmp_lt, jcmp_gt, w32_id, jcpy_out, Sum.elim_inl, Sum.elim_inr, jt2, jt3, jt4, jt5, jt6, jt7, jt8] at c2
      refine OK_some ?_
      try dsimp only [Sum.elim_inl, Sum.elim_inr, jt2, jt3, jt4, jt5, jt6, jt7, jt8]
      try dsimp only [Sum.elim_inl, Sum.elim_inr, jt2, jt3, jt4, jt5, jt6, jt7, jt8]
      refine ⟨?_, ?_, ?_⟩
      · (right; refine ⟨by omega, Or.inl ⟨by omega, rfl⟩⟩) -- o2 e1.1
      · exact fun a x y1 y2 => F3 a x (by omega) -- o3 e1.2
      · (rw [dh1, jst_eq]) -- o4 e1.3
    · skip
      try simp (disch := omega) only [jst_eq, jst_ne, jst_ni, jI_i, jcmp_lt, jcmp_gt, w32_id, jcpy_out, Sum.elim_inl, Sum.elim_inr, jt2, jt3, jt4, jt5, jt6, jt7, jt8] at c2
      refine OK_if (fun c3 => ?_) (fun c3 => ?_)
      · skip
        try simp (disch := omega) only [jst_eq, jst_ne, jst_ni, jI_i, jcmp_lt, jcmp_gt, w32_id, jcpy_out, Sum.elim_inl, Sum.elim_inr, jt2, jt3, jt4, jt5, jt6, jt7, jt8] at c3
        refine OK_some ?_
        try dsimp only [Sum.elim_inl, Sum.elim_inr, jt2, jt3, jt4, jt5, jt6, jt7, jt8]
        try dsimp only [Sum.elim_inl, Sum.elim_inr, jt2, jt3, jt4, jt5, jt6, jt7, jt8]
        refine ⟨?_, ?_, ?_⟩
        · (right; exact ⟨by omega, Or.inr ⟨by omega, Or.inl ⟨by omega, rfl⟩⟩⟩) -- o5 e2.1
        · exact fun a x y1 y2 => F3 a x (by omega) -- o6 e2.2
        · (rw [dh1, jst_eq]) -- o7 e2.3
      · skip
        try simp (disch := omega) only [jst_eq, jst_ne, jst_ni, jI_i, jcmp_lt, jcmp_gt, w32_id, jcpy_out, Sum.elim_inl, Sum.elim_inr, jt2, jt3, jt4, jt5, jt6, jt7, jt8] at c3
        have hv2 : vCE e := hv.resolve_left (fun z => by omega)
        have n8 := hv2.1
        refine OK_jb2 (vX14_makeNodes (e := e) (by exact C3) (by (first | assumption | omega | ((try dsimp only [jt2, jt3, jt4]); first | omega | (simp (disch := omega) only [jst_eq, jst_ne, jst_ni, jst_o, jI_i, jcpy_out, w32_id, jdiv_nn, jshr_k, jand_255] <;> first | done | omega | assumption)) | (intros; simp (disch := omega) only [jst_eq, jst_ne, jst_ni, jst_o, jI_i, jcpy_out, w32_id, jdiv_nn, *] <;> first | done | omega) | (intros; simp (disch := omega) only [jst_eq, jst_ne, jst_ni, jst_o, jI_i, jcpy_out, w32_id, jdiv_nn] at * <;> first | done | omega | assumption) | (intros; first | rfl | (exfalso; omega) | ((repeat' apply And.intro) <;> first | assumption | rfl | omega | trivial)))) (by exact ⟨by rw [F3 _ _ (by omega)]; exact hk.1.1, by rw [F3 _ _ (by omega)]; exact hk.1.2⟩)) (fun v10 h11 r3 => ?_)
        try dsimp only [Sum.elim_inl, Sum.elim_inr, jt2, jt3, jt4, jt5, jt6, jt7, jt8] at r3
        obtain ⟨mn3, fr3⟩ := r3
        try simp (disch := omega) only [jst_eq, jst_ne, jst_ni, jI_i, jcmp_lt, jcmp_gt, w32_id, jcpy_out, Sum.elim_inl, Sum.elim_inr, jt2, jt3, jt4, jt5, jt6, jt7, jt8] at mn3
        try simp (disch := omega) only [jst_eq, jst_ne, jst_ni, jI_i, jcmp_lt, jcmp_gt, w32_id, jcpy_out, Sum.elim_inl, Sum.elim_inr, jt2, jt3, jt4, jt5, jt6, jt7, jt8] at fr3
        have F8 : ∀ a x, ¬ (a = 454 ∧ (x = 51 ∨ x = 114)) → ¬ ((821 ≤ a ∧ a ≤ 828) ∧ 0 ≤ x) → h11 a x = h a x := fun a x y1 y2 => by { rw [fr3 a x (by omega) y2]; exact F3 a x (by omega) }
        refine OK_if (fun c4 => ?_) (fun c4 => ?_)
        · skip
          try simp (disch := omega) only [jst_eq, jst_ne, jst_ni, jI_i, jcmp_lt, jcmp_gt, w32_id, jcpy_out, Sum.elim_inl, Sum.elim_inr, jt2, jt3, jt4, jt5, jt6, jt7, jt8] at c4
          refine OK_some ?_
          try dsimp only [Sum.elim_inl, Sum.elim_inr, jt2, jt3, jt4, jt5, jt6, jt7, jt8]
          try dsimp only [Sum.elim_inl, Sum.elim_inr, jt2, jt3, jt4, jt5, jt6, jt7, jt8]
          refine ⟨?_, ?_, ?_⟩
          · (rcases mn3.2 with z | z; { have := z.1; omega }; { exact Or.inr ⟨by omega, Or.inr ⟨by omega, Or.inr ⟨hv2, Or.inl ⟨rfl, z.2⟩⟩⟩⟩ }) -- o11 e3.1
          · exact fun a x y1 y2 => F8 a x (by omega) (by omega) -- o12 e3.2
          · (rw [fr3 _ _ (by omega) (by omega), dh1, jst_eq]) -- o13 e3.3
        · skip
          try simp (disch := omega) only [jst_eq, jst_ne, jst_ni, jI_i, jcmp_lt, jcmp_gt, w32_id, jcpy_out, Sum.elim_inl, Sum.elim_inr, jt2, jt3, jt4, jt5, jt6, jt7, jt8] at c4
          obtain ⟨t, d, N, FN⟩ : ∃ t d N, FND h11 e t d N := by { rcases mn3.2 with z | z; { exact z.2 }; { exact absurd z.1 c4 } }
          have N4 := FN.2.1
          obtain ⟨GM, GQ⟩ := GRI_g mn3.1
          refine OK_jb (vX14_weighNodes (e := e) (t := t) (d := d) (o := h11 825) (N := N) (by exact cuM_f hc (fun a s y => F8 a s (by omega) (by omega))) (by (first | assumption | omega | ((try dsimp only [jt2, jt3, jt4]); first | omega | (simp (disch := omega) only [jst_eq, jst_ne, jst_ni, jst_o, jI_i, jcpy_out, w32_id, jdiv_nn, jshr_k, jand_255] <;> first | done | omega | assumption)) | (intros; simp (disch := omega) only [jst_eq, jst_ne, jst_ni, jst_o, jI_i, jcpy_out, w32_id, jdiv_nn, *] <;> first | done | omega) | (intros; simp (disch := omega) only [jst_eq, jst_ne, jst_ni, jst_o, jI_i, jcpy_out, w32_id, jdiv_nn] at * <;> first | done | omega | assumption) | (intros; first | rfl | (exfalso; omega) | ((repeat' apply And.intro) <;> first | assumption | rfl | omega | trivial)))) (by exact FN) (by (obtain ⟨⟨k1, k2⟩, ⟨k3, k4⟩, k5, k6⟩ := hk.2; exact ⟨⟨by rw [F8 _ _ (by omega) (by omega)]; exact k1, by rw [F8 _ _ (by omega) (by omega)]; exact k2⟩, ⟨by rw [F8 _ _ (by omega) (by omega)]; exact k3, by rw [F8 _ _ (by omega) (by omega)]; exact k4⟩, by rw [F8 _ _ (by omega) (by omega)]; exact k5, by rw [F8 _ _ (by omega) (by omega)]; exact k6⟩)) (by exact GM) (by exact GQ)) (fun h14 r4 => ?_)
          try dsimp only [Sum.elim_inl, Sum.elim_inr, jt2, jt3, jt4, jt5, jt6, jt7, jt8] at r4
          obtain ⟨wq4, fr4⟩ := r4
          try simp (disch := omega) only [jst_eq, jst_ne, jst_ni, jI_i, jcmp_lt, jcmp_gt, w32_id, jcpy_out, Sum.elim_inl, Sum.elim_inr, jt2, jt3, jt4, jt5, jt6, jt7, jt8] at wq4
          try simp (disch := omega) only [jst_eq, jst_ne, jst_ni, jI_i, jcmp_lt, jcmp_gt, w32_id, jcpy_out, Sum.elim_inl, Sum.elim_inr, jt2, jt3, jt4, jt5, jt6, jt7, jt8] at fr4
          have F11 : ∀ a x, ¬ (a = 454 ∧ (x = 51 ∨ x = 114)) → ¬ ((821 ≤ a ∧ a ≤ 840) ∧ 0 ≤ x) → h14 a x = h a x := fun a x y1 y2 => by { rw [fr4 a x (by omega) (by omega)]; exact F8 a x y1 (by omega) }
          have DZ : h14 (830 + a1) 0 = cnP e a1.toNat 0 := by { have z := (wq4 a1.toNat (by omega)).1 0 (by omega) (by omega) (by rw [FN.2.2.1.2]; omega); rw [FN.2.2.1.1, show ((a1.toNat : Nat) : Int) = a1 by omega] at z; exact z }
          rw [DZ]
          refine OK_jg (by (first | assumption | omega | ((try dsimp only [jt2, jt3, jt4]); first | omega | (simp (disch := omega) only [jst_eq, jst_ne, jst_ni, jst_o, jI_i, jcpy_out, w32_id, jdiv_nn, jshr_k, jand_255] <;> first | done | omega | assumption)) | (intros; simp (disch := omega) only [jst_eq, jst_ne, jst_ni, jst_o, jI_i, jcpy_out, w32_id, jdiv_nn, *] <;> first | done | omega) | (intros; simp (disch := omega) only [jst_eq, jst_ne, jst_ni, jst_o, jI_i, jcpy_out, w32_id, jdiv_nn] at * <;> first | done | omega | assumption) | (intros; first | rfl | (exfalso; omega) | ((repeat' apply And.intro) <;> first | assumption | rfl | omega | trivial)))) ?_ -- o20
          refine OK_some ?_
          try dsimp only [Sum.elim_inl, Sum.elim_inr, jt2, jt3, jt4, jt5, jt6, jt7, jt8]
          try dsimp only [Sum.elim_inl, Sum.elim_inr, jt2, jt3, jt4, jt5, jt6, jt7, jt8]
          refine ⟨?_, ?_, ?_⟩
          · exact Or.inr ⟨by omega, Or.inr ⟨by omega, Or.inr ⟨hv2, Or.inr ⟨FND_no FN, rfl⟩⟩⟩⟩ -- o21 e4.1
          · exact fun a x y1 y2 => F11 a x y1 y2 -- o22 e4.2
          · (rw [fr4 _ _ (by omega) (by omega), fr3 _ _ (by omega) (by omega), dh1, jst_eq]) -- o23 e4.3
  · skip
    try simp (disch := omega) only [jst_eq, jst_ne, jst_ni, jI_i, jcmp_lt, jcmp_gt, w32_id, jcpy_out, Sum.elim_inl, Sum.elim_inr, jt2, jt3, jt4, jt5, jt6, jt7, jt8] at c1
    refine OK_some ?_
    try dsimp only [Sum.elim_inl, Sum.elim_inr, jt2, jt3, jt4, jt5, jt6, jt7, jt8]
    try dsimp only [Sum.elim_inl, Sum.elim_inr, jt2, jt3, jt4, jt5, jt6, jt7, jt8]
    refine ⟨?_, ?_, ?_⟩
    · exact Or.inl ⟨by omega, rfl⟩ -- o24 e5.1
    · exact fun a x y1 y2 => F3 a x (by omega) -- o25 e5.2
    · (rw [dh1, jst_eq]) -- o26 e5.3

