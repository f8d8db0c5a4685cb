/-! x: how many programs, the least prices -/
def sumN (f : Int → Int) : Nat → Int
  | 0 => 0
  | n + 1 => sumN f n + f n
theorem sumN_add (f g : Int → Int) : ∀ n, sumN (fun j => f j + g j) n = sumN f n + sumN g n
  | 0 => rfl
  | n + 1 => by
    show sumN (fun j => f j + g j) n + (f n + g n) = sumN f n + f n + (sumN g n + g n)
    rw [sumN_add f g n]; omega
theorem sumN_0 {f : Int → Int} : ∀ {n : Nat}, (∀ j, 0 ≤ j → j < (n : Int) → f j = 0) → sumN f n = 0
  | 0, _ => rfl
  | n + 1, h => by
    show sumN f n + f n = 0
    rw [sumN_0 (n := n) (fun j a b => h j a (by omega)), h n (by omega) (by omega)]; rfl
theorem sumN_1 {f : Int → Int} {i : Int} : ∀ {n : Nat}, 0 ≤ i → i < (n : Int) → (∀ j, 0 ≤ j → j < (n : Int) → j ≠ i → f j = 0) → sumN f n = f i
  | 0, a, b, _ => by omega
  | n + 1, a, b, h => by
    show sumN f n + f n = f i
    by_cases y : i = n
    · rw [sumN_0 (n := n) (fun j p q => h j p (by omega) (by omega)), y]; omega
    · rw [sumN_1 (n := n) a (by omega) (fun j p q r => h j p (by omega) r), h n (by omega) (by omega) (fun z => y z.symm)]; omega
theorem sumN_c {f g : Int → Int} : ∀ {n : Nat}, (∀ j, 0 ≤ j → j < (n : Int) → f j = g j) → sumN f n = sumN g n
  | 0, _ => rfl
  | n + 1, h => by
    show sumN f n + f n = sumN g n + g n
    rw [sumN_c (n := n) (fun j a b => h j a (by omega)), h n (by omega) (by omega)]
theorem sumN_m {f : Int → Int} {n : Nat} (h : ∀ j, 0 ≤ j → 0 ≤ f j) : ∀ {m : Nat}, n ≤ m → sumN f n ≤ sumN f m
  | 0, l => by rw [show n = 0 by omega]; exact Int.le_refl _
  | m + 1, l => by
    by_cases y : n = m + 1
    · rw [y]; exact Int.le_refl _
    · have := sumN_m (f := f) (n := n) h (m := m) (by omega)
      have := h m (by omega)
      show sumN f n ≤ sumN f m + f m
      omega
theorem sumN_n {f : Int → Int} (h : ∀ j, 0 ≤ j → 0 ≤ f j) (n : Nat) : 0 ≤ sumN f n := sumN_m (n := 0) h (by omega)
theorem sm_tab {t G : Int → Int} {N : Nat} (ds : ∀ i j, 0 ≤ i → i < j → j < (N : Int) → t i ≠ t j) : ∀ {l : ML}, (∀ m ∈ l, ∃ j, 0 ≤ j ∧ j < (N : Int) ∧ t j = m.2) → sumN (fun j => smL (dlt (t j)) l * G (t j)) N = smL G l
  | [], _ => sumN_0 (fun j _ _ => Int.zero_mul _)
  | m :: l, h => by
    have e : sumN (fun j => smL (dlt (t j)) (m :: l) * G (t j)) N = sumN (fun j => dlt (t j) m.2 * G (t j) + smL (dlt (t j)) l * G (t j)) N := sumN_c (fun j _ _ => by
      show (dlt (t j) m.2 + smL (dlt (t j)) l) * G (t j) = _
      rw [Int.add_mul])
    rw [e, sumN_add (fun j => dlt (t j) m.2 * G (t j)) (fun j => smL (dlt (t j)) l * G (t j)), sm_tab ds (l := l) (fun m' z => h m' (List.mem_cons_of_mem _ z))]
    obtain ⟨i, i0, i1, i2⟩ := h m List.mem_cons_self
    have s1 : sumN (fun j => dlt (t j) m.2 * G (t j)) N = dlt (t i) m.2 * G (t i) := sumN_1 i0 i1 (fun j j0 j1 ne => by
      have d0 : dlt (t j) m.2 = 0 := by
        refine if_neg ?_
        rw [← i2]
        rcases Int.lt_or_gt_of_ne ne with q | q
        · exact fun z => ds j i j0 q i1 z.symm
        · exact ds i j i0 q j1
      show dlt (t j) m.2 * G (t j) = 0
      rw [d0, Int.zero_mul])
    rw [s1]
    have d1 : dlt (t i) m.2 = 1 := if_pos i2.symm
    rw [d1, Int.one_mul, i2]
    rfl
theorem smL_0 {G : Int → Int} : ∀ {l : ML}, (∀ m ∈ l, G m.2 = 0) → smL G l = 0
  | [], _ => rfl
  | m :: l, h => by
    show G m.2 + smL G l = 0
    rw [h m List.mem_cons_self, smL_0 (l := l) (fun m' z => h m' (List.mem_cons_of_mem _ z))]
    rfl
/-- the end is not reached -/
theorem cn_no {W P : Int → Int} {e : CE} {t d : Int → Int} {N : Int} (ti : TI e t d N) (f : FX W P e t d N N) (no : ∀ k, 0 ≤ k → k < N → t k ≠ (endU e : Nat)) : ∀ (k : Nat) (s : Int), 0 ≤ s → s < N → d s + k ≤ 4 → cnP e k (t s) = 0 ∧ chP e k (t s) = 1000000
  | 0, s, s0, s1, _ => ⟨if_neg (no s s0 s1), if_neg (no s s0 s1)⟩
  | k + 1, s, s0, s1, l => by
    have q := ((f s s0 s1).1 (by omega)).2
    have z : ∀ m ∈ mvL e (t s).toNat, cnP e k m.2 = 0 ∧ chP e k m.2 = 1000000 := fun m hm => by
      obtain ⟨j, j0, j1, j2, j3⟩ := q m hm
      rw [← j2]
      exact cn_no ti f no k j j0 j1 (by omega)
    refine ⟨smL_0 (fun m hm => (z m hm).1), ?_⟩
    show mnL (chP e k) (mvL e (t s).toNat) = 1000000
    obtain ⟨u, tu, su⟩ := (ti.2.2.1 s s0 s1).1
    refine (mnL_u (Int.le_refl _) (fun m hm => ?_) (Or.inl rfl)).symm
    rw [(z m hm).2]
    by_cases y : 0 ≤ m.1
    · omega
    · exfalso
      rcases mvL_m.mp hm with ⟨n, n1, n2, n3, n4⟩ | ⟨a, b, _, _, _, _, _, n4⟩
      · rw [n4] at y; exact y (by show 0 ≤ 2 * (n : Int); omega)
      · rw [n4] at y
        exact y (by show 0 ≤ spR a + spR b; unfold spR; split <;> split <;> omega)
theorem chP_b {e : CE} (v : vCE e) : ∀ (k : Nat) (u : Int), 0 ≤ chP e k u ∧ chP e k u ≤ 1000000
  | 0, u => by
    unfold chP
    split <;> omega
  | k + 1, u => by
    show 0 ≤ mnL (chP e k) (mvL e u.toNat) ∧ mnL (chP e k) (mvL e u.toNat) ≤ 1000000
    obtain ⟨a, b, c⟩ := mnL_le (chP e k) (mvL e u.toNat)
    refine ⟨?_, a⟩
    rcases c with c | ⟨m, m1, m2⟩
    · omega
    · have q := (mvI_s v (mvL_m.mp m1)).1
      have := (chP_b v k m.2).1
      omega
theorem vX9_end_l4 (a10 : Int) (a30 : Int) {h : AH} {e : CE} (hc : cuX h e) (hv : vCE e) (h0 : a10 = 0 ∧ a30 = 0) : OK (gX9_end_l4 a10 a30 h) (fun r => r = ((endU e : Nat) : Int)) := by
  have n8 := hv.1
  unfold gX9_end_l4
  refine OK_jit (I := (fun (s : Int × Int) => jt2 s fun a1 a3 => (0 ≤ a3 ∧ a3 ≤ e.1) ∧ (jr64 a1 ∧ ∀ j, j < 16 → nb (uL a1) j = if j < a3.toNat then (e.2.2.2.2 j).toNat % 16 else 0))) (m := (fun (s : Int × Int) => jt2 s fun a1 a3 => (e.1 - a3).toNat)) ?_ ?_
  · intro s hs
    obtain ⟨a1, a3⟩ := s
    dsimp only [Sum.elim_inl, Sum.elim_inr, jt2, jt3, jt4, jt5, jt6, jt7, jt8] at hs
    obtain ⟨q0, q1⟩ := hs
    unfold gX9_end_b4
    refine OK_jt2 ?_
    have c0 := hc.1
    have e3 : ((a3.toNat : Nat) : Int) = a3 := by omega
    refine OK_if (fun c1 => ?_) (fun c1 => ?_)
    · skip
      try simp (disch := omega) only [jst_eq, jst_ne, jst_ni, jI_i, jcmp_lt, jcmp_gt, w32_id, jcpy_out, Sum.elim_inl, Sum.elim_inr, jt2, jt3, jt4, jt5, jt6, jt7, jt8] at c1
      refine OK_ir ?_
      (rw [show a3.toNat = e.1.toNat by omega] at q1; exact st_of hv (fun r l => by have := (hv.2 r (by omega) l).2.1; omega) q1.1 q1.2) -- o1 e1
    · skip
      try simp (disch := omega) only [jst_eq, jst_ne, jst_ni, jI_i, jcmp_lt, jcmp_gt, w32_id, jcpy_out, Sum.elim_inl, Sum.elim_inr, jt2, jt3, jt4, jt5, jt6, jt7, jt8] at c1
      obtain ⟨_, r2, _, _⟩ := hc.2 a3 q0.1 (by omega)
      have s2 := (hv.2 a3 q0.1 (by omega)).2.1
      have G : h 412 a3 = (((e.2.2.2.2 (a3.toNat : Nat)).toNat % 16 : Nat) : Int) := by { rw [e3, r2]; omega }
      refine OK_jg (by (first | assumption | omega | ((try dsimp only [jt2, jt3, jt4]); first | omega | (simp (disch := omega) only [jst_eq, jst_ne, jst_ni, jst_o, jI_i, jcpy_out, w32_id, jdiv_nn, jshr_k, jand_255] <;> first | done | omega | assumption)) | (intros; simp (disch := omega) only [jst_eq, jst_ne, jst_ni, jst_o, jI_i, jcpy_out, w32_id, jdiv_nn, *] <;> first | done | omega) | (intros; simp (disch := omega) only [jst_eq, jst_ne, jst_ni, jst_o, jI_i, jcpy_out, w32_id, jdiv_nn] at * <;> first | done | omega | assumption) | (intros; first | rfl | (exfalso; omega) | ((repeat' apply And.intro) <;> first | assumption | rfl | omega | trivial)))) ?_ -- o2
      refine OK_jlx (fun x8 ex8 => ?_)
      try simp (disch := omega) only [jst_eq, jst_ne, jst_ni, jI_i, jcmp_lt, jcmp_gt, w32_id, jcpy_out, Sum.elim_inl, Sum.elim_inr, jt2, jt3, jt4, jt5, jt6, jt7, jt8] at ex8
      refine OK_jlx (fun x9 ex9 => ?_)
      try simp (disch := omega) only [jst_eq, jst_ne, jst_ni, jI_i, jcmp_lt, jcmp_gt, w32_id, jcpy_out, Sum.elim_inl, Sum.elim_inr, jt2, jt3, jt4, jt5, jt6, jt7, jt8] at ex9
      refine OK_il ?_ ?_
      · try dsimp only [Sum.elim_inl, Sum.elim_inr, jt2, jt3, jt4, jt5, jt6, jt7, jt8]
        refine ⟨?_, ?_⟩
        · (first | assumption | omega | ((try dsimp only [jt2, jt3, jt4]); first | omega | (simp (disch := omega) only [jst_eq, jst_ne, jst_ni, jst_o, jI_i, jcpy_out, w32_id, jdiv_nn, jshr_k, jand_255] <;> first | done | omega | assumption)) | (intros; simp (disch := omega) only [jst_eq, jst_ne, jst_ni, jst_o, jI_i, jcpy_out, w32_id, jdiv_nn, *] <;> first | done | omega) | (intros; simp (disch := omega) only [jst_eq, jst_ne, jst_ni, jst_o, jI_i, jcpy_out, w32_id, jdiv_nn] at * <;> first | done | omega | assumption) | (intros; first | rfl | (exfalso; omega) | ((repeat' apply And.intro) <;> first | assumption | rfl | omega | trivial))) -- o3 e2i.1
        · (rw [ex8, G, show 4 * a3 = ((4 * a3.toNat : Nat) : Int) by omega, show x9.toNat = a3.toNat + 1 by omega]; exact ⟨jorL_r _ _, orS (f := fun j => (e.2.2.2.2 (j : Nat)).toNat % 16) (by omega) (fun j _ => Nat.mod_lt _ (by decide)) q1.2⟩) -- o4 e2i.2
      · (first | assumption | omega | ((try dsimp only [jt2, jt3, jt4]); first | omega | (simp (disch := omega) only [jst_eq, jst_ne, jst_ni, jst_o, jI_i, jcpy_out, w32_id, jdiv_nn, jshr_k, jand_255] <;> first | done | omega | assumption)) | (intros; simp (disch := omega) only [jst_eq, jst_ne, jst_ni, jst_o, jI_i, jcpy_out, w32_id, jdiv_nn, *] <;> first | done | omega) | (intros; simp (disch := omega) only [jst_eq, jst_ne, jst_ni, jst_o, jI_i, jcpy_out, w32_id, jdiv_nn] at * <;> first | done | omega | assumption) | (intros; first | rfl | (exfalso; omega) | ((repeat' apply And.intro) <;> first | assumption | rfl | omega | trivial))) -- o5 e2m
  · try dsimp only [Sum.elim_inl, Sum.elim_inr, jt2, jt3, jt4, jt5, jt6, jt7, jt8]
    refine ⟨?_, ?_⟩
    · (first | assumption | omega | ((try dsimp only [jt2, jt3, jt4]); first | omega | (simp (disch := omega) only [jst_eq, jst_ne, jst_ni, jst_o, jI_i, jcpy_out, w32_id, jdiv_nn, jshr_k, jand_255] <;> first | done | omega | assumption)) | (intros; simp (disch := omega) only [jst_eq, jst_ne, jst_ni, jst_o, jI_i, jcpy_out, w32_id, jdiv_nn, *] <;> first | done | omega) | (intros; simp (disch := omega) only [jst_eq, jst_ne, jst_ni, jst_o, jI_i, jcpy_out, w32_id, jdiv_nn] at * <;> first | done | omega | assumption) | (intros; first | rfl | (exfalso; omega) | ((repeat' apply And.intro) <;> first | assumption | rfl | omega | trivial))) -- o6 init.1
    · (rw [h0.1, h0.2]; exact ⟨runL_r 0 0 |>.2, orS0 _⟩) -- o7 init.2
theorem vX9_end_l34 (i1 : Int) (a30 : Int) {h : AH} {t d : Int → Int} {N : Int} (tb : tbC h t d N) (hN : 0 ≤ N ∧ N ≤ 400) (h0 : a30 = 0) : OK (gX9_end_l34 i1 a30 h) (Sum.elim (fun o => 0 ≤ o ∧ o < N ∧ t o = i1) (fun _ => ∀ k, 0 ≤ k → k < N → t k ≠ i1)) := by
  unfold gX9_end_l34
  refine OK_jit (I := (fun (a3 : Int) => (0 ≤ a3 ∧ a3 ≤ N) ∧ (∀ k, 0 ≤ k → k < a3 → t k ≠ i1))) (m := (fun (a3 : Int) => (N - a3).toNat)) ?_ ?_
  · intro a3 hs
    try dsimp only at hs
    obtain ⟨q0, q1⟩ := hs
    unfold gX9_end_b34
    have e9 := tb.1
    refine OK_if (fun c1 => ?_) (fun c1 => ?_)
    · skip
      try simp (disch := omega) only [jst_eq, jst_ne, jst_ni, jI_i, jcmp_lt, jcmp_gt, w32_id, jcpy_out, Sum.elim_inl, Sum.elim_inr, jt2, jt3, jt4, jt5, jt6, jt7, jt8] at c1
      refine OK_ir ?_
      exact fun k k0 k1 => q1 k k0 (by omega) -- o1 e1
    · skip
      try simp (disch := omega) only [jst_eq, jst_ne, jst_ni, jI_i, jcmp_lt, jcmp_gt, w32_id, jcpy_out, Sum.elim_inl, Sum.elim_inr, jt2, jt3, jt4, jt5, jt6, jt7, jt8] at c1
      have T4 := (tb.2 a3 q0.1 (by omega)).1
      rw [T4]
      refine OK_jg (by (first | assumption | omega | ((try dsimp only [jt2, jt3, jt4]); first | omega | (simp (disch := omega) only [jst_eq, jst_ne, jst_ni, jst_o, jI_i, jcpy_out, w32_id, jdiv_nn, jshr_k, jand_255] <;> first | done | omega | assumption)) | (intros; simp (disch := omega) only [jst_eq, jst_ne, jst_ni, jst_o, jI_i, jcpy_out, w32_id, jdiv_nn, *] <;> first | done | omega) | (intros; simp (disch := omega) only [jst_eq, jst_ne, jst_ni, jst_o, jI_i, jcpy_out, w32_id, jdiv_nn] at * <;> first | done | omega | assumption) | (intros; first | rfl | (exfalso; omega) | ((repeat' apply And.intro) <;> first | assumption | rfl | omega | trivial)))) ?_ -- o2
      refine OK_if (fun c2 => ?_) (fun c2 => ?_)
      · skip
        try simp (disch := omega) only [jst_eq, jst_ne, jst_ni, jI_i, jcmp_lt, jcmp_gt, w32_id, jcpy_out, Sum.elim_inl, Sum.elim_inr, jt2, jt3, jt4, jt5, jt6, jt7, jt8] at c2
        refine OK_ir ?_
        exact ⟨q0.1, by omega, jcmp_eq.mp c2⟩ -- o3 e2
      · skip
        try simp (disch := omega) only [jst_eq, jst_ne, jst_ni, jI_i, jcmp_lt, jcmp_gt, w32_id, jcpy_out, Sum.elim_inl, Sum.elim_inr, jt2, jt3, jt4, jt5, jt6, jt7, jt8] at c2
        refine OK_jlx (fun x12 ex12 => ?_)
        try simp (disch := omega) only [jst_eq, jst_ne, jst_ni, jI_i, jcmp_lt, jcmp_gt, w32_id, jcpy_out, Sum.elim_inl, Sum.elim_inr, jt2, jt3, jt4, jt5, jt6, jt7, jt8] at ex12
        refine OK_il ?_ ?_
        · try dsimp only [Sum.elim_inl, Sum.elim_inr, jt2, jt3, jt4, jt5, jt6, jt7, jt8]
          refine ⟨?_, ?_⟩
          · (first | assumption | omega | ((try dsimp only [jt2, jt3, jt4]); first | omega | (simp (disch := omega) only [jst_eq, jst_ne, jst_ni, jst_o, jI_i, jcpy_out, w32_id, jdiv_nn, jshr_k, jand_255] <;> first | done | omega | assumption)) | (intros; simp (disch := omega) only [jst_eq, jst_ne, jst_ni, jst_o, jI_i, jcpy_out, w32_id, jdiv_nn, *] <;> first | done | omega) | (intros; simp (disch := omega) only [jst_eq, jst_ne, jst_ni, jst_o, jI_i, jcpy_out, w32_id, jdiv_nn] at * <;> first | done | omega | assumption) | (intros; first | rfl | (exfalso; omega) | ((repeat' apply And.intro) <;> first | assumption | rfl | omega | trivial))) -- o4 e3i.1
          · (intro k k0 k1; by_cases y : k = a3; { rw [y]; exact fun z => c2 (jcmp_eq.mpr z) }; { exact q1 k k0 (by omega) }) -- o5 e3i.2
        · (first | assumption | omega | ((try dsimp only [jt2, jt3, jt4]); first | omega | (simp (disch := omega) only [jst_eq, jst_ne, jst_ni, jst_o, jI_i, jcpy_out, w32_id, jdiv_nn, jshr_k, jand_255] <;> first | done | omega | assumption)) | (intros; simp (disch := omega) only [jst_eq, jst_ne, jst_ni, jst_o, jI_i, jcpy_out, w32_id, jdiv_nn, *] <;> first | done | omega) | (intros; simp (disch := omega) only [jst_eq, jst_ne, jst_ni, jst_o, jI_i, jcpy_out, w32_id, jdiv_nn] at * <;> first | done | omega | assumption) | (intros; first | rfl | (exfalso; omega) | ((repeat' apply And.intro) <;> first | assumption | rfl | omega | trivial))) -- o6 e3m
  · try dsimp only [Sum.elim_inl, Sum.elim_inr, jt2, jt3, jt4, jt5, jt6, jt7, jt8]
    refine ⟨?_, ?_⟩
    · (first | assumption | omega | ((try dsimp only [jt2, jt3, jt4]); first | omega | (simp (disch := omega) only [jst_eq, jst_ne, jst_ni, jst_o, jI_i, jcpy_out, w32_id, jdiv_nn, jshr_k, jand_255] <;> first | done | omega | assumption)) | (intros; simp (disch := omega) only [jst_eq, jst_ne, jst_ni, jst_o, jI_i, jcpy_out, w32_id, jdiv_nn, *] <;> first | done | omega) | (intros; simp (disch := omega) only [jst_eq, jst_ne, jst_ni, jst_o, jI_i, jcpy_out, w32_id, jdiv_nn] at * <;> first | done | omega | assumption) | (intros; first | rfl | (exfalso; omega) | ((repeat' apply And.intro) <;> first | assumption | rfl | omega | trivial))) -- o7 init.1
    · (intro k k0 k1; omega) -- o8 init.2
theorem vX9_end {h : AH} {e : CE} {t d : Int → Int} {N : Int} (hc : cuX h e) (hv : vCE e) (tb : tbC h t d N) (hN : 0 ≤ N ∧ N ≤ 400) : OK (gX9_end h) (fun v => (0 ≤ v ∧ v < N ∧ t v = ((endU e : Nat) : Int)) ∨ (v = -1 ∧ ∀ k, 0 ≤ k → k < N → t k ≠ ((endU e : Nat) : Int))) := by
  unfold gX9_end
  refine OK_jb (vX9_end_l4 (e := e) _ _ (by (first | assumption | omega | ((try dsimp only [jt2, jt3, jt4]); first | omega | (simp (disch := omega) only [jst_eq, jst_ne, jst_ni, jst_o, jI_i, jcpy_out, w32_id, jdiv_nn, jshr_k, jand_255] <;> first | done | omega | assumption)) | (intros; simp (disch := omega) only [jst_eq, jst_ne, jst_ni, jst_o, jI_i, jcpy_out, w32_id, jdiv_nn, *] <;> first | done | omega) | (intros; simp (disch := omega) only [jst_eq, jst_ne, jst_ni, jst_o, jI_i, jcpy_out, w32_id, jdiv_nn] at * <;> first | done | omega | assumption) | (intros; first | rfl | (exfalso; omega) | ((repeat' apply And.intro) <;> first | assumption | rfl | omega | trivial)))) (by (first | assumption | omega | ((try dsimp only [jt2, jt3, jt4]); first | omega | (simp (disch := omega) only [jst_eq, jst_ne, jst_ni, jst_o, jI_i, jcpy_out, w32_id, jdiv_nn, jshr_k, jand_255] <;> first | done | omega | assumption)) | (intros; simp (disch := omega) only [jst_eq, jst_ne, jst_ni, jst_o, jI_i, jcpy_out, w32_id, jdiv_nn, *] <;> first | done | omega) | (intros; simp (disch := omega) only [jst_eq, jst_ne, jst_ni, jst_o, jI_i, jcpy_out, w32_id, jdiv_nn] at * <;> first | done | omega | assumption) | (intros; first | rfl | (exfalso; omega) | ((repeat' apply And.intro) <;> first | assumption | rfl | omega | trivial)))) (by exact ⟨rfl, rfl⟩)) (fun o1 r1 => ?_)
  try dsimp only [Sum.elim_inl, Sum.elim_inr, jt2, jt3, jt4, jt5, jt6, jt7, jt8] at r1
  have v1 := r1
  clear r1
  try simp (disch := omega) only [jst_eq, jst_ne, jst_ni, jI_i, jcmp_lt, jcmp_gt, w32_id, jcpy_out, Sum.elim_inl, Sum.elim_inr, jt2, jt3, jt4, jt5, jt6, jt7, jt8] at v1
  have V1 : o1 = ((endU e : Nat) : Int) := by { first | exact v1 | assumption }
  rw [V1]
  refine OK_jb (vX9_end_l34 (t := t) (d := d) (N := N) _ _ (by (first | assumption | omega | ((try dsimp only [jt2, jt3, jt4]); first | omega | (simp (disch := omega) only [jst_eq, jst_ne, jst_ni, jst_o, jI_i, jcpy_out, w32_id, jdiv_nn, jshr_k, jand_255] <;> first | done | omega | assumption)) | (intros; simp (disch := omega) only [jst_eq, jst_ne, jst_ni, jst_o, jI_i, jcpy_out, w32_id, jdiv_nn, *] <;> first | done | omega) | (intros; simp (disch := omega) only [jst_eq, jst_ne, jst_ni, jst_o, jI_i, jcpy_out, w32_id, jdiv_nn] at * <;> first | done | omega | assumption) | (intros; first | rfl | (exfalso; omega) | ((repeat' apply And.intro) <;> first | assumption | rfl | omega | trivial)))) (by (first | assumption | omega | ((try dsimp only [jt2, jt3, jt4]); first | omega | (simp (disch := omega) only [jst_eq, jst_ne, jst_ni, jst_o, jI_i, jcpy_out, w32_id, jdiv_nn, jshr_k, jand_255] <;> first | done | omega | assumption)) | (intros; simp (disch := omega) only [jst_eq, jst_ne, jst_ni, jst_o, jI_i, jcpy_out, w32_id, jdiv_nn, *] <;> first | done | omega) | (intros; simp (disch := omega) only [jst_eq, jst_ne, jst_ni, jst_o, jI_i, jcpy_out, w32_id, jdiv_nn] at * <;> first | done | omega | assumption) | (intros; first | rfl | (exfalso; omega) | ((repeat' apply And.intro) <;> first | assumption | rfl | omega | trivial)))) (by (first | assumption | omega | ((try dsimp only [jt2, jt3, jt4]); first | omega | (simp (disch := omega) only [jst_eq, jst_ne, jst_ni, jst_o, jI_i, jcpy_out, w32_id, jdiv_nn, jshr_k, jand_255] <;> first | done | omega | assumption)) | (intros; simp (disch := omega) only [jst_eq, jst_ne, jst_ni, jst_o, jI_i, jcpy_out, w32_id, jdiv_nn, *] <;> first | done | omega) | (intros; simp (disch := omega) only [jst_eq, jst_ne, jst_ni, jst_o, jI_i, jcpy_out, w32_id, jdiv_nn] at * <;> first | done | omega | assumption) | (intros; first | rfl | (exfalso; omega) | ((repeat' apply And.intro) <;> first | assumption | rfl | omega | trivial))))) (fun o3 r2 => ?_)
  rcases o3 with o5 | o6
  · skip
    have r3 := r2; clear r2
    dsimp only [Sum.elim_inl, Sum.elim_inr] at r3
    try dsimp only [Sum.elim_inl, Sum.elim_inr, jt2, jt3, jt4, jt5, jt6, jt7, jt8] at r3
    have ye2 := r3
    clear r3
    try simp (disch := omega) only [jst_eq, jst_ne, jst_ni, jI_i, jcmp_lt, jcmp_gt, w32_id, jcpy_out, Sum.elim_inl, Sum.elim_inr, jt2, jt3, jt4, jt5, jt6, jt7, jt8] at ye2
    refine OK_jml ?_
    refine OK_some ?_
    try dsimp only [Sum.elim_inl, Sum.elim_inr, jt2, jt3, jt4, jt5, jt6, jt7, jt8]
    exact Or.inl ye2 -- o7 e1
  · skip
    have r4 := r2; clear r2
    dsimp only [Sum.elim_inl, Sum.elim_inr] at r4
    try dsimp only [Sum.elim_inl, Sum.elim_inr, jt2, jt3, jt4, jt5, jt6, jt7, jt8] at r4
    have no3 := r4
    clear r4
    try simp (disch := omega) only [jst_eq, jst_ne, jst_ni, jI_i, jcmp_lt, jcmp_gt, w32_id, jcpy_out, Sum.elim_inl, Sum.elim_inr, jt2, jt3, jt4, jt5, jt6, jt7, jt8] at no3
    refine OK_jmr ?_
    refine OK_some ?_
    try dsimp only [Sum.elim_inl, Sum.elim_inr, jt2, jt3, jt4, jt5, jt6, jt7, jt8]
    exact Or.inr ⟨rfl, no3⟩ -- o8 e2
/-- a row of counts that is right as far as it is asked -/
def cok (c : Int → Int) (e : CE) (t d : Int → Int) (N : Int) (k : Nat) : Prop := ∀ s, 0 ≤ s → s < N → d s + k ≤ 4 → c (400 * k + s) = cnP e k (t s)
theorem vX9_count_l14 (i1 : Int) (i2 : Int) (a30 : Int) {h0 : AH} {e : CE} {t d : Int → Int} {N : Int} (tb : tbC h0 t d N) (ti : TI e t d N) (hi : 0 ≤ i2 ∧ i2 < N ∧ t i2 = ((endU e : Nat) : Int)) (h3 : a30 = 0) : OK (gX9_count_l14 i1 i2 a30 h0) (fun h' => (cok (h' 420) e t d N 0) ∧ (∀ a s, ¬ (a = 420 ∧ 0 ≤ s ∧ s < 400) → h' a s = h0 a s)) := by
  have N4 := ti.1
  unfold gX9_count_l14
  refine OK_jit (I := (fun (s : Int × AH) => jt2 s fun a3 h => (0 ≤ a3 ∧ a3 ≤ N) ∧ (∀ s, 0 ≤ s → s < a3 → h 420 s = cnP e 0 (t s)) ∧ (∀ a s, ¬ (a = 420 ∧ 0 ≤ s ∧ s < 400) → h a s = h0 a s))) (m := (fun (s : Int × AH) => jt2 s fun a3 h => (N - a3).toNat)) ?_ ?_
  · intro s hs
    obtain ⟨a3, h⟩ := s
    dsimp only [Sum.elim_inl, Sum.elim_inr, jt2, jt3, jt4, jt5, jt6, jt7, jt8] at hs
    obtain ⟨q0, q1, fr⟩ := hs
    unfold gX9_count_b14
    refine OK_jt2 ?_
    have e9 : h 408 9 = N := by rw [fr _ _ (by omega)]; exact tb.1
    refine OK_if (fun c1 => ?_) (fun c1 => ?_)
    · skip
      try simp (disch := omega) only [jst_eq, jst_ne, jst_ni, jI_i, jcmp_lt, jcmp_gt, w32_id, jcpy_out, Sum.elim_inl, Sum.elim_inr, jt2, jt3, jt4, jt5, jt6, jt7, jt8] at c1
      refine OK_ir ?_
      try dsimp only [Sum.elim_inl, Sum.elim_inr, jt2, jt3, jt4, jt5, jt6, jt7, jt8]
      refine ⟨?_, ?_⟩
      · exact fun s s0 s1 _ => by rw [show 400 * ((0 : Nat) : Int) + s = s by omega]; exact q1 s s0 (by omega) -- o1 e1.1
      · (first | assumption | omega | ((try dsimp only [jt2, jt3, jt4]); first | omega | (simp (disch := omega) only [jst_eq, jst_ne, jst_ni, jst_o, jI_i, jcpy_out, w32_id, jdiv_nn, jshr_k, jand_255] <;> first | done | omega | assumption)) | (intros; simp (disch := omega) only [jst_eq, jst_ne, jst_ni, jst_o, jI_i, jcpy_out, w32_id, jdiv_nn, *] <;> first | done | omega) | (intros; simp (disch := omega) only [jst_eq, jst_ne, jst_ni, jst_o, jI_i, jcpy_out, w32_id, jdiv_nn] at * <;> first | done | omega | assumption) | (intros; first | rfl | (exfalso; omega) | ((repeat' apply And.intro) <;> first | assumption | rfl | omega | trivial))) -- o2 e1.2
    · skip
      try simp (disch := omega) only [jst_eq, jst_ne, jst_ni, jI_i, jcmp_lt, jcmp_gt, w32_id, jcpy_out, Sum.elim_inl, Sum.elim_inr, jt2, jt3, jt4, jt5, jt6, jt7, jt8] at c1
      refine OK_if (fun c2 => ?_) (fun c2 => ?_)
      · skip
        try simp (disch := omega) only [jst_eq, jst_ne, jst_ni, jI_i, jcmp_lt, jcmp_gt, w32_id, jcpy_out, Sum.elim_inl, Sum.elim_inr, jt2, jt3, jt4, jt5, jt6, jt7, jt8] at c2
        unfold gX9_count_j37_14
        refine OK_jg (by (first | assumption | omega | ((try dsimp only [jt2, jt3, jt4]); first | omega | (simp (disch := omega) only [jst_eq, jst_ne, jst_ni, jst_o, jI_i, jcpy_out, w32_id, jdiv_nn, jshr_k, jand_255] <;> first | done | omega | assumption)) | (intros; simp (disch := omega) only [jst_eq, jst_ne, jst_ni, jst_o, jI_i, jcpy_out, w32_id, jdiv_nn, *] <;> first | done | omega) | (intros; simp (disch := omega) only [jst_eq, jst_ne, jst_ni, jst_o, jI_i, jcpy_out, w32_id, jdiv_nn] at * <;> first | done | omega | assumption) | (intros; first | rfl | (exfalso; omega) | ((repeat' apply And.intro) <;> first | assumption | rfl | omega | trivial)))) ?_ -- o3
        refine OK_jl ?_
        refine OK_jlx (fun x11 ex11 => ?_)
        try simp (disch := omega) only [jst_eq, jst_ne, jst_ni, jI_i, jcmp_lt, jcmp_gt, w32_id, jcpy_out, Sum.elim_inl, Sum.elim_inr, jt2, jt3, jt4, jt5, jt6, jt7, jt8] at ex11
        refine OK_il ?_ ?_
        · try dsimp only [Sum.elim_inl, Sum.elim_inr, jt2, jt3, jt4, jt5, jt6, jt7, jt8]
          refine ⟨?_, ?_, ?_⟩
          · (first | assumption | omega | ((try dsimp only [jt2, jt3, jt4]); first | omega | (simp (disch := omega) only [jst_eq, jst_ne, jst_ni, jst_o, jI_i, jcpy_out, w32_id, jdiv_nn, jshr_k, jand_255] <;> first | done | omega | assumption)) | (intros; simp (disch := omega) only [jst_eq, jst_ne, jst_ni, jst_o, jI_i, jcpy_out, w32_id, jdiv_nn, *] <;> first | done | omega) | (intros; simp (disch := omega) only [jst_eq, jst_ne, jst_ni, jst_o, jI_i, jcpy_out, w32_id, jdiv_nn] at * <;> first | done | omega | assumption) | (intros; first | rfl | (exfalso; omega) | ((repeat' apply And.intro) <;> first | assumption | rfl | omega | trivial))) -- o4 e2i.1
          · (intro s s0 s1; by_cases y : s = a3; { rw [y, jst_eq, c2]; show _ = if t i2 = ((endU e : Nat) : Int) then (1 : Int) else 0; rw [if_pos hi.2.2] }; { rw [jst_ni y]; exact q1 s s0 (by omega) }) -- o5 e2i.2
          · exact fun a s y => by rw [jst_o (by omega)]; exact fr a s y -- o6 e2i.3
        · (first | assumption | omega | ((try dsimp only [jt2, jt3, jt4]); first | omega | (simp (disch := omega) only [jst_eq, jst_ne, jst_ni, jst_o, jI_i, jcpy_out, w32_id, jdiv_nn, jshr_k, jand_255] <;> first | done | omega | assumption)) | (intros; simp (disch := omega) only [jst_eq, jst_ne, jst_ni, jst_o, jI_i, jcpy_out, w32_id, jdiv_nn, *] <;> first | done | omega) | (intros; simp (disch := omega) only [jst_eq, jst_ne, jst_ni, jst_o, jI_i, jcpy_out, w32_id, jdiv_nn] at * <;> first | done | omega | assumption) | (intros; first | rfl | (exfalso; omega) | ((repeat' apply And.intro) <;> first | assumption | rfl | omega | trivial))) -- o7 e2m
      · skip
        try simp (disch := omega) only [jst_eq, jst_ne, jst_ni, jI_i, jcmp_lt, jcmp_gt, w32_id, jcpy_out, Sum.elim_inl, Sum.elim_inr, jt2, jt3, jt4, jt5, jt6, jt7, jt8] at c2
        have nE : t a3 ≠ ((endU e : Nat) : Int) := by { rw [← hi.2.2]; rcases Int.lt_or_gt_of_ne c2 with q | q; { exact ti.2.2.2.1 a3 i2 q0.1 q hi.2.1 }; { exact fun z => ti.2.2.2.1 i2 a3 hi.1 q (by omega) z.symm } }
        unfold gX9_count_j37_14
        refine OK_jg (by (first | assumption | omega | ((try dsimp only [jt2, jt3, jt4]); first | omega | (simp (disch := omega) only [jst_eq, jst_ne, jst_ni, jst_o, jI_i, jcpy_out, w32_id, jdiv_nn, jshr_k, jand_255] <;> first | done | omega | assumption)) | (intros; simp (disch := omega) only [jst_eq, jst_ne, jst_ni, jst_o, jI_i, jcpy_out, w32_id, jdiv_nn, *] <;> first | done | omega) | (intros; simp (disch := omega) only [jst_eq, jst_ne, jst_ni, jst_o, jI_i, jcpy_out, w32_id, jdiv_nn] at * <;> first | done | omega | assumption) | (intros; first | rfl | (exfalso; omega) | ((repeat' apply And.intro) <;> first | assumption | rfl | omega | trivial)))) ?_ -- o8
        refine OK_jl ?_
        refine OK_jlx (fun x11 ex11 => ?_)
        try simp (disch := omega) only [jst_eq, jst_ne, jst_ni, jI_i, jcmp_lt, jcmp_gt, w32_id, jcpy_out, Sum.elim_inl, Sum.elim_inr, jt2, jt3, jt4, jt5, jt6, jt7, jt8] at ex11
        refine OK_il ?_ ?_
        · try dsimp only [Sum.elim_inl, Sum.elim_inr, jt2, jt3, jt4, jt5, jt6, jt7, jt8]
          refine ⟨?_, ?_, ?_⟩
          · (first | assumption | omega | ((try dsimp only [jt2, jt3, jt4]); first | omega | (simp (disch := omega) only [jst_eq, jst_ne, jst_ni, jst_o, jI_i, jcpy_out, w32_id, jdiv_nn, jshr_k, jand_255] <;> first | done | omega | assumption)) | (intros; simp (disch := omega) only [jst_eq, jst_ne, jst_ni, jst_o, jI_i, jcpy_out, w32_id, jdiv_nn, *] <;> first | done | omega) | (intros; simp (disch := omega) only [jst_eq, jst_ne, jst_ni, jst_o, jI_i, jcpy_out, w32_id, jdiv_nn] at * <;> first | done | omega | assumption) | (intros; first | rfl | (exfalso; omega) | ((repeat' apply And.intro) <;> first | assumption | rfl | omega | trivial))) -- o9 e3i.1
          · (intro s s0 s1; by_cases y : s = a3; { rw [y, jst_eq]; show _ = if t a3 = ((endU e : Nat) : Int) then (1 : Int) else 0; rw [if_neg nE] }; { rw [jst_ni y]; exact q1 s s0 (by omega) }) -- o10 e3i.2
          · exact fun a s y => by rw [jst_o (by omega)]; exact fr a s y -- o11 e3i.3
        · (first | assumption | omega | ((try dsimp only [jt2, jt3, jt4]); first | omega | (simp (disch := omega) only [jst_eq, jst_ne, jst_ni, jst_o, jI_i, jcpy_out, w32_id, jdiv_nn, jshr_k, jand_255] <;> first | done | omega | assumption)) | (intros; simp (disch := omega) only [jst_eq, jst_ne, jst_ni, jst_o, jI_i, jcpy_out, w32_id, jdiv_nn, *] <;> first | done | omega) | (intros; simp (disch := omega) only [jst_eq, jst_ne, jst_ni, jst_o, jI_i, jcpy_out, w32_id, jdiv_nn] at * <;> first | done | omega | assumption) | (intros; first | rfl | (exfalso; omega) | ((repeat' apply And.intro) <;> first | assumption | rfl | omega | trivial))) -- o12 e3m
  · try dsimp only [Sum.elim_inl, Sum.elim_inr, jt2, jt3, jt4, jt5, jt6, jt7, jt8]
    refine ⟨?_, ?_, ?_⟩
    · (first | assumption | omega | ((try dsimp only [jt2, jt3, jt4]); first | omega | (simp (disch := omega) only [jst_eq, jst_ne, jst_ni, jst_o, jI_i, jcpy_out, w32_id, jdiv_nn, jshr_k, jand_255] <;> first | done | omega | assumption)) | (intros; simp (disch := omega) only [jst_eq, jst_ne, jst_ni, jst_o, jI_i, jcpy_out, w32_id, jdiv_nn, *] <;> first | done | omega) | (intros; simp (disch := omega) only [jst_eq, jst_ne, jst_ni, jst_o, jI_i, jcpy_out, w32_id, jdiv_nn] at * <;> first | done | omega | assumption) | (intros; first | rfl | (exfalso; omega) | ((repeat' apply And.intro) <;> first | assumption | rfl | omega | trivial))) -- o13 init.1
    · (intro s s0 s1; omega) -- o14 init.2
    · exact fun _ _ _ => rfl -- o15 init.3

