/-! the states of words' programs: those that are reached, in a table -/
def rcP (e : CE) : Nat → Int → Prop
  | 0, w => w = 0
  | j + 1, w => ∃ u : Nat, rcP e j u ∧ ∃ m ∈ mvL e u, m.2 = w
def RC (e : CE) (w : Int) : Prop := ∃ j : Nat, j ≤ 4 ∧ rcP e j w
/-- more than four hundred of them -/
def ovf (e : CE) : Prop := ∃ f : Int → Int, (∀ i j, 0 ≤ i → i < j → j ≤ 400 → f i ≠ f j) ∧ ∀ i, 0 ≤ i → i ≤ 400 → RC e (f i)
theorem php : ∀ (N n : Nat) (g : Nat → Nat), (∀ i, i ≤ n → g i < N) → (∀ i j, i < j → j ≤ n → g i ≠ g j) → n < N
  | 0, n, g, h, _ => by have := h 0 (by omega); omega
  | N + 1, 0, g, h, _ => by omega
  | N + 1, m + 1, g, h, d => by
    have z := php N m (fun i => if g i = N then g (m + 1) else g i) (fun i l => by
      have a := h i (by omega)
      have b := h (m + 1) (by omega)
      have c := d i (m + 1) (by omega) (by omega)
      show (if g i = N then g (m + 1) else g i) < N
      by_cases y : g i = N
      · rw [if_pos y]; omega
      · rw [if_neg y]; omega) (fun i j l k => by
      have a := d i j l (by omega)
      have b := d i (m + 1) (by omega) (by omega)
      have c := d j (m + 1) (by omega) (by omega)
      show (if g i = N then g (m + 1) else g i) ≠ (if g j = N then g (m + 1) else g j)
      by_cases y : g i = N
      · rw [if_pos y]
        by_cases z : g j = N
        · omega
        · rw [if_neg z]; omega
      · rw [if_neg y]
        by_cases z : g j = N
        · rw [if_pos z]; omega
        · rw [if_neg z]; omega)
    omega
/-- the table: states, in how many parts they are come to -/
def TI (e : CE) (t d : Int → Int) (N : Int) : Prop := (1 ≤ N ∧ N ≤ 400) ∧ (t 0 = 0 ∧ d 0 = 0) ∧ (∀ k, 0 ≤ k → k < N → (∃ u : Nat, t k = u ∧ stU e u) ∧ (0 ≤ d k ∧ d k ≤ 4) ∧ rcP e (d k).toNat (t k)) ∧ (∀ i j, 0 ≤ i → i < j → j < N → t i ≠ t j) ∧ ∀ i j, 0 ≤ i → i < j → j < N → d i ≤ d j
def prE (t d : Int → Int) (N s : Int) (l : ML) : Prop := ∀ m ∈ l, ∃ j, 0 ≤ j ∧ j < N ∧ t j = m.2 ∧ d j ≤ d s + 1
def dlt (x v : Int) : Int := if v = x then 1 else 0
/-- what leads from a state, counted; the least prices -/
def rwX (W P : Int → Int) (t : Int → Int) (N s : Int) (l : ML) : Prop := ∀ j, 0 ≤ j → j < 400 → (j < N → W (400 * s + j) = smL (dlt (t j)) l ∧ (0 < W (400 * s + j) → (∃ m ∈ l, m.2 = t j ∧ m.1 = P (400 * s + j)) ∧ ∀ m ∈ l, m.2 = t j → P (400 * s + j) ≤ m.1)) ∧ (N ≤ j → W (400 * s + j) = 0)
theorem dlt_b (x v : Int) : 0 ≤ dlt x v ∧ dlt x v ≤ 1 := by
  unfold dlt
  split <;> omega
theorem sm_no {x : Int} : ∀ {l : ML}, (∀ m ∈ l, m.2 ≠ x) → smL (dlt x) l = 0
  | [], _ => rfl
  | m :: l, h => by
    show dlt x m.2 + smL (dlt x) l = 0
    rw [sm_no (l := l) (fun y z => h y (List.mem_cons_of_mem _ z))]
    unfold dlt
    rw [if_neg (h m List.mem_cons_self)]
    rfl
theorem sm_pos {x : Int} : ∀ {l : ML}, (∃ m ∈ l, m.2 = x) → 0 < smL (dlt x) l
  | [], h => by obtain ⟨m, h, _⟩ := h; cases h
  | y :: l, h => by
    show 0 < dlt x y.2 + smL (dlt x) l
    have n := (smL_b (g := dlt x) (B := 1) (by decide) l (fun m _ => dlt_b x m.2)).1
    have b := dlt_b x y.2
    obtain ⟨m, h1, h2⟩ := h
    rcases List.mem_cons.mp h1 with z | z
    · subst z
      have : dlt x m.2 = 1 := if_pos h2
      omega
    · have := sm_pos (x := x) (l := l) ⟨m, z, h2⟩
      omega
/-- the table grows: what was done stays so -/
theorem rwX_e {W P t t' : Int → Int} {d : Int → Int} {N N' s s0 : Int} {l : ML} (h : rwX W P t N s l) (p : prE t d N s0 l) (n : N ≤ N') (e : ∀ k, 0 ≤ k → k < N → t' k = t k) (ds : ∀ i j, 0 ≤ i → i < j → j < N' → t' i ≠ t' j) : rwX W P t' N' s l := by
  intro j j0 j4
  obtain ⟨a, b⟩ := h j j0 j4
  refine ⟨fun l1 => ?_, fun l1 => b (by omega)⟩
  by_cases y : j < N
  · rw [e j j0 y]; exact a y
  · have z := b (by omega)
    have no : ∀ m ∈ l, m.2 ≠ t' j := fun m hm q => by
      obtain ⟨i, i0, i1, i2, _⟩ := p m hm
      have := ds i j i0 (by omega) l1
      rw [e i i0 i1, i2] at this
      exact this q
    exact ⟨by rw [z, sm_no no], fun q => by omega⟩
theorem prE_e {t t' d d' : Int → Int} {N N' s : Int} {l : ML} (p : prE t d N s l) (n : N ≤ N') (s0 : 0 ≤ s ∧ s < N) (e : ∀ k, 0 ≤ k → k < N → t' k = t k ∧ d' k = d k) : prE t' d' N' s l := fun m hm => by
  obtain ⟨j, j0, j1, j2, j3⟩ := p m hm
  exact ⟨j, j0, by omega, by rw [(e j j0 j1).1]; exact j2, by rw [(e j j0 j1).2, (e s s0.1 s0.2).2]; exact j3⟩
/-- rows that are done -/
def FX (W P : Int → Int) (e : CE) (t d : Int → Int) (N s : Int) : Prop := ∀ k, 0 ≤ k → k < s → (d k < 4 → rwX W P t N k (mvL e (t k).toNat) ∧ prE t d N k (mvL e (t k).toNat)) ∧ (d k = 4 → ∀ j, 0 ≤ j → j < 400 → W (400 * k + j) = 0)
theorem FX_e {W P : Int → Int} {e : CE} {t t' d d' : Int → Int} {N N' s : Int} (f : FX W P e t d N s) (sN : s ≤ N) (n : N ≤ N') (x : ∀ k, 0 ≤ k → k < N → t' k = t k ∧ d' k = d k) (ds : ∀ i j, 0 ≤ i → i < j → j < N' → t' i ≠ t' j) : FX W P e t' d' N' s := fun k k0 k1 => by
  obtain ⟨a, b⟩ := f k k0 k1
  rw [(x k k0 (by omega)).1, (x k k0 (by omega)).2]
  refine ⟨fun l => ?_, b⟩
  obtain ⟨a1, a2⟩ := a l
  exact ⟨rwX_e a1 a2 n (fun k k0 k1 => (x k k0 k1).1) ds, prE_e a2 n ⟨k0, by omega⟩ x⟩
theorem FX_c {W P W' P' : Int → Int} {e : CE} {t d : Int → Int} {N s : Int} (f : FX W P e t d N s) (h : ∀ i, i < 400 * s → W' i = W i ∧ P' i = P i) : FX W' P' e t d N s := fun k k0 k1 => by
  obtain ⟨a, b⟩ := f k k0 k1
  refine ⟨fun l => ⟨fun j j0 j4 => ?_, (a l).2⟩, fun l j j0 j4 => by rw [(h _ (by omega)).1]; exact b l j j0 j4⟩
  rw [(h _ (by omega)).1, (h _ (by omega)).2]
  exact (a l).1 j j0 j4
/-- all that is reached is there -/
theorem FX_all {W P : Int → Int} {e : CE} {t d : Int → Int} {N : Int} (ti : TI e t d N) (f : FX W P e t d N N) : ∀ (j : Nat) (w : Int), j ≤ 4 → rcP e j w → ∃ k, 0 ≤ k ∧ k < N ∧ t k = w ∧ d k ≤ j
  | 0, w, _, r => ⟨0, Int.le_refl _, by have := ti.1.1; omega, by rw [ti.2.1.1]; exact (show w = 0 from r).symm, by rw [ti.2.1.2]; exact Int.le_refl _⟩
  | j + 1, w, l, r => by
    obtain ⟨u, r1, m, m1, m2⟩ := r
    obtain ⟨k, k0, k1, k2, k3⟩ := FX_all ti f j u (by omega) r1
    have q := (f k k0 k1).1 (by omega)
    rw [k2] at q
    have eu : ((u : Int)).toNat = u := by omega
    rw [eu] at q
    obtain ⟨i, i0, i1, i2, i3⟩ := q.2 m m1
    exact ⟨i, i0, i1, i2.trans m2, by omega⟩
theorem ovf_no {W P : Int → Int} {e : CE} {t d : Int → Int} {N : Int} (ti : TI e t d N) (f : FX W P e t d N N) : ¬ ovf e := by
  rintro ⟨g, g1, g2⟩
  have ex : ∀ i : Nat, i ≤ 400 → ∃ k : Nat, k < N.toNat ∧ t k = g i := fun i l => by
    obtain ⟨j, j4, r⟩ := g2 i (by omega) (by omega)
    obtain ⟨k, k0, k1, k2, _⟩ := FX_all ti f j _ j4 r
    exact ⟨k.toNat, by omega, by rw [show ((k.toNat : Nat) : Int) = k by omega]; exact k2⟩
  have ch : ∃ c : Nat → Nat, ∀ i, i ≤ 400 → c i < N.toNat ∧ t (c i) = g i := ⟨fun i => if l : i ≤ 400 then Classical.choose (ex i l) else 0, fun i l => by
    show (if l : i ≤ 400 then Classical.choose (ex i l) else 0) < _ ∧ t ((if l : i ≤ 400 then Classical.choose (ex i l) else 0 : Nat) : Int) = _
    rw [dif_pos l]
    exact Classical.choose_spec (ex i l)⟩
  obtain ⟨c, hc⟩ := ch
  have p := php N.toNat 400 c (fun i l => (hc i l).1) (fun i j l k q => by
    have a := (hc i (by omega)).2
    have b := (hc j k).2
    rw [q, b] at a
    exact g1 i j (by omega) (by omega) (by omega) a.symm)
  have := ti.1.2
  omega
def tbC (h : AH) (t d : Int → Int) (N : Int) : Prop := h 408 9 = N ∧ ∀ k, 0 ≤ k → k < N → h 415 k = t k ∧ h 416 k = d k
theorem vX9_place_l3 (i1 : Int) (i3 : Int) (a40 : Int) {h : AH} {t d : Int → Int} {N : Int} (tb : tbC h t d N) (hN : 0 ≤ N ∧ N ≤ 400) (h0 : a40 = 0) : OK (gX9_place_l3 i1 i3 a40 h) (Sum.elim (fun o => 0 ≤ o ∧ o < N ∧ t o = i1) (fun _ => ∀ k, 0 ≤ k → k < N → t k ≠ i1)) := by
  unfold gX9_place_l3
  refine OK_jit (I := (fun (a4 : Int) => (0 ≤ a4 ∧ a4 ≤ N) ∧ (∀ k, 0 ≤ k → k < a4 → t k ≠ i1))) (m := (fun (a4 : Int) => (N - a4).toNat)) ?_ ?_
  · intro a4 hs
    try dsimp only at hs
    obtain ⟨q0, q1⟩ := hs
    unfold gX9_place_b3
    have e9 := tb.1
    refine OK_if (fun c1 => ?_) (fun c1 => ?_)
    · skip
      try simp (disch := omega) only [jst_eq, jst_ne, jst_ni, jI_i, jcmp_lt, jcmp_gt, w32_id, jcpy_out, Sum.elim_inl, Sum.elim_inr, jt2, jt3, jt4, jt5, jt6, jt7, jt8] at c1
      refine OK_ir ?_
      exact fun k k0 k1 => q1 k k0 (by omega) -- o1 e1
    · skip
      try simp (disch := omega) only [jst_eq, jst_ne, jst_ni, jI_i, jcmp_lt, jcmp_gt, w32_id, jcpy_out, Sum.elim_inl, Sum.elim_inr, jt2, jt3, jt4, jt5, jt6, jt7, jt8] at c1
      have T4 := (tb.2 a4 q0.1 (by omega)).1
      rw [T4]
      refine OK_jg (by (first | assumption | omega | ((try dsimp only [jt2, jt3, jt4]); first | omega | (simp (disch := omega) only [jst_eq, jst_ne, jst_ni, jst_o, jI_i, jcpy_out, w32_id, jdiv_nn, jshr_k, jand_255] <;> first | done | omega | assumption)) | (intros; simp (disch := omega) only [jst_eq, jst_ne, jst_ni, jst_o, jI_i, jcpy_out, w32_id, jdiv_nn, *] <;> first | done | omega) | (intros; simp (disch := omega) only [jst_eq, jst_ne, jst_ni, jst_o, jI_i, jcpy_out, w32_id, jdiv_nn] at * <;> first | done | omega | assumption) | (intros; first | rfl | (exfalso; omega) | ((repeat' apply And.intro) <;> first | assumption | rfl | omega | trivial)))) ?_ -- o2
      refine OK_if (fun c2 => ?_) (fun c2 => ?_)
      · skip
        try simp (disch := omega) only [jst_eq, jst_ne, jst_ni, jI_i, jcmp_lt, jcmp_gt, w32_id, jcpy_out, Sum.elim_inl, Sum.elim_inr, jt2, jt3, jt4, jt5, jt6, jt7, jt8] at c2
        refine OK_ir ?_
        exact ⟨q0.1, by omega, jcmp_eq.mp c2⟩ -- o3 e2
      · skip
        try simp (disch := omega) only [jst_eq, jst_ne, jst_ni, jI_i, jcmp_lt, jcmp_gt, w32_id, jcpy_out, Sum.elim_inl, Sum.elim_inr, jt2, jt3, jt4, jt5, jt6, jt7, jt8] at c2
        refine OK_jlx (fun x11 ex11 => ?_)
        try simp (disch := omega) only [jst_eq, jst_ne, jst_ni, jI_i, jcmp_lt, jcmp_gt, w32_id, jcpy_out, Sum.elim_inl, Sum.elim_inr, jt2, jt3, jt4, jt5, jt6, jt7, jt8] at ex11
        refine OK_il ?_ ?_
        · try dsimp only [Sum.elim_inl, Sum.elim_inr, jt2, jt3, jt4, jt5, jt6, jt7, jt8]
          refine ⟨?_, ?_⟩
          · (first | assumption | omega | ((try dsimp only [jt2, jt3, jt4]); first | omega | (simp (disch := omega) only [jst_eq, jst_ne, jst_ni, jst_o, jI_i, jcpy_out, w32_id, jdiv_nn, jshr_k, jand_255] <;> first | done | omega | assumption)) | (intros; simp (disch := omega) only [jst_eq, jst_ne, jst_ni, jst_o, jI_i, jcpy_out, w32_id, jdiv_nn, *] <;> first | done | omega) | (intros; simp (disch := omega) only [jst_eq, jst_ne, jst_ni, jst_o, jI_i, jcpy_out, w32_id, jdiv_nn] at * <;> first | done | omega | assumption) | (intros; first | rfl | (exfalso; omega) | ((repeat' apply And.intro) <;> first | assumption | rfl | omega | trivial))) -- o4 e3i.1
          · (intro k k0 k1; by_cases y : k = a4; { rw [y]; exact fun z => c2 (jcmp_eq.mpr z) }; { exact q1 k k0 (by omega) }) -- o5 e3i.2
        · (first | assumption | omega | ((try dsimp only [jt2, jt3, jt4]); first | omega | (simp (disch := omega) only [jst_eq, jst_ne, jst_ni, jst_o, jI_i, jcpy_out, w32_id, jdiv_nn, jshr_k, jand_255] <;> first | done | omega | assumption)) | (intros; simp (disch := omega) only [jst_eq, jst_ne, jst_ni, jst_o, jI_i, jcpy_out, w32_id, jdiv_nn, *] <;> first | done | omega) | (intros; simp (disch := omega) only [jst_eq, jst_ne, jst_ni, jst_o, jI_i, jcpy_out, w32_id, jdiv_nn] at * <;> first | done | omega | assumption) | (intros; first | rfl | (exfalso; omega) | ((repeat' apply And.intro) <;> first | assumption | rfl | omega | trivial))) -- o6 e3m
  · try dsimp only [Sum.elim_inl, Sum.elim_inr, jt2, jt3, jt4, jt5, jt6, jt7, jt8]
    refine ⟨?_, ?_⟩
    · (first | assumption | omega | ((try dsimp only [jt2, jt3, jt4]); first | omega | (simp (disch := omega) only [jst_eq, jst_ne, jst_ni, jst_o, jI_i, jcpy_out, w32_id, jdiv_nn, jshr_k, jand_255] <;> first | done | omega | assumption)) | (intros; simp (disch := omega) only [jst_eq, jst_ne, jst_ni, jst_o, jI_i, jcpy_out, w32_id, jdiv_nn, *] <;> first | done | omega) | (intros; simp (disch := omega) only [jst_eq, jst_ne, jst_ni, jst_o, jI_i, jcpy_out, w32_id, jdiv_nn] at * <;> first | done | omega | assumption) | (intros; first | rfl | (exfalso; omega) | ((repeat' apply And.intro) <;> first | assumption | rfl | omega | trivial))) -- o7 init.1
    · (intro k k0 k1; omega) -- o8 init.2
theorem vX9_place (a1 : Int) (a3 : Int) {h : AH} {t d : Int → Int} {N : Int} (tb : tbC h t d N) (hN : 0 ≤ N ∧ N ≤ 400) : OK (gX9_place a1 a3 h) (fun r => jt2 r fun v h' => (0 ≤ v ∧ v < N ∧ t v = a1 ∧ h' = h) ∨ (v = -1 ∧ N = 400 ∧ (∀ k, 0 ≤ k → k < N → t k ≠ a1) ∧ h' = h) ∨ (v = N ∧ N < 400 ∧ (∀ k, 0 ≤ k → k < N → t k ≠ a1) ∧ tbC h' (up1 t N a1) (up1 d N a3) (N + 1) ∧ ∀ a s, ¬ ((a = 415 ∨ a = 416) ∧ s = N) → ¬ (a = 408 ∧ s = 9) → h' a s = h a s)) := by
  have e9 := tb.1
  unfold gX9_place
  refine OK_jb (vX9_place_l3 (t := t) (d := d) (N := N) _ _ _ (by (first | assumption | omega | ((try dsimp only [jt2, jt3, jt4]); first | omega | (simp (disch := omega) only [jst_eq, jst_ne, jst_ni, jst_o, jI_i, jcpy_out, w32_id, jdiv_nn, jshr_k, jand_255] <;> first | done | omega | assumption)) | (intros; simp (disch := omega) only [jst_eq, jst_ne, jst_ni, jst_o, jI_i, jcpy_out, w32_id, jdiv_nn, *] <;> first | done | omega) | (intros; simp (disch := omega) only [jst_eq, jst_ne, jst_ni, jst_o, jI_i, jcpy_out, w32_id, jdiv_nn] at * <;> first | done | omega | assumption) | (intros; first | rfl | (exfalso; omega) | ((repeat' apply And.intro) <;> first | assumption | rfl | omega | trivial)))) (by (first | assumption | omega | ((try dsimp only [jt2, jt3, jt4]); first | omega | (simp (disch := omega) only [jst_eq, jst_ne, jst_ni, jst_o, jI_i, jcpy_out, w32_id, jdiv_nn, jshr_k, jand_255] <;> first | done | omega | assumption)) | (intros; simp (disch := omega) only [jst_eq, jst_ne, jst_ni, jst_o, jI_i, jcpy_out, w32_id, jdiv_nn, *] <;> first | done | omega) | (intros; simp (disch := omega) only [jst_eq, jst_ne, jst_ni, jst_o, jI_i, jcpy_out, w32_id, jdiv_nn] at * <;> first | done | omega | assumption) | (intros; first | rfl | (exfalso; omega) | ((repeat' apply And.intro) <;> first | assumption | rfl | omega | trivial)))) (by (first | assumption | omega | ((try dsimp only [jt2, jt3, jt4]); first | omega | (simp (disch := omega) only [jst_eq, jst_ne, jst_ni, jst_o, jI_i, jcpy_out, w32_id, jdiv_nn, jshr_k, jand_255] <;> first | done | omega | assumption)) | (intros; simp (disch := omega) only [jst_eq, jst_ne, jst_ni, jst_o, jI_i, jcpy_out, w32_id, jdiv_nn, *] <;> first | done | omega) | (intros; simp (disch := omega) only [jst_eq, jst_ne, jst_ni, jst_o, jI_i, jcpy_out, w32_id, jdiv_nn] at * <;> first | done | omega | assumption) | (intros; first | rfl | (exfalso; omega) | ((repeat' apply And.intro) <;> first | assumption | rfl | omega | trivial))))) (fun o1 r1 => ?_)
  rcases o1 with o3 | o4
  · skip
    have r2 := r1; clear r1
    dsimp only [Sum.elim_inl, Sum.elim_inr] at r2
    try dsimp only [Sum.elim_inl, Sum.elim_inr, jt2, jt3, jt4, jt5, jt6, jt7, jt8] at r2
    have ye1 := r2
    clear r2
    try simp (disch := omega) only [jst_eq, jst_ne, jst_ni, jI_i, jcmp_lt, jcmp_gt, w32_id, jcpy_out, Sum.elim_inl, Sum.elim_inr, jt2, jt3, jt4, jt5, jt6, jt7, jt8] at ye1
    refine OK_jml ?_
    refine OK_some ?_
    try dsimp only [Sum.elim_inl, Sum.elim_inr, jt2, jt3, jt4, jt5, jt6, jt7, jt8]
    exact Or.inl ⟨ye1.1, ye1.2.1, ye1.2.2, rfl⟩ -- o4 e1
  · skip
    have r3 := r1; clear r1
    dsimp only [Sum.elim_inl, Sum.elim_inr] at r3
    try dsimp only [Sum.elim_inl, Sum.elim_inr, jt2, jt3, jt4, jt5, jt6, jt7, jt8] at r3
    have no2 := r3
    clear r3
    try simp (disch := omega) only [jst_eq, jst_ne, jst_ni, jI_i, jcmp_lt, jcmp_gt, w32_id, jcpy_out, Sum.elim_inl, Sum.elim_inr, jt2, jt3, jt4, jt5, jt6, jt7, jt8] at no2
    refine OK_jmr ?_
    refine OK_if (fun c1 => ?_) (fun c1 => ?_)
    · skip
      try simp (disch := omega) only [jst_eq, jst_ne, jst_ni, jI_i, jcmp_lt, jcmp_gt, w32_id, jcpy_out, Sum.elim_inl, Sum.elim_inr, jt2, jt3, jt4, jt5, jt6, jt7, jt8] at c1
      refine OK_some ?_
      try dsimp only [Sum.elim_inl, Sum.elim_inr, jt2, jt3, jt4, jt5, jt6, jt7, jt8]
      exact Or.inr (Or.inl ⟨rfl, by omega, no2, rfl⟩) -- o5 e2
    · skip
      try simp (disch := omega) only [jst_eq, jst_ne, jst_ni, jI_i, jcmp_lt, jcmp_gt, w32_id, jcpy_out, Sum.elim_inl, Sum.elim_inr, jt2, jt3, jt4, jt5, jt6, jt7, jt8] at c1
      have F8 : w32 (N + 1) = N + 1 := w32_id (by omega) (by omega)
      refine OK_jg (by (first | assumption | omega | ((try dsimp only [jt2, jt3, jt4]); first | omega | (simp (disch := omega) only [jst_eq, jst_ne, jst_ni, jst_o, jI_i, jcpy_out, w32_id, jdiv_nn, jshr_k, jand_255] <;> first | done | omega | assumption)) | (intros; simp (disch := omega) only [jst_eq, jst_ne, jst_ni, jst_o, jI_i, jcpy_out, w32_id, jdiv_nn, *] <;> first | done | omega) | (intros; simp (disch := omega) only [jst_eq, jst_ne, jst_ni, jst_o, jI_i, jcpy_out, w32_id, jdiv_nn] at * <;> first | done | omega | assumption) | (intros; first | rfl | (exfalso; omega) | ((repeat' apply And.intro) <;> first | assumption | rfl | omega | trivial)))) ?_ -- o6
      refine OK_jl ?_
      refine OK_jg (by (first | assumption | omega | ((try dsimp only [jt2, jt3, jt4]); first | omega | (simp (disch := omega) only [jst_eq, jst_ne, jst_ni, jst_o, jI_i, jcpy_out, w32_id, jdiv_nn, jshr_k, jand_255] <;> first | done | omega | assumption)) | (intros; simp (disch := omega) only [jst_eq, jst_ne, jst_ni, jst_o, jI_i, jcpy_out, w32_id, jdiv_nn, *] <;> first | done | omega) | (intros; simp (disch := omega) only [jst_eq, jst_ne, jst_ni, jst_o, jI_i, jcpy_out, w32_id, jdiv_nn] at * <;> first | done | omega | assumption) | (intros; first | rfl | (exfalso; omega) | ((repeat' apply And.intro) <;> first | assumption | rfl | omega | trivial)))) ?_ -- o7
      refine OK_jl ?_
      refine OK_jl ?_
      try simp (disch := omega) only [jst_ne, jst_ni, jst_eq, e9, F8]
      refine OK_some ?_
      try dsimp only [Sum.elim_inl, Sum.elim_inr, jt2, jt3, jt4, jt5, jt6, jt7, jt8]
      (refine Or.inr (Or.inr ⟨by rfl, by omega, no2, ⟨by rw [jst_eq], fun k k0 k1 => ?_⟩, fun a s y1 y2 => by rw [jst_o (by omega), jst_o (by omega), jst_o (by omega)]⟩); by_cases y : k = N; { rw [y, up1_e, up1_e, jst_ne (by decide), jst_ne (by decide), jst_eq, jst_ne (by decide), jst_eq]; exact ⟨rfl, rfl⟩ }; { rw [up1_o y, up1_o y, jst_ne (by decide), jst_ne (by decide), jst_ni y, jst_ne (by decide), jst_ni y]; exact tb.2 k k0 (by omega) }) -- o8 e3

