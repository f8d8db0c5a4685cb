/-! what rows of acts come to, level by level, each once -/
section BFS
variable {A B F Y : Int → Int} {cd : Int → Nat} {b : Int → Int}
def sndL (A B F Y : Int → Int) (cd : Int → Nat) (b : Int → Int) (j : Nat) (e : Int) : Prop := cd e < 18 ^ j ∧ (A e, B e) = runL j (cd e) ∧ (0 < j → (b ((j : Int) - 1) ≤ F e ∧ F e < b j) ∧ (0 ≤ Y e ∧ Y e < 18) ∧ cd e = 18 * cd (F e) + (Y e).toNat)
def FUL (A B F Y : Int → Int) (cd : Int → Nat) (b : Int → Int) (L : Nat) : Prop := b 0 = 0 ∧ (∀ j : Nat, j < L → b j ≤ b ((j : Int) + 1)) ∧ (∀ j : Nat, j < L → ∀ e, b j ≤ e → e < b ((j : Int) + 1) → sndL A B F Y cd b j e) ∧ (∀ j : Nat, j < L → ∀ e e', b j ≤ e → e < e' → e' < b ((j : Int) + 1) → cd e < cd e') ∧ ∀ j : Nat, j < L → ∀ C, C < 18 ^ j → ∃ i : Nat, i ≤ j ∧ ∃ e, b i ≤ e ∧ e < b ((i : Int) + 1) ∧ (A e, B e) = runL j C ∧ (i = j → cd e ≤ C)
theorem inc_sz {lo hi : Int} {M : Nat} (h : ∀ e e', lo ≤ e → e < e' → e' < hi → cd e < cd e') (m : ∀ e, lo ≤ e → e < hi → cd e < M) : hi - lo ≤ M := by
  have key : ∀ n : Nat, lo + n < hi → n ≤ cd (lo + n) := by
    intro n
    induction n with
    | zero => intro _; omega
    | succ n ih =>
      intro l
      have h1 := ih (by omega)
      have h2 := h (lo + n) (lo + (n + 1 : Nat)) (by omega) (by omega) (by omega)
      omega
  by_cases y : lo < hi
  · have h1 := key (hi - lo - 1).toNat (by omega)
    have h2 := m (lo + (hi - lo - 1).toNat) (by omega) (by omega)
    omega
  · omega
def szB : Nat → Int
  | 0 => 0
  | n + 1 => szB n + (18 ^ n : Nat)
theorem FUL_lt {L M : Nat} (h : FUL A B F Y cd b L) (l : M ≤ L) : FUL A B F Y cd b M := ⟨h.1, fun j x => h.2.1 j (by omega), fun j x => h.2.2.1 j (by omega), fun j x => h.2.2.2.1 j (by omega), fun j x => h.2.2.2.2 j (by omega)⟩
theorem FUL_sz : ∀ {L : Nat}, FUL A B F Y cd b L → 0 ≤ b L ∧ b L ≤ szB L
  | 0, h => by
    have e : b ((0 : Nat) : Int) = 0 := h.1
    rw [e]
    exact ⟨Int.le_refl _, Int.le_refl _⟩
  | L + 1, h => by
    have h1 := FUL_sz (FUL_lt h (show L ≤ L + 1 by omega))
    have h2 := h.2.1 L (by omega)
    have h3 := inc_sz (M := 18 ^ L) (h.2.2.2.1 L (by omega)) (fun e x y => (h.2.2.1 L (by omega) e x y).1)
    have e : b ((L + 1 : Nat) : Int) = b ((L : Int) + 1) := by rw [show ((L + 1 : Nat) : Int) = (L : Int) + 1 by omega]
    rw [e]
    show 0 ≤ b ((L : Int) + 1) ∧ b ((L : Int) + 1) ≤ szB L + (18 ^ L : Nat)
    omega
theorem FUL_m {L : Nat} (h : FUL A B F Y cd b L) : ∀ {i j : Nat}, i ≤ j → j ≤ L → b i ≤ b j
  | i, 0, l, _ => by rw [show i = 0 by omega]; exact Int.le_refl _
  | i, j + 1, l, k => by
    by_cases y : i = j + 1
    · rw [y]; exact Int.le_refl _
    · have h1 := FUL_m h (i := i) (j := j) (by omega) (by omega)
      have h2 := h.2.1 j (by omega)
      rw [show ((j + 1 : Nat) : Int) = (j : Int) + 1 by omega]
      omega
theorem FUL_at : ∀ {L : Nat}, FUL A B F Y cd b L → ∀ e, 0 ≤ e → e < b L → ∃ i : Nat, i < L ∧ b i ≤ e ∧ e < b ((i : Int) + 1)
  | 0, h, e, e0, e1 => by
    have z : b ((0 : Nat) : Int) = 0 := h.1
    omega
  | L + 1, h, e, e0, e1 => by
    by_cases y : b L ≤ e
    · exact ⟨L, by omega, y, e1⟩
    · obtain ⟨i, i1, i2⟩ := FUL_at (FUL_lt h (show L ≤ L + 1 by omega)) e e0 (by omega)
      exact ⟨i, by omega, i2⟩
/-- functions that agree on what is there -/
theorem sndL_c {A' B' F' Y' : Int → Int} {cd' : Int → Nat} {b' : Int → Int} {j : Nat} {e N : Int} (h : sndL A B F Y cd b j e) (e0 : 0 ≤ e) (e1 : e < N) (bj : ∀ i : Nat, i ≤ j → b' i = b i) (b0 : 0 < j → 0 ≤ b ((j : Int) - 1)) (eq : ∀ k, 0 ≤ k → k < N → A' k = A k ∧ B' k = B k ∧ F' k = F k ∧ Y' k = Y k ∧ cd' k = cd k) (bN : b j ≤ N) : sndL A' B' F' Y' cd' b' j e := by
  obtain ⟨h1, h2, h3⟩ := h
  obtain ⟨q1, q2, q3, q4, q5⟩ := eq e e0 e1
  unfold sndL
  rw [q1, q2, q3, q4, q5]
  refine ⟨h1, h2, fun j0 => ?_⟩
  obtain ⟨r1, r2, r3⟩ := h3 j0
  have z0 := b0 j0
  have f := eq (F e) (by omega) (by omega)
  have u1 := bj j (Nat.le_refl _)
  have u2 : b' ((j : Int) - 1) = b ((j : Int) - 1) := by
    have := bj (j - 1) (by omega)
    rw [show ((j - 1 : Nat) : Int) = (j : Int) - 1 by omega] at this
    exact this
  rw [f.2.2.2.2, u1, u2]
  exact ⟨r1, r2, r3⟩
theorem FUL_c {A' B' F' Y' : Int → Int} {cd' : Int → Nat} {b' : Int → Int} {L : Nat} {N : Int} (h : FUL A B F Y cd b L) (bN : b L ≤ N) (bj : ∀ i : Nat, i ≤ L → b' i = b i) (eq : ∀ k, 0 ≤ k → k < N → A' k = A k ∧ B' k = B k ∧ F' k = F k ∧ Y' k = Y k ∧ cd' k = cd k) : FUL A' B' F' Y' cd' b' L := by
  have bs : ∀ j : Nat, j < L → b' ((j : Int) + 1) = b ((j : Int) + 1) := fun j x => by
    have := bj (j + 1) (by omega)
    rw [show ((j + 1 : Nat) : Int) = (j : Int) + 1 by omega] at this
    exact this
  have b00 : ∀ j : Nat, j ≤ L → 0 ≤ b j := fun j x => (FUL_sz (FUL_lt h x)).1
  have bl : ∀ j : Nat, j ≤ L → b j ≤ N := fun j x => Int.le_trans (FUL_m h x (Nat.le_refl _)) bN
  have bls : ∀ j : Nat, j < L → b ((j : Int) + 1) ≤ N := fun j x => by
    have := bl (j + 1) (by omega)
    rw [show ((j + 1 : Nat) : Int) = (j : Int) + 1 by omega] at this
    exact this
  have ind : ∀ j : Nat, j < L → ∀ e, b j ≤ e → e < b ((j : Int) + 1) → 0 ≤ e ∧ e < N := fun j x e y z => by
    have := b00 j (by omega)
    have := bls j x
    omega
  refine ⟨?_, fun j x => ?_, fun j x e y z => ?_, fun j x e e' y z w => ?_, fun j x C hC => ?_⟩
  · have := bj 0 (by omega)
    exact this.trans h.1
  · rw [bj j (by omega), bs j x]; exact h.2.1 j x
  · rw [bj j (by omega)] at y
    rw [bs j x] at z
    obtain ⟨i1, i2⟩ := ind j x e y z
    refine sndL_c (h.2.2.1 j x e y z) i1 i2 (fun i k => bj i (by omega)) (fun j0 => ?_) eq (bl j (by omega))
    have := b00 (j - 1) (by omega)
    rw [show ((j - 1 : Nat) : Int) = (j : Int) - 1 by omega] at this
    exact this
  · rw [bj j (by omega)] at y
    rw [bs j x] at w
    obtain ⟨i1, i2⟩ := ind j x e y (by omega)
    obtain ⟨i3, i4⟩ := ind j x e' (by omega) w
    rw [(eq e i1 i2).2.2.2.2, (eq e' i3 i4).2.2.2.2]
    exact h.2.2.2.1 j x e e' y z w
  · obtain ⟨i, i1, e, e1, e2, e3, e4⟩ := h.2.2.2.2 j x C hC
    obtain ⟨n1, n2⟩ := ind i (by omega) e e1 e2
    refine ⟨i, i1, e, by rw [bj i (by omega)]; exact e1, by rw [bs i (by omega)]; exact e2, ?_, fun z => ?_⟩
    · rw [(eq e n1 n2).1, (eq e n1 n2).2.1]; exact e3
    · rw [(eq e n1 n2).2.2.2.2]; exact e4 z
/-- a level that is made: so far -/
def PLv (A B F Y : Int → Int) (cd : Int → Nat) (b : Int → Int) (L : Nat) (N k x : Int) : Prop := FUL A B F Y cd b L ∧ 0 < L ∧ b L ≤ N ∧ (b ((L : Int) - 1) ≤ k ∧ k ≤ b L) ∧ (0 ≤ x ∧ x ≤ 18) ∧ (∀ e, b L ≤ e → e < N → sndL A B F Y cd b L e ∧ (F e < k ∨ (F e = k ∧ Y e < x))) ∧ (∀ e e', b L ≤ e → e < e' → e' < N → cd e < cd e') ∧ ∀ k' x', b ((L : Int) - 1) ≤ k' → k' < b L → 0 ≤ x' → x' < 18 → (k' < k ∨ (k' = k ∧ x' < x)) → ∃ e, 0 ≤ e ∧ e < N ∧ (A e, B e) = stpL x'.toNat (A k', B k') ∧ (b L ≤ e → cd e ≤ 18 * cd k' + x'.toNat)
theorem PLv_0 {L : Nat} (h : FUL A B F Y cd b L) (l : 0 < L) : PLv A B F Y cd b L (b L) (b ((L : Int) - 1)) 0 := by
  have m := FUL_m h (i := L - 1) (j := L) (by omega) (Nat.le_refl _)
  rw [show ((L - 1 : Nat) : Int) = (L : Int) - 1 by omega] at m
  exact ⟨h, l, Int.le_refl _, ⟨Int.le_refl _, m⟩, by omega, fun e x y => by omega, fun e e' x y z => by omega, fun k' x' y1 y2 y3 y4 y5 => by omega⟩
theorem PLv_k {L : Nat} {N k : Int} (h : PLv A B F Y cd b L N k 18) (l : k < b L) : PLv A B F Y cd b L N (k + 1) 0 := by
  obtain ⟨h1, h2, h3, h4, h5, h6, h7, h8⟩ := h
  refine ⟨h1, h2, h3, by omega, by omega, fun e x y => ⟨(h6 e x y).1, ?_⟩, h7, fun k' x' y1 y2 y3 y4 y5 => h8 k' x' y1 y2 y3 y4 (by omega)⟩
  have := (h6 e x y).2
  omega
theorem PLv_b {L : Nat} {N k x : Int} (h : PLv A B F Y cd b L N k x) : 0 ≤ b L ∧ N ≤ szB (L + 1) := by
  obtain ⟨h1, h2, h3, h4, h5, h6, h7, h8⟩ := h
  have s := FUL_sz h1
  have := inc_sz (M := 18 ^ L) h7 (fun e x y => (h6 e x y).1.1)
  refine ⟨s.1, ?_⟩
  show N ≤ szB L + (18 ^ L : Nat)
  omega
theorem PLv_cd {L : Nat} {N k x e : Int} (h : PLv A B F Y cd b L N k x) (kl : k < b L) (e0 : b L ≤ e) (e1 : e < N) : cd e < 18 * cd k + x.toNat := by
  obtain ⟨h1, h2, h3, h4, h5, h6, h7, h8⟩ := h
  obtain ⟨s, z⟩ := h6 e e0 e1
  obtain ⟨s1, s2, s3⟩ := s.2.2 h2
  rcases z with z | z
  · have := h1.2.2.2.1 (L - 1) (by omega) (F e) k (by rw [show ((L - 1 : Nat) : Int) = (L : Int) - 1 by omega]; exact s1.1) z (by rw [show ((L - 1 : Nat) : Int) + 1 = (L : Int) by omega]; exact kl)
    omega
  · rw [s3, z.1]; omega
/-- it is there -/
theorem PLv_f {L : Nat} {N k x e : Int} (h : PLv A B F Y cd b L N k x) (kl : k < b L) (x1 : x < 18) (e0 : 0 ≤ e) (e1 : e < N) (eq : (A e, B e) = stpL x.toNat (A k, B k)) : PLv A B F Y cd b L N k (x + 1) := by
  have hh := h
  obtain ⟨h1, h2, h3, h4, h5, h6, h7, h8⟩ := h
  refine ⟨h1, h2, h3, h4, by omega, fun e x y => ⟨(h6 e x y).1, ?_⟩, h7, fun k' x' y1 y2 y3 y4 y5 => ?_⟩
  · have := (h6 e x y).2
    omega
  · by_cases y : k' = k ∧ x' = x
    · rw [y.1, y.2]
      exact ⟨e, e0, e1, eq, fun z => Nat.le_of_lt (PLv_cd hh kl z e1)⟩
    · exact h8 k' x' y1 y2 y3 y4 (by omega)
/-- it is new -/
theorem PLv_n {A' B' F' Y' : Int → Int} {L : Nat} {N k x : Int} (h : PLv A B F Y cd b L N k x) (kl : k < b L) (x1 : x < 18) (eq : ∀ k, 0 ≤ k → k < N → A' k = A k ∧ B' k = B k ∧ F' k = F k ∧ Y' k = Y k) (e : (A' N, B' N) = stpL x.toNat (A k, B k)) (eF : F' N = k) (eY : Y' N = x) : PLv A' B' F' Y' (up1 cd N (18 * cd k + x.toNat)) b L (N + 1) k (x + 1) := by
  have hh := h
  have bb := PLv_b h
  obtain ⟨h1, h2, h3, h4, h5, h6, h7, h8⟩ := h
  have eq2 : ∀ k', 0 ≤ k' → k' < N → A' k' = A k' ∧ B' k' = B k' ∧ F' k' = F k' ∧ Y' k' = Y k' ∧ up1 cd N (18 * cd k + x.toNat) k' = cd k' := fun k' y1 y2 => by
    obtain ⟨q1, q2, q3, q4⟩ := eq k' y1 y2
    exact ⟨q1, q2, q3, q4, up1_o (by omega)⟩
  have bm : 0 ≤ b ((L : Int) - 1) := by
    have := (FUL_sz (FUL_lt h1 (show L - 1 ≤ L by omega))).1
    rw [show ((L - 1 : Nat) : Int) = (L : Int) - 1 by omega] at this
    exact this
  have sk := h1.2.2.1 (L - 1) (by omega) k (by rw [show ((L - 1 : Nat) : Int) = (L : Int) - 1 by omega]; exact h4.1) (by rw [show ((L - 1 : Nat) : Int) + 1 = (L : Int) by omega]; exact kl)
  refine ⟨FUL_c h1 h3 (fun _ _ => rfl) eq2, h2, by omega, h4, by omega, fun e' y1 y2 => ?_, fun e1 e2 y1 y2 y3 => ?_, fun k' x' y1 y2 y3 y4 y5 => ?_⟩
  · by_cases y : e' = N
    · rw [y]
      refine ⟨⟨?_, ?_, fun _ => ⟨by rw [eF]; exact ⟨h4.1, kl⟩, by rw [eY]; omega, ?_⟩⟩, Or.inr ⟨eF, by omega⟩⟩
      · rw [up1_e]
        have z := sk.1
        have p := p18 (L - 1)
        rw [show L - 1 + 1 = L by omega] at p
        omega
      · rw [up1_e, e]
        have z := runL_s (n := L - 1) (P := cd k) (c := x.toNat) (by omega)
        rw [show L - 1 + 1 = L by omega] at z
        rw [z, ← sk.2.1]
      · rw [up1_e, eF, up1_o (by omega), eY]
    · obtain ⟨s, z⟩ := h6 e' y1 (by omega)
      refine ⟨sndL_c s (by omega) (by omega) (fun _ _ => rfl) (fun _ => bm) eq2 h3, ?_⟩
      have q := eq2 e' (by omega) (by omega)
      rw [q.2.2.1, q.2.2.2.1]
      omega
  · by_cases y : e2 = N
    · rw [y, up1_e, up1_o (by omega)]
      exact PLv_cd hh kl y1 (by omega)
    · rw [up1_o y, up1_o (by omega)]
      exact h7 e1 e2 y1 y2 (by omega)
  · have qk := eq2 k' (by omega) (by omega)
    rw [qk.1, qk.2.1, qk.2.2.2.2]
    by_cases y : k' = k ∧ x' = x
    · rw [y.1, y.2]
      exact ⟨N, by omega, by omega, e, fun _ => by rw [up1_e]; exact Nat.le_refl _⟩
    · obtain ⟨e', z1, z2, z3, z4⟩ := h8 k' x' y1 y2 y3 y4 (by omega)
      have q := eq2 e' z1 z2
      exact ⟨e', z1, by omega, by rw [q.1, q.2.1]; exact z3, fun w => by rw [q.2.2.2.2]; exact z4 w⟩
/-- the level is done -/
theorem PLv_e {L : Nat} {N : Int} {b' : Int → Int} (h : PLv A B F Y cd b L N (b L) 0) (bj : ∀ i : Nat, i ≤ L → b' i = b i) (bN : b' ((L : Int) + 1) = N) : FUL A B F Y cd b' (L + 1) := by
  obtain ⟨h1, h2, h3, h4, h5, h6, h7, h8⟩ := h
  have f := FUL_c (A' := A) (B' := B) (F' := F) (Y' := Y) (cd' := cd) h1 (Int.le_refl _) bj (fun _ _ _ => ⟨rfl, rfl, rfl, rfl, rfl⟩)
  have bL := bj L (Nat.le_refl _)
  refine ⟨f.1, fun j x => ?_, fun j x e y z => ?_, fun j x e e' y z w => ?_, fun j x C hC => ?_⟩
  · by_cases y : j = L
    · rw [y, bN, bL]; exact h3
    · exact f.2.1 j (by omega)
  · by_cases q : j = L
    · subst q
      rw [bN] at z
      rw [bL] at y
      have bm : 0 ≤ b ((j : Int) - 1) := by
        have := (FUL_sz (FUL_lt h1 (show j - 1 ≤ j by omega))).1
        rw [show ((j - 1 : Nat) : Int) = (j : Int) - 1 by omega] at this
        exact this
      have b0 := (FUL_sz h1).1
      exact sndL_c (h6 e y z).1 (by omega) z bj (fun _ => bm) (fun _ _ _ => ⟨rfl, rfl, rfl, rfl, rfl⟩) h3
    · exact f.2.2.1 j (by omega) e y z
  · by_cases q : j = L
    · subst q
      rw [bN] at w
      rw [bL] at y
      exact h7 e e' y z w
    · exact f.2.2.2.1 j (by omega) e e' y z w
  · by_cases q : j = L
    · subst q
      have p := p18 (j - 1)
      rw [show j - 1 + 1 = j by omega] at p
      have rs : runL j C = stpL (C % 18) (runL (j - 1) (C / 18)) := by
        have z := runL_s (n := j - 1) (P := C / 18) (c := C % 18) (Nat.mod_lt _ (by decide))
        rw [show j - 1 + 1 = j by omega, show 18 * (C / 18) + C % 18 = C by omega] at z
        exact z
      obtain ⟨i, i1, e, e1, e2, e3, e4⟩ := h1.2.2.2.2 (j - 1) (by omega) (C / 18) (by omega)
      by_cases y : i = j - 1
      · subst y
        rw [show ((j - 1 : Nat) : Int) = (j : Int) - 1 by omega] at e1
        rw [show ((j - 1 : Nat) : Int) + 1 = (j : Int) by omega] at e2
        have c18 : C % 18 < 18 := Nat.mod_lt _ (by decide)
        obtain ⟨e', z1, z2, z3, z4⟩ := h8 e ((C % 18 : Nat) : Int) e1 e2 (by omega) (by omega) (Or.inl e2)
        rw [show (((C % 18 : Nat) : Int)).toNat = C % 18 by omega] at z3 z4
        rw [e3, ← rs] at z3
        have ec := e4 rfl
        by_cases w : b j ≤ e'
        · exact ⟨j, Nat.le_refl _, e', by rw [bL]; exact w, by rw [bN]; exact z2, z3, fun _ => by have := z4 w; omega⟩
        · obtain ⟨i', y1, y2, y3⟩ := FUL_at f e' z1 (by rw [bL]; omega)
          exact ⟨i', by omega, e', y2, y3, z3, fun q => by omega⟩
      · have se := h1.2.2.1 i (by omega) e e1 e2
        have c18 : C % 18 < 18 := Nat.mod_lt _ (by decide)
        have r2 : runL j C = runL (i + 1) (18 * cd e + C % 18) := by
          rw [rs, runL_s c18, ← se.2.1, e3]
        have p2 := p18 i
        have p3 := se.1
        obtain ⟨i', y1, e', y2, y3, y4, y5⟩ := h1.2.2.2.2 (i + 1) (by omega) (18 * cd e + C % 18) (by omega)
        have u1 := bj i' (by omega)
        have u2 := bj (i' + 1) (by omega)
        rw [show ((i' + 1 : Nat) : Int) = (i' : Int) + 1 by omega] at u2
        exact ⟨i', by omega, e', by rw [u1]; exact y2, by rw [u2]; exact y3, by rw [r2]; exact y4, fun q => by omega⟩
    · exact f.2.2.2.2 j (by omega) C hC
/-- the first level: what rows begin with -/
theorem FUL_1 {b' : Int → Int} (c0 : cd 0 = 0) (e : (A 0, B 0) = s2_0) (b0 : b' 0 = 0) (b1 : b' 1 = 1) : FUL A B F Y cd b' 1 := by
  refine ⟨b0, fun j x => ?_, fun j x e' y z => ?_, fun j x e1 e2 y z w => ?_, fun j x C hC => ?_⟩
  · rw [show j = 0 by omega]
    show b' 0 ≤ b' (0 + 1)
    rw [b0]
    show 0 ≤ b' 1
    omega
  · have j0 : j = 0 := by omega
    subst j0
    have y' : b' 0 ≤ e' := y
    have z' : e' < b' 1 := z
    have e0 : e' = 0 := by omega
    subst e0
    exact ⟨by rw [c0]; decide, by rw [e]; rfl, fun q => by omega⟩
  · have j0 : j = 0 := by omega
    subst j0
    have y' : b' 0 ≤ e1 := y
    have w' : e2 < b' 1 := w
    omega
  · have j0 : j = 0 := by omega
    subst j0
    refine ⟨0, Nat.le_refl _, 0, by show b' 0 ≤ 0; omega, by show 0 < b' 1; omega, by rw [e]; rfl, fun _ => by rw [c0]; omega⟩
/-- rows that come to a goal, by the levels -/
theorem FUL_hit {L n C : Nat} {g : Int} (h : FUL A B F Y cd b L) (l : n < L) (z : hitL g n C) (no : ∀ n', n' < n → ∀ C', ¬ hitL g n' C') : ∃ e, b n ≤ e ∧ e < b ((n : Int) + 1) ∧ A e = g ∧ cd e ≤ C := by
  obtain ⟨i, i1, e, e1, e2, e3, e4⟩ := h.2.2.2.2 n l C z.1
  have s := h.2.2.1 i (by omega) e e1 e2
  have ag : A e = g := by
    have := congrArg Prod.fst e3
    exact this.trans z.2
  by_cases y : i = n
  · subst y
    exact ⟨e, e1, e2, ag, e4 rfl⟩
  · exact absurd ⟨s.1, by rw [← s.2.1]; exact ag⟩ (no i (by omega) (cd e))
theorem FUL_go {L n : Nat} {g e : Int} (h : FUL A B F Y cd b L) (l : n < L) (e0 : b n ≤ e) (e1 : e < b ((n : Int) + 1)) (ag : A e = g) : hitL g n (cd e) := by
  have s := h.2.2.1 n l e e0 e1
  exact ⟨s.1, by rw [← s.2.1]; exact ag⟩
end BFS

