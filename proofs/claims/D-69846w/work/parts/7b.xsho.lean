/-! rows of acts as numbers to the base 18; what they come to -/
abbrev S2 : Type := Int × Int
def stpL (c : Nat) (s : S2) : S2 := (AL c s.1 s.2, BL c s.1 s.2)
def s2_0 : S2 := (-81985529216486896, 0)
def runL : Nat → Nat → S2
  | 0, _ => s2_0
  | n + 1, C => stpL (C % 18) (runL n (C / 18))
def goL : Nat → Nat → S2 → S2
  | 0, _, s => s
  | n + 1, C, s => stpL (C % 18) (goL n (C / 18) s)
theorem runL_r : ∀ n C, jr64 (runL n C).1 ∧ jr64 (runL n C).2
  | 0, _ => by
    show jr64 (-81985529216486896) ∧ jr64 0
    unfold jr64
    omega
  | n + 1, C => ⟨AL_r (runL_r n (C / 18)).1 (runL_r n (C / 18)).2, BL_r (runL_r n (C / 18)).1 (runL_r n (C / 18)).2⟩
theorem runL_s {n P c : Nat} (hc : c < 18) : runL (n + 1) (18 * P + c) = stpL c (runL n P) := by
  show stpL ((18 * P + c) % 18) (runL n ((18 * P + c) / 18)) = _
  rw [show (18 * P + c) % 18 = c by omega, show (18 * P + c) / 18 = P by omega]
theorem p18 (n : Nat) : 18 ^ (n + 1) = 18 * 18 ^ n := by rw [Nat.pow_succ, Nat.mul_comm]
theorem p18_0 (n : Nat) : 0 < 18 ^ n := Nat.pow_pos (by decide)
theorem runL_a (a X : Nat) : ∀ (b Y : Nat), Y < 18 ^ b → runL (a + b) (X * 18 ^ b + Y) = goL b Y (runL a X)
  | 0, Y, h => by
    rw [Nat.pow_zero] at h
    rw [show Y = 0 by omega, Nat.pow_zero]
    rw [show X * 1 + 0 = X by omega]
    rfl
  | b + 1, Y, h => by
    rw [p18] at h
    have e : X * 18 ^ (b + 1) + Y = 18 * (X * 18 ^ b) + Y := by rw [p18, Nat.mul_left_comm]
    show stpL ((X * 18 ^ (b + 1) + Y) % 18) (runL (a + b) ((X * 18 ^ (b + 1) + Y) / 18)) = stpL (Y % 18) (goL b (Y / 18) (runL a X))
    rw [e, show (18 * (X * 18 ^ b) + Y) % 18 = Y % 18 by omega, show (18 * (X * 18 ^ b) + Y) / 18 = X * 18 ^ b + Y / 18 by omega, runL_a a X b (Y / 18) (by omega)]
def hitL (g : Int) (n C : Nat) : Prop := C < 18 ^ n ∧ (runL n C).1 = g
def frsL (g : Int) (most n C : Nat) : Prop := n ≤ most ∧ hitL g n C ∧ (∀ n', n' < n → ∀ C', ¬ hitL g n' C') ∧ ∀ C', hitL g n C' → C ≤ C'
def nohL (g : Int) (most : Nat) : Prop := ∀ n, n ≤ most → ∀ C, ¬ hitL g n C
theorem frsL_u {g : Int} {most n C n' C' : Nat} (h : frsL g most n C) (k : frsL g most n' C') : n = n' ∧ C = C' := by
  have e : n = n' := by
    rcases Nat.lt_trichotomy n n' with y | y | y
    · exact absurd h.2.1 (k.2.2.1 n y C)
    · exact y
    · exact absurd k.2.1 (h.2.2.1 n' y C')
  subst e
  have a := h.2.2.2 _ k.2.1
  have b := k.2.2.2 _ h.2.1
  exact ⟨rfl, by omega⟩
theorem frsL_no {g : Int} {most n C : Nat} (h : frsL g most n C) (k : nohL g most) : False := k n h.1 C h.2.1
/-- no act in it changes nothing -/
def nsL (a n C : Nat) : Prop := ∀ j, a ≤ j → j < n → runL (j + 1) (C / 18 ^ (n - j - 1)) ≠ runL j (C / 18 ^ (n - j))
/-- a row's place j -/
def dgL (n C j : Nat) : Nat := C / 18 ^ (n - 1 - j) % 18
theorem ns_cut {g : Int} {n C j : Nat} (h : hitL g n C) (j0 : j < n) (e : runL (j + 1) (C / 18 ^ (n - j - 1)) = runL j (C / 18 ^ (n - j))) : ∃ C', hitL g (n - 1) C' := by
  obtain ⟨b, hb⟩ : ∃ b, n = j + 1 + b := ⟨n - j - 1, by omega⟩
  subst hb
  rw [show j + 1 + b - j - 1 = b by omega, show j + 1 + b - j = b + 1 by omega] at e
  have dm : C = C / 18 ^ b * 18 ^ b + C % 18 ^ b := by
    have := Nat.div_add_mod C (18 ^ b)
    rw [Nat.mul_comm] at this
    exact this.symm
  have ml : C % 18 ^ b < 18 ^ b := Nat.mod_lt _ (p18_0 b)
  have hc := h.1
  have h1 := h.2
  rw [dm, runL_a (j + 1) _ b _ ml, e] at h1
  refine ⟨C / 18 ^ (b + 1) * 18 ^ b + C % 18 ^ b, ?_, ?_⟩
  · rw [show j + 1 + b - 1 = j + b by omega]
    have : C / 18 ^ (b + 1) < 18 ^ j := by
      refine Nat.div_lt_of_lt_mul ?_
      rw [← Nat.pow_add, show b + 1 + j = j + 1 + b by omega]
      exact hc
    have q : (C / 18 ^ (b + 1) + 1) * 18 ^ b ≤ 18 ^ j * 18 ^ b := Nat.mul_le_mul_right _ this
    rw [Nat.add_mul, Nat.one_mul, ← Nat.pow_add] at q
    omega
  · rw [show j + 1 + b - 1 = j + b by omega, runL_a j _ b _ ml]
    exact h1
theorem ns_hit {g : Int} {n C : Nat} (h : hitL g n C) (no : ∀ n', n' < n → ∀ C', ¬ hitL g n' C') : nsL 0 n C := fun j _ j1 e => by
  obtain ⟨C', hc⟩ := ns_cut h j1 e
  exact no (n - 1) (by omega) C' hc
/-- what goes on from a row -/
def gsL (g : Int) (a k P C : Nat) : Prop := C / 18 ^ k = P ∧ (runL (a + k) C).1 = g ∧ nsL a (a + k) C
theorem gsL_s {g : Int} {a k P C : Nat} : gsL g a (k + 1) P C ↔ ∃ c, c < 18 ∧ gsL g (a + 1) k (18 * P + c) C ∧ runL (a + 1) (18 * P + c) ≠ runL a P := by
  have e1 : a + 1 + k = a + (k + 1) := by omega
  constructor
  · intro h
    obtain ⟨h1, h2, h3⟩ := h
    have q : C / 18 ^ k = 18 * P + C / 18 ^ k % 18 := by
      rw [← h1, p18, Nat.mul_comm 18 (18 ^ k), ← Nat.div_div_eq_div_mul]
      omega
    refine ⟨C / 18 ^ k % 18, Nat.mod_lt _ (by decide), ⟨q, by rw [e1]; exact h2, fun j j0 j1 => by rw [e1]; exact h3 j (by omega) (by omega)⟩, ?_⟩
    have := h3 a (Nat.le_refl _) (by omega)
    rw [show a + (k + 1) - a - 1 = k by omega, show a + (k + 1) - a = k + 1 by omega, h1, q] at this
    rw [← q]
    rw [← q] at this
    exact this
  · rintro ⟨c, hc, ⟨h1, h2, h3⟩, h4⟩
    rw [e1] at h2 h3
    have q : C / 18 ^ (k + 1) = P := by
      rw [p18, Nat.mul_comm 18 (18 ^ k), ← Nat.div_div_eq_div_mul, h1]
      omega
    refine ⟨q, h2, fun j j0 j1 => ?_⟩
    by_cases y : j = a
    · subst y
      rw [show j + (k + 1) - j - 1 = k by omega, show j + (k + 1) - j = k + 1 by omega, q, h1]
      exact h4
    · exact h3 j (by omega) j1
/-! x's search -/
def hS2 (h : AH) : S2 := (h 431 3, h 431 4)
def preR (N k a P : Nat) (h : AH) : Prop := a + k = N ∧ N ≤ 5 ∧ hS2 h = runL a P
def keepR (a : Nat) (h h' : AH) : Prop := ∀ b s, ¬ (b = 431 ∧ (s = 3 ∨ s = 4)) → ¬ (b = 433 ∧ (a : Int) ≤ s ∧ s < 5) → h' b s = h b s
def postR (g : Int) (N k a P : Nat) (h : AH) (v : Int) (h' : AH) : Prop := ((v = 0 ∧ ∀ C, ¬ gsL g a k P C) ∨ (v = 1 ∧ ∃ C, gsL g a k P C ∧ (∀ C', gsL g a k P C' → C ≤ C') ∧ ∀ j : Nat, a ≤ j → j < N → h' 433 j = dgL N C j)) ∧ keepR a h h'
def CR (F : Int → Int → Int → AH → Option (Int × AH)) (g : Int) (N k : Nat) : Prop := ∀ (x y : Int) (a P : Nat) (h : AH), x = a ∧ y = N ∧ preR N k a P h → OK (F x y g h) (fun r => jt2 r fun v h' => postR g N k a P h v h')
theorem gs_lo {g : Int} {a k P C m : Nat} (h : gsL g a (k + 1) P C) (lo : ∀ c, c < m → c < 18 → ¬ (∃ C, C = C ∧ gsL g (a + 1) k (18 * P + c) C ∧ runL (a + 1) (18 * P + c) ≠ runL a P)) : 18 * P + m ≤ C / 18 ^ k := by
  obtain ⟨c, c1, c2, c3⟩ := gsL_s.mp h
  have e := c2.1
  by_cases y : c < m
  · exact absurd ⟨C, rfl, c2, c3⟩ (lo c y c1)
  · omega
theorem div_lt {C C' d : Nat} (h : C / d < C' / d) : C < C' := by
  by_cases y : C' ≤ C
  · have := Nat.div_le_div_right (c := d) y
    omega
  · omega
theorem gs_least {g : Int} {a k P C m : Nat} (lo : ∀ c, c < m → c < 18 → ¬ (∃ C, C = C ∧ gsL g (a + 1) k (18 * P + c) C ∧ runL (a + 1) (18 * P + c) ≠ runL a P)) (w1 : gsL g (a + 1) k (18 * P + m) C) (w2 : ∀ C', gsL g (a + 1) k (18 * P + m) C' → C ≤ C') : ∀ C', gsL g a (k + 1) P C' → C ≤ C' := by
  intro C' z
  have L := gs_lo z lo
  obtain ⟨c, y1, y2, y3⟩ := gsL_s.mp z
  have e := y2.1
  have e1 := w1.1
  by_cases y : c = m
  · rw [y] at y2; exact w2 C' y2
  · exact Nat.le_of_lt (div_lt (d := 18 ^ k) (by omega))
theorem dg_at {N a k P C m : Nat} (e : N = a + (k + 1)) (hm : m < 18) (w : C / 18 ^ k = 18 * P + m) : dgL N C a = m := by
  unfold dgL
  rw [show N - 1 - a = k by omega, w]
  omega
theorem vX11_tryFrom_l35 {F : Int → Int → Int → AH → Option (Int × AH)} (i1 : Int) (i2 : Int) (i3 : Int) (i5 : Int) (i7 : Int) (a90 : Int) {h0 : AH} {N k a P : Nat} (hF : CR F i3 N k) (hi : i1 = a ∧ i2 = N ∧ a + (k + 1) = N ∧ N ≤ 5) (hs : runL a P = (i5, i7)) (h9 : a90 = 0) : OK (gX11_tryFrom_l35 F i1 i2 i3 i5 i7 a90 h0) (Sum.elim (fun h' => (∃ C, gsL i3 a (k + 1) P C ∧ (∀ C', gsL i3 a (k + 1) P C' → C ≤ C') ∧ ∀ j : Nat, a ≤ j → j < N → h' 433 j = dgL N C j) ∧ (keepR a h0 h')) (fun h' => (∀ C, ¬ gsL i3 a (k + 1) P C) ∧ (keepR a h0 h'))) := by
  unfold gX11_tryFrom_l35
  refine OK_jit (I := (fun (s : Int × AH) => jt2 s fun a9 h => (0 ≤ a9 ∧ a9 ≤ 18) ∧ (∀ c, c < a9.toNat → c < 18 → ¬ (∃ C, C = C ∧ gsL i3 (a + 1) k (18 * P + c) C ∧ runL (a + 1) (18 * P + c) ≠ runL a P)) ∧ (keepR a h0 h))) (m := (fun (s : Int × AH) => jt2 s fun a9 h => (18 - a9).toNat)) ?_ ?_
  · intro s hs
    obtain ⟨a9, h⟩ := s
    dsimp only [Sum.elim_inl, Sum.elim_inr, jt2, jt3, jt4, jt5, jt6, jt7, jt8] at hs
    obtain ⟨q0, q1, q2⟩ := hs
    unfold gX11_tryFrom_b35
    refine OK_jt2 ?_
    refine OK_if (fun c1 => ?_) (fun c1 => ?_)
    · skip
      try simp (disch := omega) only [jst_eq, jst_ne, jst_ni, jI_i, jcmp_lt, jcmp_gt, w32_id, jcpy_out, Sum.elim_inl, Sum.elim_inr, jt2, jt3, jt4, jt5, jt6, jt7, jt8] at c1
      refine OK_ir ?_
      try dsimp only [Sum.elim_inl, Sum.elim_inr, jt2, jt3, jt4, jt5, jt6, jt7, jt8]
      refine ⟨?_, ?_⟩
      · (intro C z; have L := gs_lo (m := 18) z (fun c y1 y2 => q1 c (by omega) y2); obtain ⟨w, w1, w2, w3⟩ := gsL_s.mp z; have := w2.1; omega) -- o1 e1.1
      · (first | assumption | omega | ((try dsimp only [jt2, jt3, jt4]); first | omega | (simp (disch := omega) only [jst_eq, jst_ne, jst_ni, jst_o, jI_i, jcpy_out, w32_id, jdiv_nn, jshr_k, jand_255] <;> first | done | omega | assumption)) | (intros; simp (disch := omega) only [jst_eq, jst_ne, jst_ni, jst_o, jI_i, jcpy_out, w32_id, jdiv_nn, *] <;> first | done | omega) | (intros; simp (disch := omega) only [jst_eq, jst_ne, jst_ni, jst_o, jI_i, jcpy_out, w32_id, jdiv_nn] at * <;> first | done | omega | assumption) | (intros; first | rfl | (exfalso; omega) | ((repeat' apply And.intro) <;> first | assumption | rfl | omega | trivial))) -- o2 e1.2
    · skip
      try simp (disch := omega) only [jst_eq, jst_ne, jst_ni, jI_i, jcmp_lt, jcmp_gt, w32_id, jcpy_out, Sum.elim_inl, Sum.elim_inr, jt2, jt3, jt4, jt5, jt6, jt7, jt8] at c1
      refine OK_jl ?_
      refine OK_jl ?_
      refine OK_jb (vX11_act (c := a9.toNat) _ (by exact ⟨by omega, by omega⟩)) (fun h13 r1 => ?_)
      try dsimp only [Sum.elim_inl, Sum.elim_inr, jt2, jt3, jt4, jt5, jt6, jt7, jt8] at r1
      obtain ⟨al1, bl1, fr1⟩ := r1
      try simp (disch := omega) only [jst_eq, jst_ne, jst_ni, jI_i, jcmp_lt, jcmp_gt, w32_id, jcpy_out, Sum.elim_inl, Sum.elim_inr, jt2, jt3, jt4, jt5, jt6, jt7, jt8] at al1
      try simp (disch := omega) only [jst_eq, jst_ne, jst_ni, jI_i, jcmp_lt, jcmp_gt, w32_id, jcpy_out, Sum.elim_inl, Sum.elim_inr, jt2, jt3, jt4, jt5, jt6, jt7, jt8] at bl1
      try simp (disch := omega) only [jst_eq, jst_ne, jst_ni, jI_i, jcmp_lt, jcmp_gt, w32_id, jcpy_out, Sum.elim_inl, Sum.elim_inr, jt2, jt3, jt4, jt5, jt6, jt7, jt8] at fr1
      have KK : (hS2 h13) = runL (a + 1) (18 * P + a9.toNat) := by { rw [runL_s (by omega), hs]; unfold hS2 stpL; rw [al1, bl1]; try rw [jst_ne (by decide), jst_ni (by decide), jst_eq, jst_eq] }
      have K0 : ∀ b s, ¬ (b = 431 ∧ (s = 3 ∨ s = 4)) → h13 b s = h b s := fun b s y1 => by rw [fr1 b s y1, jst_o (by omega), jst_o (by omega)]
      refine OK_if (fun c2 => ?_) (fun c2 => ?_)
      · skip
        try simp (disch := omega) only [jst_eq, jst_ne, jst_ni, jI_i, jcmp_lt, jcmp_gt, w32_id, jcpy_out, Sum.elim_inl, Sum.elim_inr, jt2, jt3, jt4, jt5, jt6, jt7, jt8] at c2
        refine OK_if (fun c3 => ?_) (fun c3 => ?_)
        · skip
          try simp (disch := omega) only [jst_eq, jst_ne, jst_ni, jI_i, jcmp_lt, jcmp_gt, w32_id, jcpy_out, Sum.elim_inl, Sum.elim_inr, jt2, jt3, jt4, jt5, jt6, jt7, jt8] at c3
          unfold gX11_tryFrom_j105_35
          refine OK_jlx (fun x16 ex16 => ?_)
          try simp (disch := omega) only [jst_eq, jst_ne, jst_ni, jI_i, jcmp_lt, jcmp_gt, w32_id, jcpy_out, Sum.elim_inl, Sum.elim_inr, jt2, jt3, jt4, jt5, jt6, jt7, jt8] at ex16
          refine OK_il ?_ ?_
          · try dsimp only [Sum.elim_inl, Sum.elim_inr, jt2, jt3, jt4, jt5, jt6, jt7, jt8]
            refine ⟨?_, ?_, ?_⟩
            · (first | assumption | omega | ((try dsimp only [jt2, jt3, jt4]); first | omega | (simp (disch := omega) only [jst_eq, jst_ne, jst_ni, jst_o, jI_i, jcpy_out, w32_id, jdiv_nn, jshr_k, jand_255] <;> first | done | omega | assumption)) | (intros; simp (disch := omega) only [jst_eq, jst_ne, jst_ni, jst_o, jI_i, jcpy_out, w32_id, jdiv_nn, *] <;> first | done | omega) | (intros; simp (disch := omega) only [jst_eq, jst_ne, jst_ni, jst_o, jI_i, jcpy_out, w32_id, jdiv_nn] at * <;> first | done | omega | assumption) | (intros; first | rfl | (exfalso; omega) | ((repeat' apply And.intro) <;> first | assumption | rfl | omega | trivial))) -- o4 e2i.1
            · (intro c y1 y2; by_cases y : c = a9.toNat; { rintro ⟨C, _, w2, w3⟩; refine w3 ?_; rw [y, ← KK, hs]; unfold hS2; rw [jcmp_eq.mp c2, jcmp_eq.mp c3] }; { exact q1 c (by omega) y2 }) -- o5 e2i.2
            · exact fun b s y1 y2 => by rw [K0 b s y1]; exact q2 b s y1 y2 -- o6 e2i.3
          · (first | assumption | omega | ((try dsimp only [jt2, jt3, jt4]); first | omega | (simp (disch := omega) only [jst_eq, jst_ne, jst_ni, jst_o, jI_i, jcpy_out, w32_id, jdiv_nn, jshr_k, jand_255] <;> first | done | omega | assumption)) | (intros; simp (disch := omega) only [jst_eq, jst_ne, jst_ni, jst_o, jI_i, jcpy_out, w32_id, jdiv_nn, *] <;> first | done | omega) | (intros; simp (disch := omega) only [jst_eq, jst_ne, jst_ni, jst_o, jI_i, jcpy_out, w32_id, jdiv_nn] at * <;> first | done | omega | assumption) | (intros; first | rfl | (exfalso; omega) | ((repeat' apply And.intro) <;> first | assumption | rfl | omega | trivial))) -- o7 e2m
        · skip
          try simp (disch := omega) only [jst_eq, jst_ne, jst_ni, jI_i, jcmp_lt, jcmp_gt, w32_id, jcpy_out, Sum.elim_inl, Sum.elim_inr, jt2, jt3, jt4, jt5, jt6, jt7, jt8] at c3
          have ch : runL (a + 1) (18 * P + a9.toNat) ≠ runL a P := fun z => by { rw [← KK, hs] at z; exact c3 (jcmp_eq.mpr (congrArg Prod.snd z)) }
          unfold gX11_tryFrom_j83_35
          refine OK_jg (by (first | assumption | omega | ((try dsimp only [jt2, jt3, jt4]); first | omega | (simp (disch := omega) only [jst_eq, jst_ne, jst_ni, jst_o, jI_i, jcpy_out, w32_id, jdiv_nn, jshr_k, jand_255] <;> first | done | omega | assumption)) | (intros; simp (disch := omega) only [jst_eq, jst_ne, jst_ni, jst_o, jI_i, jcpy_out, w32_id, jdiv_nn, *] <;> first | done | omega) | (intros; simp (disch := omega) only [jst_eq, jst_ne, jst_ni, jst_o, jI_i, jcpy_out, w32_id, jdiv_nn] at * <;> first | done | omega | assumption) | (intros; first | rfl | (exfalso; omega) | ((repeat' apply And.intro) <;> first | assumption | rfl | omega | trivial)))) ?_ -- o8
          refine OK_jl ?_
          refine OK_jb2 (hF _ _ (a + 1) (18 * P + a9.toNat) _ (by exact ⟨by rw [w32_id (by omega) (by omega)]; omega, hi.2.1, by omega, by omega, by unfold hS2; rw [jst_ne (by decide), jst_ne (by decide)]; exact KK⟩)) (fun v19 h20 r2 => ?_)
          try dsimp only [Sum.elim_inl, Sum.elim_inr, jt2, jt3, jt4, jt5, jt6, jt7, jt8] at r2
          have px2 := r2
          clear r2
          try simp (disch := omega) only [jst_eq, jst_ne, jst_ni, jI_i, jcmp_lt, jcmp_gt, w32_id, jcpy_out, Sum.elim_inl, Sum.elim_inr, jt2, jt3, jt4, jt5, jt6, jt7, jt8] at px2
          first | obtain ⟨px, pk⟩ := px2 | obtain ⟨px, pk⟩ := px3
          refine OK_if (fun c4 => ?_) (fun c4 => ?_)
          · skip
            try simp (disch := omega) only [jst_eq, jst_ne, jst_ni, jI_i, jcmp_lt, jcmp_gt, w32_id, jcpy_out, Sum.elim_inl, Sum.elim_inr, jt2, jt3, jt4, jt5, jt6, jt7, jt8] at c4
            unfold gX11_tryFrom_j105_35
            refine OK_jlx (fun x16 ex16 => ?_)
            try simp (disch := omega) only [jst_eq, jst_ne, jst_ni, jI_i, jcmp_lt, jcmp_gt, w32_id, jcpy_out, Sum.elim_inl, Sum.elim_inr, jt2, jt3, jt4, jt5, jt6, jt7, jt8] at ex16
            refine OK_il ?_ ?_
            · try dsimp only [Sum.elim_inl, Sum.elim_inr, jt2, jt3, jt4, jt5, jt6, jt7, jt8]
              refine ⟨?_, ?_, ?_⟩
              · (first | assumption | omega | ((try dsimp only [jt2, jt3, jt4]); first | omega | (simp (disch := omega) only [jst_eq, jst_ne, jst_ni, jst_o, jI_i, jcpy_out, w32_id, jdiv_nn, jshr_k, jand_255] <;> first | done | omega | assumption)) | (intros; simp (disch := omega) only [jst_eq, jst_ne, jst_ni, jst_o, jI_i, jcpy_out, w32_id, jdiv_nn, *] <;> first | done | omega) | (intros; simp (disch := omega) only [jst_eq, jst_ne, jst_ni, jst_o, jI_i, jcpy_out, w32_id, jdiv_nn] at * <;> first | done | omega | assumption) | (intros; first | rfl | (exfalso; omega) | ((repeat' apply And.intro) <;> first | assumption | rfl | omega | trivial))) -- o10 e3i.1
              · (intro c y1 y2; by_cases y : c = a9.toNat; { rintro ⟨C, _, w2, w3⟩; rw [y] at w2; exact (px.resolve_right (fun z => absurd z.1 (by omega))).2 C w2 }; { exact q1 c (by omega) y2 }) -- o11 e3i.2
              · exact fun b s y1 y2 => by rw [pk b s y1 (by omega), jst_o (by omega), K0 b s y1]; exact q2 b s y1 y2 -- o12 e3i.3
            · (first | assumption | omega | ((try dsimp only [jt2, jt3, jt4]); first | omega | (simp (disch := omega) only [jst_eq, jst_ne, jst_ni, jst_o, jI_i, jcpy_out, w32_id, jdiv_nn, jshr_k, jand_255] <;> first | done | omega | assumption)) | (intros; simp (disch := omega) only [jst_eq, jst_ne, jst_ni, jst_o, jI_i, jcpy_out, w32_id, jdiv_nn, *] <;> first | done | omega) | (intros; simp (disch := omega) only [jst_eq, jst_ne, jst_ni, jst_o, jI_i, jcpy_out, w32_id, jdiv_nn] at * <;> first | done | omega | assumption) | (intros; first | rfl | (exfalso; omega) | ((repeat' apply And.intro) <;> first | assumption | rfl | omega | trivial))) -- o13 e3m
          · skip
            try simp (disch := omega) only [jst_eq, jst_ne, jst_ni, jI_i, jcmp_lt, jcmp_gt, w32_id, jcpy_out, Sum.elim_inl, Sum.elim_inr, jt2, jt3, jt4, jt5, jt6, jt7, jt8] at c4
            refine OK_ir ?_
            try dsimp only [Sum.elim_inl, Sum.elim_inr, jt2, jt3, jt4, jt5, jt6, jt7, jt8]
            refine ⟨?_, ?_⟩
            · (obtain ⟨C, w1, w2, w3⟩ := (px.resolve_left (fun z => c4 z.1)).2; refine ⟨C, gsL_s.mpr ⟨a9.toNat, by omega, w1, ch⟩, gs_least q1 w1 w2, fun j j0 j1 => ?_⟩; by_cases y : j = a; { rw [y, pk _ _ (by omega) (by omega), dg_at (k := k) (P := P) (m := a9.toNat) (by omega) (by omega) w1.1, ← hi.1, jst_eq]; omega }; { exact w3 j (by omega) j1 }) -- o14 e4.1
            · exact fun b s y1 y2 => by rw [pk b s y1 (by omega), jst_o (by omega), K0 b s y1]; exact q2 b s y1 y2 -- o15 e4.2
      · skip
        try simp (disch := omega) only [jst_eq, jst_ne, jst_ni, jI_i, jcmp_lt, jcmp_gt, w32_id, jcpy_out, Sum.elim_inl, Sum.elim_inr, jt2, jt3, jt4, jt5, jt6, jt7, jt8] at c2
        have ch : runL (a + 1) (18 * P + a9.toNat) ≠ runL a P := fun z => by { rw [← KK, hs] at z; exact c2 (jcmp_eq.mpr (congrArg Prod.fst z)) }
        unfold gX11_tryFrom_j83_35
        refine OK_jg (by (first | assumption | omega | ((try dsimp only [jt2, jt3, jt4]); first | omega | (simp (disch := omega) only [jst_eq, jst_ne, jst_ni, jst_o, jI_i, jcpy_out, w32_id, jdiv_nn, jshr_k, jand_255] <;> first | done | omega | assumption)) | (intros; simp (disch := omega) only [jst_eq, jst_ne, jst_ni, jst_o, jI_i, jcpy_out, w32_id, jdiv_nn, *] <;> first | done | omega) | (intros; simp (disch := omega) only [jst_eq, jst_ne, jst_ni, jst_o, jI_i, jcpy_out, w32_id, jdiv_nn] at * <;> first | done | omega | assumption) | (intros; first | rfl | (exfalso; omega) | ((repeat' apply And.intro) <;> first | assumption | rfl | omega | trivial)))) ?_ -- o16
        refine OK_jl ?_
        refine OK_jb2 (hF _ _ (a + 1) (18 * P + a9.toNat) _ (by exact ⟨by rw [w32_id (by omega) (by omega)]; omega, hi.2.1, by omega, by omega, by unfold hS2; rw [jst_ne (by decide), jst_ne (by decide)]; exact KK⟩)) (fun v19 h20 r3 => ?_)
        try dsimp only [Sum.elim_inl, Sum.elim_inr, jt2, jt3, jt4, jt5, jt6, jt7, jt8] at r3
        have px3 := r3
        clear r3
        try simp (disch := omega) only [jst_eq, jst_ne, jst_ni, jI_i, jcmp_lt, jcmp_gt, w32_id, jcpy_out, Sum.elim_inl, Sum.elim_inr, jt2, jt3, jt4, jt5, jt6, jt7, jt8] at px3
        first | obtain ⟨px, pk⟩ := px2 | obtain ⟨px, pk⟩ := px3
        refine OK_if (fun c5 => ?_) (fun c5 => ?_)
        · skip
          try simp (disch := omega) only [jst_eq, jst_ne, jst_ni, jI_i, jcmp_lt, jcmp_gt, w32_id, jcpy_out, Sum.elim_inl, Sum.elim_inr, jt2, jt3, jt4, jt5, jt6, jt7, jt8] at c5
          unfold gX11_tryFrom_j105_35
          refine OK_jlx (fun x16 ex16 => ?_)
          try simp (disch := omega) only [jst_eq, jst_ne, jst_ni, jI_i, jcmp_lt, jcmp_gt, w32_id, jcpy_out, Sum.elim_inl, Sum.elim_inr, jt2, jt3, jt4, jt5, jt6, jt7, jt8] at ex16
          refine OK_il ?_ ?_
          · try dsimp only [Sum.elim_inl, Sum.elim_inr, jt2, jt3, jt4, jt5, jt6, jt7, jt8]
            refine ⟨?_, ?_, ?_⟩
            · (first | assumption | omega | ((try dsimp only [jt2, jt3, jt4]); first | omega | (simp (disch := omega) only [jst_eq, jst_ne, jst_ni, jst_o, jI_i, jcpy_out, w32_id, jdiv_nn, jshr_k, jand_255] <;> first | done | omega | assumption)) | (intros; simp (disch := omega) only [jst_eq, jst_ne, jst_ni, jst_o, jI_i, jcpy_out, w32_id, jdiv_nn, *] <;> first | done | omega) | (intros; simp (disch := omega) only [jst_eq, jst_ne, jst_ni, jst_o, jI_i, jcpy_out, w32_id, jdiv_nn] at * <;> first | done | omega | assumption) | (intros; first | rfl | (exfalso; omega) | ((repeat' apply And.intro) <;> first | assumption | rfl | omega | trivial))) -- o18 e5i.1
            · (intro c y1 y2; by_cases y : c = a9.toNat; { rintro ⟨C, _, w2, w3⟩; rw [y] at w2; exact (px.resolve_right (fun z => absurd z.1 (by omega))).2 C w2 }; { exact q1 c (by omega) y2 }) -- o19 e5i.2
            · exact fun b s y1 y2 => by rw [pk b s y1 (by omega), jst_o (by omega), K0 b s y1]; exact q2 b s y1 y2 -- o20 e5i.3
          · (first | assumption | omega | ((try dsimp only [jt2, jt3, jt4]); first | omega | (simp (disch := omega) only [jst_eq, jst_ne, jst_ni, jst_o, jI_i, jcpy_out, w32_id, jdiv_nn, jshr_k, jand_255] <;> first | done | omega | assumption)) | (intros; simp (disch := omega) only [jst_eq, jst_ne, jst_ni, jst_o, jI_i, jcpy_out, w32_id, jdiv_nn, *] <;> first | done | omega) | (intros; simp (disch := omega) only [jst_eq, jst_ne, jst_ni, jst_o, jI_i, jcpy_out, w32_id, jdiv_nn] at * <;> first | done | omega | assumption) | (intros; first | rfl | (exfalso; omega) | ((repeat' apply And.intro) <;> first | assumption | rfl | omega | trivial))) -- o21 e5m
        · skip
          try simp (disch := omega) only [jst_eq, jst_ne, jst_ni, jI_i, jcmp_lt, jcmp_gt, w32_id, jcpy_out, Sum.elim_inl, Sum.elim_inr, jt2, jt3, jt4, jt5, jt6, jt7, jt8] at c5
          refine OK_ir ?_
          try dsimp only [Sum.elim_inl, Sum.elim_inr, jt2, jt3, jt4, jt5, jt6, jt7, jt8]
          refine ⟨?_, ?_⟩
          · (obtain ⟨C, w1, w2, w3⟩ := (px.resolve_left (fun z => c5 z.1)).2; refine ⟨C, gsL_s.mpr ⟨a9.toNat, by omega, w1, ch⟩, gs_least q1 w1 w2, fun j j0 j1 => ?_⟩; by_cases y : j = a; { rw [y, pk _ _ (by omega) (by omega), dg_at (k := k) (P := P) (m := a9.toNat) (by omega) (by omega) w1.1, ← hi.1, jst_eq]; omega }; { exact w3 j (by omega) j1 }) -- o22 e6.1
          · exact fun b s y1 y2 => by rw [pk b s y1 (by omega), jst_o (by omega), K0 b s y1]; exact q2 b s y1 y2 -- o23 e6.2
  · try dsimp only [Sum.elim_inl, Sum.elim_inr, jt2, jt3, jt4, jt5, jt6, jt7, jt8]
    refine ⟨?_, ?_, ?_⟩
    · (first | assumption | omega | ((try dsimp only [jt2, jt3, jt4]); first | omega | (simp (disch := omega) only [jst_eq, jst_ne, jst_ni, jst_o, jI_i, jcpy_out, w32_id, jdiv_nn, jshr_k, jand_255] <;> first | done | omega | assumption)) | (intros; simp (disch := omega) only [jst_eq, jst_ne, jst_ni, jst_o, jI_i, jcpy_out, w32_id, jdiv_nn, *] <;> first | done | omega) | (intros; simp (disch := omega) only [jst_eq, jst_ne, jst_ni, jst_o, jI_i, jcpy_out, w32_id, jdiv_nn] at * <;> first | done | omega | assumption) | (intros; first | rfl | (exfalso; omega) | ((repeat' apply And.intro) <;> first | assumption | rfl | omega | trivial))) -- o24 init.1
    · (intro c y1 y2; omega) -- o25 init.2
    · exact fun _ _ _ _ => rfl -- o26 init.3
theorem gsL_0 {g : Int} {a P C : Nat} : gsL g a 0 P C ↔ C = P ∧ (runL a C).1 = g := by
  unfold gsL nsL
  rw [Nat.pow_zero, Nat.div_one, Nat.add_zero]
  exact ⟨fun z => ⟨z.1, z.2.1⟩, fun z => ⟨z.1, z.2, fun j j0 j1 => by omega⟩⟩
theorem vX11_tryFrom_ {F : Int → Int → Int → AH → Option (Int × AH)} (a1 : Int) (a2 : Int) (a3 : Int) {h : AH} {N k a P : Nat} (hF : ∀ j, k = j + 1 → CR F a3 N j) (hp : a1 = a ∧ a2 = N ∧ preR N k a P h) : OK (gX11_tryFrom_ F a1 a2 a3 h) (fun r => jt2 r fun v h' => postR a3 N k a P h v h') := by
  obtain ⟨hp1, hp2, hp3, hp4, hp5⟩ := hp
  unfold gX11_tryFrom_
  refine OK_if (fun c1 => ?_) (fun c1 => ?_)
  · skip
    try simp (disch := omega) only [jst_eq, jst_ne, jst_ni, jI_i, jcmp_lt, jcmp_gt, w32_id, jcpy_out, Sum.elim_inl, Sum.elim_inr, jt2, jt3, jt4, jt5, jt6, jt7, jt8] at c1
    refine OK_if (fun c2 => ?_) (fun c2 => ?_)
    · skip
      try simp (disch := omega) only [jst_eq, jst_ne, jst_ni, jI_i, jcmp_lt, jcmp_gt, w32_id, jcpy_out, Sum.elim_inl, Sum.elim_inr, jt2, jt3, jt4, jt5, jt6, jt7, jt8] at c2
      refine OK_some ?_
      try dsimp only [Sum.elim_inl, Sum.elim_inr, jt2, jt3, jt4, jt5, jt6, jt7, jt8]
      have hk : k = 0 := by omega
      (subst hk; exact ⟨Or.inr ⟨rfl, P, gsL_0.mpr ⟨rfl, by rw [← hp5]; exact jcmp_eq.mp c2⟩, fun C' z => by rw [(gsL_0.mp z).1]; exact Nat.le_refl _, fun j j0 j1 => by omega⟩, fun _ _ _ _ => rfl⟩) -- o1 e1
    · skip
      try simp (disch := omega) only [jst_eq, jst_ne, jst_ni, jI_i, jcmp_lt, jcmp_gt, w32_id, jcpy_out, Sum.elim_inl, Sum.elim_inr, jt2, jt3, jt4, jt5, jt6, jt7, jt8] at c2
      refine OK_some ?_
      try dsimp only [Sum.elim_inl, Sum.elim_inr, jt2, jt3, jt4, jt5, jt6, jt7, jt8]
      have hk : k = 0 := by omega
      (subst hk; exact ⟨Or.inl ⟨rfl, fun C z => c2 (jcmp_eq.mpr (by have w := gsL_0.mp z; rw [w.1, ← hp5] at w; exact w.2))⟩, fun _ _ _ _ => rfl⟩) -- o2 e2
  · skip
    try simp (disch := omega) only [jst_eq, jst_ne, jst_ni, jI_i, jcmp_lt, jcmp_gt, w32_id, jcpy_out, Sum.elim_inl, Sum.elim_inr, jt2, jt3, jt4, jt5, jt6, jt7, jt8] at c1
    refine OK_jlx (fun x3 ex3 => ?_)
    try simp (disch := omega) only [jst_eq, jst_ne, jst_ni, jI_i, jcmp_lt, jcmp_gt, w32_id, jcpy_out, Sum.elim_inl, Sum.elim_inr, jt2, jt3, jt4, jt5, jt6, jt7, jt8] at ex3
    refine OK_jlx (fun x4 ex4 => ?_)
    try simp (disch := omega) only [jst_eq, jst_ne, jst_ni, jI_i, jcmp_lt, jcmp_gt, w32_id, jcpy_out, Sum.elim_inl, Sum.elim_inr, jt2, jt3, jt4, jt5, jt6, jt7, jt8] at ex4
    refine OK_jb (vX11_tryFrom_l35 (N := N) (k := k - 1) (a := a) (P := P) _ _ _ _ _ _ (by exact hF (k - 1) (by omega)) (by exact ⟨hp1, hp2, by omega, by omega⟩) (by (rw [← hp5, ex3, ex4]; rfl)) (by (first | assumption | omega | ((try dsimp only [jt2, jt3, jt4]); first | omega | (simp (disch := omega) only [jst_eq, jst_ne, jst_ni, jst_o, jI_i, jcpy_out, w32_id, jdiv_nn, jshr_k, jand_255] <;> first | done | omega | assumption)) | (intros; simp (disch := omega) only [jst_eq, jst_ne, jst_ni, jst_o, jI_i, jcpy_out, w32_id, jdiv_nn, *] <;> first | done | omega) | (intros; simp (disch := omega) only [jst_eq, jst_ne, jst_ni, jst_o, jI_i, jcpy_out, w32_id, jdiv_nn] at * <;> first | done | omega | assumption) | (intros; first | rfl | (exfalso; omega) | ((repeat' apply And.intro) <;> first | assumption | rfl | omega | trivial))))) (fun o5 r1 => ?_)
    rcases o5 with o7 | o8
    · skip
      have r2 := r1; clear r1
      dsimp only [Sum.elim_inl, Sum.elim_inr] at r2
      try dsimp only [Sum.elim_inl, Sum.elim_inr, jt2, jt3, jt4, jt5, jt6, jt7, jt8] at r2
      obtain ⟨fo1, ke1⟩ := r2
      try simp (disch := omega) only [jst_eq, jst_ne, jst_ni, jI_i, jcmp_lt, jcmp_gt, w32_id, jcpy_out, Sum.elim_inl, Sum.elim_inr, jt2, jt3, jt4, jt5, jt6, jt7, jt8] at fo1
      try simp (disch := omega) only [jst_eq, jst_ne, jst_ni, jI_i, jcmp_lt, jcmp_gt, w32_id, jcpy_out, Sum.elim_inl, Sum.elim_inr, jt2, jt3, jt4, jt5, jt6, jt7, jt8] at ke1
      refine OK_jml ?_
      refine OK_some ?_
      try dsimp only [Sum.elim_inl, Sum.elim_inr, jt2, jt3, jt4, jt5, jt6, jt7, jt8]
      have hk : k - 1 + 1 = k := by omega
      (rw [hk] at fo1; exact ⟨Or.inr ⟨rfl, fo1⟩, ke1⟩) -- o7 e3
    · skip
      have r3 := r1; clear r1
      dsimp only [Sum.elim_inl, Sum.elim_inr] at r3
      try dsimp only [Sum.elim_inl, Sum.elim_inr, jt2, jt3, jt4, jt5, jt6, jt7, jt8] at r3
      obtain ⟨no2, ke2⟩ := r3
      try simp (disch := omega) only [jst_eq, jst_ne, jst_ni, jI_i, jcmp_lt, jcmp_gt, w32_id, jcpy_out, Sum.elim_inl, Sum.elim_inr, jt2, jt3, jt4, jt5, jt6, jt7, jt8] at no2
      try simp (disch := omega) only [jst_eq, jst_ne, jst_ni, jI_i, jcmp_lt, jcmp_gt, w32_id, jcpy_out, Sum.elim_inl, Sum.elim_inr, jt2, jt3, jt4, jt5, jt6, jt7, jt8] at ke2
      refine OK_jmr ?_
      refine OK_some ?_
      try dsimp only [Sum.elim_inl, Sum.elim_inr, jt2, jt3, jt4, jt5, jt6, jt7, jt8]
      have hk : k - 1 + 1 = k := by omega
      (rw [hk] at no2; exact ⟨Or.inl ⟨rfl, no2⟩, ke2⟩) -- o8 e4
theorem CR_D (g : Int) (N : Nat) : ∀ (d k : Nat), k < d → CR (gX11_tryFromD d) g N k
  | 0, k, h => by omega
  | d + 1, k, h => fun x y a P hh hp => OK_mono (vX11_tryFrom_ x y g (k := k) (fun j hj => CR_D g N d j (by omega)) hp) (fun r z => z)
theorem vX11_tryFrom (g : Int) (N : Nat) {k : Nat} (hk : k < 40) : CR gX11_tryFrom g N k := CR_D g N 40 k hk
theorem noh_of {g : Int} {N : Nat} (h : ∀ n, n < N → ∀ C, ¬ gsL g 0 n 0 C) : ∀ n, n < N → ∀ C, ¬ hitL g n C := by
  intro n
  induction n using Nat.strongRecOn with
  | ind n ih =>
    intro l C z
    have ns := ns_hit z (fun n' y => ih n' y (by omega))
    exact h n l C ⟨Nat.div_eq_of_lt z.1, by rw [Nat.zero_add]; exact z.2, by rw [Nat.zero_add]; exact ns⟩
theorem gs_hit {g : Int} {n C : Nat} (h : gsL g 0 n 0 C) : hitL g n C := by
  refine ⟨?_, by have := h.2.1; rw [Nat.zero_add] at this; exact this⟩
  by_cases y : C < 18 ^ n
  · exact y
  · have := Nat.div_pos (show 18 ^ n ≤ C by omega) (p18_0 n)
    have := h.1
    omega
theorem frs_of {g : Int} {most n C : Nat} (l : n ≤ most) (no : ∀ n', n' < n → ∀ C, ¬ gsL g 0 n' 0 C) (w1 : gsL g 0 n 0 C) (w2 : ∀ C', gsL g 0 n 0 C' → C ≤ C') : frsL g most n C := by
  have nh := noh_of no
  refine ⟨l, gs_hit w1, nh, fun C' z => w2 C' ⟨Nat.div_eq_of_lt z.1, by rw [Nat.zero_add]; exact z.2, by rw [Nat.zero_add]; exact ns_hit z nh⟩⟩
def keepS (h h' : AH) : Prop := ∀ b s, ¬ (b = 431 ∧ (s = 3 ∨ s = 4)) → ¬ (b = 433 ∧ 0 ≤ s ∧ s < 5) → h' b s = h b s
theorem vX11_shortest_l3 (i1 : Int) (i3 : Int) (a40 : Int) {h0 : AH} {most : Nat} (h4 : a40 = 0) (hm : i3 = most ∧ most ≤ 5) : OK (gX11_shortest_l3 i1 i3 a40 h0) (Sum.elim (fun r => jt2 r fun y h' => (∃ n C : Nat, y = n ∧ frsL i1 most n C ∧ ∀ j : Nat, j < n → h' 433 j = dgL n C j) ∧ (keepS h0 h')) (fun h' => (nohL i1 most) ∧ (keepS h0 h'))) := by
  unfold gX11_shortest_l3
  refine OK_jit (I := (fun (s : Int × AH) => jt2 s fun a4 h => (0 ≤ a4 ∧ a4 ≤ most + 1) ∧ (∀ n, n < a4.toNat → ∀ C, ¬ gsL i1 0 n 0 C) ∧ (keepS h0 h))) (m := (fun (s : Int × AH) => jt2 s fun a4 h => (6 - a4).toNat)) ?_ ?_
  · intro s hs
    obtain ⟨a4, h⟩ := s
    dsimp only [Sum.elim_inl, Sum.elim_inr, jt2, jt3, jt4, jt5, jt6, jt7, jt8] at hs
    obtain ⟨q0, q1, q2⟩ := hs
    unfold gX11_shortest_b3
    refine OK_jt2 ?_
    refine OK_if (fun c1 => ?_) (fun c1 => ?_)
    · skip
      try simp (disch := omega) only [jst_eq, jst_ne, jst_ni, jI_i, jcmp_lt, jcmp_gt, w32_id, jcpy_out, Sum.elim_inl, Sum.elim_inr, jt2, jt3, jt4, jt5, jt6, jt7, jt8] at c1
      refine OK_ir ?_
      try dsimp only [Sum.elim_inl, Sum.elim_inr, jt2, jt3, jt4, jt5, jt6, jt7, jt8]
      refine ⟨?_, ?_⟩
      · exact fun n l C => noh_of (N := most + 1) (fun n l => q1 n (by omega)) n (by omega) C -- o1 e1.1
      · (first | assumption | omega | ((try dsimp only [jt2, jt3, jt4]); first | omega | (simp (disch := omega) only [jst_eq, jst_ne, jst_ni, jst_o, jI_i, jcpy_out, w32_id, jdiv_nn, jshr_k, jand_255] <;> first | done | omega | assumption)) | (intros; simp (disch := omega) only [jst_eq, jst_ne, jst_ni, jst_o, jI_i, jcpy_out, w32_id, jdiv_nn, *] <;> first | done | omega) | (intros; simp (disch := omega) only [jst_eq, jst_ne, jst_ni, jst_o, jI_i, jcpy_out, w32_id, jdiv_nn] at * <;> first | done | omega | assumption) | (intros; first | rfl | (exfalso; omega) | ((repeat' apply And.intro) <;> first | assumption | rfl | omega | trivial))) -- o2 e1.2
    · skip
      try simp (disch := omega) only [jst_eq, jst_ne, jst_ni, jI_i, jcmp_lt, jcmp_gt, w32_id, jcpy_out, Sum.elim_inl, Sum.elim_inr, jt2, jt3, jt4, jt5, jt6, jt7, jt8] at c1
      refine OK_jl ?_
      refine OK_jl ?_
      refine OK_jb2 (vX11_tryFrom i1 a4.toNat (k := a4.toNat) (by omega) _ _ 0 0 _ (by exact ⟨rfl, by omega, by omega, by omega, by unfold hS2; rw [jst_ni (by decide), jst_eq, jst_eq]; rfl⟩)) (fun v14 h15 r1 => ?_)
      try dsimp only [Sum.elim_inl, Sum.elim_inr, jt2, jt3, jt4, jt5, jt6, jt7, jt8] at r1
      have px1 := r1
      clear r1
      try simp (disch := omega) only [jst_eq, jst_ne, jst_ni, jI_i, jcmp_lt, jcmp_gt, w32_id, jcpy_out, Sum.elim_inl, Sum.elim_inr, jt2, jt3, jt4, jt5, jt6, jt7, jt8] at px1
      obtain ⟨px, pk⟩ := px1
      have K0 : keepS h0 h15 := fun b s y1 y2 => by { rw [pk b s y1 (by omega), jst_o (by omega), jst_o (by omega)]; exact q2 b s y1 y2 }
      refine OK_if (fun c2 => ?_) (fun c2 => ?_)
      · skip
        try simp (disch := omega) only [jst_eq, jst_ne, jst_ni, jI_i, jcmp_lt, jcmp_gt, w32_id, jcpy_out, Sum.elim_inl, Sum.elim_inr, jt2, jt3, jt4, jt5, jt6, jt7, jt8] at c2
        refine OK_jlx (fun x17 ex17 => ?_)
        try simp (disch := omega) only [jst_eq, jst_ne, jst_ni, jI_i, jcmp_lt, jcmp_gt, w32_id, jcpy_out, Sum.elim_inl, Sum.elim_inr, jt2, jt3, jt4, jt5, jt6, jt7, jt8] at ex17
        refine OK_il ?_ ?_
        · try dsimp only [Sum.elim_inl, Sum.elim_inr, jt2, jt3, jt4, jt5, jt6, jt7, jt8]
          refine ⟨?_, ?_, ?_⟩
          · (first | assumption | omega | ((try dsimp only [jt2, jt3, jt4]); first | omega | (simp (disch := omega) only [jst_eq, jst_ne, jst_ni, jst_o, jI_i, jcpy_out, w32_id, jdiv_nn, jshr_k, jand_255] <;> first | done | omega | assumption)) | (intros; simp (disch := omega) only [jst_eq, jst_ne, jst_ni, jst_o, jI_i, jcpy_out, w32_id, jdiv_nn, *] <;> first | done | omega) | (intros; simp (disch := omega) only [jst_eq, jst_ne, jst_ni, jst_o, jI_i, jcpy_out, w32_id, jdiv_nn] at * <;> first | done | omega | assumption) | (intros; first | rfl | (exfalso; omega) | ((repeat' apply And.intro) <;> first | assumption | rfl | omega | trivial))) -- o4 e2i.1
          · (intro n l C z; by_cases y : n = a4.toNat; { rw [y] at z; exact (px.resolve_right (fun z => absurd z.1 (by omega))).2 C z }; { exact q1 n (by omega) C z }) -- o5 e2i.2
          · (first | assumption | omega | ((try dsimp only [jt2, jt3, jt4]); first | omega | (simp (disch := omega) only [jst_eq, jst_ne, jst_ni, jst_o, jI_i, jcpy_out, w32_id, jdiv_nn, jshr_k, jand_255] <;> first | done | omega | assumption)) | (intros; simp (disch := omega) only [jst_eq, jst_ne, jst_ni, jst_o, jI_i, jcpy_out, w32_id, jdiv_nn, *] <;> first | done | omega) | (intros; simp (disch := omega) only [jst_eq, jst_ne, jst_ni, jst_o, jI_i, jcpy_out, w32_id, jdiv_nn] at * <;> first | done | omega | assumption) | (intros; first | rfl | (exfalso; omega) | ((repeat' apply And.intro) <;> first | assumption | rfl | omega | trivial))) -- o6 e2i.3
        · (first | assumption | omega | ((try dsimp only [jt2, jt3, jt4]); first | omega | (simp (disch := omega) only [jst_eq, jst_ne, jst_ni, jst_o, jI_i, jcpy_out, w32_id, jdiv_nn, jshr_k, jand_255] <;> first | done | omega | assumption)) | (intros; simp (disch := omega) only [jst_eq, jst_ne, jst_ni, jst_o, jI_i, jcpy_out, w32_id, jdiv_nn, *] <;> first | done | omega) | (intros; simp (disch := omega) only [jst_eq, jst_ne, jst_ni, jst_o, jI_i, jcpy_out, w32_id, jdiv_nn] at * <;> first | done | omega | assumption) | (intros; first | rfl | (exfalso; omega) | ((repeat' apply And.intro) <;> first | assumption | rfl | omega | trivial))) -- o7 e2m
      · skip
        try simp (disch := omega) only [jst_eq, jst_ne, jst_ni, jI_i, jcmp_lt, jcmp_gt, w32_id, jcpy_out, Sum.elim_inl, Sum.elim_inr, jt2, jt3, jt4, jt5, jt6, jt7, jt8] at c2
        refine OK_ir ?_
        try dsimp only [Sum.elim_inl, Sum.elim_inr, jt2, jt3, jt4, jt5, jt6, jt7, jt8]
        refine ⟨?_, ?_⟩
        · (obtain ⟨C, w1, w2, w3⟩ := (px.resolve_left (fun z => c2 z.1)).2; exact ⟨a4.toNat, C, by omega, frs_of (by omega) q1 w1 w2, fun j j1 => w3 j (by omega) j1⟩) -- o8 e3.1
        · (first | assumption | omega | ((try dsimp only [jt2, jt3, jt4]); first | omega | (simp (disch := omega) only [jst_eq, jst_ne, jst_ni, jst_o, jI_i, jcpy_out, w32_id, jdiv_nn, jshr_k, jand_255] <;> first | done | omega | assumption)) | (intros; simp (disch := omega) only [jst_eq, jst_ne, jst_ni, jst_o, jI_i, jcpy_out, w32_id, jdiv_nn, *] <;> first | done | omega) | (intros; simp (disch := omega) only [jst_eq, jst_ne, jst_ni, jst_o, jI_i, jcpy_out, w32_id, jdiv_nn] at * <;> first | done | omega | assumption) | (intros; first | rfl | (exfalso; omega) | ((repeat' apply And.intro) <;> first | assumption | rfl | omega | trivial))) -- o9 e3.2
  · try dsimp only [Sum.elim_inl, Sum.elim_inr, jt2, jt3, jt4, jt5, jt6, jt7, jt8]
    refine ⟨?_, ?_, ?_⟩
    · (first | assumption | omega | ((try dsimp only [jt2, jt3, jt4]); first | omega | (simp (disch := omega) only [jst_eq, jst_ne, jst_ni, jst_o, jI_i, jcpy_out, w32_id, jdiv_nn, jshr_k, jand_255] <;> first | done | omega | assumption)) | (intros; simp (disch := omega) only [jst_eq, jst_ne, jst_ni, jst_o, jI_i, jcpy_out, w32_id, jdiv_nn, *] <;> first | done | omega) | (intros; simp (disch := omega) only [jst_eq, jst_ne, jst_ni, jst_o, jI_i, jcpy_out, w32_id, jdiv_nn] at * <;> first | done | omega | assumption) | (intros; first | rfl | (exfalso; omega) | ((repeat' apply And.intro) <;> first | assumption | rfl | omega | trivial))) -- o10 init.1
    · (intro n l; omega) -- o11 init.2
    · exact fun _ _ _ _ => rfl -- o12 init.3
theorem vX11_shortest_l44 (i4 : Int) (a50 : Int) {h0 : AH} (h5 : a50 = 0) (hi : 0 ≤ i4 ∧ i4 ≤ 5) : OK (gX11_shortest_l44 i4 a50 h0) (fun h' => ∀ a s, h' a s = if a = 432 ∧ 0 ≤ s ∧ s < i4 then h0 433 s else h0 a s) := by
  unfold gX11_shortest_l44
  refine OK_jit (I := (fun (s : Int × AH) => jt2 s fun a5 h => (0 ≤ a5 ∧ a5 ≤ i4) ∧ (∀ a s, h a s = if a = 432 ∧ 0 ≤ s ∧ s < a5 then h0 433 s else h0 a s))) (m := (fun (s : Int × AH) => jt2 s fun a5 h => (i4 - a5).toNat)) ?_ ?_
  · intro s hs
    obtain ⟨a5, h⟩ := s
    dsimp only [Sum.elim_inl, Sum.elim_inr, jt2, jt3, jt4, jt5, jt6, jt7, jt8] at hs
    obtain ⟨q0, q1⟩ := hs
    unfold gX11_shortest_b44
    refine OK_jt2 ?_
    refine OK_if (fun c1 => ?_) (fun c1 => ?_)
    · skip
      try simp (disch := omega) only [jst_eq, jst_ne, jst_ni, jI_i, jcmp_lt, jcmp_gt, w32_id, jcpy_out, Sum.elim_inl, Sum.elim_inr, jt2, jt3, jt4, jt5, jt6, jt7, jt8] at c1
      refine OK_ir ?_
      (intro a s; rw [q1, show a5 = i4 by omega]) -- o1 e1
    · skip
      try simp (disch := omega) only [jst_eq, jst_ne, jst_ni, jI_i, jcmp_lt, jcmp_gt, w32_id, jcpy_out, Sum.elim_inl, Sum.elim_inr, jt2, jt3, jt4, jt5, jt6, jt7, jt8] at c1
      refine OK_jg (by (first | assumption | omega | ((try dsimp only [jt2, jt3, jt4]); first | omega | (simp (disch := omega) only [jst_eq, jst_ne, jst_ni, jst_o, jI_i, jcpy_out, w32_id, jdiv_nn, jshr_k, jand_255] <;> first | done | omega | assumption)) | (intros; simp (disch := omega) only [jst_eq, jst_ne, jst_ni, jst_o, jI_i, jcpy_out, w32_id, jdiv_nn, *] <;> first | done | omega) | (intros; simp (disch := omega) only [jst_eq, jst_ne, jst_ni, jst_o, jI_i, jcpy_out, w32_id, jdiv_nn] at * <;> first | done | omega | assumption) | (intros; first | rfl | (exfalso; omega) | ((repeat' apply And.intro) <;> first | assumption | rfl | omega | trivial)))) ?_ -- o2
      refine OK_jl ?_
      refine OK_jlx (fun x20 ex20 => ?_)
      try simp (disch := omega) only [jst_eq, jst_ne, jst_ni, jI_i, jcmp_lt, jcmp_gt, w32_id, jcpy_out, Sum.elim_inl, Sum.elim_inr, jt2, jt3, jt4, jt5, jt6, jt7, jt8] at ex20
      refine OK_il ?_ ?_
      · try dsimp only [Sum.elim_inl, Sum.elim_inr, jt2, jt3, jt4, jt5, jt6, jt7, jt8]
        refine ⟨?_, ?_⟩
        · (first | assumption | omega | ((try dsimp only [jt2, jt3, jt4]); first | omega | (simp (disch := omega) only [jst_eq, jst_ne, jst_ni, jst_o, jI_i, jcpy_out, w32_id, jdiv_nn, jshr_k, jand_255] <;> first | done | omega | assumption)) | (intros; simp (disch := omega) only [jst_eq, jst_ne, jst_ni, jst_o, jI_i, jcpy_out, w32_id, jdiv_nn, *] <;> first | done | omega) | (intros; simp (disch := omega) only [jst_eq, jst_ne, jst_ni, jst_o, jI_i, jcpy_out, w32_id, jdiv_nn] at * <;> first | done | omega | assumption) | (intros; first | rfl | (exfalso; omega) | ((repeat' apply And.intro) <;> first | assumption | rfl | omega | trivial))) -- o3 e2i.1
        · (intro a s; (try simp (disch := omega) only [jst_eq, jst_ne, jst_ni, jI_i, jcmp_lt, jcmp_gt, w32_id, jcpy_out, Sum.elim_inl, Sum.elim_inr, jt2, jt3, jt4, jt5, jt6, jt7, jt8]); by_cases q : a = 432 ∧ s = a5; { rw [q.1, q.2, jst_eq, if_pos (by omega), q1, if_neg (by omega)] }; { rw [jst_o q, q1]; by_cases q2 : a = 432 ∧ 0 ≤ s ∧ s < a5; { rw [if_pos q2, if_pos (by omega)] }; { rw [if_neg q2, if_neg (by omega)] } }) -- o4 e2i.2
      · (first | assumption | omega | ((try dsimp only [jt2, jt3, jt4]); first | omega | (simp (disch := omega) only [jst_eq, jst_ne, jst_ni, jst_o, jI_i, jcpy_out, w32_id, jdiv_nn, jshr_k, jand_255] <;> first | done | omega | assumption)) | (intros; simp (disch := omega) only [jst_eq, jst_ne, jst_ni, jst_o, jI_i, jcpy_out, w32_id, jdiv_nn, *] <;> first | done | omega) | (intros; simp (disch := omega) only [jst_eq, jst_ne, jst_ni, jst_o, jI_i, jcpy_out, w32_id, jdiv_nn] at * <;> first | done | omega | assumption) | (intros; first | rfl | (exfalso; omega) | ((repeat' apply And.intro) <;> first | assumption | rfl | omega | trivial))) -- o5 e2m
  · try dsimp only [Sum.elim_inl, Sum.elim_inr, jt2, jt3, jt4, jt5, jt6, jt7, jt8]
    refine ⟨?_, ?_⟩
    · (first | assumption | omega | ((try dsimp only [jt2, jt3, jt4]); first | omega | (simp (disch := omega) only [jst_eq, jst_ne, jst_ni, jst_o, jI_i, jcpy_out, w32_id, jdiv_nn, jshr_k, jand_255] <;> first | done | omega | assumption)) | (intros; simp (disch := omega) only [jst_eq, jst_ne, jst_ni, jst_o, jI_i, jcpy_out, w32_id, jdiv_nn, *] <;> first | done | omega) | (intros; simp (disch := omega) only [jst_eq, jst_ne, jst_ni, jst_o, jI_i, jcpy_out, w32_id, jdiv_nn] at * <;> first | done | omega | assumption) | (intros; first | rfl | (exfalso; omega) | ((repeat' apply And.intro) <;> first | assumption | rfl | omega | trivial))) -- o6 init.1
    · (intro a s; rw [if_neg (by omega)]) -- o7 init.2
theorem vX11_shortest (a1 : Int) (a3 : Int) {h : AH} {most : Nat} (hm : a3 = most ∧ most ≤ 5) : OK (gX11_shortest a1 a3 h) (fun r => jt2 r fun v h' => (nohL a1 most → v = 100 ∧ ∀ a s, ¬ (a = 431 ∧ (s = 3 ∨ s = 4)) → ¬ (a = 433 ∧ 0 ≤ s ∧ s < 5) → h' a s = h a s) ∧ (∀ n C, frsL a1 most n C → v = n ∧ h' 431 0 = n ∧ ∀ j : Nat, j < n → h' 432 j = dgL n C j) ∧ (∀ a s, ¬ (a = 431 ∧ (s = 0 ∨ s = 3 ∨ s = 4)) → ¬ ((a = 432 ∨ a = 433) ∧ 0 ≤ s ∧ s < 5) → h' a s = h a s) ∧ (nohL a1 most ∨ ∃ n C, frsL a1 most n C)) := by
  unfold gX11_shortest
  refine OK_jb (vX11_shortest_l3 (most := most) _ _ _ (by (first | assumption | omega | ((try dsimp only [jt2, jt3, jt4]); first | omega | (simp (disch := omega) only [jst_eq, jst_ne, jst_ni, jst_o, jI_i, jcpy_out, w32_id, jdiv_nn, jshr_k, jand_255] <;> first | done | omega | assumption)) | (intros; simp (disch := omega) only [jst_eq, jst_ne, jst_ni, jst_o, jI_i, jcpy_out, w32_id, jdiv_nn, *] <;> first | done | omega) | (intros; simp (disch := omega) only [jst_eq, jst_ne, jst_ni, jst_o, jI_i, jcpy_out, w32_id, jdiv_nn] at * <;> first | done | omega | assumption) | (intros; first | rfl | (exfalso; omega) | ((repeat' apply And.intro) <;> first | assumption | rfl | omega | trivial)))) (by (first | assumption | omega | ((try dsimp only [jt2, jt3, jt4]); first | omega | (simp (disch := omega) only [jst_eq, jst_ne, jst_ni, jst_o, jI_i, jcpy_out, w32_id, jdiv_nn, jshr_k, jand_255] <;> first | done | omega | assumption)) | (intros; simp (disch := omega) only [jst_eq, jst_ne, jst_ni, jst_o, jI_i, jcpy_out, w32_id, jdiv_nn, *] <;> first | done | omega) | (intros; simp (disch := omega) only [jst_eq, jst_ne, jst_ni, jst_o, jI_i, jcpy_out, w32_id, jdiv_nn] at * <;> first | done | omega | assumption) | (intros; first | rfl | (exfalso; omega) | ((repeat' apply And.intro) <;> first | assumption | rfl | omega | trivial))))) (fun o1 r1 => ?_)
  rcases o1 with o3 | o4
  · skip
    have r2 := r1; clear r1
    dsimp only [Sum.elim_inl, Sum.elim_inr] at r2
    refine OK_jml ?_
    obtain ⟨y5, h6⟩ := o3
    refine OK_jt2 ?_
    try dsimp only [Sum.elim_inl, Sum.elim_inr, jt2, jt3, jt4, jt5, jt6, jt7, jt8] at r2
    obtain ⟨fo1, ke1⟩ := r2
    try simp (disch := omega) only [jst_eq, jst_ne, jst_ni, jI_i, jcmp_lt, jcmp_gt, w32_id, jcpy_out, Sum.elim_inl, Sum.elim_inr, jt2, jt3, jt4, jt5, jt6, jt7, jt8] at fo1
    try simp (disch := omega) only [jst_eq, jst_ne, jst_ni, jI_i, jcmp_lt, jcmp_gt, w32_id, jcpy_out, Sum.elim_inl, Sum.elim_inr, jt2, jt3, jt4, jt5, jt6, jt7, jt8] at ke1
    obtain ⟨n, C, f1, f2, f3⟩ := fo1
    have f4 := f2.1
    refine OK_jl ?_
    refine OK_jb (vX11_shortest_l44 _ _ (by (first | assumption | omega | ((try dsimp only [jt2, jt3, jt4]); first | omega | (simp (disch := omega) only [jst_eq, jst_ne, jst_ni, jst_o, jI_i, jcpy_out, w32_id, jdiv_nn, jshr_k, jand_255] <;> first | done | omega | assumption)) | (intros; simp (disch := omega) only [jst_eq, jst_ne, jst_ni, jst_o, jI_i, jcpy_out, w32_id, jdiv_nn, *] <;> first | done | omega) | (intros; simp (disch := omega) only [jst_eq, jst_ne, jst_ni, jst_o, jI_i, jcpy_out, w32_id, jdiv_nn] at * <;> first | done | omega | assumption) | (intros; first | rfl | (exfalso; omega) | ((repeat' apply And.intro) <;> first | assumption | rfl | omega | trivial)))) (by (first | assumption | omega | ((try dsimp only [jt2, jt3, jt4]); first | omega | (simp (disch := omega) only [jst_eq, jst_ne, jst_ni, jst_o, jI_i, jcpy_out, w32_id, jdiv_nn, jshr_k, jand_255] <;> first | done | omega | assumption)) | (intros; simp (disch := omega) only [jst_eq, jst_ne, jst_ni, jst_o, jI_i, jcpy_out, w32_id, jdiv_nn, *] <;> first | done | omega) | (intros; simp (disch := omega) only [jst_eq, jst_ne, jst_ni, jst_o, jI_i, jcpy_out, w32_id, jdiv_nn] at * <;> first | done | omega | assumption) | (intros; first | rfl | (exfalso; omega) | ((repeat' apply And.intro) <;> first | assumption | rfl | omega | trivial))))) (fun o8 r3 => ?_)
    try dsimp only [Sum.elim_inl, Sum.elim_inr, jt2, jt3, jt4, jt5, jt6, jt7, jt8] at r3
    have v2 := r3
    clear r3
    try simp (disch := omega) only [jst_eq, jst_ne, jst_ni, jI_i, jcmp_lt, jcmp_gt, w32_id, jcpy_out, Sum.elim_inl, Sum.elim_inr, jt2, jt3, jt4, jt5, jt6, jt7, jt8] at v2
    refine OK_some ?_
    try dsimp only [Sum.elim_inl, Sum.elim_inr, jt2, jt3, jt4, jt5, jt6, jt7, jt8]
    try dsimp only [Sum.elim_inl, Sum.elim_inr, jt2, jt3, jt4, jt5, jt6, jt7, jt8]
    refine ⟨?_, ?_, ?_, ?_⟩
    · exact fun z => (frsL_no f2 z).elim -- o5 e1.1
    · (intro n' C' z; obtain ⟨z1, z2⟩ := frsL_u f2 z; subst z1; subst z2; refine ⟨f1, ?_, fun j jn => ?_⟩; { rw [v2, if_neg (by omega), jst_eq]; exact f1 }; { rw [v2, if_pos (by omega)]; exact f3 j jn }) -- o6 e1.2
    · (intro a s y1 y2; rw [v2, if_neg (by omega), jst_o (by omega)]; exact ke1 a s (by omega) (by omega)) -- o7 e1.3
    · exact Or.inr ⟨_, _, f2⟩ -- o8 e1.4
  · skip
    have r4 := r1; clear r1
    dsimp only [Sum.elim_inl, Sum.elim_inr] at r4
    try dsimp only [Sum.elim_inl, Sum.elim_inr, jt2, jt3, jt4, jt5, jt6, jt7, jt8] at r4
    obtain ⟨no3, ke3⟩ := r4
    try simp (disch := omega) only [jst_eq, jst_ne, jst_ni, jI_i, jcmp_lt, jcmp_gt, w32_id, jcpy_out, Sum.elim_inl, Sum.elim_inr, jt2, jt3, jt4, jt5, jt6, jt7, jt8] at no3
    try simp (disch := omega) only [jst_eq, jst_ne, jst_ni, jI_i, jcmp_lt, jcmp_gt, w32_id, jcpy_out, Sum.elim_inl, Sum.elim_inr, jt2, jt3, jt4, jt5, jt6, jt7, jt8] at ke3
    refine OK_jmr ?_
    refine OK_some ?_
    try dsimp only [Sum.elim_inl, Sum.elim_inr, jt2, jt3, jt4, jt5, jt6, jt7, jt8]
    try dsimp only [Sum.elim_inl, Sum.elim_inr, jt2, jt3, jt4, jt5, jt6, jt7, jt8]
    refine ⟨?_, ?_, ?_, ?_⟩
    · exact fun _ => ⟨rfl, ke3⟩ -- o9 e2.1
    · exact fun n' C' z => (frsL_no z no3).elim -- o10 e2.2
    · exact fun a s y1 y2 => ke3 a s (by omega) (by omega) -- o11 e2.3
    · exact Or.inl no3 -- o12 e2.4
/-! rows of acts told as a number -/
def opL (w : Int) (k : Nat) : Nat := (w / 2 ^ (5 * k) % 32).toNat
def gtL (w : Int) : Nat → S2
  | 0 => s2_0
  | k + 1 => stpL (opL w k) (gtL w k)
theorem gtL_r (w : Int) : ∀ n, (∀ k, k < n → opL w k < 18) → jr64 (gtL w n).1 ∧ jr64 (gtL w n).2
  | 0, _ => runL_r 0 0
  | n + 1, h => ⟨AL_r (gtL_r w n (fun k l => h k (by omega))).1 (gtL_r w n (fun k l => h k (by omega))).2, BL_r (gtL_r w n (fun k l => h k (by omega))).1 (gtL_r w n (fun k l => h k (by omega))).2⟩
theorem opL_e {w a4 : Int} (hw : jr64 w) (h0 : 0 ≤ a4) (h1 : a4 < 8) : w32 (jandL (jshrL w (w32 (5 * a4))) 31) = opL w a4.toNat := by
  have e : w32 (5 * a4) = (((5 * a4.toNat : Nat)) : Int) := by rw [w32_id (by omega) (by omega)]; omega
  have h31 : uL 31 = 31 := by decide +kernel
  have hu : uL (jandL (jshrL w (w32 (5 * a4))) 31) = (w / 2 ^ (5 * a4.toNat) % 32).toNat := by
    rw [uL_and, h31, show (31 : Nat) = 2 ^ 5 - 1 by decide, Nat.and_two_pow_sub_one_eq_mod, e, jshrL_e (by omega) hw]
    have := uL_m (w / 2 ^ (5 * a4.toNat))
    omega
  have hm := uL_m (jandL (jshrL w (w32 (5 * a4))) 31)
  have hr := jandL_r (jshrL w (w32 (5 * a4))) 31
  unfold jr64 at hr
  rw [hu] at hm
  have hh : jandL (jshrL w (w32 (5 * a4))) 31 = (w / 2 ^ (5 * a4.toNat) % 32) := by omega
  rw [hh, w32_id (by omega) (by omega)]
  unfold opL
  omega
theorem opL_f {w a4 : Int} (hw : jr64 w) (h0 : 0 ≤ a4) (h1 : a4 < 8) : w32 (jandL (jshrL w (5 * a4)) 31) = opL w a4.toNat := by
  have e := opL_e hw h0 h1
  rw [w32_id (x := 5 * a4) (by omega) (by omega)] at e
  exact e
theorem vX11_goal_l15 (i1 : Int) (i3 : Int) (a40 : Int) {h0 : AH} {n : Nat} (hw : jr64 i1) (hn : i3 = n ∧ n ≤ 8) (h4 : a40 = 0) (hs : hS2 h0 = s2_0) : OK (gX11_goal_l15 i1 i3 a40 h0) (Sum.elim (fun h' => (∃ k, k < n ∧ 18 ≤ opL i1 k) ∧ (∀ a s, ¬ (a = 431 ∧ (s = 3 ∨ s = 4)) → h' a s = h0 a s)) (fun h' => (hS2 h' = gtL i1 n ∧ ∀ k, k < n → opL i1 k < 18) ∧ (∀ a s, ¬ (a = 431 ∧ (s = 3 ∨ s = 4)) → h' a s = h0 a s))) := by
  unfold gX11_goal_l15
  refine OK_jit (I := (fun (s : Int × AH) => jt2 s fun a4 h => (0 ≤ a4 ∧ a4 ≤ n) ∧ (hS2 h = gtL i1 a4.toNat) ∧ (∀ k, k < a4.toNat → opL i1 k < 18) ∧ (∀ a s, ¬ (a = 431 ∧ (s = 3 ∨ s = 4)) → h a s = h0 a s))) (m := (fun (s : Int × AH) => jt2 s fun a4 h => (n - a4).toNat)) ?_ ?_
  · intro s hs
    obtain ⟨a4, h⟩ := s
    dsimp only [Sum.elim_inl, Sum.elim_inr, jt2, jt3, jt4, jt5, jt6, jt7, jt8] at hs
    obtain ⟨q0, q1, q2, q3⟩ := hs
    unfold gX11_goal_b15
    refine OK_jt2 ?_
    refine OK_if (fun c1 => ?_) (fun c1 => ?_)
    · skip
      try simp (disch := omega) only [jst_eq, jst_ne, jst_ni, jI_i, jcmp_lt, jcmp_gt, w32_id, jcpy_out, Sum.elim_inl, Sum.elim_inr, jt2, jt3, jt4, jt5, jt6, jt7, jt8] at c1
      refine OK_ir ?_
      try dsimp only [Sum.elim_inl, Sum.elim_inr, jt2, jt3, jt4, jt5, jt6, jt7, jt8]
      refine ⟨?_, ?_⟩
      · (rw [show n = a4.toNat by omega]; exact ⟨q1, q2⟩) -- o1 e1.1
      · (first | assumption | omega | ((try dsimp only [jt2, jt3, jt4]); first | omega | (simp (disch := omega) only [jst_eq, jst_ne, jst_ni, jst_o, jI_i, jcpy_out, w32_id, jdiv_nn, jshr_k, jand_255] <;> first | done | omega | assumption)) | (intros; simp (disch := omega) only [jst_eq, jst_ne, jst_ni, jst_o, jI_i, jcpy_out, w32_id, jdiv_nn, *] <;> first | done | omega) | (intros; simp (disch := omega) only [jst_eq, jst_ne, jst_ni, jst_o, jI_i, jcpy_out, w32_id, jdiv_nn] at * <;> first | done | omega | assumption) | (intros; first | rfl | (exfalso; omega) | ((repeat' apply And.intro) <;> first | assumption | rfl | omega | trivial))) -- o2 e1.2
    · skip
      try simp (disch := omega) only [jst_eq, jst_ne, jst_ni, jI_i, jcmp_lt, jcmp_gt, w32_id, jcpy_out, Sum.elim_inl, Sum.elim_inr, jt2, jt3, jt4, jt5, jt6, jt7, jt8] at c1
      refine OK_jlx (fun x8 ex8 => ?_)
      try simp (disch := omega) only [jst_eq, jst_ne, jst_ni, jI_i, jcmp_lt, jcmp_gt, w32_id, jcpy_out, Sum.elim_inl, Sum.elim_inr, jt2, jt3, jt4, jt5, jt6, jt7, jt8] at ex8
      have ox : x8 = opL i1 a4.toNat := by { rw [ex8]; exact opL_f hw (by omega) (by omega) }
      refine OK_if (fun c2 => ?_) (fun c2 => ?_)
      · skip
        try simp (disch := omega) only [jst_eq, jst_ne, jst_ni, jI_i, jcmp_lt, jcmp_gt, w32_id, jcpy_out, Sum.elim_inl, Sum.elim_inr, jt2, jt3, jt4, jt5, jt6, jt7, jt8] at c2
        refine OK_jb (vX11_act (c := opL i1 a4.toNat) _ (by exact ⟨ox, by omega⟩)) (fun h11 r1 => ?_)
        try dsimp only [Sum.elim_inl, Sum.elim_inr, jt2, jt3, jt4, jt5, jt6, jt7, jt8] at r1
        obtain ⟨al1, bl1, fr1⟩ := r1
        try simp (disch := omega) only [jst_eq, jst_ne, jst_ni, jI_i, jcmp_lt, jcmp_gt, w32_id, jcpy_out, Sum.elim_inl, Sum.elim_inr, jt2, jt3, jt4, jt5, jt6, jt7, jt8] at al1
        try simp (disch := omega) only [jst_eq, jst_ne, jst_ni, jI_i, jcmp_lt, jcmp_gt, w32_id, jcpy_out, Sum.elim_inl, Sum.elim_inr, jt2, jt3, jt4, jt5, jt6, jt7, jt8] at bl1
        try simp (disch := omega) only [jst_eq, jst_ne, jst_ni, jI_i, jcmp_lt, jcmp_gt, w32_id, jcpy_out, Sum.elim_inl, Sum.elim_inr, jt2, jt3, jt4, jt5, jt6, jt7, jt8] at fr1
        refine OK_jlx (fun x12 ex12 => ?_)
        try simp (disch := omega) only [jst_eq, jst_ne, jst_ni, jI_i, jcmp_lt, jcmp_gt, w32_id, jcpy_out, Sum.elim_inl, Sum.elim_inr, jt2, jt3, jt4, jt5, jt6, jt7, jt8] at ex12
        refine OK_il ?_ ?_
        · try dsimp only [Sum.elim_inl, Sum.elim_inr, jt2, jt3, jt4, jt5, jt6, jt7, jt8]
          refine ⟨?_, ?_, ?_, ?_⟩
          · (first | assumption | omega | ((try dsimp only [jt2, jt3, jt4]); first | omega | (simp (disch := omega) only [jst_eq, jst_ne, jst_ni, jst_o, jI_i, jcpy_out, w32_id, jdiv_nn, jshr_k, jand_255] <;> first | done | omega | assumption)) | (intros; simp (disch := omega) only [jst_eq, jst_ne, jst_ni, jst_o, jI_i, jcpy_out, w32_id, jdiv_nn, *] <;> first | done | omega) | (intros; simp (disch := omega) only [jst_eq, jst_ne, jst_ni, jst_o, jI_i, jcpy_out, w32_id, jdiv_nn] at * <;> first | done | omega | assumption) | (intros; first | rfl | (exfalso; omega) | ((repeat' apply And.intro) <;> first | assumption | rfl | omega | trivial))) -- o4 e2i.1
          · (rw [show x12.toNat = a4.toNat + 1 by omega]; show (h11 431 3, h11 431 4) = stpL (opL i1 a4.toNat) (gtL i1 a4.toNat); rw [al1, bl1, ← q1]; rfl) -- o5 e2i.2
          · (intro k kl; by_cases y : k = a4.toNat; { rw [y]; omega }; { exact q2 k (by omega) }) -- o6 e2i.3
          · (intro a s y; rw [fr1 a s y]; exact q3 a s y) -- o7 e2i.4
        · (first | assumption | omega | ((try dsimp only [jt2, jt3, jt4]); first | omega | (simp (disch := omega) only [jst_eq, jst_ne, jst_ni, jst_o, jI_i, jcpy_out, w32_id, jdiv_nn, jshr_k, jand_255] <;> first | done | omega | assumption)) | (intros; simp (disch := omega) only [jst_eq, jst_ne, jst_ni, jst_o, jI_i, jcpy_out, w32_id, jdiv_nn, *] <;> first | done | omega) | (intros; simp (disch := omega) only [jst_eq, jst_ne, jst_ni, jst_o, jI_i, jcpy_out, w32_id, jdiv_nn] at * <;> first | done | omega | assumption) | (intros; first | rfl | (exfalso; omega) | ((repeat' apply And.intro) <;> first | assumption | rfl | omega | trivial))) -- o8 e2m
      · skip
        try simp (disch := omega) only [jst_eq, jst_ne, jst_ni, jI_i, jcmp_lt, jcmp_gt, w32_id, jcpy_out, Sum.elim_inl, Sum.elim_inr, jt2, jt3, jt4, jt5, jt6, jt7, jt8] at c2
        refine OK_ir ?_
        try dsimp only [Sum.elim_inl, Sum.elim_inr, jt2, jt3, jt4, jt5, jt6, jt7, jt8]
        refine ⟨?_, ?_⟩
        · exact ⟨a4.toNat, by omega, by omega⟩ -- o9 e3.1
        · (first | assumption | omega | ((try dsimp only [jt2, jt3, jt4]); first | omega | (simp (disch := omega) only [jst_eq, jst_ne, jst_ni, jst_o, jI_i, jcpy_out, w32_id, jdiv_nn, jshr_k, jand_255] <;> first | done | omega | assumption)) | (intros; simp (disch := omega) only [jst_eq, jst_ne, jst_ni, jst_o, jI_i, jcpy_out, w32_id, jdiv_nn, *] <;> first | done | omega) | (intros; simp (disch := omega) only [jst_eq, jst_ne, jst_ni, jst_o, jI_i, jcpy_out, w32_id, jdiv_nn] at * <;> first | done | omega | assumption) | (intros; first | rfl | (exfalso; omega) | ((repeat' apply And.intro) <;> first | assumption | rfl | omega | trivial))) -- o10 e3.2
  · try dsimp only [Sum.elim_inl, Sum.elim_inr, jt2, jt3, jt4, jt5, jt6, jt7, jt8]
    refine ⟨?_, ?_, ?_, ?_⟩
    · (first | assumption | omega | ((try dsimp only [jt2, jt3, jt4]); first | omega | (simp (disch := omega) only [jst_eq, jst_ne, jst_ni, jst_o, jI_i, jcpy_out, w32_id, jdiv_nn, jshr_k, jand_255] <;> first | done | omega | assumption)) | (intros; simp (disch := omega) only [jst_eq, jst_ne, jst_ni, jst_o, jI_i, jcpy_out, w32_id, jdiv_nn, *] <;> first | done | omega) | (intros; simp (disch := omega) only [jst_eq, jst_ne, jst_ni, jst_o, jI_i, jcpy_out, w32_id, jdiv_nn] at * <;> first | done | omega | assumption) | (intros; first | rfl | (exfalso; omega) | ((repeat' apply And.intro) <;> first | assumption | rfl | omega | trivial))) -- o11 init.1
    · (rw [h4]; exact hs) -- o12 init.2
    · (intro k kl; omega) -- o13 init.3
    · exact fun _ _ _ => rfl -- o14 init.4
theorem vX11_goal (a1 : Int) (a3 : Int) {h : AH} {n : Nat} (hw : jr64 a1) (hn : a3 = n ∧ n ≤ 8) : OK (gX11_goal a1 a3 h) (fun r => jt2 r fun v h' => ((∃ k, k < n ∧ 18 ≤ opL a1 k) → v = 0) ∧ ((∀ k, k < n → opL a1 k < 18) → v = (gtL a1 n).1) ∧ (∀ a s, ¬ (a = 431 ∧ (s = 3 ∨ s = 4)) → h' a s = h a s)) := by
  unfold gX11_goal
  refine OK_jl ?_
  refine OK_jl ?_
  refine OK_jb (vX11_goal_l15 (n := n) _ _ _ (by (first | ((intro a s y; first | rw [fr1 a s y, jst_o (by omega), jst_o (by omega)] | rw [fr2 a s y, jst_o (by omega), jst_o (by omega)])) | (first | assumption | omega | ((try dsimp only [jt2, jt3, jt4]); first | omega | (simp (disch := omega) only [jst_eq, jst_ne, jst_ni, jst_o, jI_i, jcpy_out, w32_id, jdiv_nn, jshr_k, jand_255] <;> first | done | omega | assumption)) | (intros; simp (disch := omega) only [jst_eq, jst_ne, jst_ni, jst_o, jI_i, jcpy_out, w32_id, jdiv_nn, *] <;> first | done | omega) | (intros; simp (disch := omega) only [jst_eq, jst_ne, jst_ni, jst_o, jI_i, jcpy_out, w32_id, jdiv_nn] at * <;> first | done | omega | assumption) | (intros; first | rfl | (exfalso; omega) | ((repeat' apply And.intro) <;> first | assumption | rfl | omega | trivial))))) (by (first | ((intro a s y; first | rw [fr1 a s y, jst_o (by omega), jst_o (by omega)] | rw [fr2 a s y, jst_o (by omega), jst_o (by omega)])) | (first | assumption | omega | ((try dsimp only [jt2, jt3, jt4]); first | omega | (simp (disch := omega) only [jst_eq, jst_ne, jst_ni, jst_o, jI_i, jcpy_out, w32_id, jdiv_nn, jshr_k, jand_255] <;> first | done | omega | assumption)) | (intros; simp (disch := omega) only [jst_eq, jst_ne, jst_ni, jst_o, jI_i, jcpy_out, w32_id, jdiv_nn, *] <;> first | done | omega) | (intros; simp (disch := omega) only [jst_eq, jst_ne, jst_ni, jst_o, jI_i, jcpy_out, w32_id, jdiv_nn] at * <;> first | done | omega | assumption) | (intros; first | rfl | (exfalso; omega) | ((repeat' apply And.intro) <;> first | assumption | rfl | omega | trivial))))) (by (first | ((intro a s y; first | rw [fr1 a s y, jst_o (by omega), jst_o (by omega)] | rw [fr2 a s y, jst_o (by omega), jst_o (by omega)])) | (first | assumption | omega | ((try dsimp only [jt2, jt3, jt4]); first | omega | (simp (disch := omega) only [jst_eq, jst_ne, jst_ni, jst_o, jI_i, jcpy_out, w32_id, jdiv_nn, jshr_k, jand_255] <;> first | done | omega | assumption)) | (intros; simp (disch := omega) only [jst_eq, jst_ne, jst_ni, jst_o, jI_i, jcpy_out, w32_id, jdiv_nn, *] <;> first | done | omega) | (intros; simp (disch := omega) only [jst_eq, jst_ne, jst_ni, jst_o, jI_i, jcpy_out, w32_id, jdiv_nn] at * <;> first | done | omega | assumption) | (intros; first | rfl | (exfalso; omega) | ((repeat' apply And.intro) <;> first | assumption | rfl | omega | trivial))))) (by (unfold hS2; rw [jst_ni (by decide), jst_eq, jst_eq]; rfl))) (fun o3 r1 => ?_)
  rcases o3 with o5 | o6
  · skip
    have r2 := r1; clear r1
    dsimp only [Sum.elim_inl, Sum.elim_inr] at r2
    try dsimp only [Sum.elim_inl, Sum.elim_inr, jt2, jt3, jt4, jt5, jt6, jt7, jt8] at r2
    obtain ⟨no1, fr1⟩ := r2
    try simp (disch := omega) only [jst_eq, jst_ne, jst_ni, jI_i, jcmp_lt, jcmp_gt, w32_id, jcpy_out, Sum.elim_inl, Sum.elim_inr, jt2, jt3, jt4, jt5, jt6, jt7, jt8] at no1
    try simp (disch := omega) only [jst_eq, jst_ne, jst_ni, jI_i, jcmp_lt, jcmp_gt, w32_id, jcpy_out, Sum.elim_inl, Sum.elim_inr, jt2, jt3, jt4, jt5, jt6, jt7, jt8] at fr1
    refine OK_jml ?_
    refine OK_some ?_
    try dsimp only [Sum.elim_inl, Sum.elim_inr, jt2, jt3, jt4, jt5, jt6, jt7, jt8]
    try dsimp only [Sum.elim_inl, Sum.elim_inr, jt2, jt3, jt4, jt5, jt6, jt7, jt8]
    refine ⟨?_, ?_, ?_⟩
    · exact fun _ => rfl -- o5 e1.1
    · (intro z; obtain ⟨k, k1, k2⟩ := no1; have := z k k1; omega) -- o6 e1.2
    · (first | ((intro a s y; first | rw [fr1 a s y, jst_o (by omega), jst_o (by omega)] | rw [fr2 a s y, jst_o (by omega), jst_o (by omega)])) | (first | assumption | omega | ((try dsimp only [jt2, jt3, jt4]); first | omega | (simp (disch := omega) only [jst_eq, jst_ne, jst_ni, jst_o, jI_i, jcpy_out, w32_id, jdiv_nn, jshr_k, jand_255] <;> first | done | omega | assumption)) | (intros; simp (disch := omega) only [jst_eq, jst_ne, jst_ni, jst_o, jI_i, jcpy_out, w32_id, jdiv_nn, *] <;> first | done | omega) | (intros; simp (disch := omega) only [jst_eq, jst_ne, jst_ni, jst_o, jI_i, jcpy_out, w32_id, jdiv_nn] at * <;> first | done | omega | assumption) | (intros; first | rfl | (exfalso; omega) | ((repeat' apply And.intro) <;> first | assumption | rfl | omega | trivial)))) -- o7 e1.3
  · skip
    have r3 := r1; clear r1
    dsimp only [Sum.elim_inl, Sum.elim_inr] at r3
    try dsimp only [Sum.elim_inl, Sum.elim_inr, jt2, jt3, jt4, jt5, jt6, jt7, jt8] at r3
    obtain ⟨ok2, fr2⟩ := r3
    try simp (disch := omega) only [jst_eq, jst_ne, jst_ni, jI_i, jcmp_lt, jcmp_gt, w32_id, jcpy_out, Sum.elim_inl, Sum.elim_inr, jt2, jt3, jt4, jt5, jt6, jt7, jt8] at ok2
    try simp (disch := omega) only [jst_eq, jst_ne, jst_ni, jI_i, jcmp_lt, jcmp_gt, w32_id, jcpy_out, Sum.elim_inl, Sum.elim_inr, jt2, jt3, jt4, jt5, jt6, jt7, jt8] at fr2
    refine OK_jmr ?_
    refine OK_some ?_
    try dsimp only [Sum.elim_inl, Sum.elim_inr, jt2, jt3, jt4, jt5, jt6, jt7, jt8]
    try dsimp only [Sum.elim_inl, Sum.elim_inr, jt2, jt3, jt4, jt5, jt6, jt7, jt8]
    refine ⟨?_, ?_, ?_⟩
    · (intro z; obtain ⟨k, k1, k2⟩ := z; have := ok2.2 k k1; omega) -- o8 e2.1
    · (intro z; rw [← ok2.1]; rfl) -- o9 e2.2
    · (first | ((intro a s y; first | rw [fr1 a s y, jst_o (by omega), jst_o (by omega)] | rw [fr2 a s y, jst_o (by omega), jst_o (by omega)])) | (first | assumption | omega | ((try dsimp only [jt2, jt3, jt4]); first | omega | (simp (disch := omega) only [jst_eq, jst_ne, jst_ni, jst_o, jI_i, jcpy_out, w32_id, jdiv_nn, jshr_k, jand_255] <;> first | done | omega | assumption)) | (intros; simp (disch := omega) only [jst_eq, jst_ne, jst_ni, jst_o, jI_i, jcpy_out, w32_id, jdiv_nn, *] <;> first | done | omega) | (intros; simp (disch := omega) only [jst_eq, jst_ne, jst_ni, jst_o, jI_i, jcpy_out, w32_id, jdiv_nn] at * <;> first | done | omega | assumption) | (intros; first | rfl | (exfalso; omega) | ((repeat' apply And.intro) <;> first | assumption | rfl | omega | trivial)))) -- o10 e2.3

