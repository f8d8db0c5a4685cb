/-! rows of slots that are looked into one behind the other -/
def slP (M h d : Int) : Int := (h + d) % M
theorem slP_b {M h d : Int} (m : 0 < M) : 0 ≤ slP M h d ∧ slP M h d < M := ⟨Int.emod_nonneg _ (by omega), Int.emod_lt_of_pos _ m⟩
theorem slP_i {M h p : Int} (m : 0 < M) (p0 : 0 ≤ p) (p1 : p < M) : slP M h ((p - h) % M) = p := by
  unfold slP
  rw [Int.add_emod, Int.emod_emod_of_dvd _ (Int.dvd_refl M), ← Int.add_emod, show h + (p - h) = p by omega]
  exact Int.emod_eq_of_lt p0 p1
theorem slP_u {M h d e : Int} (m : 0 < M) (d0 : 0 ≤ d) (d1 : d < M) (e0 : 0 ≤ e) (e1 : e < M) (q : slP M h d = slP M h e) : d = e := by
  have a := Int.emod_add_mul_ediv (h + d) M
  have b := Int.emod_add_mul_ediv (h + e) M
  unfold slP at q
  rw [q] at a
  have c : M * ((h + d) / M - (h + e) / M) = d - e := by rw [Int.mul_sub]; omega
  have lo : -M < M * ((h + d) / M - (h + e) / M) := by omega
  have hi : M * ((h + d) / M - (h + e) / M) < M := by omega
  have z : (h + d) / M - (h + e) / M = 0 := by
    rcases Int.lt_trichotomy ((h + d) / M - (h + e) / M) 0 with y | y | y
    · have := Int.mul_le_mul_of_nonneg_left (show (h + d) / M - (h + e) / M ≤ -1 by omega) (show 0 ≤ M by omega)
      omega
    · exact y
    · have := Int.mul_le_mul_of_nonneg_left (show 1 ≤ (h + d) / M - (h + e) / M by omega) (show 0 ≤ M by omega)
      omega
  rw [z, Int.mul_zero] at c
  omega
def cntZ (t : Int → Int) : Nat → Int
  | 0 => 0
  | n + 1 => (if t n = 0 then 1 else 0) + cntZ t n
theorem cntZ_p {t : Int → Int} : ∀ {n : Nat}, 0 < cntZ t n → ∃ p, 0 ≤ p ∧ p < (n : Int) ∧ t p = 0
  | 0, h => absurd h (show ¬ (0 : Int) < 0 by decide)
  | n + 1, h => by
    by_cases y : t n = 0
    · exact ⟨n, by omega, by omega, y⟩
    · unfold cntZ at h
      rw [if_neg y] at h
      obtain ⟨p, p0, p1, p2⟩ := cntZ_p (t := t) (n := n) (by omega)
      exact ⟨p, p0, by omega, p2⟩
theorem cntZ_c {t u : Int → Int} : ∀ {n : Nat}, (∀ p, 0 ≤ p → p < (n : Int) → (t p = 0 ↔ u p = 0)) → cntZ t n = cntZ u n
  | 0, _ => rfl
  | n + 1, h => by
    unfold cntZ
    rw [cntZ_c (n := n) (fun p a b => h p a (by omega))]
    by_cases y : t n = 0
    · rw [if_pos y, if_pos ((h n (by omega) (by omega)).mp y)]
    · rw [if_neg y, if_neg (fun z => y ((h n (by omega) (by omega)).mpr z))]
theorem cntZ_u {t : Int → Int} {p v : Int} (tp : t p = 0) (v0 : v ≠ 0) : ∀ {n : Nat}, 0 ≤ p → p < (n : Int) → cntZ (up1 t p v) n = cntZ t n - 1
  | 0, a, b => by omega
  | n + 1, a, b => by
    unfold cntZ
    by_cases y : p = n
    · have e : cntZ (up1 t p v) n = cntZ t n := cntZ_c (fun q q0 q1 => by rw [up1_o (by omega)])
      rw [e, ← y, up1_e, if_neg v0, if_pos tp]
      omega
    · rw [cntZ_u tp v0 (n := n) a (by omega), up1_o (fun z => y z.symm)]
      omega
theorem cntZ_0 {t : Int → Int} : ∀ {n : Nat}, (∀ p, 0 ≤ p → p < (n : Int) → t p = 0) → cntZ t n = n
  | 0, _ => rfl
  | n + 1, h => by
    unfold cntZ
    rw [if_pos (h n (by omega) (by omega)), cntZ_0 (n := n) (fun p a b => h p a (by omega))]
    omega
/-- the slots: 0, or 1 and a key's number; a key begins to be looked for at its own place -/
def prT (M N : Int) (t H : Int → Int) : Prop := 0 < M ∧ 0 ≤ N ∧ (∀ p, 0 ≤ p → p < M → 0 ≤ t p ∧ t p ≤ N) ∧ (∀ k, 0 ≤ k → k < N → (0 ≤ H k ∧ H k < M) ∧ ∃ d, (0 ≤ d ∧ d < M) ∧ t (slP M (H k) d) = k + 1 ∧ ∀ e, 0 ≤ e → e < d → t (slP M (H k) e) ≠ 0) ∧ cntZ t M.toNat = M - N
theorem prT_0 {M : Int} {t H : Int → Int} (m : 0 < M) (z : ∀ p, 0 ≤ p → p < M → t p = 0) : prT M 0 t H :=
  ⟨m, Int.le_refl _, fun p a b => by rw [z p a b]; omega, fun k a b => by omega, by rw [cntZ_0 (fun p a b => z p a (by omega))]; omega⟩
theorem prT_c {M N : Int} {t t' H H' : Int → Int} (h : prT M N t H) (e : ∀ p, 0 ≤ p → p < M → t' p = t p) (g : ∀ k, 0 ≤ k → k < N → H' k = H k) : prT M N t' H' := by
  obtain ⟨h1, h2, h3, h4, h5⟩ := h
  refine ⟨h1, h2, fun p a b => by rw [e p a b]; exact h3 p a b, fun k a b => ?_, ?_⟩
  · obtain ⟨q1, d, q2, q3, q4⟩ := h4 k a b
    rw [g k a b]
    exact ⟨q1, d, q2, by rw [e _ (slP_b h1).1 (slP_b h1).2]; exact q3, fun x y z => by rw [e _ (slP_b h1).1 (slP_b h1).2]; exact q4 x y z⟩
  · rw [← h5]
    exact cntZ_c (fun p a b => by rw [e p a (by omega)])
theorem prT_e {M N : Int} {t H : Int → Int} (h : prT M N t H) (n : N < M) (x : Int) : ∃ D, 0 ≤ D ∧ D < M ∧ t (slP M x D) = 0 := by
  obtain ⟨h1, h2, h3, h4, h5⟩ := h
  obtain ⟨p, p0, p1, p2⟩ := cntZ_p (t := t) (n := M.toNat) (by omega)
  refine ⟨(p - x) % M, Int.emod_nonneg _ (by omega), Int.emod_lt_of_pos _ h1, ?_⟩
  rw [slP_i h1 p0 (by omega)]
  exact p2
/-- an empty slot comes: a key that begins there was met -/
theorem prT_m {M N : Int} {t H : Int → Int} (h : prT M N t H) {x D k : Int} (d0 : 0 ≤ D) (td : t (slP M x D) = 0) (k0 : 0 ≤ k) (k1 : k < N) (hk : H k = x) : ∃ e, 0 ≤ e ∧ e < D ∧ t (slP M x e) = k + 1 := by
  obtain ⟨h1, h2, h3, h4, h5⟩ := h
  obtain ⟨q1, d, q2, q3, q4⟩ := h4 k k0 k1
  rw [hk] at q3 q4
  rcases Int.lt_trichotomy d D with y | y | y
  · exact ⟨d, q2.1, y, q3⟩
  · rw [y] at q3; omega
  · exact absurd td (q4 D d0 y)
theorem prT_n {M N : Int} {t H : Int → Int} (h : prT M N t H) {x D : Int} (x0 : 0 ≤ x) (x1 : x < M) (d0 : 0 ≤ D) (d1 : D < M) (td : t (slP M x D) = 0) (te : ∀ e, 0 ≤ e → e < D → t (slP M x e) ≠ 0) : prT M (N + 1) (up1 t (slP M x D) (N + 1)) (up1 H N x) := by
  obtain ⟨h1, h2, h3, h4, h5⟩ := h
  have sb := slP_b (h := x) (d := D) h1
  refine ⟨h1, by omega, fun p a b => ?_, fun k a b => ?_, ?_⟩
  · by_cases y : p = slP M x D
    · rw [y, up1_e]; omega
    · rw [up1_o y]; have := h3 p a b; omega
  · by_cases y : k = N
    · rw [y, up1_e]
      refine ⟨⟨x0, x1⟩, D, ⟨d0, d1⟩, by rw [up1_e], fun e e0 e1 => ?_⟩
      rw [up1_o (fun z => by have := slP_u h1 e0 (by omega) d0 d1 z; omega)]
      exact te e e0 e1
    · rw [up1_o y]
      obtain ⟨q1, d, q2, q3, q4⟩ := h4 k a (by omega)
      refine ⟨q1, d, q2, ?_, fun e e0 e1 => ?_⟩
      · rw [up1_o (fun z => by rw [z, td] at q3; omega)]
        exact q3
      · by_cases z : slP M (H k) e = slP M x D
        · rw [z, up1_e]; omega
        · rw [up1_o z]; exact q4 e e0 e1
  · rw [cntZ_u td (by omega) sb.1 (by omega), h5]
    omega

