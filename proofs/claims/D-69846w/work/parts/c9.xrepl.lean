/-! x: a node is replaced -/
theorem rpK_kd {S : TR} : ∀ {R : TR} {i : Int} (m k : Nat), (m : Int) < nk R → (k : Int) < nk R → kss sz R m ≤ i → i < kss sz R m + sz (kdA R m) → kdA (rpK R i S) k = if k = m then rpT (kdA R m) (i - kss sz R m) S else kdA R k
  | .leaf j, i, m, k, hm, _, _, _ => by have e : nk (.leaf j) = 0 := rfl; omega
  | .branch b s r, i, 0, k, hm, hk, i0, i1 => by
    have e0 : kss sz (.branch b s r) 0 = 0 := rfl
    rw [e0] at i0 i1 ⊢
    have i1 : i < 0 + sz s := i1
    unfold rpK
    rw [if_pos (by omega)]
    cases k with
    | zero =>
      rw [if_pos rfl]
      show (if i = 0 then S else rpK s (i - 1) S) = rpT s (i - 0) S
      rw [show i - 0 = i by omega]
      rfl
    | succ k =>
      show kdA r k = if k + 1 = 0 then _ else kdA r k
      rw [if_neg (Nat.succ_ne_zero k)]
  | .branch b s r, i, m + 1, k, hm, hk, i0, i1 => by
    have e : nk (.branch b s r) = nk r + 1 := rfl
    rw [kss_br] at i0 i1 ⊢
    have k0 := kss_0 sz_0 r m
    have i1 : i < sz s + kss sz r m + sz (kdA r m) := i1
    unfold rpK
    rw [if_neg (by omega)]
    cases k with
    | zero => rw [if_neg (by omega)]; rfl
    | succ k =>
      have ih := rpK_kd (S := S) (R := r) (i := i - sz s) m k (by omega) (by omega) (by omega) (by omega)
      show kdA (rpK r (i - sz s) S) k = if k + 1 = m + 1 then rpT (kdA r m) (i - (sz s + kss sz r m)) S else kdA r k
      rw [ih, show i - sz s - kss sz r m = i - (sz s + kss sz r m) by omega]
      by_cases y : k = m
      · rw [if_pos y, if_pos (by omega)]
      · rw [if_neg y, if_neg (by omega)]
theorem trX_of {h : AH} {T lo hi : Int} : ∀ {R : TR} {d j : Int}, (∀ m : Nat, (m : Int) < nk R → trX h T lo hi (kdA R m) (h (T + 5) (3 * d + (j + m))) 0) → (lo ≤ d ∧ d < hi ∧ h (T + 1) d = (inf R).1 ∧ h (T + 2) d = (inf R).2.1 ∧ h (T + 3) d = (inf R).2.2.1) → (∀ k, 0 ≤ k → j + nk R ≤ k → k < 3 → h (T + 5) (3 * d + k) = -1) → 0 ≤ j → j + nk R ≤ 3 → trX h T lo hi R d j
  | .leaf i, d, j, _, c, n, j0, _ => ⟨c.1, c.2.1, c.2.2.1, c.2.2.2.1, c.2.2.2.2, fun k k0 k1 k2 => n k k0 (by show j + 0 ≤ k; omega) k2⟩
  | .branch b s r, d, j, K, c, n, j0, j3 => by
    have e : nk (.branch b s r) = nk r + 1 := rfl
    have n0 := nk_0 r
    have k0 := K 0 (by omega)
    rw [show j + ((0 : Nat) : Int) = j from Int.add_zero j] at k0
    refine ⟨j0, by omega, k0, trX_of (fun m ml => ?_) c (fun k k0 k1 k2 => n k k0 (by omega) k2) (by omega) (by omega)⟩
    have km := K (m + 1) (by omega)
    rw [show j + ((m + 1 : Nat) : Int) = j + 1 + (m : Int) by omega] at km
    exact km
def fr329 (d z : Int) (h h' : AH) : Prop := ∀ a s, ¬ (a = 329 ∧ 3 * d ≤ s ∧ s < 3 * (d + z)) → h' a s = h a s
def rpP (R : TR) (d w put : Int) (h : AH) (v : Int) (h' : AH) : Prop := (¬ (d ≤ w ∧ w < d + sz R) → v = d ∧ ∀ a s, h' a s = h a s) ∧ (d ≤ w ∧ w < d + sz R → fr329 d (sz R) h h' ∧ ∀ S : TR, (∀ hh, fr329 d (sz R) h hh → trX hh 324 (d + sz R) 2200 S put 0) → trX h' 324 d 2200 (rpT R (w - d) S) v 0)
def CRP (F : Int → Int → Int → AH → Option (Int × AH)) (w put k : Int) : Prop := ∀ (d : Int) (h : AH) (R : TR), capT h 324 2200 → cX h 324 R d 0 (d + 1) → (0 ≤ d ∧ d + sz R ≤ 2200) → dpT R + 1 ≤ k → OK (F d w put h) (fun r => jt2 r fun v h' => rpP R d w put h v h')
/-- on the way through the operands -/
def rpI (R : TR) (d w put : Int) (hb : AH) (k : Nat) (h : AH) : Prop := (¬ (d + 1 ≤ w ∧ w < d + 1 + kss sz R k) → ∀ a s, h a s = hb a s) ∧ (d + 1 ≤ w ∧ w < d + 1 + kss sz R k → ∃ (m : Nat) (v : Int), m < k ∧ (m : Int) < nk R ∧ (d + 1 + kss sz R m ≤ w ∧ w < d + 1 + kss sz R m + sz (kdA R m)) ∧ h 329 (3 * d + m) = v ∧ (∀ a s, ¬ (a = 329 ∧ s = 3 * d + m) → ¬ (a = 329 ∧ 3 * (d + 1 + kss sz R m) ≤ s ∧ s < 3 * (d + 1 + kss sz R m + sz (kdA R m))) → h a s = hb a s) ∧ ∀ S : TR, (∀ hh, fr329 d (sz R) hb hh → trX hh 324 (d + sz R) 2200 S put 0) → trX h 324 (d + 1 + kss sz R m) 2200 (rpT (kdA R m) (w - (d + 1 + kss sz R m)) S) v 0)
theorem rpI_no {R : TR} {d w put : Int} {hb h : AH} {k : Nat} (l : ¬ (k : Int) < nk R) (i : rpI R d w put hb k h) : rpI R d w put hb (k + 1) h := by
  have e := kss_n (g := sz) l
  obtain ⟨i1, i2⟩ := i
  refine ⟨fun y => i1 (by rw [e] at y; exact y), fun y => ?_⟩
  rw [e] at y
  obtain ⟨m, v, m1, m2⟩ := i2 y
  exact ⟨m, v, by omega, m2⟩
theorem rpI_st {R : TR} {d w put v : Int} {hb h h1 h2 : AH} {k : Nat} (n3 : nk R ≤ 3) (l : (k : Int) < nk R) (i : rpI R d w put hb k h) (c : cX hb 324 R d 0 (d + 1)) (p : rpP (kdA R k) (d + 1 + kss sz R k) w put h v h1) (j1 : h2 329 (3 * d + k) = v) (j2 : ∀ a s, ¬ (a = 329 ∧ s = 3 * d + k) → h2 a s = h1 a s) : rpI R d w put hb (k + 1) h2 := by
  have e := kss_s (g := sz) l
  have sk := szK_le l n3
  have k0 := kss_0 sz_0 R k
  have sp := sz_pos (kdA R k)
  have ck := (cX_kd k c l).1
  rw [Int.zero_add] at ck
  obtain ⟨i1, i2⟩ := i
  obtain ⟨p1, p2⟩ := p
  by_cases y : d + 1 ≤ w ∧ w < d + 1 + kss sz R k
  · obtain ⟨m, u, m1, m2, m3, m4, m5, m6⟩ := i2 y
    have q := p1 (by omega)
    have em := kss_s (g := sz) m2
    have le := kss_le sz_0 R (k := m + 1) k (by omega)
    have m0 := kss_0 sz_0 R m
    have hh : ∀ a s, h2 a s = h a s := fun a s => by
      by_cases z : a = 329 ∧ s = 3 * d + k
      · rw [z.1, z.2, j1, q.1, m5 _ _ (by omega) (by omega)]; exact ck.symm
      · rw [j2 a s z]; exact q.2 a s
    have ee : h2 = h := by funext a s; exact hh a s
    refine ⟨fun z => absurd ⟨y.1, by rw [e]; omega⟩ z, fun _ => ⟨m, u, by omega, m2, m3, ?_, ?_, ?_⟩⟩
    · rw [ee]; exact m4
    · rw [ee]; exact m5
    · rw [ee]; exact m6
  · have ih := i1 y
    have eh : h = hb := by funext a s; exact ih a s
    subst eh
    by_cases z : d + 1 + kss sz R k ≤ w ∧ w < d + 1 + kss sz R k + sz (kdA R k)
    · obtain ⟨q1, q2⟩ := p2 z
      refine ⟨fun x => absurd ⟨by omega, by rw [e]; omega⟩ x, fun _ => ⟨k, v, by omega, l, z, j1, fun a s y1 y2 => ?_, fun S tS => ?_⟩⟩
      · rw [j2 a s y1]; exact q1 a s y2
      · have t := q2 S (fun hh f => trX_le (show d + 1 + kss sz R k + sz (kdA R k) ≤ d + sz R by omega) (Int.le_refl _) (tS hh (fun a s y => f a s (by omega))))
        exact trX_fr (fun a s x0 x1 _ _ => j2 _ _ (by omega)) (fun s s0 _ => j2 _ _ (by omega)) t (Int.le_refl 0)
    · have q := p1 z
      have hh : ∀ a s, h2 a s = h a s := fun a s => by
        by_cases x : a = 329 ∧ s = 3 * d + k
        · rw [x.1, x.2, j1, q.1]; exact ck.symm
        · rw [j2 a s x]; exact q.2 a s
      exact ⟨fun _ => hh, fun x => by rw [e] at x; omega⟩
theorem rpI_end {R : TR} {d w put : Int} {hb h : AH} (n3 : nk R ≤ 3) (c : cX hb 324 R d 0 (d + 1)) (d0 : 0 ≤ d ∧ d + sz R ≤ 2200) (dw : d ≠ w) (i : rpI R d w put hb 3 h) : rpP R d w put hb d h := by
  have k3 := kss_sz R 3 (by omega)
  obtain ⟨i1, i2⟩ := i
  refine ⟨fun y => ⟨rfl, i1 (by omega)⟩, fun y => ?_⟩
  obtain ⟨m, v, m1, m2, m3, m4, m5, m6⟩ := i2 (by omega)
  have sk := szK_le m2 n3
  have m0 := kss_0 sz_0 R m
  have sp := sz_pos (kdA R m)
  refine ⟨fun a s y => m5 a s (by omega) (by omega), fun S tS => ?_⟩
  have t := m6 S tS
  have nd := cX_nd c
  have e : rpT R (w - d) S = rpK R (w - d - 1) S := if_neg (by omega)
  rw [e]
  have no := trX_no (cX_tr (lo := d) (hi := 2200) c (Int.le_refl _) (by have := sz_pos R; omega) (by omega) (by omega))
  refine trX_of (fun k kl => ?_) ⟨Int.le_refl _, by have := sz_pos R; omega, ?_, ?_, ?_⟩ (fun k k0 k1 k2 => ?_) (Int.le_refl _) (by rw [rpK_nk]; omega)
  · rw [rpK_nk] at kl
    rw [rpK_kd m k m2 kl (by omega) (by omega), Int.zero_add]
    by_cases z : k = m
    · rw [if_pos z, z, show w - d - 1 - kss sz R m = w - (d + 1 + kss sz R m) by omega]
      show trX h 324 d 2200 _ (h 329 (3 * d + m)) 0
      rw [m4]
      exact trX_le (by omega) (Int.le_refl _) t
    · rw [if_neg z]
      have ck := cX_kd k c kl
      rw [Int.zero_add] at ck
      have sk2 := szK_le kl n3
      have k0 := kss_0 sz_0 R k
      have sp2 := sz_pos (kdA R k)
      show trX h 324 d 2200 _ (h 329 (3 * d + k)) 0
      have ds : kss sz R k + sz (kdA R k) ≤ kss sz R m ∨ kss sz R m + sz (kdA R m) ≤ kss sz R k := by
        by_cases x : k < m
        · have le := kss_le sz_0 R (k := k + 1) m (by omega)
          rw [kss_s kl] at le
          exact .inl le
        · have le := kss_le sz_0 R (k := m + 1) k (by omega)
          rw [kss_s m2] at le
          exact .inr le
      rw [m5 _ _ (by omega) (by omega), show hb 329 (3 * d + (k : Int)) = d + 1 + kss sz R k from ck.1]
      have t2 := cX_tr (lo := d + 1 + kss sz R k) (hi := d + 1 + kss sz R k + sz (kdA R k)) ck.2 (Int.le_refl _) (by omega) (by omega) (by omega)
      exact trX_le (by omega) (by omega) (trX_fr (fun a s x0 x1 _ _ => m5 _ _ (by omega) (by omega)) (fun s s0 s1 => m5 _ _ (by omega) (by omega)) t2 (Int.le_refl 0))
  · rw [m5 _ _ (by omega) (by omega), rpK_inf]; exact nd.1
  · rw [m5 _ _ (by omega) (by omega), rpK_inf]; exact nd.2.1
  · rw [m5 _ _ (by omega) (by omega), rpK_inf]; exact nd.2.2
  · rw [rpK_nk] at k1
    show h 329 (3 * d + k) = -1
    rw [m5 _ _ (by omega) (by omega)]
    exact no k k0 k1 k2
theorem rpP_n {R : TR} {d w put v : Int} {h h' : AH} (p : rpP R d w put h v h') {a s : Int} (s0 : s < 0 ∧ 0 ≤ d) : h' a s = h a s := by
  by_cases y : d ≤ w ∧ w < d + sz R
  · exact (p.2 y).1 a s (by omega)
  · exact (p.1 y).2 a s
theorem rpI_f {R : TR} {d w put : Int} {hb h : AH} {k : Nat} (n3 : nk R ≤ 3) (i : rpI R d w put hb k h) : fr329 d (sz R) hb h := fun a s y => by
  by_cases z : d + 1 ≤ w ∧ w < d + 1 + kss sz R k
  · obtain ⟨m, v, m1, m2, m3, m4, m5, m6⟩ := i.2 z
    have sk := szK_le m2 n3
    have m0 := kss_0 sz_0 R m
    exact m5 a s (by omega) (by omega)
  · exact i.1 z a s
theorem rpI_k {R : TR} {d w put q : Int} {hb h : AH} {k : Nat} (i : rpI R d w put hb k h) (d0 : 0 ≤ d) (q0 : 0 ≤ q) (qk : (k : Int) ≤ q ∧ q < 3) : h 329 (3 * d + q) = hb 329 (3 * d + q) := by
  by_cases z : d + 1 ≤ w ∧ w < d + 1 + kss sz R k
  · obtain ⟨m, v, m1, m2, m3, m4, m5, m6⟩ := i.2 z
    have m0 := kss_0 sz_0 R m
    exact m5 _ _ (by omega) (by omega)
  · exact i.1 z _ _
/-- the next operand stands as it stood -/
theorem rpI_c {R : TR} {d w put : Int} {hb h : AH} {k : Nat} (n3 : nk R ≤ 3) (l : (k : Int) < nk R) (i : rpI R d w put hb k h) (c : cX hb 324 (kdA R k) (d + 1 + kss sz R k) 0 (d + 1 + kss sz R k + 1)) : cX h 324 (kdA R k) (d + 1 + kss sz R k) 0 (d + 1 + kss sz R k + 1) := by
  have sp := sz_pos (kdA R k)
  by_cases z : d + 1 ≤ w ∧ w < d + 1 + kss sz R k
  · obtain ⟨m, v, m1, m2, m3, m4, m5, m6⟩ := i.2 z
    have m0 := kss_0 sz_0 R m
    have le := kss_le sz_0 R (k := m + 1) k (by omega)
    rw [kss_s m2] at le
    exact cX_fr (h := hb) (lo := d + 1 + kss sz R k) (hi := d + 1 + kss sz R k + sz (kdA R k)) (fun a s a0 a1 _ _ => m5 _ _ (by omega) (by omega)) (fun s s0 s1 => m5 _ _ (by omega) (by omega)) c (Int.le_refl _) (Int.le_refl _) (by omega) (by omega) (by omega)
  · have e : h = hb := by funext a s; exact i.1 z a s
    rw [e]; exact c
theorem vX1_replaced_l10 {F : Int → Int → Int → AH → Option (Int × AH)} (i1 : Int) (i2 : Int) (i3 : Int) (a40 : Int) {h0 : AH} {k : Int} {R : TR} {hb : AH} (hF : CRP F i2 i3 k) (cp : capT hb 324 2200) (c : cX hb 324 R i1 0 (i1 + 1)) (d : 0 ≤ i1 ∧ i1 + sz R ≤ 2200) (dk : dpT R + 1 ≤ k + 1) (n3 : nk R ≤ 3) (dw : i1 ≠ i2) (z : a40 = 0 ∧ h0 = hb) : OK (gX1_replaced_l10 F i1 i2 i3 a40 h0) (fun h' => rpP R i1 i2 i3 hb i1 h') := by
  unfold gX1_replaced_l10
  refine OK_jit (I := (fun (s : Int × AH) => jt2 s fun a4 h => (0 ≤ a4 ∧ a4 ≤ 3) ∧ (rpI R i1 i2 i3 hb a4.toNat h))) (m := (fun (s : Int × AH) => jt2 s fun a4 h => (3 - a4).toNat)) ?_ ?_
  · intro s hs
    obtain ⟨a4, h⟩ := s
    dsimp only [Sum.elim_inl, Sum.elim_inr, jt2, jt3, jt4, jt5, jt6, jt7, jt8] at hs
    obtain ⟨q0, q1⟩ := hs
    unfold gX1_replaced_b10
    refine OK_jt2 ?_
    have QI := q1
    have sp := sz_pos R
    have k0 := kss_0 sz_0 R a4.toNat
    have G : fr329 i1 (sz R) hb h := rpI_f n3 QI
    have CP : capT h 324 2200 := capT_fr cp (fun a a0 a1 => G _ _ (by omega))
    refine OK_if (fun c1 => ?_) (fun c1 => ?_)
    · skip
      try simp (disch := omega) only [jst_eq, jst_ne, jst_ni, jI_i, jcmp_lt, jcmp_gt, w32_id, jcpy_out, Sum.elim_inl, Sum.elim_inr, jt2, jt3, jt4, jt5, jt6, jt7, jt8] at c1
      refine OK_ir ?_
      exact rpI_end n3 c d dw (by have e : a4.toNat = 3 := (by omega); rw [e] at QI; exact QI) -- o1 e1
    · skip
      try simp (disch := omega) only [jst_eq, jst_ne, jst_ni, jI_i, jcmp_lt, jcmp_gt, w32_id, jcpy_out, Sum.elim_inl, Sum.elim_inr, jt2, jt3, jt4, jt5, jt6, jt7, jt8] at c1
      have ea : ((a4.toNat : Nat) : Int) = a4 := by omega
      have no := trX_no (cX_tr (lo := 0) (hi := 2200) c (by omega) (by omega) (by omega) (by omega)) a4 q0.1
      have PK : h 329 (3 * i1 + a4) = hb 329 (3 * i1 + a4) := rpI_k QI (by omega) q0.1 (by omega)
      refine OK_jb (vX3_part (M := 2200) _ _ _ (by (first | assumption | omega | ((try dsimp only [jt2, jt3, jt4]); first | omega | (simp (disch := omega) only [jst_eq, jst_ne, jst_ni, jst_o, jI_i, jcpy_out, w32_id, jdiv_nn, jshr_k, jand_255] <;> first | done | omega | assumption)) | (intros; simp (disch := omega) only [jst_eq, jst_ne, jst_ni, jst_o, jI_i, jcpy_out, w32_id, jdiv_nn, *] <;> first | done | omega) | (intros; simp (disch := omega) only [jst_eq, jst_ne, jst_ni, jst_o, jI_i, jcpy_out, w32_id, jdiv_nn] at * <;> first | done | omega | assumption) | (intros; first | rfl | (exfalso; omega) | ((repeat' apply And.intro) <;> first | assumption | rfl | omega | trivial)))) (by (first | assumption | omega | ((try dsimp only [jt2, jt3, jt4]); first | omega | (simp (disch := omega) only [jst_eq, jst_ne, jst_ni, jst_o, jI_i, jcpy_out, w32_id, jdiv_nn, jshr_k, jand_255] <;> first | done | omega | assumption)) | (intros; simp (disch := omega) only [jst_eq, jst_ne, jst_ni, jst_o, jI_i, jcpy_out, w32_id, jdiv_nn, *] <;> first | done | omega) | (intros; simp (disch := omega) only [jst_eq, jst_ne, jst_ni, jst_o, jI_i, jcpy_out, w32_id, jdiv_nn] at * <;> first | done | omega | assumption) | (intros; first | rfl | (exfalso; omega) | ((repeat' apply And.intro) <;> first | assumption | rfl | omega | trivial))))) (fun v6 r1 => ?_)
      try dsimp only [Sum.elim_inl, Sum.elim_inr, jt2, jt3, jt4, jt5, jt6, jt7, jt8] at r1
      have v1 := r1
      clear r1
      try simp (disch := omega) only [jst_eq, jst_ne, jst_ni, jI_i, jcmp_lt, jcmp_gt, w32_id, jcpy_out, Sum.elim_inl, Sum.elim_inr, jt2, jt3, jt4, jt5, jt6, jt7, jt8] at v1
      rw [if_neg (by omega), show (324 : Int) + 5 = 329 by decide, PK] at v1
      refine OK_if (fun c2 => ?_) (fun c2 => ?_)
      · skip
        try simp (disch := omega) only [jst_eq, jst_ne, jst_ni, jI_i, jcmp_lt, jcmp_gt, w32_id, jcpy_out, Sum.elim_inl, Sum.elim_inr, jt2, jt3, jt4, jt5, jt6, jt7, jt8] at c2
        have lk : ¬ a4 < nk R := fun y => by { have q := (cX_kd a4.toNat c (by omega)).1; rw [ea, Int.zero_add, show (324 : Int) + 5 = 329 by decide] at q; omega }
        unfold gX1_replaced_j55_10
        refine OK_jlx (fun x15 ex15 => ?_)
        try simp (disch := omega) only [jst_eq, jst_ne, jst_ni, jI_i, jcmp_lt, jcmp_gt, w32_id, jcpy_out, Sum.elim_inl, Sum.elim_inr, jt2, jt3, jt4, jt5, jt6, jt7, jt8] at ex15
        refine OK_il ?_ ?_
        · try dsimp only [Sum.elim_inl, Sum.elim_inr, jt2, jt3, jt4, jt5, jt6, jt7, jt8]
          refine ⟨?_, ?_⟩
          · (first | assumption | omega | ((try dsimp only [jt2, jt3, jt4]); first | omega | (simp (disch := omega) only [jst_eq, jst_ne, jst_ni, jst_o, jI_i, jcpy_out, w32_id, jdiv_nn, jshr_k, jand_255] <;> first | done | omega | assumption)) | (intros; simp (disch := omega) only [jst_eq, jst_ne, jst_ni, jst_o, jI_i, jcpy_out, w32_id, jdiv_nn, *] <;> first | done | omega) | (intros; simp (disch := omega) only [jst_eq, jst_ne, jst_ni, jst_o, jI_i, jcpy_out, w32_id, jdiv_nn] at * <;> first | done | omega | assumption) | (intros; first | rfl | (exfalso; omega) | ((repeat' apply And.intro) <;> first | assumption | rfl | omega | trivial))) -- o4 e2i.1
          · (rw [ex15]; (try rw [w32_id (by omega) (by omega)]); rw [show (a4 + 1).toNat = a4.toNat + 1 by omega]; exact rpI_no (by omega) QI) -- o5 e2i.2
        · (first | assumption | omega | ((try dsimp only [jt2, jt3, jt4]); first | omega | (simp (disch := omega) only [jst_eq, jst_ne, jst_ni, jst_o, jI_i, jcpy_out, w32_id, jdiv_nn, jshr_k, jand_255] <;> first | done | omega | assumption)) | (intros; simp (disch := omega) only [jst_eq, jst_ne, jst_ni, jst_o, jI_i, jcpy_out, w32_id, jdiv_nn, *] <;> first | done | omega) | (intros; simp (disch := omega) only [jst_eq, jst_ne, jst_ni, jst_o, jI_i, jcpy_out, w32_id, jdiv_nn] at * <;> first | done | omega | assumption) | (intros; first | rfl | (exfalso; omega) | ((repeat' apply And.intro) <;> first | assumption | rfl | omega | trivial))) -- o6 e2m
      · skip
        try simp (disch := omega) only [jst_eq, jst_ne, jst_ni, jI_i, jcmp_lt, jcmp_gt, w32_id, jcpy_out, Sum.elim_inl, Sum.elim_inr, jt2, jt3, jt4, jt5, jt6, jt7, jt8] at c2
        have lk : a4 < nk R := Classical.byContradiction fun y => by { have q : hb 329 (3 * i1 + a4) = -1 := no (by omega) (by omega); omega }
        have kt := cX_kd a4.toNat c (by omega)
        have kd := dpT_kd R a4.toNat (by omega)
        rw [ea, Int.zero_add] at kt
        have sk := szK_le (R := R) (k := a4.toNat) (by omega) n3
        have spk := sz_pos (kdA R a4.toNat)
        refine OK_jb (vX3_part (M := 2200) _ _ _ (by (first | assumption | omega | ((try dsimp only [jt2, jt3, jt4]); first | omega | (simp (disch := omega) only [jst_eq, jst_ne, jst_ni, jst_o, jI_i, jcpy_out, w32_id, jdiv_nn, jshr_k, jand_255] <;> first | done | omega | assumption)) | (intros; simp (disch := omega) only [jst_eq, jst_ne, jst_ni, jst_o, jI_i, jcpy_out, w32_id, jdiv_nn, *] <;> first | done | omega) | (intros; simp (disch := omega) only [jst_eq, jst_ne, jst_ni, jst_o, jI_i, jcpy_out, w32_id, jdiv_nn] at * <;> first | done | omega | assumption) | (intros; first | rfl | (exfalso; omega) | ((repeat' apply And.intro) <;> first | assumption | rfl | omega | trivial)))) (by (first | assumption | omega | ((try dsimp only [jt2, jt3, jt4]); first | omega | (simp (disch := omega) only [jst_eq, jst_ne, jst_ni, jst_o, jI_i, jcpy_out, w32_id, jdiv_nn, jshr_k, jand_255] <;> first | done | omega | assumption)) | (intros; simp (disch := omega) only [jst_eq, jst_ne, jst_ni, jst_o, jI_i, jcpy_out, w32_id, jdiv_nn, *] <;> first | done | omega) | (intros; simp (disch := omega) only [jst_eq, jst_ne, jst_ni, jst_o, jI_i, jcpy_out, w32_id, jdiv_nn] at * <;> first | done | omega | assumption) | (intros; first | rfl | (exfalso; omega) | ((repeat' apply And.intro) <;> first | assumption | rfl | omega | trivial))))) (fun v9 r2 => ?_)
        try dsimp only [Sum.elim_inl, Sum.elim_inr, jt2, jt3, jt4, jt5, jt6, jt7, jt8] at r2
        have v2 := r2
        clear r2
        try simp (disch := omega) only [jst_eq, jst_ne, jst_ni, jI_i, jcmp_lt, jcmp_gt, w32_id, jcpy_out, Sum.elim_inl, Sum.elim_inr, jt2, jt3, jt4, jt5, jt6, jt7, jt8] at v2
        rw [if_neg (by omega), show (324 : Int) + 5 = 329 by decide, PK] at v2
        have v2e : v9 = i1 + 1 + kss sz R a4.toNat := by { rw [v2]; exact kt.1 }
        refine OK_jb2 (hF _ _ (kdA R a4.toNat) (by exact CP) (by (rw [v2e]; exact rpI_c n3 (by omega) QI kt.2)) (by omega) (by omega)) (fun v11 h12 r3 => ?_)
        try dsimp only [Sum.elim_inl, Sum.elim_inr, jt2, jt3, jt4, jt5, jt6, jt7, jt8] at r3
        have rp3 := r3
        clear r3
        try simp (disch := omega) only [jst_eq, jst_ne, jst_ni, jI_i, jcmp_lt, jcmp_gt, w32_id, jcpy_out, Sum.elim_inl, Sum.elim_inr, jt2, jt3, jt4, jt5, jt6, jt7, jt8] at rp3
        have CP12 : capT h12 324 2200 := capT_fr CP (fun a a0 a1 => rpP_n rp3 (by omega))
        refine OK_jb (vX3_join (M := 2200) _ _ _ _ (by exact CP12) (by (first | assumption | omega | ((try dsimp only [jt2, jt3, jt4]); first | omega | (simp (disch := omega) only [jst_eq, jst_ne, jst_ni, jst_o, jI_i, jcpy_out, w32_id, jdiv_nn, jshr_k, jand_255] <;> first | done | omega | assumption)) | (intros; simp (disch := omega) only [jst_eq, jst_ne, jst_ni, jst_o, jI_i, jcpy_out, w32_id, jdiv_nn, *] <;> first | done | omega) | (intros; simp (disch := omega) only [jst_eq, jst_ne, jst_ni, jst_o, jI_i, jcpy_out, w32_id, jdiv_nn] at * <;> first | done | omega | assumption) | (intros; first | rfl | (exfalso; omega) | ((repeat' apply And.intro) <;> first | assumption | rfl | omega | trivial))))) (fun h14 r4 => ?_)
        try dsimp only [Sum.elim_inl, Sum.elim_inr, jt2, jt3, jt4, jt5, jt6, jt7, jt8] at r4
        obtain ⟨j4, fr4⟩ := r4
        try simp (disch := omega) only [jst_eq, jst_ne, jst_ni, jI_i, jcmp_lt, jcmp_gt, w32_id, jcpy_out, Sum.elim_inl, Sum.elim_inr, jt2, jt3, jt4, jt5, jt6, jt7, jt8] at j4
        try simp (disch := omega) only [jst_eq, jst_ne, jst_ni, jI_i, jcmp_lt, jcmp_gt, w32_id, jcpy_out, Sum.elim_inl, Sum.elim_inr, jt2, jt3, jt4, jt5, jt6, jt7, jt8] at fr4
        unfold gX1_replaced_j55_10
        refine OK_jlx (fun x15 ex15 => ?_)
        try simp (disch := omega) only [jst_eq, jst_ne, jst_ni, jI_i, jcmp_lt, jcmp_gt, w32_id, jcpy_out, Sum.elim_inl, Sum.elim_inr, jt2, jt3, jt4, jt5, jt6, jt7, jt8] at ex15
        refine OK_il ?_ ?_
        · try dsimp only [Sum.elim_inl, Sum.elim_inr, jt2, jt3, jt4, jt5, jt6, jt7, jt8]
          refine ⟨?_, ?_⟩
          · (first | assumption | omega | ((try dsimp only [jt2, jt3, jt4]); first | omega | (simp (disch := omega) only [jst_eq, jst_ne, jst_ni, jst_o, jI_i, jcpy_out, w32_id, jdiv_nn, jshr_k, jand_255] <;> first | done | omega | assumption)) | (intros; simp (disch := omega) only [jst_eq, jst_ne, jst_ni, jst_o, jI_i, jcpy_out, w32_id, jdiv_nn, *] <;> first | done | omega) | (intros; simp (disch := omega) only [jst_eq, jst_ne, jst_ni, jst_o, jI_i, jcpy_out, w32_id, jdiv_nn] at * <;> first | done | omega | assumption) | (intros; first | rfl | (exfalso; omega) | ((repeat' apply And.intro) <;> first | assumption | rfl | omega | trivial))) -- o15 e3i.1
          · (rw [ex15]; (try rw [w32_id (by omega) (by omega)]); rw [show (a4 + 1).toNat = a4.toNat + 1 by omega]; rw [v2e] at rp3; exact rpI_st n3 (by omega) QI c rp3 (by rw [ea]; exact j4 (by omega)) (fun a s y => fr4 a s (by rw [ea] at y; omega))) -- o16 e3i.2
        · (first | assumption | omega | ((try dsimp only [jt2, jt3, jt4]); first | omega | (simp (disch := omega) only [jst_eq, jst_ne, jst_ni, jst_o, jI_i, jcpy_out, w32_id, jdiv_nn, jshr_k, jand_255] <;> first | done | omega | assumption)) | (intros; simp (disch := omega) only [jst_eq, jst_ne, jst_ni, jst_o, jI_i, jcpy_out, w32_id, jdiv_nn, *] <;> first | done | omega) | (intros; simp (disch := omega) only [jst_eq, jst_ne, jst_ni, jst_o, jI_i, jcpy_out, w32_id, jdiv_nn] at * <;> first | done | omega | assumption) | (intros; first | rfl | (exfalso; omega) | ((repeat' apply And.intro) <;> first | assumption | rfl | omega | trivial))) -- o17 e3m
  · try dsimp only [Sum.elim_inl, Sum.elim_inr, jt2, jt3, jt4, jt5, jt6, jt7, jt8]
    refine ⟨?_, ?_⟩
    · (first | assumption | omega | ((try dsimp only [jt2, jt3, jt4]); first | omega | (simp (disch := omega) only [jst_eq, jst_ne, jst_ni, jst_o, jI_i, jcpy_out, w32_id, jdiv_nn, jshr_k, jand_255] <;> first | done | omega | assumption)) | (intros; simp (disch := omega) only [jst_eq, jst_ne, jst_ni, jst_o, jI_i, jcpy_out, w32_id, jdiv_nn, *] <;> first | done | omega) | (intros; simp (disch := omega) only [jst_eq, jst_ne, jst_ni, jst_o, jI_i, jcpy_out, w32_id, jdiv_nn] at * <;> first | done | omega | assumption) | (intros; first | rfl | (exfalso; omega) | ((repeat' apply And.intro) <;> first | assumption | rfl | omega | trivial))) -- o18 init.1
    · (rw [z.2, z.1]; exact ⟨fun _ _ _ => rfl, fun y => by have e0 : kss sz R (0 : Int).toNat = 0 := rfl; rw [e0] at y; omega⟩) -- o19 init.2
theorem vX1_replaced_ {F : Int → Int → Int → AH → Option (Int × AH)} (a1 : Int) (a2 : Int) (a3 : Int) {h : AH} {k : Int} {R : TR} (hF : CRP F a2 a3 k) (cp : capT h 324 2200) (c : cX h 324 R a1 0 (a1 + 1)) (d : 0 ≤ a1 ∧ a1 + sz R ≤ 2200) (dk : dpT R + 1 ≤ k + 1) : OK (gX1_replaced_ F a1 a2 a3 h) (fun r => jt2 r fun v h' => rpP R a1 a2 a3 h v h') := by
  have sp := sz_pos R
  have nd := trX_nd (cX_tr (lo := 0) (hi := 2200) c (by omega) (by omega) (by omega) (by omega))
  have n3 : nk R ≤ 3 := by { have := nd.2.2.2.2.2 (by decide) (by decide); omega }
  unfold gX1_replaced_
  refine OK_if (fun c1 => ?_) (fun c1 => ?_)
  · skip
    try simp (disch := omega) only [jst_eq, jst_ne, jst_ni, jI_i, jcmp_lt, jcmp_gt, w32_id, jcpy_out, Sum.elim_inl, Sum.elim_inr, jt2, jt3, jt4, jt5, jt6, jt7, jt8] at c1
    refine OK_some ?_
    try dsimp only [Sum.elim_inl, Sum.elim_inr, jt2, jt3, jt4, jt5, jt6, jt7, jt8]
    (subst c1; refine ⟨fun y => by omega, fun _ => ⟨fun _ _ _ => rfl, fun S tS => ?_⟩⟩; rw [show a1 - a1 = 0 by omega]; show trX h 324 a1 2200 S a3 0; exact trX_le (by omega) (Int.le_refl _) (tS h (fun _ _ _ => rfl))) -- o1 e1
  · skip
    try simp (disch := omega) only [jst_eq, jst_ne, jst_ni, jI_i, jcmp_lt, jcmp_gt, w32_id, jcpy_out, Sum.elim_inl, Sum.elim_inr, jt2, jt3, jt4, jt5, jt6, jt7, jt8] at c1
    refine OK_jb (vX1_replaced_l10 (k := k) (R := R) (hb := h) _ _ _ _ (by (first | assumption | omega | ((try dsimp only [jt2, jt3, jt4]); first | omega | (simp (disch := omega) only [jst_eq, jst_ne, jst_ni, jst_o, jI_i, jcpy_out, w32_id, jdiv_nn, jshr_k, jand_255] <;> first | done | omega | assumption)) | (intros; simp (disch := omega) only [jst_eq, jst_ne, jst_ni, jst_o, jI_i, jcpy_out, w32_id, jdiv_nn, *] <;> first | done | omega) | (intros; simp (disch := omega) only [jst_eq, jst_ne, jst_ni, jst_o, jI_i, jcpy_out, w32_id, jdiv_nn] at * <;> first | done | omega | assumption) | (intros; first | rfl | (exfalso; omega) | ((repeat' apply And.intro) <;> first | assumption | rfl | omega | trivial)))) (by exact cp) (by exact c) (by (first | assumption | omega | ((try dsimp only [jt2, jt3, jt4]); first | omega | (simp (disch := omega) only [jst_eq, jst_ne, jst_ni, jst_o, jI_i, jcpy_out, w32_id, jdiv_nn, jshr_k, jand_255] <;> first | done | omega | assumption)) | (intros; simp (disch := omega) only [jst_eq, jst_ne, jst_ni, jst_o, jI_i, jcpy_out, w32_id, jdiv_nn, *] <;> first | done | omega) | (intros; simp (disch := omega) only [jst_eq, jst_ne, jst_ni, jst_o, jI_i, jcpy_out, w32_id, jdiv_nn] at * <;> first | done | omega | assumption) | (intros; first | rfl | (exfalso; omega) | ((repeat' apply And.intro) <;> first | assumption | rfl | omega | trivial)))) (by (first | assumption | omega | ((try dsimp only [jt2, jt3, jt4]); first | omega | (simp (disch := omega) only [jst_eq, jst_ne, jst_ni, jst_o, jI_i, jcpy_out, w32_id, jdiv_nn, jshr_k, jand_255] <;> first | done | omega | assumption)) | (intros; simp (disch := omega) only [jst_eq, jst_ne, jst_ni, jst_o, jI_i, jcpy_out, w32_id, jdiv_nn, *] <;> first | done | omega) | (intros; simp (disch := omega) only [jst_eq, jst_ne, jst_ni, jst_o, jI_i, jcpy_out, w32_id, jdiv_nn] at * <;> first | done | omega | assumption) | (intros; first | rfl | (exfalso; omega) | ((repeat' apply And.intro) <;> first | assumption | rfl | omega | trivial)))) (by (first | assumption | omega | ((try dsimp only [jt2, jt3, jt4]); first | omega | (simp (disch := omega) only [jst_eq, jst_ne, jst_ni, jst_o, jI_i, jcpy_out, w32_id, jdiv_nn, jshr_k, jand_255] <;> first | done | omega | assumption)) | (intros; simp (disch := omega) only [jst_eq, jst_ne, jst_ni, jst_o, jI_i, jcpy_out, w32_id, jdiv_nn, *] <;> first | done | omega) | (intros; simp (disch := omega) only [jst_eq, jst_ne, jst_ni, jst_o, jI_i, jcpy_out, w32_id, jdiv_nn] at * <;> first | done | omega | assumption) | (intros; first | rfl | (exfalso; omega) | ((repeat' apply And.intro) <;> first | assumption | rfl | omega | trivial)))) (by exact c1) (by exact ⟨rfl, rfl⟩)) (fun o2 r1 => ?_)
    try dsimp only [Sum.elim_inl, Sum.elim_inr, jt2, jt3, jt4, jt5, jt6, jt7, jt8] at r1
    have rp1 := r1
    clear r1
    try simp (disch := omega) only [jst_eq, jst_ne, jst_ni, jI_i, jcmp_lt, jcmp_gt, w32_id, jcpy_out, Sum.elim_inl, Sum.elim_inr, jt2, jt3, jt4, jt5, jt6, jt7, jt8] at rp1
    refine OK_some ?_
    try dsimp only [Sum.elim_inl, Sum.elim_inr, jt2, jt3, jt4, jt5, jt6, jt7, jt8]
    (first | assumption | omega | ((try dsimp only [jt2, jt3, jt4]); first | omega | (simp (disch := omega) only [jst_eq, jst_ne, jst_ni, jst_o, jI_i, jcpy_out, w32_id, jdiv_nn, jshr_k, jand_255] <;> first | done | omega | assumption)) | (intros; simp (disch := omega) only [jst_eq, jst_ne, jst_ni, jst_o, jI_i, jcpy_out, w32_id, jdiv_nn, *] <;> first | done | omega) | (intros; simp (disch := omega) only [jst_eq, jst_ne, jst_ni, jst_o, jI_i, jcpy_out, w32_id, jdiv_nn] at * <;> first | done | omega | assumption) | (intros; first | rfl | (exfalso; omega) | ((repeat' apply And.intro) <;> first | assumption | rfl | omega | trivial))) -- o10 e2
theorem CRP_D {w put : Int} : ∀ D : Nat, CRP (gX1_replacedD D) w put D
  | 0 => fun d h R _ _ _ dk => by have := dpT_0 R; omega
  | D + 1 => fun d h R cp c d0 dk => vX1_replaced_ d w put (CRP_D D) cp c d0 (by omega)
theorem vX1_replaced (a1 a2 a3 : Int) {h : AH} {R : TR} (cp : capT h 324 2200) (c : cX h 324 R a1 0 (a1 + 1)) (d : 0 ≤ a1 ∧ a1 + sz R ≤ 2200) (dk : dpT R ≤ 39) : OK (gX1_replaced a1 a2 a3 h) (fun r => jt2 r fun v h' => rpP R a1 a2 a3 h v h') := CRP_D 40 a1 h R cp c d (by omega)

