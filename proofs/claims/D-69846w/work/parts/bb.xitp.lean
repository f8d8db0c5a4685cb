/-! x: the i-th term, what it is built of -/
/-- the tree that is built, alone -/
def pj (h : AH) : AH := fun a s => if 324 ≤ a ∧ a ≤ 329 then h a s else 0
theorem pj_i {h : AH} {a s : Int} (y : 324 ≤ a ∧ a ≤ 329) : pj h a s = h a s := if_pos y
theorem pj_f {h h' : AH} (f : ∀ a s, 324 ≤ a → a ≤ 329 → h' a s = h a s) : pj h' = pj h := funext fun a => funext fun s => by
  unfold pj
  by_cases y : 324 ≤ a ∧ a ≤ 329
  · rw [if_pos y, if_pos y, f a s y.1 y.2]
  · rw [if_neg y, if_neg y]
theorem pj_fr {h h' : AH} {P : Int → Int → Prop} (f : ∀ a s, P a s → h' a s = h a s) : ∀ a s, P a s → pj h' a s = pj h a s := fun a s y => by
  unfold pj
  by_cases z : 324 ≤ a ∧ a ≤ 329
  · rw [if_pos z, if_pos z, f a s y]
  · rw [if_neg z, if_neg z]
theorem pj_cX {h : AH} {R : TR} {d j p : Int} (c : cX (pj h) 324 R d j p) (j0 : 0 ≤ j) : cX h 324 R d j p := by
  have sp := sz_pos R
  exact cX_fr (h := pj h) (lo := min d p) (hi := max (d + 1) (p + (sz R - 1))) (fun a s a0 a1 _ _ => (pj_i (by omega)).symm) (fun s _ _ => (pj_i (by omega)).symm) c j0 (by omega) (by omega) (by omega) (by omega)
/-- a leaf is made -/
theorem poC_l1 {h h' : AH} {v x y z : Int} (hv : v = h 324 0 ∧ h' 324 0 = h 324 0 + 1) (at1 : h' (324 + 1) (h 324 0) = x ∧ h' (324 + 2) (h 324 0) = y ∧ h' (324 + 3) (h 324 0) = z) (pt : ∀ k, 0 ≤ k → k < 3 → h' (324 + 5) (3 * h 324 0 + k) = -1) (fr : ∀ a s, ¬ (a = 324 ∧ s = 0) → ¬ (324 + 1 ≤ a ∧ a ≤ 324 + 4 ∧ s = h 324 0) → ¬ (a = 324 + 5 ∧ 3 * h 324 0 ≤ s ∧ s < 3 * h 324 0 + 3) → h' a s = h a s) : poC 324 (.leaf (x, y, z, 0)) (pj h) v (pj h') := by
  have p0 : pj h 324 0 = h 324 0 := pj_i (by decide)
  refine ⟨by rw [p0]; exact hv.1, by rw [p0, pj_i (by decide)]; exact hv.2, ?_, ?_⟩
  · rw [hv.1]
    exact ⟨by rw [pj_i (by decide)]; exact at1.1, by rw [pj_i (by decide)]; exact at1.2.1, by rw [pj_i (by decide)]; exact at1.2.2, fun k k0 _ k1 => by rw [pj_i (by decide)]; exact pt k k0 k1⟩
  · intro a s y1 y2 y3
    rw [p0] at y2 y3
    refine pj_fr (P := fun a s => ¬ (a = 324 ∧ s = 0) ∧ ¬ (324 + 1 ≤ a ∧ a ≤ 324 + 4 ∧ s = h 324 0) ∧ ¬ (a = 324 + 5 ∧ 3 * h 324 0 ≤ s ∧ s < 3 * h 324 0 + 3)) (fun a s q => fr a s q.1 q.2.1 q.2.2) a s ⟨y1, fun q => y2 ?_, fun q => y3 ?_⟩
    · have e : sz (.leaf ((x, y, z, 0) : NI)) = 1 := rfl
      omega
    · have e : sz (.leaf ((x, y, z, 0) : NI)) = 1 := rfl
      omega
theorem nd_nk {n : Int} {i : NI} {g : Int → TR} (n1 : 1 ≤ n ∧ n ≤ 3) : nk (ndT n i g) = n := by
  rcases (show n = 1 ∨ n = 2 ∨ n = 3 by omega) with y | y | y <;> subst y <;> rfl
theorem nd_inf {n : Int} {i : NI} {g : Int → TR} (n1 : 1 ≤ n ∧ n ≤ 3) : inf (ndT n i g) = i := by
  rcases (show n = 1 ∨ n = 2 ∨ n = 3 by omega) with y | y | y <;> subst y <;> rfl
theorem nd_kd {n : Int} {i : NI} {g : Int → TR} (n1 : 1 ≤ n ∧ n ≤ 3) (m : Nat) (l : (m : Int) < n) : kdA (ndT n i g) m = g m := by
  rcases (show n = 1 ∨ n = 2 ∨ n = 3 by omega) with y | y | y <;> subst y
  · rw [show m = 0 by omega]; rfl
  · rcases (show m = 0 ∨ m = 1 by omega) with z | z <;> rw [z] <;> rfl
  · rcases (show m = 0 ∨ m = 1 ∨ m = 2 by omega) with z | z | z <;> rw [z] <;> rfl
theorem kss_cg {R R' : TR} {g : TR → Int} (n : nk R = nk R') : ∀ k : Nat, (∀ m : Nat, m < k → (m : Int) < nk R → kdA R m = kdA R' m) → kss g R k = kss g R' k
  | 0, _ => rfl
  | k + 1, e => by
    show kss g R k + (if (k : Int) < nk R then g (kdA R k) else 0) = kss g R' k + (if (k : Int) < nk R' then g (kdA R' k) else 0)
    rw [kss_cg n k (fun m a b => e m (by omega) b), ← n]
    by_cases y : (k : Int) < nk R
    · rw [if_pos y, if_pos y, e k (by omega) y]
    · rw [if_neg y, if_neg y]
theorem ivC_cg {T N : Int} {R R' : TR} {h0 h : AH} {k : Nat} (n : nk R = nk R') (i : inf R = inf R') (e : ∀ m : Nat, m < k → (m : Int) < nk R → kdA R m = kdA R' m) (v : ivC T N R h0 k h) : ivC T N R' h0 k h := by
  obtain ⟨v1, v2, v3, v4, v5⟩ := v
  have K := kss_cg (g := sz) n k e
  refine ⟨by rw [← K]; exact v1, fun m m1 m2 => ?_, fun m m0 m1 m2 => v3 m m0 (fun y => by have := m1 y; omega) m2, by rw [← i]; exact v4, by rw [← K]; exact v5⟩
  have q := v2 m m1 (by omega)
  rw [← e m m1 (by omega), ← kss_cg (g := sz) n m (fun m' a b => e m' (by omega) b)]
  exact q
theorem nd_cg {N n k : Int} {i : NI} {g g' : Int → TR} {h0 h : AH} (n1 : 1 ≤ n ∧ n ≤ 3) (k0 : 0 ≤ k ∧ k ≤ n) (e : ∀ m, 0 ≤ m → m < k → g m = g' m) (v : ivC 324 N (ndT n i g) h0 k.toNat h) : ivC 324 N (ndT n i g') h0 k.toNat h := ivC_cg (by rw [nd_nk n1, nd_nk n1]) (by rw [nd_inf n1, nd_inf n1]) (fun m m1 m2 => by rw [nd_nk n1] at m2; rw [nd_kd n1 m m2, nd_kd n1 m m2]; exact e m (by omega) (by omega)) v
/-- an operand more -/
theorem nd_st {N n k v : Int} {i : NI} {g : Int → TR} {R : TR} {h0 h h1 h2 : AH} (n1 : 1 ≤ n ∧ n ≤ 3) (k0 : 0 ≤ k ∧ k < n) (iv : ivC 324 N (ndT n i g) h0 k.toNat (pj h)) (p : poC 324 R (pj h) v (pj h1)) (j1 : h2 (324 + 5) (3 * N + k) = v) (j2 : ∀ a s, ¬ (a = 324 + 5 ∧ s = 3 * N + k) → h2 a s = h1 a s) : ivC 324 N (ndT n i (up1 g k R)) h0 (k + 1).toNat (pj h2) := by
  have iv2 := nd_cg (g' := up1 g k R) n1 (by omega) (fun m m0 m1 => (up1_o (by omega)).symm) iv
  have kk : ((k.toNat : Nat) : Int) = k := by omega
  have kd : kdA (ndT n i (up1 g k R)) k.toNat = R := by
    rw [nd_kd n1 k.toNat (by omega), kk, up1_e]
  have Z := ivC_st (v := v) (h1 := pj h1) (h2 := pj h2) iv2 (by rw [nd_nk n1]; omega) (by omega) (by rw [kd]; exact p) (by rw [pj_i (by decide), kk]; exact j1) (fun a s y => pj_fr (P := fun a s => ¬ (a = 324 + 5 ∧ s = 3 * N + k)) j2 a s (by rw [kk] at y; exact y))
  rw [show (k + 1).toNat = k.toNat + 1 by omega]
  exact Z
/-- a node is made, without operands so far -/
theorem nd_0 {h h' : AH} {n x y z v : Int} {g : Int → TR} (n1 : 1 ≤ n ∧ n ≤ 3) (hv : v = h 324 0 ∧ h' 324 0 = h 324 0 + 1) (at1 : h' (324 + 1) (h 324 0) = x ∧ h' (324 + 2) (h 324 0) = y ∧ h' (324 + 3) (h 324 0) = z) (pt : ∀ k, 0 ≤ k → k < 3 → h' (324 + 5) (3 * h 324 0 + k) = -1) (fr : ∀ a s, ¬ (a = 324 ∧ s = 0) → ¬ (324 + 1 ≤ a ∧ a ≤ 324 + 4 ∧ s = h 324 0) → ¬ (a = 324 + 5 ∧ 3 * h 324 0 ≤ s ∧ s < 3 * h 324 0 + 3) → h' a s = h a s) : ivC 324 (h 324 0) (ndT n (x, y, z, 0) g) (pj h) (0 : Int).toNat (pj h') := by
  have e : kss sz (ndT n (x, y, z, 0) g) 0 = 0 := rfl
  show ivC 324 (h 324 0) (ndT n (x, y, z, 0) g) (pj h) 0 (pj h')
  refine ⟨by rw [e, pj_i (by decide), hv.2]; omega, fun m m1 _ => absurd m1 (Nat.not_lt_zero m), fun m m0 _ m2 => by rw [pj_i (by decide)]; exact pt m m0 m2, ?_, fun a s y1 y2 y3 => ?_⟩
  · rw [nd_inf n1, pj_i (by decide), pj_i (by decide), pj_i (by decide)]
    exact at1
  · rw [e] at y2 y3
    refine pj_fr (P := fun a s => ¬ (a = 324 ∧ s = 0) ∧ ¬ (324 + 1 ≤ a ∧ a ≤ 324 + 4 ∧ s = h 324 0) ∧ ¬ (a = 324 + 5 ∧ 3 * h 324 0 ≤ s ∧ s < 3 * h 324 0 + 3)) (fun a s q => fr a s q.1 q.2.1 q.2.2) a s ⟨y1, fun q => y2 (by omega), fun q => y3 (by omega)⟩
/-- all operands: the tree is there -/
theorem nd_end {n N : Int} {i : NI} {g : Int → TR} {h0 h : AH} (n1 : 1 ≤ n ∧ n ≤ 3) (N0 : N = h0 324 0) (iv : ivC 324 N (ndT n i g) (pj h0) n.toNat (pj h)) : poC 324 (ndT n i g) (pj h0) N (pj h) := by
  have nk1 := nd_nk (i := i) (g := g) n1
  have p0 : pj h0 324 0 = h0 324 0 := pj_i (by decide)
  have iv3 : ivC 324 N (ndT n i g) (pj h0) 3 (pj h) := by
    rcases (show n = 1 ∨ n = 2 ∨ n = 3 by omega) with y | y | y
    · have a : ivC 324 N (ndT n i g) (pj h0) 1 (pj h) := by rw [y] at iv ⊢; exact iv
      exact ivC_no (ivC_no a (by omega)) (by omega)
    · have a : ivC 324 N (ndT n i g) (pj h0) 2 (pj h) := by rw [y] at iv ⊢; exact iv
      exact ivC_no a (by omega)
    · rw [y] at iv ⊢
      exact iv
  have Z := ivC_end (by omega) iv3
  refine ⟨by rw [p0]; exact N0, by rw [p0, ← N0]; exact Z.1, Z.2.1, by rw [p0, ← N0]; exact Z.2.2⟩
/-! sums over the prices of an operand -/
section RSZ
variable {E : EV} {W : Int → Int → Int → VW} {pts : Int} {A : AD} {T : TB} {ac : Int} {w : Int → Int}
theorem rs_z : ∀ (m : Nat) (k left : Int) (s : Int → Int), left < m → 0 ≤ left → rsW E W pts T (ct E W pts A) ac w m k left s = 0
  | 0, k, left, s, l, l0 => by have e : ((0 : Nat) : Int) = 0 := rfl; omega
  | m + 1, k, left, s, l, l0 => sumN_0 (fun r r0 r1 => sumN_0 (fun f _ _ => by
    by_cases y : r = 0
    · rw [y, ct_n (by decide), Int.zero_mul]
    · rw [rs_z m (k + 1) (left - r) (up1 s k f) (by omega) (by omega), cif_00, Int.mul_zero]))
theorem al_z {m : Nat} {k left r : Int} {s : Int → Int} (r0 : 0 ≤ r ∧ r ≤ left) (l : left - r < m ∨ (m = 0 ∧ r ≠ left) ∨ r = 0) : alW E W pts T (ct E W pts A) ac w m k left s r = 0 := sumN_0 (fun f _ _ => by
  by_cases y : r = 0
  · rw [y, ct_n (by decide), Int.zero_mul]
  · have z : owW E W pts T (ct E W pts A) ac w m k left s r f = 0 := by
      unfold owW
      by_cases p : T.2.1 f = eK E ac k ∧ ct E W pts A r f ≠ 0
      · rw [cif_y p]
        rcases l with l | l | l
        · exact rs_z m _ _ _ l (by omega)
        · rw [l.1]
          exact if_neg (by omega)
        · exact absurd l y
      · exact cif_n p
    rw [z, Int.mul_zero])
/-- the sum up to a price, past it nothing more -/
theorem al_sum {m : Nat} {k left r : Int} {s : Int → Int} (r0 : 0 ≤ r) (r1 : r ≤ left + 1) (l : ∀ j, r ≤ j → j ≤ left → alW E W pts T (ct E W pts A) ac w m k left s j = 0) : sumN (alW E W pts T (ct E W pts A) ac w m k left s) r.toNat = rsW E W pts T (ct E W pts A) ac w (m + 1) k left s := by
  rw [rsT_a]
  exact sumN_ex (fun j a b => l j (by omega) (by omega)) (fun j a b => by omega)
theorem al_rs (w0 : ∀ f, 0 ≤ w f) {m : Nat} {k left r : Int} {s : Int → Int} (r0 : 0 ≤ r ∧ r ≤ left) : alW E W pts T (ct E W pts A) ac w m k left s r ≤ rsW E W pts T (ct E W pts A) ac w (m + 1) k left s := by
  rw [rsT_a]
  exact sumN_t (f := alW E W pts T (ct E W pts A) ac w m k left s) (fun j _ => alT_0 ct_0 w0) r0.1 (by omega)
theorem hw_tw {n : Nat} {q h : Int} (tq : TQ E W pts A n T) (wt : acE E ∧ wTy E W) (d : dsT pts T) (q1 : 1 ≤ q ∧ q ≤ n) (w0 : ∀ f, 0 ≤ w f) (h0 : 0 ≤ h) (h1 : h < A.1 + A.2.2.2.1) : hwC E W pts A T (ct E W pts A) w q h ≤ twC E W pts A T w q := by
  have e := tw_h (w := w) (TQ_le tq wt (m := q.toNat) (by omega) (by omega)) d
  rw [show ((q.toNat : Nat) : Int) = q by omega] at e
  rw [e]
  exact sumN_t (f := hwC E W pts A T (ct E W pts A) w q) (fun j _ => hwC_0 ct_0 w0 q j) h0 (by omega)
end RSZ
/-! x: what the i-th term's search changes -/
def fJx (lo : Int) (h h' : AH) : Prop := ∀ a s, ¬ (a = 200 ∧ (s = 9 ∨ s = 10)) → ¬ (a = 269 ∧ 0 ≤ s) → ¬ (a = 307 ∧ (s = 0 ∨ (19 ≤ s ∧ s ≤ 21))) → ¬ (308 ≤ a ∧ a ≤ 320 ∧ a ≠ 314 ∧ a ≠ 318 ∧ a ≠ 319 ∧ 0 ≤ s) → ¬ (a = 322 ∧ lo ≤ s) → ¬ (324 ≤ a ∧ a ≤ 329 ∧ 0 ≤ s) → h' a s = h a s
theorem fJ_r {lo : Int} (h : AH) : fJx lo h h := fun _ _ _ _ _ _ _ _ => rfl
theorem fJ_t {lo : Int} {h h1 h2 : AH} (a : fJx lo h h1) (b : fJx lo h1 h2) : fJx lo h h2 := fun x s y1 y2 y3 y4 y5 y6 => (b x s y1 y2 y3 y4 y5 y6).trans (a x s y1 y2 y3 y4 y5 y6)
theorem fJ_W {lo : Int} {h h' : AH} (f : fWx lo h h') : fJx lo h h' := fun a s y1 y2 y3 y4 y5 _ => f a s y1 y2 (by omega) y4 y5
theorem fJ_le {lo lo' : Int} {h h' : AH} (f : fJx lo' h h') (l : lo ≤ lo') : fJx lo h h' := fun a s y1 y2 y3 y4 y5 y6 => f a s y1 y2 y3 y4 (by omega) y6
theorem fWx_pj {lo : Int} {h h' : AH} (f : fWx lo h h') : pj h' = pj h := pj_f (fun a s a0 a1 => f a s (by omega) (by omega) (by omega) (by omega) (by omega))
theorem capT_J {lo : Int} {h h' : AH} (l : 0 ≤ lo) (c : capT h 324 2200) (f : fJx lo h h') : capT h' 324 2200 := capT_fr c (fun a a0 a1 => f a (-1) (by omega) (by omega) (by omega) (by omega) (by omega) (by omega))
/-- a row of weights -/
def rowX (h : AH) (b U : Int) (w : Int → Int) (T : TB) : Prop := (0 ≤ b ∧ b + 120 ≤ U) ∧ (∀ f, 0 ≤ f → f < T.1 → h 322 (b + f) = w f) ∧ ∀ f, 0 ≤ w f
theorem rowX_J {lo b U : Int} {h h' : AH} {w : Int → Int} {T : TB} (T1 : T.1 ≤ 120) (r : rowX h b U w T) (f : fJx lo h h') (l : U ≤ lo) : rowX h' b U w T := ⟨r.1, fun x x0 x1 => by rw [f _ _ (by omega) (by omega) (by omega) (by omega) (by have := r.1; omega) (by omega)]; exact r.2.1 x x0 x1, r.2.2⟩
/-- the trees, the place that is looked for, room -/
def stX2 (h : AH) (i U : Int) (k : Int) (z : Int) : Prop := (h 307 20 = i ∧ 0 ≤ i ∧ i < 9223372036854775808) ∧ (h 307 19 = U ∧ U + 120 * k ≤ 4800) ∧ capT h 324 2200 ∧ 0 ≤ h 324 0 ∧ h 324 0 + z ≤ 2200
section ITX
variable (E : EV) (Rf : Int → TR) (W : Int → Int → Int → VW) (A : AD) (pts wh : Int) (rv : Int → Int) (M : Int → (Int → Int) → Prop) (T : TB) (n : Nat)
/-- an act's terms: the i-th, or how many are passed by -/
def ITX (F : Int → Int → Int → AH → Option (Int × AH)) (D : Nat) : Prop := ∀ (a1 a2 a3 : Int) (h : AH) (w : Int → Int) (i U ac : Int), JXq h E Rf W A pts wh rv M T n → ((0 ≤ a1 ∧ a1 < A.2.2.2.1) ∧ A.2.2.2.2.1 a1 = ac ∧ 0 ≤ ac ∧ ac < E.1.1) → (1 ≤ a2 ∧ a2 ≤ D ∧ A.2.2.2.2.2.2.2 a1 + a2 ≤ n) → rowX h a3 U w T → stX2 h i U a2 (a2 + 1) → rsW E W pts T (ct E W pts A) ac w (eO E ac).toNat 0 a2 s0T < 9223372036854775808 → OK (F a1 a2 a3 h) (fun r => jt2 r fun v h' => ((v = -1 ∧ rsW E W pts T (ct E W pts A) ac w (eO E ac).toNat 0 a2 s0T ≤ i ∧ h' 307 20 = i - rsW E W pts T (ct E W pts A) ac w (eO E ac).toNat 0 a2 s0T ∧ pj h' = pj h) ∨ (0 ≤ v ∧ i < rsW E W pts T (ct E W pts A) ac w (eO E ac).toNat 0 a2 s0T ∧ ∃ R f r, opRd E W pts T (ct E W pts A) (itR E W pts A T (ct E W pts A) D) ac w (eO E ac).toNat 0 a2 s0T (fun _ => .leaf (0, 0, 0, 0)) i R f r ∧ poC 324 R (pj h) v (pj h') ∧ h' 307 21 = f ∧ h' 307 20 = r)) ∧ JXq h' E Rf W A pts wh rv M T n ∧ fJx U h h' ∧ h' 307 19 = U)
end ITX

