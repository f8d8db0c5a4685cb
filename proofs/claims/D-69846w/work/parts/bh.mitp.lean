/-! m: the i-th term, what it is built of -/
def pm (h : AH) : AH := fun a s => if (460 ≤ a ∧ a ≤ 469) ∨ (a = 454 ∧ s = 17) then h a s else 0
theorem pm_i {h : AH} {a s : Int} (y : (460 ≤ a ∧ a ≤ 469) ∨ (a = 454 ∧ s = 17)) : pm h a s = h a s := if_pos y
theorem pm_f {h h' : AH} (f : ∀ a s, ((460 ≤ a ∧ a ≤ 469) ∨ (a = 454 ∧ s = 17)) → h' a s = h a s) : pm h' = pm h := funext fun a => funext fun s => by
  unfold pm
  by_cases y : (460 ≤ a ∧ a ≤ 469) ∨ (a = 454 ∧ s = 17)
  · rw [if_pos y, if_pos y, f a s y]
  · rw [if_neg y, if_neg y]
theorem pm_fr {h h' : AH} {P : Int → Int → Prop} (f : ∀ a s, P a s → h' a s = h a s) : ∀ a s, P a s → pm h' a s = pm h a s := fun a s y => by
  unfold pm
  by_cases z : (460 ≤ a ∧ a ≤ 469) ∨ (a = 454 ∧ s = 17)
  · rw [if_pos z, if_pos z, f a s y]
  · rw [if_neg z, if_neg z]
theorem lfM_pm {h : AH} {d n : Int} {i : NI} (l : lfM h d n i) : lfM (pm h) d n i := by
  unfold lfM at *
  rw [pm_i (Or.inl (by decide)), pm_i (Or.inl (by decide)), pm_i (Or.inl (by decide)), pm_i (Or.inl (by decide)), pm_i (Or.inl (by decide)), pm_i (Or.inl (by decide))]
  exact l
theorem pm_rQ {h : AH} {Q : Int → Prop} {R : TR} {d j : Int} (r : resQ (pm h) Q R d j) : resQ h Q R d j := resQ_fr (fun a s a0 a1 _ _ => (pm_i (Or.inl ⟨a0, by omega⟩)).symm) (fun s j _ _ _ => (pm_i (Or.inl (by decide))).symm) r
/-- a leaf is made -/
theorem poD_l1 {h h' : AH} {v : Int} {i : NI} (v0 : 0 ≤ h 454 17) (hv : v = h 454 17 ∧ h' 454 17 = h 454 17 + 1) (l : lfM h' v 0 i) (fr : ∀ a s, ¬ (a = 454 ∧ s = 17) → ¬ (460 ≤ a ∧ a ≤ 469 ∧ a ≠ 464 ∧ s = h 454 17) → h' a s = h a s) : poD (.leaf i) (pm h) v (pm h') := by
  have p0 : pm h 454 17 = h 454 17 := pm_i (Or.inr ⟨rfl, rfl⟩)
  have e : sz (.leaf i) = 1 := rfl
  refine ⟨by rw [p0]; exact hv.1, by rw [p0, pm_i (Or.inr ⟨rfl, rfl⟩)]; exact hv.2, ⟨?_, lfM_pm l⟩, fun a s y1 y2 y3 => ?_⟩
  · unfold rgN
    rw [p0, e, hv.1]
    omega
  · rw [p0, e] at y2
    exact pm_fr (P := fun a s => ¬ (a = 454 ∧ s = 17) ∧ ¬ (460 ≤ a ∧ a ≤ 469 ∧ a ≠ 464 ∧ s = h 454 17)) (fun a s q => fr a s q.1 q.2) a s ⟨y1, fun q => y2 (by omega)⟩
theorem ivD_cg {N : Int} {R R' : TR} {h0 h : AH} {k : Nat} (n : nk R = nk R') (i : inf R = inf R') (e : ∀ m : Nat, m < k → (m : Int) < nk R → kdA R m = kdA R' m) (v : ivD N R h0 k h) : ivD N R' h0 k h := by
  obtain ⟨v1, v2, v4, v5⟩ := v
  have K := kss_cg (g := sz) n k e
  refine ⟨by rw [← K]; exact v1, fun m m1 m2 => ?_, by rw [← i]; exact v4, by rw [← K]; exact v5⟩
  have q := v2 m m1 (by omega)
  rw [← e m m1 (by omega), ← kss_cg (g := sz) n m (fun m' a b => e m' (by omega) b)]
  exact q
/-- an operand more -/
theorem md_st {N n k v : Int} {i : NI} {g : Int → TR} {R : TR} {h0 h h1 h2 : AH} (n1 : 1 ≤ n ∧ n ≤ 3) (k0 : 0 ≤ k ∧ k < n) (iv : ivD N (ndT n i g) h0 k.toNat (pm h)) (p : poD R (pm h) v (pm h1)) (j0 : h2 465 N = h1 465 N + 1) (j1 : h2 464 (3 * N + k) = v) (j2 : ∀ a s, ¬ (a = 465 ∧ s = N) → ¬ (a = 464 ∧ s = 3 * N + k) → h2 a s = h1 a s) : ivD N (ndT n i (up1 g k R)) h0 (k + 1).toNat (pm h2) := by
  have iv2 : ivD N (ndT n i (up1 g k R)) h0 k.toNat (pm h) := ivD_cg (by rw [nd_nk n1, nd_nk n1]) (by rw [nd_inf n1, nd_inf n1]) (fun m m1 m2 => by rw [nd_nk n1] at m2; rw [nd_kd n1 m m2, nd_kd n1 m m2, up1_o (by omega)]) iv
  have kk : ((k.toNat : Nat) : Int) = k := by omega
  have kd : kdA (ndT n i (up1 g k R)) k.toNat = R := by
    rw [nd_kd n1 k.toNat (by omega), kk, up1_e]
  have Z := ivD_st (v := v) (h1 := pm h1) (h2 := pm h2) iv2 (by rw [nd_nk n1]; omega) (by omega) (by rw [kd]; exact p) (by rw [pm_i (Or.inl (by decide)), pm_i (Or.inl (by decide))]; exact j0) (by rw [pm_i (Or.inl (by decide)), kk]; exact j1) (fun a s y1 y2 => pm_fr (P := fun a s => ¬ (a = 465 ∧ s = N) ∧ ¬ (a = 464 ∧ s = 3 * N + k)) (fun a s q => j2 a s q.1 q.2) a s ⟨y1, by rw [kk] at y2; exact y2⟩)
  rw [show (k + 1).toNat = k.toNat + 1 by omega]
  exact Z
/-- a node is made, without operands so far -/
theorem md_0 {h h' : AH} {n N : Int} {i : NI} {g : Int → TR} (n1 : 1 ≤ n ∧ n ≤ 3) (hN : N = h 454 17) (hv : h' 454 17 = h 454 17 + 1) (l : lfM h' N 0 i) (fr : ∀ a s, ¬ (a = 454 ∧ s = 17) → ¬ (460 ≤ a ∧ a ≤ 469 ∧ a ≠ 464 ∧ s = N) → h' a s = h a s) : ivD N (ndT n i g) (pm h) (0 : Int).toNat (pm h') := by
  have e : kss sz (ndT n i g) 0 = 0 := rfl
  show ivD N (ndT n i g) (pm h) 0 (pm h')
  refine ⟨by rw [e, pm_i (Or.inr ⟨rfl, rfl⟩), hv]; omega, fun m m1 _ => absurd m1 (Nat.not_lt_zero m), ?_, fun a s y1 y2 y3 => ?_⟩
  · rw [nd_inf n1]
    exact lfM_pm l
  · rw [e] at y2
    exact pm_fr (P := fun a s => ¬ (a = 454 ∧ s = 17) ∧ ¬ (460 ≤ a ∧ a ≤ 469 ∧ a ≠ 464 ∧ s = N)) (fun a s q => fr a s q.1 q.2) a s ⟨y1, fun q => y2 (by omega)⟩
/-- all operands: the tree is there -/
theorem md_end {n N : Int} {i : NI} {g : Int → TR} {h0 h : AH} (n1 : 1 ≤ n ∧ n ≤ 3) (N0 : N = h0 454 17) (iv : ivD N (ndT n i g) (pm h0) n.toNat (pm h)) : poD (ndT n i g) (pm h0) N (pm h) := by
  have nk1 := nd_nk (i := i) (g := g) n1
  have p0 : pm h0 454 17 = h0 454 17 := pm_i (Or.inr ⟨rfl, rfl⟩)
  have Z := ivD_end (by omega) (by omega) iv
  refine ⟨by rw [p0]; exact N0, by rw [p0, ← N0]; exact Z.1, ?_, ?_⟩
  · rw [p0, ← N0]
    exact Z.2.1
  · rw [p0, ← N0]
    exact Z.2.2
/-! m: what the i-th term's search changes -/
def fMo (d : Int) (h h' : AH) : Prop := ∀ a s, ¬ (a = 454 ∧ (s = 17 ∨ s = 20 ∨ s = 43 ∨ s = 49 ∨ s = 50)) → ¬ (a = 754 ∧ 0 ≤ s) → ¬ (770 + d ≤ a ∧ a ≤ 787 ∧ 0 ≤ s) → ¬ (460 ≤ a ∧ a ≤ 469 ∧ a ≠ 464 ∧ 8200 ≤ s ∧ s < 8500) → ¬ (a = 464 ∧ 24600 ≤ s ∧ s < 25500) → h' a s = h a s
theorem fMo_r {d : Int} (h : AH) : fMo d h h := fun _ _ _ _ _ _ _ => rfl
theorem fMo_t {d : Int} {h h1 h2 : AH} (x : fMo d h h1) (y : fMo d h1 h2) : fMo d h h2 := fun a s z1 z2 z3 z4 z5 => (y a s z1 z2 z3 z4 z5).trans (x a s z1 z2 z3 z4 z5)
theorem fMo_le {d d' : Int} {h h' : AH} (f : fMo d' h h') (l : d ≤ d') : fMo d h h' := fun a s z1 z2 z3 z4 z5 => f a s z1 z2 (fun q => z3 ⟨by have := q.1; omega, q.2⟩) z4 z5
theorem fR_o {d : Int} {h h' : AH} (f : fR h h') (d16 : d ≤ 16) : fMo d h h' := fun a s z1 z2 z3 z4 z5 => f a s (fun q => z1 ⟨q.1, by omega⟩) z2 (fun q => z3 (by omega))
theorem fMo_A {d : Int} {h h' : AH} (f : fMo d h h') (d0 : 0 ≤ d) : agN h h' ∧ agT h h' := ⟨fun a s y => by unfold mA at y; exact f a s (by omega) (by omega) (by omega) (by omega) (by omega), fun a s y => by unfold tA at y; exact f a s (by omega) (by omega) (by omega) (by omega) (by omega)⟩
theorem MR_o {d : Int} {h h' : AH} {E : EV} {Rf : Int → TR} {W : Int → Int → Int → VW} {K : AK} {tp : Int} {p : Nat} {T : TB} (mr : MR h E Rf W K tp p T ((p : Int) + 1)) (p12 : p ≤ 12) (f : fMo d h h') (d0 : 0 ≤ d) (c : cM h' E W (kP K) (LV E W (kP K) (kA K) p)) (b : b20 h') : MR h' E Rf W K tp p T ((p : Int) + 1) := by
  have G := fMo_A f d0
  exact ⟨akM_n mr.1 G.1 ⟨by rw [f _ _ (by omega) (by omega) (by omega) (by omega) (by omega)]; exact mr.1.2.1, b⟩, MT_g mr.2.1 (akM_0 mr.1).2.2.1.2 G.2, c, fun i g a1 a2 a3 a4 => by rw [f _ _ (by omega) (by omega) (by omega) (by omega) (by omega)]; exact mr.2.2.2 i g a1 a2 a3 a4⟩
/-- a change that m's table does not see -/
theorem MR_n {d : Int} {h h' : AH} {E : EV} {Rf : Int → TR} {W : Int → Int → Int → VW} {K : AK} {tp : Int} {p : Nat} {T : TB} (mr : MR h E Rf W K tp p T ((p : Int) + 1)) (p12 : p ≤ 12) (d0 : 0 ≤ d) (f : ∀ a s, ¬ (a = 454 ∧ (s = 17 ∨ s = 43 ∨ s = 49 ∨ s = 50)) → ¬ (770 + d ≤ a ∧ a ≤ 785 ∧ 0 ≤ s) → ¬ (460 ≤ a ∧ a ≤ 469 ∧ a ≠ 464 ∧ 8200 ≤ s ∧ s < 8500) → ¬ (a = 464 ∧ 24600 ≤ s ∧ s < 25500) → h' a s = h a s) : MR h' E Rf W K tp p T ((p : Int) + 1) ∧ fMo d h h' := by
  have F : fMo d h h' := fun a s z1 z2 z3 z4 z5 => f a s (fun q => z1 ⟨q.1, by omega⟩) (fun q => z3 (by omega)) z4 z5
  refine ⟨MR_o mr p12 F d0 (cM_f mr.2.2.1 (fun a s y => f a s (by omega) (by omega) (by omega) (by omega))) ?_, F⟩
  unfold b20
  rw [f _ _ (by omega) (by omega) (by omega) (by omega)]
  exact mr.1.2.2
theorem lnW_o {d : Int} {h h' : AH} (l : lnW h) (f : fMo d h h') (d0 : 0 ≤ d) : lnW h' := fun i a b => by
  have q := l i a b
  rw [f 769 _ (by omega) (by omega) (by omega) (by omega) (by omega), f (770 + i) (-2) (by omega) (by omega) (by omega) (by omega) (by omega), f (770 + i) (-1) (by omega) (by omega) (by omega) (by omega) (by omega)]
  exact q
theorem rowM_o {d b N : Int} {h h' : AH} {w : Int → Int} (r : rowM h b w N) (f : fMo d h h') (l : b < 770 + d) : rowM h' b w N := by
  have b0 := r.1
  exact ⟨r.1, by rw [f b (-2) (by omega) (by omega) (by omega) (by omega) (by omega), f b (-1) (by omega) (by omega) (by omega) (by omega) (by omega)]; exact r.2.1, fun x x0 x1 => by rw [f _ _ (by omega) (by omega) (by omega) (by omega) (by omega)]; exact r.2.2 x x0 x1⟩
/-- room for nodes, for rows -/
def stMo (h : AH) (d k z : Int) : Prop := (h 454 43 = d ∧ 1 ≤ d ∧ d + k ≤ 16) ∧ lnW h ∧ 8200 ≤ h 454 17 ∧ h 454 17 + z ≤ 8500
def wBd (w : Int → Int) : Prop := ∀ f, 0 ≤ w f ∧ (0 ≤ f → w f < 9223372036854775808)
section ITM
variable (E : EV) (Rf : Int → TR) (W : Int → Int → Int → VW) (K : AK) (tp : Int) (p : Nat) (T : TB)
/-- an act's terms: the i-th -/
def ITM (F : Int → Int → Int → Int → AH → Option (Int × AH)) (D : Nat) : Prop := ∀ (a1 a2 a3 a4 : Int) (h : AH) (w : Int → Int) (d ac : Int), MR h E Rf W K tp p T ((p : Int) + 1) → ((0 ≤ a1 ∧ a1 < (kA K).2.2.2.1) ∧ (kA K).2.2.2.2.1 a1 = ac ∧ 0 ≤ ac ∧ ac < E.1.1) → (1 ≤ a2 - (kA K).2.2.2.2.2.2.2 a1 ∧ a2 - (kA K).2.2.2.2.2.2.2 a1 ≤ D ∧ a2 ≤ p) → rowM h a3 w (LV E W (kP K) (kA K) p).1 ∧ wBd w ∧ a3 < 770 + d → stMo h d (a2 - (kA K).2.2.2.2.2.2.2 a1) (a2 - (kA K).2.2.2.2.2.2.2 a1 + 1) → (0 ≤ a4 ∧ a4 < rsW E W (kP K) (LV E W (kP K) (kA K) p) (ct E W (kP K) (kA K)) ac w (eO E ac).toNat 0 (a2 - (kA K).2.2.2.2.2.2.2 a1) s0T ∧ rsW E W (kP K) (LV E W (kP K) (kA K) p) (ct E W (kP K) (kA K)) ac w (eO E ac).toNat 0 (a2 - (kA K).2.2.2.2.2.2.2 a1) s0T < 9223372036854775808) → OK (F a1 a2 a3 a4 h) (fun r => jt2 r fun v h' => (∃ R f, opRd E W (kP K) (LV E W (kP K) (kA K) p) (ct E W (kP K) (kA K)) (itR E W (kP K) (kA K) (LV E W (kP K) (kA K) p) (ct E W (kP K) (kA K)) D) ac w (eO E ac).toNat 0 (a2 - (kA K).2.2.2.2.2.2.2 a1) s0T (fun _ => .leaf (0, 0, 0, 0)) a4 R f v ∧ poD R (pm h) (h' 454 49) (pm h') ∧ h' 454 50 = f) ∧ MR h' E Rf W K tp p T ((p : Int) + 1) ∧ fMo d h h' ∧ h' 454 43 = d)
end ITM

