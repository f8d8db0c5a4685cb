/-! m: what the rest of the operands weighs -/
def nxO (s : Int → Int) (k x y z : Int) : Int → Int := if y < 0 then up1 s k x else if z < 0 then up1 (up1 s k x) (k + 1) y else up1 (up1 (up1 s k x) (k + 1) y) (k + 1 + 1) z
noncomputable def tmV (E : EV) (W : Int → Int → Int → VW) (pts : Int) (L : TB) (c : Int → Int → Int) (ac : Int) (w : Int → Int) (k left : Int) (s : Int → Int) (x y z : Int) : Int := wyC c left x y z * w (ixS E W pts L ac (nxO s k x y z))
noncomputable def tzW (E : EV) (W : Int → Int → Int → VW) (pts : Int) (L : TB) (c : Int → Int → Int) (ac : Int) (w : Int → Int) (k left : Int) (s : Int → Int) (x y z : Int) : Int := cif (L.2.1 z = eK E ac 2) (tmV E W pts L c ac w k left s x y z) 0
noncomputable def qmW (E : EV) (W : Int → Int → Int → VW) (pts : Int) (L : TB) (c : Int → Int → Int) (ac : Int) (w : Int → Int) (k left : Int) (s : Int → Int) (cn x y : Int) : Int := if cn ≤ 2 then tmV E W pts L c ac w k left s x y (-1) else sumN (tzW E W pts L c ac w k left s x y) L.1.toNat
noncomputable def qyW (E : EV) (W : Int → Int → Int → VW) (pts : Int) (L : TB) (c : Int → Int → Int) (ac : Int) (w : Int → Int) (k left : Int) (s : Int → Int) (cn x y : Int) : Int := cif (L.2.1 y = eK E ac (k + 1)) (qmW E W pts L c ac w k left s cn x y) 0
noncomputable def pmW (E : EV) (W : Int → Int → Int → VW) (pts : Int) (L : TB) (c : Int → Int → Int) (ac : Int) (w : Int → Int) (k left : Int) (s : Int → Int) (cn x : Int) : Int := if cn ≤ 1 then tmV E W pts L c ac w k left s x (-1) (-1) else sumN (qyW E W pts L c ac w k left s cn x) L.1.toNat
noncomputable def pxW (E : EV) (W : Int → Int → Int → VW) (pts : Int) (L : TB) (c : Int → Int → Int) (ac : Int) (w : Int → Int) (k left : Int) (s : Int → Int) (cn x : Int) : Int := cif (L.2.1 x = eK E ac k) (pmW E W pts L c ac w k left s cn x) 0
section PMW
variable {E : EV} {W : Int → Int → Int → VW} {pts : Int} {L : TB} {c : Int → Int → Int} {ac : Int} {w : Int → Int} {k left : Int} {s : Int → Int}
theorem pm_rs (l0 : 0 ≤ left) (c0 : ∀ f, c 0 f = 0) (cn : Nat) (h : 1 ≤ cn ∧ cn ≤ 3) (k3 : cn = 3 → k = 0) : sumN (pxW E W pts L c ac w k left s cn) L.1.toNat = rsW E W pts L c ac w cn k left s := by
  rcases (show cn = 1 ∨ cn = 2 ∨ cn = 3 by omega) with e | e | e
  · subst e
    rw [rs1 l0]
    refine sumN_c (fun x x0 x1 => ?_)
    show cif _ (if (((1 : Nat) : Int) ≤ 1) then tmV E W pts L c ac w k left s x (-1) (-1) else _) 0 = _
    rw [if_pos (by decide)]
    have z : nxO s k x (-1) (-1) = up1 s k x := if_pos (by decide)
    have y : wyC c left x (-1) (-1) = c left x := if_neg (by decide)
    unfold tmV
    rw [z, y]
  · subst e
    rw [rs2 l0 c0]
    refine sumN_c (fun x x0 x1 => ?_)
    show cif _ (if (((2 : Nat) : Int) ≤ 1) then _ else sumN (qyW E W pts L c ac w k left s ((2 : Nat) : Int) x) L.1.toNat) 0 = _
    rw [if_neg (by decide)]
    congr 1
    refine sumN_c (fun y y0 y1 => ?_)
    show cif _ (if (((2 : Nat) : Int) ≤ 2) then tmV E W pts L c ac w k left s x y (-1) else _) 0 = _
    rw [if_pos (by decide)]
    have z : nxO s k x y (-1) = up1 (up1 s k x) (k + 1) y := (if_neg (by omega)).trans (if_pos (by decide))
    have u : wyC c left x y (-1) = w2C c left x y := (if_pos y0).trans (if_neg (by decide))
    unfold tmV
    rw [z, u]
  · subst e
    have k0 := k3 rfl
    rw [rs3 l0 c0]
    refine sumN_c (fun x x0 x1 => ?_)
    show cif _ (if (((3 : Nat) : Int) ≤ 1) then _ else sumN (qyW E W pts L c ac w k left s ((3 : Nat) : Int) x) L.1.toNat) 0 = _
    rw [if_neg (by decide)]
    congr 1
    refine sumN_c (fun y y0 y1 => ?_)
    show cif _ (if (((3 : Nat) : Int) ≤ 2) then _ else sumN (tzW E W pts L c ac w k left s x y) L.1.toNat) 0 = _
    rw [if_neg (by decide)]
    congr 1
    refine sumN_c (fun z z0 z1 => ?_)
    have zz : nxO s k x y z = up1 (up1 (up1 s k x) (k + 1) y) (k + 1 + 1) z := (if_neg (by omega)).trans (if_neg (by omega))
    have u : wyC c left x y z = w3C c left x y z := (if_pos y0).trans (if_pos z0)
    unfold tzW tmV
    rw [zz, u, k0]
    rfl
end PMW
/-- operands up to the last: places -/
def rkY (E : EV) (L : TB) (ac k cn x y z : Int) : Prop := (0 ≤ x ∧ x < L.1 ∧ L.2.1 x = eK E ac k) ∧ ((cn = 1 ∧ y = -1 ∧ z = -1) ∨ (cn = 2 ∧ (0 ≤ y ∧ y < L.1 ∧ L.2.1 y = eK E ac (k + 1)) ∧ z = -1) ∨ (cn = 3 ∧ (0 ≤ y ∧ y < L.1 ∧ L.2.1 y = eK E ac (k + 1)) ∧ (0 ≤ z ∧ z < L.1 ∧ L.2.1 z = eK E ac (k + 1 + 1))))
theorem nx_op {E : EV} {W : Int → Int → Int → VW} {pts : Int} {A : AD} {n : Nat} {L : TB} {ac k used left cn x y z : Int} {s : Int → Int} (tq : TQ E W pts A n L) (o : opS E W pts A n ac k used s) (k0 : 0 ≤ k ∧ k + cn ≤ 3) (ln : left ≤ n) (r : rkY E L ac k cn x y z) (nz : wyC (ct E W pts A) left x y z ≠ 0) : opS E W pts A n ac (k + cn) (used + left) (nxO s k x y z) := by
  have SU := wyC_s tq r.1.1 ln (fun z0 => by rcases r.2 with q | q | q <;> omega) nz
  have qx := tq.2.1.2 x r.1.1 SU.1.1
  have kx : (LV E W pts A n).2.1 x = eK E ac k := by rw [← qx.1]; exact r.1.2.2
  rcases r.2 with ⟨c1, y1, z1⟩ | ⟨c2, y2, z2⟩ | ⟨c3, y3, z3⟩
  · subst y1
    subst z1
    have e : nxO s k x (-1) (-1) = up1 s k x := if_pos (by decide)
    have S2 := SU.2
    rw [wO_n] at S2
    rw [e, c1]
    exact opS_1 o (by omega) ⟨r.1.1, SU.1.1⟩ kx (by omega)
  · subst z2
    have e : nxO s k x y (-1) = up1 (up1 s k x) (k + 1) y := (if_neg (by omega)).trans (if_pos (by decide))
    have S2 := SU.2
    rw [wO_n, wO_0 y2.1] at S2
    have ly := SU.1.2.1 y2.1
    have qy := tq.2.1.2 y y2.1 ly
    have o1 := opS_1 (r := (LV E W pts A n).2.2.1 x) o (by omega) ⟨r.1.1, SU.1.1⟩ kx (Int.le_refl _)
    have o2 := opS_1 (r := left - (LV E W pts A n).2.2.1 x) o1 (by omega) ⟨y2.1, ly⟩ (by rw [← qy.1]; exact y2.2.2) (by omega)
    rw [e, c2, show k + 2 = k + 1 + 1 by omega, show used + left = used + (LV E W pts A n).2.2.1 x + (left - (LV E W pts A n).2.2.1 x) by omega]
    exact o2
  · have e : nxO s k x y z = up1 (up1 (up1 s k x) (k + 1) y) (k + 1 + 1) z := (if_neg (by omega)).trans (if_neg (by omega))
    have S2 := SU.2
    rw [wO_0 y3.1, wO_0 z3.1] at S2
    have ly := SU.1.2.1 y3.1
    have lz := SU.1.2.2 z3.1
    have qy := tq.2.1.2 y y3.1 ly
    have qz := tq.2.1.2 z z3.1 lz
    have o1 := opS_1 (r := (LV E W pts A n).2.2.1 x) o (by omega) ⟨r.1.1, SU.1.1⟩ kx (Int.le_refl _)
    have o2 := opS_1 (r := (LV E W pts A n).2.2.1 y) o1 (by omega) ⟨y3.1, ly⟩ (by rw [← qy.1]; exact y3.2.2) (Int.le_refl _)
    have o3 := opS_1 (r := left - (LV E W pts A n).2.2.1 x - (LV E W pts A n).2.2.1 y) o2 (by omega) ⟨z3.1, lz⟩ (by rw [← qz.1]; exact z3.2.2) (by omega)
    rw [e, c3, show k + 3 = k + 1 + 1 + 1 by omega, show used + left = used + (LV E W pts A n).2.2.1 x + (LV E W pts A n).2.2.1 y + (left - (LV E W pts A n).2.2.1 x - (LV E W pts A n).2.2.1 y) by omega]
    exact o3
/-- what the operands are, one by one -/
theorem nx_0 {E : EV} {L : TB} {ac cn x y z : Int} {s : Int → Int} (r : rkY E L ac 0 cn x y z) (s1 : s 1 = -1) (s2 : s 2 = -1) : nxO s 0 x y z 0 = x ∧ nxO s 0 x y z 1 = y ∧ nxO s 0 x y z 2 = z := by
  rcases r.2 with ⟨c1, y1, z1⟩ | ⟨c2, y2, z2⟩ | ⟨c3, y3, z3⟩
  · subst y1
    subst z1
    have e : nxO s 0 x (-1) (-1) = up1 s 0 x := if_pos (by decide)
    rw [e]
    exact ⟨rfl, s1, s2⟩
  · subst z2
    have e : nxO s 0 x y (-1) = up1 (up1 s 0 x) (0 + 1) y := (if_neg (by omega)).trans (if_pos (by decide))
    rw [e]
    exact ⟨rfl, rfl, s2⟩
  · have e : nxO s 0 x y z = up1 (up1 (up1 s 0 x) (0 + 1) y) (0 + 1 + 1) z := (if_neg (by omega)).trans (if_neg (by omega))
    rw [e]
    exact ⟨rfl, rfl, rfl⟩
theorem nx_1 {E : EV} {L : TB} {ac cn x y z : Int} {s : Int → Int} (r : rkY E L ac 1 cn x y z) (c2 : cn ≤ 2) (s2 : s 2 = -1) : nxO s 1 x y z 0 = s 0 ∧ nxO s 1 x y z 1 = x ∧ nxO s 1 x y z 2 = y := by
  rcases r.2 with ⟨c1, y1, z1⟩ | ⟨c2, y2, z2⟩ | ⟨c3, y3, z3⟩
  · subst y1
    subst z1
    have e : nxO s 1 x (-1) (-1) = up1 s 1 x := if_pos (by decide)
    rw [e]
    exact ⟨rfl, rfl, s2⟩
  · subst z2
    have e : nxO s 1 x y (-1) = up1 (up1 s 1 x) (1 + 1) y := (if_neg (by omega)).trans (if_pos (by decide))
    rw [e]
    exact ⟨rfl, rfl, rfl⟩
  · omega
theorem nx_2 {E : EV} {L : TB} {ac cn x y z : Int} {s : Int → Int} (r : rkY E L ac 2 cn x y z) (c1 : cn ≤ 1) : nxO s 2 x y z 0 = s 0 ∧ nxO s 2 x y z 1 = s 1 ∧ nxO s 2 x y z 2 = x := by
  rcases r.2 with ⟨c1, y1, z1⟩ | ⟨c2, y2, z2⟩ | ⟨c3, y3, z3⟩
  · subst y1
    have e : nxO s 2 x (-1) z = up1 s 2 x := if_pos (by decide)
    rw [e]
    exact ⟨rfl, rfl, rfl⟩
  · omega
  · omega
theorem MR_R {h h' : AH} {E : EV} {Rf : Int → TR} {W : Int → Int → Int → VW} {K : AK} {tp : Int} {p : Nat} {T : TB} (mr : MR h E Rf W K tp p T ((p : Int) + 1)) (p12 : p ≤ 12) (f : fR h h') (c : cM h' E W (kP K) (LV E W (kP K) (kA K) p)) (b : b20 h') : MR h' E Rf W K tp p T ((p : Int) + 1) := by
  have o := RPm_o mr.1 mr.2.1 f b
  exact ⟨o.1, o.2, c, fun i g a1 a2 a3 a4 => by rw [f _ _ (by omega) (by omega) (by omega)]; exact mr.2.2.2 i g a1 a2 a3 a4⟩
/-- a row of weights: m -/
def rowM (h : AH) (b : Int) (w : Int → Int) (N : Int) : Prop := (770 ≤ b ∧ b ≤ 785) ∧ (h b (-2) = 102 ∧ h b (-1) = 122) ∧ ∀ f, 0 ≤ f → f < N → h b f = w f
theorem rowM_R {h h' : AH} {b N : Int} {w : Int → Int} (r : rowM h b w N) (f : fR h h') : rowM h' b w N := ⟨r.1, by rw [f _ _ (by omega) (by omega) (by omega), f b (-1) (by omega) (by omega) (by omega)]; exact r.2.1, fun x x0 x1 => by rw [f _ _ (by have := r.1; omega) (by have := r.1; omega) (by have := r.1; omega)]; exact r.2.2 x x0 x1⟩
/-- an act and what was chosen of its operands: m -/
def raM (E : EV) (W : Int → Int → Int → VW) (K : AK) (p : Nat) (ac k left u v used cn : Int) (s : Int → Int) : Prop := (∃ j, ((0 ≤ j ∧ j < (kA K).2.2.2.1) ∧ (kA K).2.2.2.2.1 j = ac ∧ 0 ≤ ac ∧ ac < E.1.1) ∧ (kA K).2.2.2.2.2.2.2 j + used + left ≤ p) ∧ (cn = eO E ac - k ∧ 1 ≤ cn ∧ 0 ≤ k ∧ k ≤ 2) ∧ (opS E W (kP K) (kA K) p ac k used s ∧ s 0 = u ∧ s 1 = v) ∧ 0 ≤ used ∧ 0 ≤ left
theorem vX14_rest_j292_216 (a2 : Int) (a3 : Int) (a4 : Int) (a6 : Int) (a7 : Int) (a8 : Int) (a10 : Int) (a12 : Int) (a13 : Int) (a14 : Int) (a15 : Int) {h : AH} {E : EV} {Rf : Int → TR} {W : Int → Int → Int → VW} {K : AK} {tp : Int} {p : Nat} {T : TB} {w sg : Int → Int} {used b0 : Int} (mr : MR h E Rf W K tp p T ((p : Int) + 1)) (tq : tqM E W K p p) (ra : raM E W K p a8 a6 a2 a3 a4 used a12 sg ∧ 1 ≤ a2) (xs : rkY E (LV E W (kP K) (kA K) p) a8 a6 a12 a13 a14 a15) (rx : rowM h a7 w (LV E W (kP K) (kA K) p).1) (ac : a10 = w64 b0) : OK (gX14_rest_j292_216 a2 a3 a4 a6 a7 a8 a10 a12 a13 a14 a15 h) (Sum.elim (fun r => jt3 r fun x y h' => (x = w64 (b0 + tmV E W (kP K) (LV E W (kP K) (kA K) p) (ct E W (kP K) (kA K)) a8 w a6 a2 sg a13 a14 a15) ∧ y = a15 + 1) ∧ (MR h' E Rf W K tp p T ((p : Int) + 1)) ∧ (fR h h')) (fun r => jt2 r fun w0 h' => (0 : Int) = 1)) := by
  obtain ⟨⟨⟨j, ij, jp⟩, io, op, u0, l0⟩, l1⟩ := ra
  have n12 := tq.1.1.1
  have oo := tq.1.1.2.2.2.2.1.2.2.1 _ ij.2.2.1 ij.2.2.2
  have pp := (tq.1.1.2.2.2.1.2.2 j ij.1.1 ij.1.2).1
  have x0 := xs.1
  have yz : -1 ≤ a14 ∧ a14 < (LV E W (kP K) (kA K) p).1 ∧ -1 ≤ a15 ∧ a15 < (LV E W (kP K) (kA K) p).1 ∧ (0 ≤ a15 → 0 ≤ a14) := by { rcases xs.2 with q | q | q <;> omega }
  have L120 := tq.2.2
  have w60 : w32 (a15 + 1) = a15 + 1 := w32_id (by omega) (by omega)
  have N44 := mr.2.2.1.1
  unfold gX14_rest_j292_216
  refine OK_jb (vX14_ways (c := ct E W (kP K) (kA K)) (N := (LV E W (kP K) (kA K) p).1) _ _ _ _ (by exact ⟨⟨x0.1, x0.2.1, L120⟩, yz.2.1, yz.2.2.2.1, by omega, by omega⟩) (by exact fun i f a b c d => mr.2.2.2 i f a (by omega) c d) (by exact fun f => ct_n (by decide))) (fun v47 r1 => ?_)
  try dsimp only [Sum.elim_inl, Sum.elim_inr, jt2, jt3, jt4, jt5, jt6, jt7, jt8] at r1
  have ww1 := r1
  clear r1
  try simp (disch := omega) only [jst_eq, jst_ne, jst_ni, jI_i, jcmp_lt, jcmp_gt, w32_id, jcpy_out, Sum.elim_inl, Sum.elim_inr, jt2, jt3, jt4, jt5, jt6, jt7, jt8] at ww1
  have WB := wyC_b (y := a14) (z := a15) tq.1.1 (left := a2) (by omega) x0.1
  have W0 := wyC_0 (c := ct E W (kP K) (kA K)) ct_0 a2 a13 a14 a15
  have V47 : v47 = wyC (ct E W (kP K) (kA K)) a2 a13 a14 a15 := by
      have e : v47 = if 0 ≤ a14 then w64 (if 0 ≤ a15 then w3C (ct E W (kP K) (kA K)) a2 a13 a14 a15 else w2C (ct E W (kP K) (kA K)) a2 a13 a14) else ct E W (kP K) (kA K) a2 a13 := by first | exact ww1 | assumption
      rw [e]
      unfold wyC at WB W0 ⊢
      by_cases y : 0 ≤ a14
      · rw [if_pos y] at WB W0 ⊢
        rw [if_pos y]
        exact w64_id (by omega) (by omega)
      · rw [if_neg y, if_neg y]
  refine OK_if (fun c1 => ?_) (fun c1 => ?_)
  · skip
    try simp (disch := omega) only [jst_eq, jst_ne, jst_ni, jI_i, jcmp_lt, jcmp_gt, w32_id, jcpy_out, Sum.elim_inl, Sum.elim_inr, jt2, jt3, jt4, jt5, jt6, jt7, jt8] at c1
    have c1w := jcmp_eq.1 c1
    have TM0 : tmV E W (kP K) (LV E W (kP K) (kA K) p) (ct E W (kP K) (kA K)) a8 w a6 a2 sg a13 a14 a15 = 0 := by { unfold tmV; rw [← V47, c1w, Int.zero_mul] }
    unfold gX14_rest_j399_216
    refine OK_jlx (fun x60 ex60 => ?_)
    try simp (disch := omega) only [jst_eq, jst_ne, jst_ni, jI_i, jcmp_lt, jcmp_gt, w32_id, jcpy_out, Sum.elim_inl, Sum.elim_inr, jt2, jt3, jt4, jt5, jt6, jt7, jt8] at ex60
    refine OK_some ?_
    try dsimp only [Sum.elim_inl, Sum.elim_inr, jt2, jt3, jt4, jt5, jt6, jt7, jt8]
    try dsimp only [Sum.elim_inl, Sum.elim_inr, jt2, jt3, jt4, jt5, jt6, jt7, jt8]
    refine ⟨?_, ?_, ?_⟩
    · (refine ⟨?_, by omega⟩; rw [ac, TM0, Int.add_zero]) -- o4 e1.1
    · exact mr -- o5 e1.2
    · exact fun _ _ _ _ _ => rfl -- o6 e1.3
  · skip
    try simp (disch := omega) only [jst_eq, jst_ne, jst_ni, jI_i, jcmp_lt, jcmp_gt, w32_id, jcpy_out, Sum.elim_inl, Sum.elim_inr, jt2, jt3, jt4, jt5, jt6, jt7, jt8] at c1
    have c1w : ¬ v47 = 0 := fun y => c1 (jcmp_eq.2 y)
    have NO := nx_op (left := a2) tq.1 op.1 (by omega) (by omega) xs (by omega)
    have OT0 := opS_T tq.1 tq.2.1 ij NO (by omega) (by omega) (by omega)
    have OTr := OT0.2.2.2.1
    have TM : tmV E W (kP K) (LV E W (kP K) (kA K) p) (ct E W (kP K) (kA K)) a8 w a6 a2 sg a13 a14 a15 = v47 * w (ixS E W (kP K) (LV E W (kP K) (kA K) p) a8 (nxO sg a6 a13 a14 a15)) := by { rw [V47]; rfl }
    refine OK_if (fun c2 => ?_) (fun c2 => ?_)
    · skip
      try simp (disch := omega) only [jst_eq, jst_ne, jst_ni, jI_i, jcmp_lt, jcmp_gt, w32_id, jcpy_out, Sum.elim_inl, Sum.elim_inr, jt2, jt3, jt4, jt5, jt6, jt7, jt8] at c2
      have NX := nx_0 (s := sg) (by rw [c2] at xs; exact xs) (op.1.2.1 1 (by omega)) (op.1.2.1 2 (by omega))
      have IXE : ixS E W (kP K) (LV E W (kP K) (kA K) p) a8 (nxO sg a6 a13 a14 a15) = ixC E W (kP K) (LV E W (kP K) (kA K) p) a8 a13 a14 a15 := by { show ixC E W (kP K) (LV E W (kP K) (kA K) p) a8 (nxO sg a6 a13 a14 a15 0) (nxO sg a6 a13 a14 a15 1) (nxO sg a6 a13 a14 a15 2) = _; rw [c2, NX.1, NX.2.1, NX.2.2] }
      have OTA : arT E (LV E W (kP K) (kA K) p) (LV E W (kP K) (kA K) p).1 a8 a13 a14 a15 ∧ hasT (kP K) (LV E W (kP K) (kA K) p) (eK E a8 (eO E a8)) (mkV E W (LV E W (kP K) (kA K) p).2.2.2.2.2 a8 a13 a14 a15) := by { rw [c2, NX.1, NX.2.1, NX.2.2] at OT0; exact ⟨OT0.1, OT0.2.1⟩ }
      refine OK_jb2 (vX14_result (E := E) (Rf := Rf) (W := W) (K := K) (tp := tp) (p := p) (T := T) _ _ _ _ (by (first | (exact ⟨mr.1, mr.2.1, mr.2.2.1, ij.2.2, OTA.1, OTA.2⟩) | (first | assumption | omega | ((try dsimp only [jt2, jt3, jt4]); first | omega | (simp (disch := omega) only [jst_eq, jst_ne, jst_ni, jst_o, jI_i, jcpy_out, w32_id, jdiv_nn, jshr_k, jand_255] <;> first | done | omega | assumption)) | (intros; simp (disch := omega) only [jst_eq, jst_ne, jst_ni, jst_o, jI_i, jcpy_out, w32_id, jdiv_nn, *] <;> first | done | omega) | (intros; simp (disch := omega) only [jst_eq, jst_ne, jst_ni, jst_o, jI_i, jcpy_out, w32_id, jdiv_nn] at * <;> first | done | omega | assumption) | (intros; first | rfl | (exfalso; omega) | ((repeat' apply And.intro) <;> first | assumption | rfl | omega | trivial)))))) (fun v51 h52 r2 => ?_)
      try dsimp only [Sum.elim_inl, Sum.elim_inr, jt2, jt3, jt4, jt5, jt6, jt7, jt8] at r2
      obtain ⟨rs2, cm2, fs2⟩ := r2
      try simp (disch := omega) only [jst_eq, jst_ne, jst_ni, jI_i, jcmp_lt, jcmp_gt, w32_id, jcpy_out, Sum.elim_inl, Sum.elim_inr, jt2, jt3, jt4, jt5, jt6, jt7, jt8] at rs2
      try simp (disch := omega) only [jst_eq, jst_ne, jst_ni, jI_i, jcmp_lt, jcmp_gt, w32_id, jcpy_out, Sum.elim_inl, Sum.elim_inr, jt2, jt3, jt4, jt5, jt6, jt7, jt8] at cm2
      try simp (disch := omega) only [jst_eq, jst_ne, jst_ni, jI_i, jcmp_lt, jcmp_gt, w32_id, jcpy_out, Sum.elim_inl, Sum.elim_inr, jt2, jt3, jt4, jt5, jt6, jt7, jt8] at fs2
      have M2 := MR_R mr (by omega) fs2.1 cm2 fs2.2
      have V5 : v51 = ixS E W (kP K) (LV E W (kP K) (kA K) p) a8 (nxO sg a6 a13 a14 a15) := (show v51 = _ from rs2).trans IXE.symm
      have N5 := M2.2.2.1.1
      have RX := rowM_R rx fs2.1
      have RX1 := RX.2.1
      have W5 : h52 a7 v51 = w (ixS E W (kP K) (LV E W (kP K) (kA K) p) a8 (nxO sg a6 a13 a14 a15)) := by { rw [V5]; exact RX.2.2 _ OTr.1 OTr.2 }
      unfold gX14_rest_j366_216
      refine OK_if (fun c3 => ?_) (fun c3 => ?_)
      · skip
        try simp (disch := omega) only [jst_eq, jst_ne, jst_ni, jI_i, jcmp_lt, jcmp_gt, w32_id, jcpy_out, Sum.elim_inl, Sum.elim_inr, jt2, jt3, jt4, jt5, jt6, jt7, jt8] at c3
        exfalso
        omega
      · skip
        try simp (disch := omega) only [jst_eq, jst_ne, jst_ni, jI_i, jcmp_lt, jcmp_gt, w32_id, jcpy_out, Sum.elim_inl, Sum.elim_inr, jt2, jt3, jt4, jt5, jt6, jt7, jt8] at c3
        refine OK_if (fun c4 => ?_) (fun c4 => ?_)
        · skip
          try simp (disch := omega) only [jst_eq, jst_ne, jst_ni, jI_i, jcmp_lt, jcmp_gt, w32_id, jcpy_out, Sum.elim_inl, Sum.elim_inr, jt2, jt3, jt4, jt5, jt6, jt7, jt8] at c4
          refine OK_jg (by (first | (exact ⟨mr.1, mr.2.1, mr.2.2.1, ij.2.2, OTA.1, OTA.2⟩) | (first | assumption | omega | ((try dsimp only [jt2, jt3, jt4]); first | omega | (simp (disch := omega) only [jst_eq, jst_ne, jst_ni, jst_o, jI_i, jcpy_out, w32_id, jdiv_nn, jshr_k, jand_255] <;> first | done | omega | assumption)) | (intros; simp (disch := omega) only [jst_eq, jst_ne, jst_ni, jst_o, jI_i, jcpy_out, w32_id, jdiv_nn, *] <;> first | done | omega) | (intros; simp (disch := omega) only [jst_eq, jst_ne, jst_ni, jst_o, jI_i, jcpy_out, w32_id, jdiv_nn] at * <;> first | done | omega | assumption) | (intros; first | rfl | (exfalso; omega) | ((repeat' apply And.intro) <;> first | assumption | rfl | omega | trivial))))) ?_ -- o8
          refine OK_jlx (fun x64 ex64 => ?_)
          try simp (disch := omega) only [jst_eq, jst_ne, jst_ni, jI_i, jcmp_lt, jcmp_gt, w32_id, jcpy_out, Sum.elim_inl, Sum.elim_inr, jt2, jt3, jt4, jt5, jt6, jt7, jt8] at ex64
          unfold gX14_rest_j399_216
          refine OK_jlx (fun x60 ex60 => ?_)
          try simp (disch := omega) only [jst_eq, jst_ne, jst_ni, jI_i, jcmp_lt, jcmp_gt, w32_id, jcpy_out, Sum.elim_inl, Sum.elim_inr, jt2, jt3, jt4, jt5, jt6, jt7, jt8] at ex60
          refine OK_some ?_
          try dsimp only [Sum.elim_inl, Sum.elim_inr, jt2, jt3, jt4, jt5, jt6, jt7, jt8]
          try dsimp only [Sum.elim_inl, Sum.elim_inr, jt2, jt3, jt4, jt5, jt6, jt7, jt8]
          refine ⟨?_, ?_, ?_⟩
          · (refine ⟨?_, by omega⟩; rw [ex64, W5, ac, w64_a, TM]) -- o9 e2.1
          · exact M2 -- o10 e2.2
          · exact fs2.1 -- o11 e2.3
        · skip
          try simp (disch := omega) only [jst_eq, jst_ne, jst_ni, jI_i, jcmp_lt, jcmp_gt, w32_id, jcpy_out, Sum.elim_inl, Sum.elim_inr, jt2, jt3, jt4, jt5, jt6, jt7, jt8] at c4
          exfalso
          omega
    · skip
      try simp (disch := omega) only [jst_eq, jst_ne, jst_ni, jI_i, jcmp_lt, jcmp_gt, w32_id, jcpy_out, Sum.elim_inl, Sum.elim_inr, jt2, jt3, jt4, jt5, jt6, jt7, jt8] at c2
      refine OK_if (fun c5 => ?_) (fun c5 => ?_)
      · skip
        try simp (disch := omega) only [jst_eq, jst_ne, jst_ni, jI_i, jcmp_lt, jcmp_gt, w32_id, jcpy_out, Sum.elim_inl, Sum.elim_inr, jt2, jt3, jt4, jt5, jt6, jt7, jt8] at c5
        have NX := nx_1 (s := sg) (by rw [c5] at xs; exact xs) (by omega) (op.1.2.1 2 (by omega))
        have IXE : ixS E W (kP K) (LV E W (kP K) (kA K) p) a8 (nxO sg a6 a13 a14 a15) = ixC E W (kP K) (LV E W (kP K) (kA K) p) a8 a3 a13 a14 := by { show ixC E W (kP K) (LV E W (kP K) (kA K) p) a8 (nxO sg a6 a13 a14 a15 0) (nxO sg a6 a13 a14 a15 1) (nxO sg a6 a13 a14 a15 2) = _; rw [c5, NX.1, NX.2.1, NX.2.2, op.2.1] }
        have OTA : arT E (LV E W (kP K) (kA K) p) (LV E W (kP K) (kA K) p).1 a8 a3 a13 a14 ∧ hasT (kP K) (LV E W (kP K) (kA K) p) (eK E a8 (eO E a8)) (mkV E W (LV E W (kP K) (kA K) p).2.2.2.2.2 a8 a3 a13 a14) := by { rw [c5, NX.1, NX.2.1, NX.2.2, op.2.1] at OT0; exact ⟨OT0.1, OT0.2.1⟩ }
        refine OK_jb2 (vX14_result (E := E) (Rf := Rf) (W := W) (K := K) (tp := tp) (p := p) (T := T) _ _ _ _ (by (first | (exact ⟨mr.1, mr.2.1, mr.2.2.1, ij.2.2, OTA.1, OTA.2⟩) | (first | assumption | omega | ((try dsimp only [jt2, jt3, jt4]); first | omega | (simp (disch := omega) only [jst_eq, jst_ne, jst_ni, jst_o, jI_i, jcpy_out, w32_id, jdiv_nn, jshr_k, jand_255] <;> first | done | omega | assumption)) | (intros; simp (disch := omega) only [jst_eq, jst_ne, jst_ni, jst_o, jI_i, jcpy_out, w32_id, jdiv_nn, *] <;> first | done | omega) | (intros; simp (disch := omega) only [jst_eq, jst_ne, jst_ni, jst_o, jI_i, jcpy_out, w32_id, jdiv_nn] at * <;> first | done | omega | assumption) | (intros; first | rfl | (exfalso; omega) | ((repeat' apply And.intro) <;> first | assumption | rfl | omega | trivial)))))) (fun v55 h56 r3 => ?_)
        try dsimp only [Sum.elim_inl, Sum.elim_inr, jt2, jt3, jt4, jt5, jt6, jt7, jt8] at r3
        obtain ⟨rs3, cm3, fs3⟩ := r3
        try simp (disch := omega) only [jst_eq, jst_ne, jst_ni, jI_i, jcmp_lt, jcmp_gt, w32_id, jcpy_out, Sum.elim_inl, Sum.elim_inr, jt2, jt3, jt4, jt5, jt6, jt7, jt8] at rs3
        try simp (disch := omega) only [jst_eq, jst_ne, jst_ni, jI_i, jcmp_lt, jcmp_gt, w32_id, jcpy_out, Sum.elim_inl, Sum.elim_inr, jt2, jt3, jt4, jt5, jt6, jt7, jt8] at cm3
        try simp (disch := omega) only [jst_eq, jst_ne, jst_ni, jI_i, jcmp_lt, jcmp_gt, w32_id, jcpy_out, Sum.elim_inl, Sum.elim_inr, jt2, jt3, jt4, jt5, jt6, jt7, jt8] at fs3
        have M2 := MR_R mr (by omega) fs3.1 cm3 fs3.2
        have V5 : v55 = ixS E W (kP K) (LV E W (kP K) (kA K) p) a8 (nxO sg a6 a13 a14 a15) := (show v55 = _ from rs3).trans IXE.symm
        have N5 := M2.2.2.1.1
        have RX := rowM_R rx fs3.1
        have RX1 := RX.2.1
        have W5 : h56 a7 v55 = w (ixS E W (kP K) (LV E W (kP K) (kA K) p) a8 (nxO sg a6 a13 a14 a15)) := by { rw [V5]; exact RX.2.2 _ OTr.1 OTr.2 }
        unfold gX14_rest_j366_216
        refine OK_if (fun c6 => ?_) (fun c6 => ?_)
        · skip
          try simp (disch := omega) only [jst_eq, jst_ne, jst_ni, jI_i, jcmp_lt, jcmp_gt, w32_id, jcpy_out, Sum.elim_inl, Sum.elim_inr, jt2, jt3, jt4, jt5, jt6, jt7, jt8] at c6
          exfalso
          omega
        · skip
          try simp (disch := omega) only [jst_eq, jst_ne, jst_ni, jI_i, jcmp_lt, jcmp_gt, w32_id, jcpy_out, Sum.elim_inl, Sum.elim_inr, jt2, jt3, jt4, jt5, jt6, jt7, jt8] at c6
          refine OK_if (fun c7 => ?_) (fun c7 => ?_)
          · skip
            try simp (disch := omega) only [jst_eq, jst_ne, jst_ni, jI_i, jcmp_lt, jcmp_gt, w32_id, jcpy_out, Sum.elim_inl, Sum.elim_inr, jt2, jt3, jt4, jt5, jt6, jt7, jt8] at c7
            refine OK_jg (by (first | (exact ⟨mr.1, mr.2.1, mr.2.2.1, ij.2.2, OTA.1, OTA.2⟩) | (first | assumption | omega | ((try dsimp only [jt2, jt3, jt4]); first | omega | (simp (disch := omega) only [jst_eq, jst_ne, jst_ni, jst_o, jI_i, jcpy_out, w32_id, jdiv_nn, jshr_k, jand_255] <;> first | done | omega | assumption)) | (intros; simp (disch := omega) only [jst_eq, jst_ne, jst_ni, jst_o, jI_i, jcpy_out, w32_id, jdiv_nn, *] <;> first | done | omega) | (intros; simp (disch := omega) only [jst_eq, jst_ne, jst_ni, jst_o, jI_i, jcpy_out, w32_id, jdiv_nn] at * <;> first | done | omega | assumption) | (intros; first | rfl | (exfalso; omega) | ((repeat' apply And.intro) <;> first | assumption | rfl | omega | trivial))))) ?_ -- o13
            refine OK_jlx (fun x64 ex64 => ?_)
            try simp (disch := omega) only [jst_eq, jst_ne, jst_ni, jI_i, jcmp_lt, jcmp_gt, w32_id, jcpy_out, Sum.elim_inl, Sum.elim_inr, jt2, jt3, jt4, jt5, jt6, jt7, jt8] at ex64
            unfold gX14_rest_j399_216
            refine OK_jlx (fun x60 ex60 => ?_)
            try simp (disch := omega) only [jst_eq, jst_ne, jst_ni, jI_i, jcmp_lt, jcmp_gt, w32_id, jcpy_out, Sum.elim_inl, Sum.elim_inr, jt2, jt3, jt4, jt5, jt6, jt7, jt8] at ex60
            refine OK_some ?_
            try dsimp only [Sum.elim_inl, Sum.elim_inr, jt2, jt3, jt4, jt5, jt6, jt7, jt8]
            try dsimp only [Sum.elim_inl, Sum.elim_inr, jt2, jt3, jt4, jt5, jt6, jt7, jt8]
            refine ⟨?_, ?_, ?_⟩
            · (refine ⟨?_, by omega⟩; rw [ex64, W5, ac, w64_a, TM]) -- o14 e3.1
            · exact M2 -- o15 e3.2
            · exact fs3.1 -- o16 e3.3
          · skip
            try simp (disch := omega) only [jst_eq, jst_ne, jst_ni, jI_i, jcmp_lt, jcmp_gt, w32_id, jcpy_out, Sum.elim_inl, Sum.elim_inr, jt2, jt3, jt4, jt5, jt6, jt7, jt8] at c7
            exfalso
            omega
      · skip
        try simp (disch := omega) only [jst_eq, jst_ne, jst_ni, jI_i, jcmp_lt, jcmp_gt, w32_id, jcpy_out, Sum.elim_inl, Sum.elim_inr, jt2, jt3, jt4, jt5, jt6, jt7, jt8] at c5
        have k2 : a6 = 2 := by omega
        have NX := nx_2 (s := sg) (by rw [k2] at xs; exact xs) (by omega)
        have IXE : ixS E W (kP K) (LV E W (kP K) (kA K) p) a8 (nxO sg a6 a13 a14 a15) = ixC E W (kP K) (LV E W (kP K) (kA K) p) a8 a3 a4 a13 := by { show ixC E W (kP K) (LV E W (kP K) (kA K) p) a8 (nxO sg a6 a13 a14 a15 0) (nxO sg a6 a13 a14 a15 1) (nxO sg a6 a13 a14 a15 2) = _; rw [k2, NX.1, NX.2.1, NX.2.2, op.2.1, op.2.2] }
        have OTA : arT E (LV E W (kP K) (kA K) p) (LV E W (kP K) (kA K) p).1 a8 a3 a4 a13 ∧ hasT (kP K) (LV E W (kP K) (kA K) p) (eK E a8 (eO E a8)) (mkV E W (LV E W (kP K) (kA K) p).2.2.2.2.2 a8 a3 a4 a13) := by { rw [k2, NX.1, NX.2.1, NX.2.2, op.2.1, op.2.2] at OT0; exact ⟨OT0.1, OT0.2.1⟩ }
        refine OK_jb2 (vX14_result (E := E) (Rf := Rf) (W := W) (K := K) (tp := tp) (p := p) (T := T) _ _ _ _ (by (first | (exact ⟨mr.1, mr.2.1, mr.2.2.1, ij.2.2, OTA.1, OTA.2⟩) | (first | assumption | omega | ((try dsimp only [jt2, jt3, jt4]); first | omega | (simp (disch := omega) only [jst_eq, jst_ne, jst_ni, jst_o, jI_i, jcpy_out, w32_id, jdiv_nn, jshr_k, jand_255] <;> first | done | omega | assumption)) | (intros; simp (disch := omega) only [jst_eq, jst_ne, jst_ni, jst_o, jI_i, jcpy_out, w32_id, jdiv_nn, *] <;> first | done | omega) | (intros; simp (disch := omega) only [jst_eq, jst_ne, jst_ni, jst_o, jI_i, jcpy_out, w32_id, jdiv_nn] at * <;> first | done | omega | assumption) | (intros; first | rfl | (exfalso; omega) | ((repeat' apply And.intro) <;> first | assumption | rfl | omega | trivial)))))) (fun v58 h59 r4 => ?_)
        try dsimp only [Sum.elim_inl, Sum.elim_inr, jt2, jt3, jt4, jt5, jt6, jt7, jt8] at r4
        obtain ⟨rs4, cm4, fs4⟩ := r4
        try simp (disch := omega) only [jst_eq, jst_ne, jst_ni, jI_i, jcmp_lt, jcmp_gt, w32_id, jcpy_out, Sum.elim_inl, Sum.elim_inr, jt2, jt3, jt4, jt5, jt6, jt7, jt8] at rs4
        try simp (disch := omega) only [jst_eq, jst_ne, jst_ni, jI_i, jcmp_lt, jcmp_gt, w32_id, jcpy_out, Sum.elim_inl, Sum.elim_inr, jt2, jt3, jt4, jt5, jt6, jt7, jt8] at cm4
        try simp (disch := omega) only [jst_eq, jst_ne, jst_ni, jI_i, jcmp_lt, jcmp_gt, w32_id, jcpy_out, Sum.elim_inl, Sum.elim_inr, jt2, jt3, jt4, jt5, jt6, jt7, jt8] at fs4
        have M2 := MR_R mr (by omega) fs4.1 cm4 fs4.2
        have V5 : v58 = ixS E W (kP K) (LV E W (kP K) (kA K) p) a8 (nxO sg a6 a13 a14 a15) := (show v58 = _ from rs4).trans IXE.symm
        have N5 := M2.2.2.1.1
        have RX := rowM_R rx fs4.1
        have RX1 := RX.2.1
        have W5 : h59 a7 v58 = w (ixS E W (kP K) (LV E W (kP K) (kA K) p) a8 (nxO sg a6 a13 a14 a15)) := by { rw [V5]; exact RX.2.2 _ OTr.1 OTr.2 }
        unfold gX14_rest_j366_216
        refine OK_if (fun c8 => ?_) (fun c8 => ?_)
        · skip
          try simp (disch := omega) only [jst_eq, jst_ne, jst_ni, jI_i, jcmp_lt, jcmp_gt, w32_id, jcpy_out, Sum.elim_inl, Sum.elim_inr, jt2, jt3, jt4, jt5, jt6, jt7, jt8] at c8
          exfalso
          omega
        · skip
          try simp (disch := omega) only [jst_eq, jst_ne, jst_ni, jI_i, jcmp_lt, jcmp_gt, w32_id, jcpy_out, Sum.elim_inl, Sum.elim_inr, jt2, jt3, jt4, jt5, jt6, jt7, jt8] at c8
          refine OK_if (fun c9 => ?_) (fun c9 => ?_)
          · skip
            try simp (disch := omega) only [jst_eq, jst_ne, jst_ni, jI_i, jcmp_lt, jcmp_gt, w32_id, jcpy_out, Sum.elim_inl, Sum.elim_inr, jt2, jt3, jt4, jt5, jt6, jt7, jt8] at c9
            refine OK_jg (by (first | (exact ⟨mr.1, mr.2.1, mr.2.2.1, ij.2.2, OTA.1, OTA.2⟩) | (first | assumption | omega | ((try dsimp only [jt2, jt3, jt4]); first | omega | (simp (disch := omega) only [jst_eq, jst_ne, jst_ni, jst_o, jI_i, jcpy_out, w32_id, jdiv_nn, jshr_k, jand_255] <;> first | done | omega | assumption)) | (intros; simp (disch := omega) only [jst_eq, jst_ne, jst_ni, jst_o, jI_i, jcpy_out, w32_id, jdiv_nn, *] <;> first | done | omega) | (intros; simp (disch := omega) only [jst_eq, jst_ne, jst_ni, jst_o, jI_i, jcpy_out, w32_id, jdiv_nn] at * <;> first | done | omega | assumption) | (intros; first | rfl | (exfalso; omega) | ((repeat' apply And.intro) <;> first | assumption | rfl | omega | trivial))))) ?_ -- o18
            refine OK_jlx (fun x64 ex64 => ?_)
            try simp (disch := omega) only [jst_eq, jst_ne, jst_ni, jI_i, jcmp_lt, jcmp_gt, w32_id, jcpy_out, Sum.elim_inl, Sum.elim_inr, jt2, jt3, jt4, jt5, jt6, jt7, jt8] at ex64
            unfold gX14_rest_j399_216
            refine OK_jlx (fun x60 ex60 => ?_)
            try simp (disch := omega) only [jst_eq, jst_ne, jst_ni, jI_i, jcmp_lt, jcmp_gt, w32_id, jcpy_out, Sum.elim_inl, Sum.elim_inr, jt2, jt3, jt4, jt5, jt6, jt7, jt8] at ex60
            refine OK_some ?_
            try dsimp only [Sum.elim_inl, Sum.elim_inr, jt2, jt3, jt4, jt5, jt6, jt7, jt8]
            try dsimp only [Sum.elim_inl, Sum.elim_inr, jt2, jt3, jt4, jt5, jt6, jt7, jt8]
            refine ⟨?_, ?_, ?_⟩
            · (refine ⟨?_, by omega⟩; rw [ex64, W5, ac, w64_a, TM]) -- o19 e4.1
            · exact M2 -- o20 e4.2
            · exact fs4.1 -- o21 e4.3
          · skip
            try simp (disch := omega) only [jst_eq, jst_ne, jst_ni, jI_i, jcmp_lt, jcmp_gt, w32_id, jcpy_out, Sum.elim_inl, Sum.elim_inr, jt2, jt3, jt4, jt5, jt6, jt7, jt8] at c9
            exfalso
            omega
/-- operands but the last: places -/
def rk2 (E : EV) (L : TB) (ac k cn x y : Int) : Prop := (0 ≤ x ∧ x < L.1 ∧ L.2.1 x = eK E ac k) ∧ ((cn = 1 ∧ y = -1) ∨ ((cn = 2 ∨ cn = 3) ∧ 0 ≤ y ∧ y < L.1 ∧ L.2.1 y = eK E ac (k + 1)))
def lz3 (cn N z : Int) : Prop := (cn ≤ 2 ∧ (z = -1 ∨ z = 0)) ∨ (cn = 3 ∧ 0 ≤ z ∧ z ≤ N)
noncomputable def pzW (E : EV) (W : Int → Int → Int → VW) (pts : Int) (L : TB) (c : Int → Int → Int) (ac : Int) (w : Int → Int) (k left : Int) (s : Int → Int) (cn x y z : Int) : Int := if cn ≤ 2 then (if z = 0 then tmV E W pts L c ac w k left s x y (-1) else 0) else sumN (tzW E W pts L c ac w k left s x y) z.toNat
theorem raM_k {E : EV} {W : Int → Int → Int → VW} {K : AK} {p : Nat} {ac k left u v used cn : Int} {s : Int → Int} (ae : acE E) (r : raM E W K p ac k left u v used cn s) : cn ≤ 3 - k ∧ 0 ≤ ac ∧ ac < E.1.1 ∧ eO E ac ≤ 3 ∧ 1 ≤ eO E ac := by
  obtain ⟨⟨j, ij, jp⟩, io, _⟩ := r
  have oo := ae.2.2.1 _ ij.2.2.1 ij.2.2.2
  omega
theorem rk_z {E : EV} {L : TB} {ac k cn x y z : Int} (x2 : rk2 E L ac k cn x y) (h : (cn ≤ 2 ∧ z = -1) ∨ (cn = 3 ∧ 0 ≤ z ∧ z < L.1 ∧ L.2.1 z = eK E ac (k + 1 + 1))) : rkY E L ac k cn x y z := by
  refine ⟨x2.1, ?_⟩
  rcases x2.2 with q | q
  · rcases h with u | u
    · exact Or.inl ⟨q.1, q.2, u.2⟩
    · omega
  · rcases h with u | u
    · exact Or.inr (Or.inl ⟨by omega, q.2, u.2⟩)
    · exact Or.inr (Or.inr ⟨u.1, q.2, u.2⟩)
section PZS
variable {E : EV} {W : Int → Int → Int → VW} {pts : Int} {L : TB} {c : Int → Int → Int} {ac : Int} {w : Int → Int} {k left : Int} {s : Int → Int} {cn x y z : Int}
theorem pz_m (h : cn ≤ 2) : pzW E W pts L c ac w k left s cn x y (-1) = 0 := (if_pos h).trans (if_neg (by decide))
theorem pz_0 (h : cn ≤ 2) : pzW E W pts L c ac w k left s cn x y 0 = tmV E W pts L c ac w k left s x y (-1) := (if_pos h).trans (if_pos rfl)
theorem pz_30 (h : ¬ cn ≤ 2) : pzW E W pts L c ac w k left s cn x y 0 = 0 := if_neg h
theorem pz_3 (h : ¬ cn ≤ 2) : pzW E W pts L c ac w k left s cn x y z = sumN (tzW E W pts L c ac w k left s x y) z.toNat := if_neg h
theorem pz_s (h : ¬ cn ≤ 2) (z0 : 0 ≤ z) : pzW E W pts L c ac w k left s cn x y (z + 1) = pzW E W pts L c ac w k left s cn x y z + tzW E W pts L c ac w k left s x y z := by rw [pz_3 h, pz_3 h, sumN_s z0]
theorem qm_2 (h : cn ≤ 2) : qmW E W pts L c ac w k left s cn x y = tmV E W pts L c ac w k left s x y (-1) := if_pos h
theorem qm_3 (h : ¬ cn ≤ 2) : qmW E W pts L c ac w k left s cn x y = sumN (tzW E W pts L c ac w k left s x y) L.1.toNat := if_neg h
end PZS
theorem vX14_rest_l216 (i2 : Int) (i3 : Int) (i4 : Int) (i6 : Int) (i7 : Int) (i8 : Int) (i12 : Int) (i13 : Int) (i14 : Int) (a100 : Int) (a150 : Int) {h0 : AH} {E : EV} {Rf : Int → TR} {W : Int → Int → Int → VW} {K : AK} {tp : Int} {p : Nat} {T : TB} {w sg : Int → Int} {used b0 : Int} (mr : MR h0 E Rf W K tp p T ((p : Int) + 1)) (tq : tqM E W K p p) (ra : raM E W K p i8 i6 i2 i3 i4 used i12 sg ∧ 1 ≤ i2 ∧ i2 ≤ p) (xs : rk2 E (LV E W (kP K) (kA K) p) i8 i6 i12 i13 i14) (rx : rowM h0 i7 w (LV E W (kP K) (kA K) p).1) (ac : a100 = w64 b0) (z : (i12 ≤ 2 ∧ a150 = -1) ∨ (i12 = 3 ∧ a150 = 0)) : OK (gX14_rest_l216 i2 i3 i4 i6 i7 i8 i12 i13 i14 a100 a150 h0) (fun r => jt2 r fun v h' => (v = w64 (b0 + qmW E W (kP K) (LV E W (kP K) (kA K) p) (ct E W (kP K) (kA K)) i8 w i6 i2 sg i12 i13 i14)) ∧ (MR h' E Rf W K tp p T ((p : Int) + 1)) ∧ (fR h0 h')) := by
  unfold gX14_rest_l216
  refine OK_jit (I := (fun (s : Int × Int × AH) => jt3 s fun a10 a15 h => (lz3 i12 (LV E W (kP K) (kA K) p).1 a15) ∧ (a10 = w64 (b0 + pzW E W (kP K) (LV E W (kP K) (kA K) p) (ct E W (kP K) (kA K)) i8 w i6 i2 sg i12 i13 i14 a15)) ∧ (MR h E Rf W K tp p T ((p : Int) + 1)) ∧ (fR h0 h))) (m := (fun (s : Int × Int × AH) => jt3 s fun a10 a15 h => ((LV E W (kP K) (kA K) p).1 + 1 - a15).toNat)) ?_ ?_
  · intro s hs
    obtain ⟨a10, a15, h⟩ := s
    dsimp only [Sum.elim_inl, Sum.elim_inr, jt2, jt3, jt4, jt5, jt6, jt7, jt8] at hs
    obtain ⟨q0, q1, ms, fr⟩ := hs
    unfold gX14_rest_b216
    refine OK_jt3 ?_
    have n12 := tq.1.1.1
    have ae := tq.1.1.2.2.2.2.1
    have RK := raM_k ae ra.1
    have io := ra.1.2.1
    have L120 := tq.2.2
    have l00 := LV_0 (E := E) (W := W) (pts := kP K) (A := kA K) p
    have N44 := ms.2.2.1.1
    have x0 := xs.1
    have RX := rowM_R rx fr
    have lz : (i12 ≤ 2 ∧ (a15 = -1 ∨ a15 = 0)) ∨ (i12 = 3 ∧ 0 ≤ a15 ∧ a15 ≤ (LV E W (kP K) (kA K) p).1) := q0
    have x16 := (akM_0 ms.1).1.1
    have y0 : i14 = -1 ∨ (0 ≤ i14 ∧ i14 < (LV E W (kP K) (kA K) p).1) := (by rcases xs.2 with q | q <;> omega)
    refine OK_if (fun c1 => ?_) (fun c1 => ?_)
    · skip
      try simp (disch := omega) only [jst_eq, jst_ne, jst_ni, jI_i, jcmp_lt, jcmp_gt, w32_id, jcpy_out, Sum.elim_inl, Sum.elim_inr, jt2, jt3, jt4, jt5, jt6, jt7, jt8] at c1
      unfold gX14_rest_j232_216
      refine OK_if (fun c2 => ?_) (fun c2 => ?_)
      · skip
        try simp (disch := omega) only [jst_eq, jst_ne, jst_ni, jI_i, jcmp_lt, jcmp_gt, w32_id, jcpy_out, Sum.elim_inl, Sum.elim_inr, jt2, jt3, jt4, jt5, jt6, jt7, jt8] at c2
        refine OK_ir ?_
        try dsimp only [Sum.elim_inl, Sum.elim_inr, jt2, jt3, jt4, jt5, jt6, jt7, jt8]
        refine ⟨?_, ?_, ?_⟩
        · (have e15 : a15 = 0 := (by omega); rw [q1, e15, pz_0 c1, qm_2 c1]) -- o1 e1.1
        · exact ms -- o2 e1.2
        · exact fr -- o3 e1.3
      · skip
        try simp (disch := omega) only [jst_eq, jst_ne, jst_ni, jI_i, jcmp_lt, jcmp_gt, w32_id, jcpy_out, Sum.elim_inl, Sum.elim_inr, jt2, jt3, jt4, jt5, jt6, jt7, jt8] at c2
        refine OK_if (fun c3 => ?_) (fun c3 => ?_)
        · skip
          try simp (disch := omega) only [jst_eq, jst_ne, jst_ni, jI_i, jcmp_lt, jcmp_gt, w32_id, jcpy_out, Sum.elim_inl, Sum.elim_inr, jt2, jt3, jt4, jt5, jt6, jt7, jt8] at c3
          refine OK_mono (vX14_rest_j292_216 (E := E) (Rf := Rf) (W := W) (K := K) (tp := tp) (p := p) (T := T) (w := w) (sg := sg) (used := used) (b0 := b0 + pzW E W (kP K) (LV E W (kP K) (kA K) p) (ct E W (kP K) (kA K)) i8 w i6 i2 sg i12 i13 i14 a15) _ _ _ _ _ _ _ _ _ _ _ (by exact ms) (by exact tq) (by exact ⟨ra.1, ra.2.1⟩) (by exact rk_z xs (Or.inl ⟨c1, by omega⟩)) (by exact RX) (by exact q1)) (fun r r1 => ?_)
          rcases r with r | r
          · skip
            have r2 := r1; clear r1; dsimp only [Sum.elim_inl, Sum.elim_inr] at r2
            obtain ⟨y1, y2, y3⟩ := r
            try dsimp only [Sum.elim_inl, Sum.elim_inr, jt2, jt3, jt4, jt5, jt6, jt7, jt8] at r2
            obtain ⟨nx1, mr1, fs1⟩ := r2
            try simp (disch := omega) only [jst_eq, jst_ne, jst_ni, jI_i, jcmp_lt, jcmp_gt, w32_id, jcpy_out, Sum.elim_inl, Sum.elim_inr, jt2, jt3, jt4, jt5, jt6, jt7, jt8] at nx1
            try simp (disch := omega) only [jst_eq, jst_ne, jst_ni, jI_i, jcmp_lt, jcmp_gt, w32_id, jcpy_out, Sum.elim_inl, Sum.elim_inr, jt2, jt3, jt4, jt5, jt6, jt7, jt8] at mr1
            try simp (disch := omega) only [jst_eq, jst_ne, jst_ni, jI_i, jcmp_lt, jcmp_gt, w32_id, jcpy_out, Sum.elim_inl, Sum.elim_inr, jt2, jt3, jt4, jt5, jt6, jt7, jt8] at fs1
            try dsimp only [Sum.elim_inl, Sum.elim_inr, jt2, jt3, jt4, jt5, jt6, jt7, jt8]
            refine ⟨?_, ?_⟩
            · try dsimp only [Sum.elim_inl, Sum.elim_inr, jt2, jt3, jt4, jt5, jt6, jt7, jt8]
              refine ⟨?_, ?_, ?_, ?_⟩
              · (unfold lz3; omega) -- o10 e2i.1
              · (have e15 : a15 = -1 := (by omega); rw [nx1.1, nx1.2, e15, pz_m c1, show (-1 : Int) + 1 = 0 from rfl, pz_0 c1, Int.add_zero]) -- o11 e2i.2
              · exact mr1 -- o12 e2i.3
              · exact fR_t fr fs1 -- o13 e2i.4
            · omega -- o14 e2m
          · skip
            have r3 := r1; clear r1; dsimp only [Sum.elim_inl, Sum.elim_inr] at r3
            obtain ⟨y4, y5⟩ := r
            try dsimp only [Sum.elim_inl, Sum.elim_inr, jt2, jt3, jt4, jt5, jt6, jt7, jt8] at r3
            have no2 := r3
            clear r3
            try simp (disch := omega) only [jst_eq, jst_ne, jst_ni, jI_i, jcmp_lt, jcmp_gt, w32_id, jcpy_out, Sum.elim_inl, Sum.elim_inr, jt2, jt3, jt4, jt5, jt6, jt7, jt8] at no2
            try dsimp only [Sum.elim_inl, Sum.elim_inr, jt2, jt3, jt4, jt5, jt6, jt7, jt8]
            try dsimp only [Sum.elim_inl, Sum.elim_inr, jt2, jt3, jt4, jt5, jt6, jt7, jt8]
            refine ⟨?_, ?_, ?_⟩
            · (first | assumption | omega | ((try dsimp only [jt2, jt3, jt4]); first | omega | (simp (disch := omega) only [jst_eq, jst_ne, jst_ni, jst_o, jI_i, jcpy_out, w32_id, jdiv_nn, jshr_k, jand_255] <;> first | done | omega | assumption)) | (intros; simp (disch := omega) only [jst_eq, jst_ne, jst_ni, jst_o, jI_i, jcpy_out, w32_id, jdiv_nn, *] <;> first | done | omega) | (intros; simp (disch := omega) only [jst_eq, jst_ne, jst_ni, jst_o, jI_i, jcpy_out, w32_id, jdiv_nn] at * <;> first | done | omega | assumption) | (intros; first | rfl | (exfalso; omega) | ((repeat' apply And.intro) <;> first | assumption | rfl | omega | trivial))) -- o15 e3.1
            · (first | assumption | omega | ((try dsimp only [jt2, jt3, jt4]); first | omega | (simp (disch := omega) only [jst_eq, jst_ne, jst_ni, jst_o, jI_i, jcpy_out, w32_id, jdiv_nn, jshr_k, jand_255] <;> first | done | omega | assumption)) | (intros; simp (disch := omega) only [jst_eq, jst_ne, jst_ni, jst_o, jI_i, jcpy_out, w32_id, jdiv_nn, *] <;> first | done | omega) | (intros; simp (disch := omega) only [jst_eq, jst_ne, jst_ni, jst_o, jI_i, jcpy_out, w32_id, jdiv_nn] at * <;> first | done | omega | assumption) | (intros; first | rfl | (exfalso; omega) | ((repeat' apply And.intro) <;> first | assumption | rfl | omega | trivial))) -- o16 e3.2
            · (first | assumption | omega | ((try dsimp only [jt2, jt3, jt4]); first | omega | (simp (disch := omega) only [jst_eq, jst_ne, jst_ni, jst_o, jI_i, jcpy_out, w32_id, jdiv_nn, jshr_k, jand_255] <;> first | done | omega | assumption)) | (intros; simp (disch := omega) only [jst_eq, jst_ne, jst_ni, jst_o, jI_i, jcpy_out, w32_id, jdiv_nn, *] <;> first | done | omega) | (intros; simp (disch := omega) only [jst_eq, jst_ne, jst_ni, jst_o, jI_i, jcpy_out, w32_id, jdiv_nn] at * <;> first | done | omega | assumption) | (intros; first | rfl | (exfalso; omega) | ((repeat' apply And.intro) <;> first | assumption | rfl | omega | trivial))) -- o17 e3.3
        · skip
          try simp (disch := omega) only [jst_eq, jst_ne, jst_ni, jI_i, jcmp_lt, jcmp_gt, w32_id, jcpy_out, Sum.elim_inl, Sum.elim_inr, jt2, jt3, jt4, jt5, jt6, jt7, jt8] at c3
          exfalso
          omega
    · skip
      try simp (disch := omega) only [jst_eq, jst_ne, jst_ni, jI_i, jcmp_lt, jcmp_gt, w32_id, jcpy_out, Sum.elim_inl, Sum.elim_inr, jt2, jt3, jt4, jt5, jt6, jt7, jt8] at c1
      have k0 : i6 = 0 := by omega
      have cn3 : i12 = 3 := by omega
      have i14p : 0 ≤ i14 ∧ i14 < (LV E W (kP K) (kA K) p).1 := by { rcases xs.2 with q | q; { omega }; { exact ⟨q.2.1, q.2.2.1⟩ } }
      unfold gX14_rest_j232_216
      refine OK_if (fun c4 => ?_) (fun c4 => ?_)
      · skip
        try simp (disch := omega) only [jst_eq, jst_ne, jst_ni, jI_i, jcmp_lt, jcmp_gt, w32_id, jcpy_out, Sum.elim_inl, Sum.elim_inr, jt2, jt3, jt4, jt5, jt6, jt7, jt8] at c4
        refine OK_ir ?_
        try dsimp only [Sum.elim_inl, Sum.elim_inr, jt2, jt3, jt4, jt5, jt6, jt7, jt8]
        refine ⟨?_, ?_, ?_⟩
        · (have e15 : a15 = (LV E W (kP K) (kA K) p).1 := (by omega); rw [q1, e15, pz_3 c1, qm_3 c1]) -- o18 e4.1
        · exact ms -- o19 e4.2
        · exact fr -- o20 e4.3
      · skip
        try simp (disch := omega) only [jst_eq, jst_ne, jst_ni, jI_i, jcmp_lt, jcmp_gt, w32_id, jcpy_out, Sum.elim_inl, Sum.elim_inr, jt2, jt3, jt4, jt5, jt6, jt7, jt8] at c4
        have w60 : w32 (a15 + 1) = a15 + 1 := w32_id (by omega) (by omega)
        refine OK_if (fun c5 => ?_) (fun c5 => ?_)
        · skip
          try simp (disch := omega) only [jst_eq, jst_ne, jst_ni, jI_i, jcmp_lt, jcmp_gt, w32_id, jcpy_out, Sum.elim_inl, Sum.elim_inr, jt2, jt3, jt4, jt5, jt6, jt7, jt8] at c5
          exfalso
          omega
        · skip
          try simp (disch := omega) only [jst_eq, jst_ne, jst_ni, jI_i, jcmp_lt, jcmp_gt, w32_id, jcpy_out, Sum.elim_inl, Sum.elim_inr, jt2, jt3, jt4, jt5, jt6, jt7, jt8] at c5
          refine OK_jb (vIsOf (E := E) (Rf := Rf) (W := W) (K := K) (tp := tp) (p := p) (T := T) _ _ _ (by exact ms.1) (by exact ms.2.1) (by omega) (by exact ⟨RK.2.1, RK.2.2.1⟩) (by omega)) (fun v43 r4 => ?_)
          try dsimp only [Sum.elim_inl, Sum.elim_inr, jt2, jt3, jt4, jt5, jt6, jt7, jt8] at r4
          have io3 := r4
          clear r4
          try simp (disch := omega) only [jst_eq, jst_ne, jst_ni, jI_i, jcmp_lt, jcmp_gt, w32_id, jcpy_out, Sum.elim_inl, Sum.elim_inr, jt2, jt3, jt4, jt5, jt6, jt7, jt8] at io3
          refine OK_if (fun c6 => ?_) (fun c6 => ?_)
          · skip
            try simp (disch := omega) only [jst_eq, jst_ne, jst_ni, jI_i, jcmp_lt, jcmp_gt, w32_id, jcpy_out, Sum.elim_inl, Sum.elim_inr, jt2, jt3, jt4, jt5, jt6, jt7, jt8] at c6
            have TZ : tzW E W (kP K) (LV E W (kP K) (kA K) p) (ct E W (kP K) (kA K)) i8 w i6 i2 sg i13 i14 a15 = 0 := cif_n (by rcases io3 with u | u; { exact u.2 }; { omega })
            unfold gX14_rest_j399_216
            refine OK_jlx (fun x60 ex60 => ?_)
            try simp (disch := omega) only [jst_eq, jst_ne, jst_ni, jI_i, jcmp_lt, jcmp_gt, w32_id, jcpy_out, Sum.elim_inl, Sum.elim_inr, jt2, jt3, jt4, jt5, jt6, jt7, jt8] at ex60
            refine OK_il ?_ ?_
            · try dsimp only [Sum.elim_inl, Sum.elim_inr, jt2, jt3, jt4, jt5, jt6, jt7, jt8]
              refine ⟨?_, ?_, ?_, ?_⟩
              · (unfold lz3; omega) -- o26 e5i.1
              · (rw [q1, show x60 = a15 + 1 by omega, pz_s c1 (by omega), TZ, Int.add_zero]) -- o27 e5i.2
              · exact ms -- o28 e5i.3
              · exact fr -- o29 e5i.4
            · (first | assumption | omega | ((try dsimp only [jt2, jt3, jt4]); first | omega | (simp (disch := omega) only [jst_eq, jst_ne, jst_ni, jst_o, jI_i, jcpy_out, w32_id, jdiv_nn, jshr_k, jand_255] <;> first | done | omega | assumption)) | (intros; simp (disch := omega) only [jst_eq, jst_ne, jst_ni, jst_o, jI_i, jcpy_out, w32_id, jdiv_nn, *] <;> first | done | omega) | (intros; simp (disch := omega) only [jst_eq, jst_ne, jst_ni, jst_o, jI_i, jcpy_out, w32_id, jdiv_nn] at * <;> first | done | omega | assumption) | (intros; first | rfl | (exfalso; omega) | ((repeat' apply And.intro) <;> first | assumption | rfl | omega | trivial))) -- o30 e5m
          · skip
            try simp (disch := omega) only [jst_eq, jst_ne, jst_ni, jI_i, jcmp_lt, jcmp_gt, w32_id, jcpy_out, Sum.elim_inl, Sum.elim_inr, jt2, jt3, jt4, jt5, jt6, jt7, jt8] at c6
            have kz : (LV E W (kP K) (kA K) p).2.1 a15 = eK E i8 2 := by { rcases io3 with u | u; { omega }; { exact u.2 } }
            have TZ : tzW E W (kP K) (LV E W (kP K) (kA K) p) (ct E W (kP K) (kA K)) i8 w i6 i2 sg i13 i14 a15 = tmV E W (kP K) (LV E W (kP K) (kA K) p) (ct E W (kP K) (kA K)) i8 w i6 i2 sg i13 i14 a15 := cif_y kz
            have W1 := MT_w ms.2.1 x0.1 x0.2.1
            have W2 := MT_w ms.2.1 i14p.1 i14p.2
            have W3 := MT_w ms.2.1 (a := a15) (by omega) (by omega)
            have T1 := tq.1.2.2.2 i13 x0.1 x0.2.1
            have T2 := tq.1.2.2.2 i14 i14p.1 i14p.2
            have T3 := tq.1.2.2.2 a15 (by omega) (by omega)
            have wa : w32 (h (h 454 38 + 14) i13 + h (h 454 38 + 14) i14) = h (h 454 38 + 14) i13 + h (h 454 38 + 14) i14 := w32_id (by omega) (by omega)
            have wb : w32 (h (h 454 38 + 14) i13 + h (h 454 38 + 14) i14 + h (h 454 38 + 14) a15) = h (h 454 38 + 14) i13 + h (h 454 38 + 14) i14 + h (h 454 38 + 14) a15 := w32_id (by omega) (by omega)
            refine OK_jg (by (first | assumption | omega | ((try dsimp only [jt2, jt3, jt4]); first | omega | (simp (disch := omega) only [jst_eq, jst_ne, jst_ni, jst_o, jI_i, jcpy_out, w32_id, jdiv_nn, jshr_k, jand_255] <;> first | done | omega | assumption)) | (intros; simp (disch := omega) only [jst_eq, jst_ne, jst_ni, jst_o, jI_i, jcpy_out, w32_id, jdiv_nn, *] <;> first | done | omega) | (intros; simp (disch := omega) only [jst_eq, jst_ne, jst_ni, jst_o, jI_i, jcpy_out, w32_id, jdiv_nn] at * <;> first | done | omega | assumption) | (intros; first | rfl | (exfalso; omega) | ((repeat' apply And.intro) <;> first | assumption | rfl | omega | trivial)))) ?_ -- o31
            refine OK_jg (by (first | assumption | omega | ((try dsimp only [jt2, jt3, jt4]); first | omega | (simp (disch := omega) only [jst_eq, jst_ne, jst_ni, jst_o, jI_i, jcpy_out, w32_id, jdiv_nn, jshr_k, jand_255] <;> first | done | omega | assumption)) | (intros; simp (disch := omega) only [jst_eq, jst_ne, jst_ni, jst_o, jI_i, jcpy_out, w32_id, jdiv_nn, *] <;> first | done | omega) | (intros; simp (disch := omega) only [jst_eq, jst_ne, jst_ni, jst_o, jI_i, jcpy_out, w32_id, jdiv_nn] at * <;> first | done | omega | assumption) | (intros; first | rfl | (exfalso; omega) | ((repeat' apply And.intro) <;> first | assumption | rfl | omega | trivial)))) ?_ -- o32
            refine OK_jg (by (first | assumption | omega | ((try dsimp only [jt2, jt3, jt4]); first | omega | (simp (disch := omega) only [jst_eq, jst_ne, jst_ni, jst_o, jI_i, jcpy_out, w32_id, jdiv_nn, jshr_k, jand_255] <;> first | done | omega | assumption)) | (intros; simp (disch := omega) only [jst_eq, jst_ne, jst_ni, jst_o, jI_i, jcpy_out, w32_id, jdiv_nn, *] <;> first | done | omega) | (intros; simp (disch := omega) only [jst_eq, jst_ne, jst_ni, jst_o, jI_i, jcpy_out, w32_id, jdiv_nn] at * <;> first | done | omega | assumption) | (intros; first | rfl | (exfalso; omega) | ((repeat' apply And.intro) <;> first | assumption | rfl | omega | trivial)))) ?_ -- o33
            refine OK_jg (by (first | assumption | omega | ((try dsimp only [jt2, jt3, jt4]); first | omega | (simp (disch := omega) only [jst_eq, jst_ne, jst_ni, jst_o, jI_i, jcpy_out, w32_id, jdiv_nn, jshr_k, jand_255] <;> first | done | omega | assumption)) | (intros; simp (disch := omega) only [jst_eq, jst_ne, jst_ni, jst_o, jI_i, jcpy_out, w32_id, jdiv_nn, *] <;> first | done | omega) | (intros; simp (disch := omega) only [jst_eq, jst_ne, jst_ni, jst_o, jI_i, jcpy_out, w32_id, jdiv_nn] at * <;> first | done | omega | assumption) | (intros; first | rfl | (exfalso; omega) | ((repeat' apply And.intro) <;> first | assumption | rfl | omega | trivial)))) ?_ -- o34
            refine OK_if (fun c7 => ?_) (fun c7 => ?_)
            · skip
              try simp (disch := omega) only [jst_eq, jst_ne, jst_ni, jI_i, jcmp_lt, jcmp_gt, w32_id, jcpy_out, Sum.elim_inl, Sum.elim_inr, jt2, jt3, jt4, jt5, jt6, jt7, jt8] at c7
              refine OK_mono (vX14_rest_j292_216 (E := E) (Rf := Rf) (W := W) (K := K) (tp := tp) (p := p) (T := T) (w := w) (sg := sg) (used := used) (b0 := b0 + pzW E W (kP K) (LV E W (kP K) (kA K) p) (ct E W (kP K) (kA K)) i8 w i6 i2 sg i12 i13 i14 a15) _ _ _ _ _ _ _ _ _ _ _ (by exact ms) (by exact tq) (by exact ⟨ra.1, ra.2.1⟩) (by exact rk_z xs (Or.inr ⟨cn3, by omega, by omega, by (rw [k0]; exact kz)⟩)) (by exact RX) (by exact q1)) (fun r r5 => ?_)
              rcases r with r | r
              · skip
                have r6 := r5; clear r5; dsimp only [Sum.elim_inl, Sum.elim_inr] at r6
                obtain ⟨y6, y7, y8⟩ := r
                try dsimp only [Sum.elim_inl, Sum.elim_inr, jt2, jt3, jt4, jt5, jt6, jt7, jt8] at r6
                obtain ⟨nx4, mr4, fs4⟩ := r6
                try simp (disch := omega) only [jst_eq, jst_ne, jst_ni, jI_i, jcmp_lt, jcmp_gt, w32_id, jcpy_out, Sum.elim_inl, Sum.elim_inr, jt2, jt3, jt4, jt5, jt6, jt7, jt8] at nx4
                try simp (disch := omega) only [jst_eq, jst_ne, jst_ni, jI_i, jcmp_lt, jcmp_gt, w32_id, jcpy_out, Sum.elim_inl, Sum.elim_inr, jt2, jt3, jt4, jt5, jt6, jt7, jt8] at mr4
                try simp (disch := omega) only [jst_eq, jst_ne, jst_ni, jI_i, jcmp_lt, jcmp_gt, w32_id, jcpy_out, Sum.elim_inl, Sum.elim_inr, jt2, jt3, jt4, jt5, jt6, jt7, jt8] at fs4
                try dsimp only [Sum.elim_inl, Sum.elim_inr, jt2, jt3, jt4, jt5, jt6, jt7, jt8]
                refine ⟨?_, ?_⟩
                · try dsimp only [Sum.elim_inl, Sum.elim_inr, jt2, jt3, jt4, jt5, jt6, jt7, jt8]
                  refine ⟨?_, ?_, ?_, ?_⟩
                  · (unfold lz3; omega) -- o41 e6i.1
                  · (rw [nx4.1, nx4.2, pz_s c1 (by omega), TZ, Int.add_assoc]) -- o42 e6i.2
                  · exact mr4 -- o43 e6i.3
                  · exact fR_t fr fs4 -- o44 e6i.4
                · omega -- o45 e6m
              · skip
                have r7 := r5; clear r5; dsimp only [Sum.elim_inl, Sum.elim_inr] at r7
                obtain ⟨y9, y10⟩ := r
                try dsimp only [Sum.elim_inl, Sum.elim_inr, jt2, jt3, jt4, jt5, jt6, jt7, jt8] at r7
                have no5 := r7
                clear r7
                try simp (disch := omega) only [jst_eq, jst_ne, jst_ni, jI_i, jcmp_lt, jcmp_gt, w32_id, jcpy_out, Sum.elim_inl, Sum.elim_inr, jt2, jt3, jt4, jt5, jt6, jt7, jt8] at no5
                try dsimp only [Sum.elim_inl, Sum.elim_inr, jt2, jt3, jt4, jt5, jt6, jt7, jt8]
                try dsimp only [Sum.elim_inl, Sum.elim_inr, jt2, jt3, jt4, jt5, jt6, jt7, jt8]
                refine ⟨?_, ?_, ?_⟩
                · (first | assumption | omega | ((try dsimp only [jt2, jt3, jt4]); first | omega | (simp (disch := omega) only [jst_eq, jst_ne, jst_ni, jst_o, jI_i, jcpy_out, w32_id, jdiv_nn, jshr_k, jand_255] <;> first | done | omega | assumption)) | (intros; simp (disch := omega) only [jst_eq, jst_ne, jst_ni, jst_o, jI_i, jcpy_out, w32_id, jdiv_nn, *] <;> first | done | omega) | (intros; simp (disch := omega) only [jst_eq, jst_ne, jst_ni, jst_o, jI_i, jcpy_out, w32_id, jdiv_nn] at * <;> first | done | omega | assumption) | (intros; first | rfl | (exfalso; omega) | ((repeat' apply And.intro) <;> first | assumption | rfl | omega | trivial))) -- o46 e7.1
                · (first | assumption | omega | ((try dsimp only [jt2, jt3, jt4]); first | omega | (simp (disch := omega) only [jst_eq, jst_ne, jst_ni, jst_o, jI_i, jcpy_out, w32_id, jdiv_nn, jshr_k, jand_255] <;> first | done | omega | assumption)) | (intros; simp (disch := omega) only [jst_eq, jst_ne, jst_ni, jst_o, jI_i, jcpy_out, w32_id, jdiv_nn, *] <;> first | done | omega) | (intros; simp (disch := omega) only [jst_eq, jst_ne, jst_ni, jst_o, jI_i, jcpy_out, w32_id, jdiv_nn] at * <;> first | done | omega | assumption) | (intros; first | rfl | (exfalso; omega) | ((repeat' apply And.intro) <;> first | assumption | rfl | omega | trivial))) -- o47 e7.2
                · (first | assumption | omega | ((try dsimp only [jt2, jt3, jt4]); first | omega | (simp (disch := omega) only [jst_eq, jst_ne, jst_ni, jst_o, jI_i, jcpy_out, w32_id, jdiv_nn, jshr_k, jand_255] <;> first | done | omega | assumption)) | (intros; simp (disch := omega) only [jst_eq, jst_ne, jst_ni, jst_o, jI_i, jcpy_out, w32_id, jdiv_nn, *] <;> first | done | omega) | (intros; simp (disch := omega) only [jst_eq, jst_ne, jst_ni, jst_o, jI_i, jcpy_out, w32_id, jdiv_nn] at * <;> first | done | omega | assumption) | (intros; first | rfl | (exfalso; omega) | ((repeat' apply And.intro) <;> first | assumption | rfl | omega | trivial))) -- o48 e7.3
            · skip
              try simp (disch := omega) only [jst_eq, jst_ne, jst_ni, jI_i, jcmp_lt, jcmp_gt, w32_id, jcpy_out, Sum.elim_inl, Sum.elim_inr, jt2, jt3, jt4, jt5, jt6, jt7, jt8] at c7
              have TM0 : tmV E W (kP K) (LV E W (kP K) (kA K) p) (ct E W (kP K) (kA K)) i8 w i6 i2 sg i13 i14 a15 = 0 := by { have y1 : wyC (ct E W (kP K) (kA K)) i2 i13 i14 a15 = w3C (ct E W (kP K) (kA K)) i2 i13 i14 a15 := (if_pos i14p.1).trans (if_pos (by omega)); unfold tmV; rw [y1, w3_zT tq.1 x0.1 i14p.1 (by omega) (by omega) (Or.inr (Or.inr (Or.inr (by omega)))), Int.zero_mul] }
              unfold gX14_rest_j399_216
              refine OK_jlx (fun x60 ex60 => ?_)
              try simp (disch := omega) only [jst_eq, jst_ne, jst_ni, jI_i, jcmp_lt, jcmp_gt, w32_id, jcpy_out, Sum.elim_inl, Sum.elim_inr, jt2, jt3, jt4, jt5, jt6, jt7, jt8] at ex60
              refine OK_il ?_ ?_
              · try dsimp only [Sum.elim_inl, Sum.elim_inr, jt2, jt3, jt4, jt5, jt6, jt7, jt8]
                refine ⟨?_, ?_, ?_, ?_⟩
                · (unfold lz3; omega) -- o49 e8i.1
                · (rw [q1, show x60 = a15 + 1 by omega, pz_s c1 (by omega), TZ, TM0, Int.add_zero]) -- o50 e8i.2
                · exact ms -- o51 e8i.3
                · exact fr -- o52 e8i.4
              · (first | assumption | omega | ((try dsimp only [jt2, jt3, jt4]); first | omega | (simp (disch := omega) only [jst_eq, jst_ne, jst_ni, jst_o, jI_i, jcpy_out, w32_id, jdiv_nn, jshr_k, jand_255] <;> first | done | omega | assumption)) | (intros; simp (disch := omega) only [jst_eq, jst_ne, jst_ni, jst_o, jI_i, jcpy_out, w32_id, jdiv_nn, *] <;> first | done | omega) | (intros; simp (disch := omega) only [jst_eq, jst_ne, jst_ni, jst_o, jI_i, jcpy_out, w32_id, jdiv_nn] at * <;> first | done | omega | assumption) | (intros; first | rfl | (exfalso; omega) | ((repeat' apply And.intro) <;> first | assumption | rfl | omega | trivial))) -- o53 e8m
  · try dsimp only [Sum.elim_inl, Sum.elim_inr, jt2, jt3, jt4, jt5, jt6, jt7, jt8]
    refine ⟨?_, ?_, ?_, ?_⟩
    · (have l := LV_0 (E := E) (W := W) (pts := kP K) (A := kA K) p; unfold lz3; omega) -- o54 init.1
    · (rcases z with u | u; { rw [ac, u.2, pz_m u.1, Int.add_zero] }; { rw [ac, u.2, pz_30 (by omega), Int.add_zero] }) -- o55 init.2
    · exact mr -- o56 init.3
    · exact fun _ _ _ _ _ => rfl -- o57 init.4
/-- second operands -/
def ly3 (cn N y : Int) : Prop := (cn ≤ 1 ∧ (y = -1 ∨ y = 0)) ∨ (2 ≤ cn ∧ 0 ≤ y ∧ y ≤ N)
noncomputable def pyW (E : EV) (W : Int → Int → Int → VW) (pts : Int) (L : TB) (c : Int → Int → Int) (ac : Int) (w : Int → Int) (k left : Int) (s : Int → Int) (cn x y : Int) : Int := if cn ≤ 1 then (if y = 0 then tmV E W pts L c ac w k left s x (-1) (-1) else 0) else sumN (qyW E W pts L c ac w k left s cn x) y.toNat
section PYS
variable {E : EV} {W : Int → Int → Int → VW} {pts : Int} {L : TB} {c : Int → Int → Int} {ac : Int} {w : Int → Int} {k left : Int} {s : Int → Int} {cn x y : Int}
theorem py_m (h : cn ≤ 1) : pyW E W pts L c ac w k left s cn x (-1) = 0 := (if_pos h).trans (if_neg (by decide))
theorem py_0 (h : cn ≤ 1) : pyW E W pts L c ac w k left s cn x 0 = tmV E W pts L c ac w k left s x (-1) (-1) := (if_pos h).trans (if_pos rfl)
theorem py_20 (h : ¬ cn ≤ 1) : pyW E W pts L c ac w k left s cn x 0 = 0 := if_neg h
theorem py_2 (h : ¬ cn ≤ 1) : pyW E W pts L c ac w k left s cn x y = sumN (qyW E W pts L c ac w k left s cn x) y.toNat := if_neg h
theorem py_s (h : ¬ cn ≤ 1) (y0 : 0 ≤ y) : pyW E W pts L c ac w k left s cn x (y + 1) = pyW E W pts L c ac w k left s cn x y + qyW E W pts L c ac w k left s cn x y := by rw [py_2 h, py_2 h, sumN_s y0]
theorem pm_1 (h : cn ≤ 1) : pmW E W pts L c ac w k left s cn x = tmV E W pts L c ac w k left s x (-1) (-1) := if_pos h
theorem pm_2 (h : ¬ cn ≤ 1) : pmW E W pts L c ac w k left s cn x = sumN (qyW E W pts L c ac w k left s cn x) L.1.toNat := if_neg h
end PYS
/-- nothing of so little price -/
theorem qm_z {E : EV} {W : Int → Int → Int → VW} {pts : Int} {A : AD} {n : Nat} {L : TB} {ac : Int} {w : Int → Int} {k left cn x y : Int} {s : Int → Int} (tq : TQ E W pts A n L) (ln : left ≤ n) (x0 : 0 ≤ x) (y0 : 0 ≤ y) (h : left < L.2.2.1 x + L.2.2.1 y) : qmW E W pts L (ct E W pts A) ac w k left s cn x y = 0 := by
  have tz : ∀ z, 0 ≤ z → z < L.1 → tzW E W pts L (ct E W pts A) ac w k left s x y z = 0 := fun z z0 z1 => by
    have T3 := tq.2.2.2 z z0 z1
    have y1 : wyC (ct E W pts A) left x y z = w3C (ct E W pts A) left x y z := (if_pos y0).trans (if_pos z0)
    unfold tzW tmV
    rw [y1, w3_zT tq x0 y0 z0 ln (Or.inr (Or.inr (Or.inr (by omega)))), Int.zero_mul]
    exact cif_00
  unfold qmW
  by_cases c : cn ≤ 2
  · rw [if_pos c]
    have y1 : wyC (ct E W pts A) left x y (-1) = w2C (ct E W pts A) left x y := (if_pos y0).trans (if_neg (by decide))
    unfold tmV
    rw [y1, w2_zT tq x0 y0 ln (Or.inr (Or.inr h)), Int.zero_mul]
  · rw [if_neg c]
    exact sumN_0 (fun z z0 z1 => tz z z0 (by omega))
theorem pm_z {E : EV} {W : Int → Int → Int → VW} {pts : Int} {A : AD} {n : Nat} {L : TB} {ac : Int} {w : Int → Int} {k left cn x : Int} {s : Int → Int} (tq : TQ E W pts A n L) (ln : left ≤ n) (x0 : 0 ≤ x) (h : left < L.2.2.1 x) : pmW E W pts L (ct E W pts A) ac w k left s cn x = 0 := by
  unfold pmW
  by_cases c : cn ≤ 1
  · rw [if_pos c]
    have y1 : wyC (ct E W pts A) left x (-1) (-1) = ct E W pts A left x := if_neg (by decide)
    unfold tmV
    rw [y1, ct_zT tq x0 ln (Or.inr h), Int.zero_mul]
  · rw [if_neg c]
    exact sumN_0 (fun y y0 y1 => by
      have T2 := tq.2.2.2 y y0 (by omega)
      unfold qyW
      rw [qm_z tq ln x0 y0 (by omega)]
      exact cif_00)
def i1x (y N : Int) : Prop := y = -1 ∨ (0 ≤ y ∧ y < N)
theorem i1x_w {y N : Int} (h : i1x y N) (l : N ≤ 120) : w32 (y + 1) = y + 1 := by
  rcases h with q | q
  · exact w32_id (by omega) (by omega)
  · exact w32_id (by omega) (by omega)
theorem vX14_rest_j203_135 (a2 : Int) (a3 : Int) (a4 : Int) (a6 : Int) (a7 : Int) (a8 : Int) (a10 : Int) (a12 : Int) (a13 : Int) (a14 : Int) {h : AH} {E : EV} {Rf : Int → TR} {W : Int → Int → Int → VW} {K : AK} {tp : Int} {p : Nat} {T : TB} {w sg : Int → Int} {used b0 : Int} (mr : MR h E Rf W K tp p T ((p : Int) + 1)) (tq : tqM E W K p p) (ra : raM E W K p a8 a6 a2 a3 a4 used a12 sg ∧ 1 ≤ a2 ∧ a2 ≤ p) (xs : rk2 E (LV E W (kP K) (kA K) p) a8 a6 a12 a13 a14) (rx : rowM h a7 w (LV E W (kP K) (kA K) p).1) (ac : a10 = w64 b0) : OK (gX14_rest_j203_135 a2 a3 a4 a6 a7 a8 a10 a12 a13 a14 h) (Sum.elim (fun r => jt3 r fun x y h' => (x = w64 (b0 + qmW E W (kP K) (LV E W (kP K) (kA K) p) (ct E W (kP K) (kA K)) a8 w a6 a2 sg a12 a13 a14) ∧ y = a14 + 1) ∧ (MR h' E Rf W K tp p T ((p : Int) + 1)) ∧ (fR h h')) (fun r => jt2 r fun w0 h' => (0 : Int) = 1)) := by
  have RK := raM_k tq.1.1.2.2.2.2.1 ra.1
  have io := ra.1.2.1
  have L120 := tq.2.2
  have y0 : i1x a14 (LV E W (kP K) (kA K) p).1 := (by rcases xs.2 with q | q; { exact Or.inl q.2 }; { exact Or.inr ⟨q.2.1, q.2.2.1⟩ })
  have w38 : w32 (a14 + 1) = a14 + 1 := i1x_w y0 L120
  unfold gX14_rest_j203_135
  refine OK_if (fun c1 => ?_) (fun c1 => ?_)
  · skip
    try simp (disch := omega) only [jst_eq, jst_ne, jst_ni, jI_i, jcmp_lt, jcmp_gt, w32_id, jcpy_out, Sum.elim_inl, Sum.elim_inr, jt2, jt3, jt4, jt5, jt6, jt7, jt8] at c1
    unfold gX14_rest_j214_135
    refine OK_jb (vX14_rest_l216 (E := E) (Rf := Rf) (W := W) (K := K) (tp := tp) (p := p) (T := T) (w := w) (sg := sg) (used := used) (b0 := b0) _ _ _ _ _ _ _ _ _ _ _ (by (first | (exact mr) | (exact tq) | (exact ra) | (exact xs) | (exact rx) | (exact ac) | (first | assumption | omega | ((try dsimp only [jt2, jt3, jt4]); first | omega | (simp (disch := omega) only [jst_eq, jst_ne, jst_ni, jst_o, jI_i, jcpy_out, w32_id, jdiv_nn, jshr_k, jand_255] <;> first | done | omega | assumption)) | (intros; simp (disch := omega) only [jst_eq, jst_ne, jst_ni, jst_o, jI_i, jcpy_out, w32_id, jdiv_nn, *] <;> first | done | omega) | (intros; simp (disch := omega) only [jst_eq, jst_ne, jst_ni, jst_o, jI_i, jcpy_out, w32_id, jdiv_nn] at * <;> first | done | omega | assumption) | (intros; first | rfl | (exfalso; omega) | ((repeat' apply And.intro) <;> first | assumption | rfl | omega | trivial))))) (by (first | (exact mr) | (exact tq) | (exact ra) | (exact xs) | (exact rx) | (exact ac) | (first | assumption | omega | ((try dsimp only [jt2, jt3, jt4]); first | omega | (simp (disch := omega) only [jst_eq, jst_ne, jst_ni, jst_o, jI_i, jcpy_out, w32_id, jdiv_nn, jshr_k, jand_255] <;> first | done | omega | assumption)) | (intros; simp (disch := omega) only [jst_eq, jst_ne, jst_ni, jst_o, jI_i, jcpy_out, w32_id, jdiv_nn, *] <;> first | done | omega) | (intros; simp (disch := omega) only [jst_eq, jst_ne, jst_ni, jst_o, jI_i, jcpy_out, w32_id, jdiv_nn] at * <;> first | done | omega | assumption) | (intros; first | rfl | (exfalso; omega) | ((repeat' apply And.intro) <;> first | assumption | rfl | omega | trivial))))) (by (first | (exact mr) | (exact tq) | (exact ra) | (exact xs) | (exact rx) | (exact ac) | (first | assumption | omega | ((try dsimp only [jt2, jt3, jt4]); first | omega | (simp (disch := omega) only [jst_eq, jst_ne, jst_ni, jst_o, jI_i, jcpy_out, w32_id, jdiv_nn, jshr_k, jand_255] <;> first | done | omega | assumption)) | (intros; simp (disch := omega) only [jst_eq, jst_ne, jst_ni, jst_o, jI_i, jcpy_out, w32_id, jdiv_nn, *] <;> first | done | omega) | (intros; simp (disch := omega) only [jst_eq, jst_ne, jst_ni, jst_o, jI_i, jcpy_out, w32_id, jdiv_nn] at * <;> first | done | omega | assumption) | (intros; first | rfl | (exfalso; omega) | ((repeat' apply And.intro) <;> first | assumption | rfl | omega | trivial))))) (by (first | (exact mr) | (exact tq) | (exact ra) | (exact xs) | (exact rx) | (exact ac) | (first | assumption | omega | ((try dsimp only [jt2, jt3, jt4]); first | omega | (simp (disch := omega) only [jst_eq, jst_ne, jst_ni, jst_o, jI_i, jcpy_out, w32_id, jdiv_nn, jshr_k, jand_255] <;> first | done | omega | assumption)) | (intros; simp (disch := omega) only [jst_eq, jst_ne, jst_ni, jst_o, jI_i, jcpy_out, w32_id, jdiv_nn, *] <;> first | done | omega) | (intros; simp (disch := omega) only [jst_eq, jst_ne, jst_ni, jst_o, jI_i, jcpy_out, w32_id, jdiv_nn] at * <;> first | done | omega | assumption) | (intros; first | rfl | (exfalso; omega) | ((repeat' apply And.intro) <;> first | assumption | rfl | omega | trivial))))) (by (first | (exact mr) | (exact tq) | (exact ra) | (exact xs) | (exact rx) | (exact ac) | (first | assumption | omega | ((try dsimp only [jt2, jt3, jt4]); first | omega | (simp (disch := omega) only [jst_eq, jst_ne, jst_ni, jst_o, jI_i, jcpy_out, w32_id, jdiv_nn, jshr_k, jand_255] <;> first | done | omega | assumption)) | (intros; simp (disch := omega) only [jst_eq, jst_ne, jst_ni, jst_o, jI_i, jcpy_out, w32_id, jdiv_nn, *] <;> first | done | omega) | (intros; simp (disch := omega) only [jst_eq, jst_ne, jst_ni, jst_o, jI_i, jcpy_out, w32_id, jdiv_nn] at * <;> first | done | omega | assumption) | (intros; first | rfl | (exfalso; omega) | ((repeat' apply And.intro) <;> first | assumption | rfl | omega | trivial))))) (by (first | (exact mr) | (exact tq) | (exact ra) | (exact xs) | (exact rx) | (exact ac) | (first | assumption | omega | ((try dsimp only [jt2, jt3, jt4]); first | omega | (simp (disch := omega) only [jst_eq, jst_ne, jst_ni, jst_o, jI_i, jcpy_out, w32_id, jdiv_nn, jshr_k, jand_255] <;> first | done | omega | assumption)) | (intros; simp (disch := omega) only [jst_eq, jst_ne, jst_ni, jst_o, jI_i, jcpy_out, w32_id, jdiv_nn, *] <;> first | done | omega) | (intros; simp (disch := omega) only [jst_eq, jst_ne, jst_ni, jst_o, jI_i, jcpy_out, w32_id, jdiv_nn] at * <;> first | done | omega | assumption) | (intros; first | rfl | (exfalso; omega) | ((repeat' apply And.intro) <;> first | assumption | rfl | omega | trivial))))) (by (first | (exact mr) | (exact tq) | (exact ra) | (exact xs) | (exact rx) | (exact ac) | (first | assumption | omega | ((try dsimp only [jt2, jt3, jt4]); first | omega | (simp (disch := omega) only [jst_eq, jst_ne, jst_ni, jst_o, jI_i, jcpy_out, w32_id, jdiv_nn, jshr_k, jand_255] <;> first | done | omega | assumption)) | (intros; simp (disch := omega) only [jst_eq, jst_ne, jst_ni, jst_o, jI_i, jcpy_out, w32_id, jdiv_nn, *] <;> first | done | omega) | (intros; simp (disch := omega) only [jst_eq, jst_ne, jst_ni, jst_o, jI_i, jcpy_out, w32_id, jdiv_nn] at * <;> first | done | omega | assumption) | (intros; first | rfl | (exfalso; omega) | ((repeat' apply And.intro) <;> first | assumption | rfl | omega | trivial)))))) (fun o34 r1 => ?_)
    obtain ⟨y36, h37⟩ := o34
    refine OK_jt2 ?_
    try dsimp only [Sum.elim_inl, Sum.elim_inr, jt2, jt3, jt4, jt5, jt6, jt7, jt8] at r1
    obtain ⟨vv1, mr1, fs1⟩ := r1
    try simp (disch := omega) only [jst_eq, jst_ne, jst_ni, jI_i, jcmp_lt, jcmp_gt, w32_id, jcpy_out, Sum.elim_inl, Sum.elim_inr, jt2, jt3, jt4, jt5, jt6, jt7, jt8] at vv1
    try simp (disch := omega) only [jst_eq, jst_ne, jst_ni, jI_i, jcmp_lt, jcmp_gt, w32_id, jcpy_out, Sum.elim_inl, Sum.elim_inr, jt2, jt3, jt4, jt5, jt6, jt7, jt8] at mr1
    try simp (disch := omega) only [jst_eq, jst_ne, jst_ni, jI_i, jcmp_lt, jcmp_gt, w32_id, jcpy_out, Sum.elim_inl, Sum.elim_inr, jt2, jt3, jt4, jt5, jt6, jt7, jt8] at fs1
    unfold gX14_rest_j405_135
    refine OK_jlx (fun x38 ex38 => ?_)
    try simp (disch := omega) only [jst_eq, jst_ne, jst_ni, jI_i, jcmp_lt, jcmp_gt, w32_id, jcpy_out, Sum.elim_inl, Sum.elim_inr, jt2, jt3, jt4, jt5, jt6, jt7, jt8] at ex38
    refine OK_some ?_
    try dsimp only [Sum.elim_inl, Sum.elim_inr, jt2, jt3, jt4, jt5, jt6, jt7, jt8]
    try dsimp only [Sum.elim_inl, Sum.elim_inr, jt2, jt3, jt4, jt5, jt6, jt7, jt8]
    refine ⟨?_, ?_, ?_⟩
    · exact ⟨vv1, by omega⟩ -- o8 e1.1
    · exact mr1 -- o9 e1.2
    · exact fs1 -- o10 e1.3
  · skip
    try simp (disch := omega) only [jst_eq, jst_ne, jst_ni, jI_i, jcmp_lt, jcmp_gt, w32_id, jcpy_out, Sum.elim_inl, Sum.elim_inr, jt2, jt3, jt4, jt5, jt6, jt7, jt8] at c1
    unfold gX14_rest_j214_135
    refine OK_jb (vX14_rest_l216 (E := E) (Rf := Rf) (W := W) (K := K) (tp := tp) (p := p) (T := T) (w := w) (sg := sg) (used := used) (b0 := b0) _ _ _ _ _ _ _ _ _ _ _ (by (first | (exact mr) | (exact tq) | (exact ra) | (exact xs) | (exact rx) | (exact ac) | (first | assumption | omega | ((try dsimp only [jt2, jt3, jt4]); first | omega | (simp (disch := omega) only [jst_eq, jst_ne, jst_ni, jst_o, jI_i, jcpy_out, w32_id, jdiv_nn, jshr_k, jand_255] <;> first | done | omega | assumption)) | (intros; simp (disch := omega) only [jst_eq, jst_ne, jst_ni, jst_o, jI_i, jcpy_out, w32_id, jdiv_nn, *] <;> first | done | omega) | (intros; simp (disch := omega) only [jst_eq, jst_ne, jst_ni, jst_o, jI_i, jcpy_out, w32_id, jdiv_nn] at * <;> first | done | omega | assumption) | (intros; first | rfl | (exfalso; omega) | ((repeat' apply And.intro) <;> first | assumption | rfl | omega | trivial))))) (by (first | (exact mr) | (exact tq) | (exact ra) | (exact xs) | (exact rx) | (exact ac) | (first | assumption | omega | ((try dsimp only [jt2, jt3, jt4]); first | omega | (simp (disch := omega) only [jst_eq, jst_ne, jst_ni, jst_o, jI_i, jcpy_out, w32_id, jdiv_nn, jshr_k, jand_255] <;> first | done | omega | assumption)) | (intros; simp (disch := omega) only [jst_eq, jst_ne, jst_ni, jst_o, jI_i, jcpy_out, w32_id, jdiv_nn, *] <;> first | done | omega) | (intros; simp (disch := omega) only [jst_eq, jst_ne, jst_ni, jst_o, jI_i, jcpy_out, w32_id, jdiv_nn] at * <;> first | done | omega | assumption) | (intros; first | rfl | (exfalso; omega) | ((repeat' apply And.intro) <;> first | assumption | rfl | omega | trivial))))) (by (first | (exact mr) | (exact tq) | (exact ra) | (exact xs) | (exact rx) | (exact ac) | (first | assumption | omega | ((try dsimp only [jt2, jt3, jt4]); first | omega | (simp (disch := omega) only [jst_eq, jst_ne, jst_ni, jst_o, jI_i, jcpy_out, w32_id, jdiv_nn, jshr_k, jand_255] <;> first | done | omega | assumption)) | (intros; simp (disch := omega) only [jst_eq, jst_ne, jst_ni, jst_o, jI_i, jcpy_out, w32_id, jdiv_nn, *] <;> first | done | omega) | (intros; simp (disch := omega) only [jst_eq, jst_ne, jst_ni, jst_o, jI_i, jcpy_out, w32_id, jdiv_nn] at * <;> first | done | omega | assumption) | (intros; first | rfl | (exfalso; omega) | ((repeat' apply And.intro) <;> first | assumption | rfl | omega | trivial))))) (by (first | (exact mr) | (exact tq) | (exact ra) | (exact xs) | (exact rx) | (exact ac) | (first | assumption | omega | ((try dsimp only [jt2, jt3, jt4]); first | omega | (simp (disch := omega) only [jst_eq, jst_ne, jst_ni, jst_o, jI_i, jcpy_out, w32_id, jdiv_nn, jshr_k, jand_255] <;> first | done | omega | assumption)) | (intros; simp (disch := omega) only [jst_eq, jst_ne, jst_ni, jst_o, jI_i, jcpy_out, w32_id, jdiv_nn, *] <;> first | done | omega) | (intros; simp (disch := omega) only [jst_eq, jst_ne, jst_ni, jst_o, jI_i, jcpy_out, w32_id, jdiv_nn] at * <;> first | done | omega | assumption) | (intros; first | rfl | (exfalso; omega) | ((repeat' apply And.intro) <;> first | assumption | rfl | omega | trivial))))) (by (first | (exact mr) | (exact tq) | (exact ra) | (exact xs) | (exact rx) | (exact ac) | (first | assumption | omega | ((try dsimp only [jt2, jt3, jt4]); first | omega | (simp (disch := omega) only [jst_eq, jst_ne, jst_ni, jst_o, jI_i, jcpy_out, w32_id, jdiv_nn, jshr_k, jand_255] <;> first | done | omega | assumption)) | (intros; simp (disch := omega) only [jst_eq, jst_ne, jst_ni, jst_o, jI_i, jcpy_out, w32_id, jdiv_nn, *] <;> first | done | omega) | (intros; simp (disch := omega) only [jst_eq, jst_ne, jst_ni, jst_o, jI_i, jcpy_out, w32_id, jdiv_nn] at * <;> first | done | omega | assumption) | (intros; first | rfl | (exfalso; omega) | ((repeat' apply And.intro) <;> first | assumption | rfl | omega | trivial))))) (by (first | (exact mr) | (exact tq) | (exact ra) | (exact xs) | (exact rx) | (exact ac) | (first | assumption | omega | ((try dsimp only [jt2, jt3, jt4]); first | omega | (simp (disch := omega) only [jst_eq, jst_ne, jst_ni, jst_o, jI_i, jcpy_out, w32_id, jdiv_nn, jshr_k, jand_255] <;> first | done | omega | assumption)) | (intros; simp (disch := omega) only [jst_eq, jst_ne, jst_ni, jst_o, jI_i, jcpy_out, w32_id, jdiv_nn, *] <;> first | done | omega) | (intros; simp (disch := omega) only [jst_eq, jst_ne, jst_ni, jst_o, jI_i, jcpy_out, w32_id, jdiv_nn] at * <;> first | done | omega | assumption) | (intros; first | rfl | (exfalso; omega) | ((repeat' apply And.intro) <;> first | assumption | rfl | omega | trivial))))) (by (first | (exact mr) | (exact tq) | (exact ra) | (exact xs) | (exact rx) | (exact ac) | (first | assumption | omega | ((try dsimp only [jt2, jt3, jt4]); first | omega | (simp (disch := omega) only [jst_eq, jst_ne, jst_ni, jst_o, jI_i, jcpy_out, w32_id, jdiv_nn, jshr_k, jand_255] <;> first | done | omega | assumption)) | (intros; simp (disch := omega) only [jst_eq, jst_ne, jst_ni, jst_o, jI_i, jcpy_out, w32_id, jdiv_nn, *] <;> first | done | omega) | (intros; simp (disch := omega) only [jst_eq, jst_ne, jst_ni, jst_o, jI_i, jcpy_out, w32_id, jdiv_nn] at * <;> first | done | omega | assumption) | (intros; first | rfl | (exfalso; omega) | ((repeat' apply And.intro) <;> first | assumption | rfl | omega | trivial)))))) (fun o34 r2 => ?_)
    obtain ⟨y36, h37⟩ := o34
    refine OK_jt2 ?_
    try dsimp only [Sum.elim_inl, Sum.elim_inr, jt2, jt3, jt4, jt5, jt6, jt7, jt8] at r2
    obtain ⟨vv2, mr2, fs2⟩ := r2
    try simp (disch := omega) only [jst_eq, jst_ne, jst_ni, jI_i, jcmp_lt, jcmp_gt, w32_id, jcpy_out, Sum.elim_inl, Sum.elim_inr, jt2, jt3, jt4, jt5, jt6, jt7, jt8] at vv2
    try simp (disch := omega) only [jst_eq, jst_ne, jst_ni, jI_i, jcmp_lt, jcmp_gt, w32_id, jcpy_out, Sum.elim_inl, Sum.elim_inr, jt2, jt3, jt4, jt5, jt6, jt7, jt8] at mr2
    try simp (disch := omega) only [jst_eq, jst_ne, jst_ni, jI_i, jcmp_lt, jcmp_gt, w32_id, jcpy_out, Sum.elim_inl, Sum.elim_inr, jt2, jt3, jt4, jt5, jt6, jt7, jt8] at fs2
    unfold gX14_rest_j405_135
    refine OK_jlx (fun x38 ex38 => ?_)
    try simp (disch := omega) only [jst_eq, jst_ne, jst_ni, jI_i, jcmp_lt, jcmp_gt, w32_id, jcpy_out, Sum.elim_inl, Sum.elim_inr, jt2, jt3, jt4, jt5, jt6, jt7, jt8] at ex38
    refine OK_some ?_
    try dsimp only [Sum.elim_inl, Sum.elim_inr, jt2, jt3, jt4, jt5, jt6, jt7, jt8]
    try dsimp only [Sum.elim_inl, Sum.elim_inr, jt2, jt3, jt4, jt5, jt6, jt7, jt8]
    refine ⟨?_, ?_, ?_⟩
    · exact ⟨vv2, by omega⟩ -- o18 e2.1
    · exact mr2 -- o19 e2.2
    · exact fs2 -- o20 e2.3
theorem vX14_rest_l135 (i2 : Int) (i3 : Int) (i4 : Int) (i6 : Int) (i7 : Int) (i8 : Int) (i12 : Int) (i13 : Int) (a100 : Int) (a140 : Int) {h0 : AH} {E : EV} {Rf : Int → TR} {W : Int → Int → Int → VW} {K : AK} {tp : Int} {p : Nat} {T : TB} {w sg : Int → Int} {used b0 : Int} (mr : MR h0 E Rf W K tp p T ((p : Int) + 1)) (tq : tqM E W K p p) (ra : raM E W K p i8 i6 i2 i3 i4 used i12 sg ∧ 1 ≤ i2 ∧ i2 ≤ p) (xs : 0 ≤ i13 ∧ i13 < (LV E W (kP K) (kA K) p).1 ∧ (LV E W (kP K) (kA K) p).2.1 i13 = eK E i8 i6) (rx : rowM h0 i7 w (LV E W (kP K) (kA K) p).1) (ac : a100 = w64 b0) (z : (i12 ≤ 1 ∧ a140 = -1) ∨ (¬ i12 ≤ 1 ∧ a140 = 0)) : OK (gX14_rest_l135 i2 i3 i4 i6 i7 i8 i12 i13 a100 a140 h0) (fun r => jt2 r fun v h' => (v = w64 (b0 + pmW E W (kP K) (LV E W (kP K) (kA K) p) (ct E W (kP K) (kA K)) i8 w i6 i2 sg i12 i13)) ∧ (MR h' E Rf W K tp p T ((p : Int) + 1)) ∧ (fR h0 h')) := by
  unfold gX14_rest_l135
  refine OK_jit (I := (fun (s : Int × Int × AH) => jt3 s fun a10 a14 h => (ly3 i12 (LV E W (kP K) (kA K) p).1 a14) ∧ (a10 = w64 (b0 + pyW E W (kP K) (LV E W (kP K) (kA K) p) (ct E W (kP K) (kA K)) i8 w i6 i2 sg i12 i13 a14)) ∧ (MR h E Rf W K tp p T ((p : Int) + 1)) ∧ (fR h0 h))) (m := (fun (s : Int × Int × AH) => jt3 s fun a10 a14 h => ((LV E W (kP K) (kA K) p).1 + 1 - a14).toNat)) ?_ ?_
  · intro s hs
    obtain ⟨a10, a14, h⟩ := s
    dsimp only [Sum.elim_inl, Sum.elim_inr, jt2, jt3, jt4, jt5, jt6, jt7, jt8] at hs
    obtain ⟨q0, q1, ms, fr⟩ := hs
    unfold gX14_rest_b135
    refine OK_jt3 ?_
    have n12 := tq.1.1.1
    have ae := tq.1.1.2.2.2.2.1
    have RK := raM_k ae ra.1
    have io := ra.1.2.1
    have L120 := tq.2.2
    have l00 := LV_0 (E := E) (W := W) (pts := kP K) (A := kA K) p
    have N44 := ms.2.2.1.1
    have RX := rowM_R rx fr
    have lz : (i12 ≤ 1 ∧ (a14 = -1 ∨ a14 = 0)) ∨ (2 ≤ i12 ∧ 0 ≤ a14 ∧ a14 ≤ (LV E W (kP K) (kA K) p).1) := q0
    have x16 := (akM_0 ms.1).1.1
    have wk : w32 (i6 + 1) = i6 + 1 := w32_id (by omega) (by omega)
    refine OK_if (fun c1 => ?_) (fun c1 => ?_)
    · skip
      try simp (disch := omega) only [jst_eq, jst_ne, jst_ni, jI_i, jcmp_lt, jcmp_gt, w32_id, jcpy_out, Sum.elim_inl, Sum.elim_inr, jt2, jt3, jt4, jt5, jt6, jt7, jt8] at c1
      unfold gX14_rest_j151_135
      refine OK_if (fun c2 => ?_) (fun c2 => ?_)
      · skip
        try simp (disch := omega) only [jst_eq, jst_ne, jst_ni, jI_i, jcmp_lt, jcmp_gt, w32_id, jcpy_out, Sum.elim_inl, Sum.elim_inr, jt2, jt3, jt4, jt5, jt6, jt7, jt8] at c2
        refine OK_ir ?_
        try dsimp only [Sum.elim_inl, Sum.elim_inr, jt2, jt3, jt4, jt5, jt6, jt7, jt8]
        refine ⟨?_, ?_, ?_⟩
        · (have e14 : a14 = 0 := (by omega); rw [q1, e14, py_0 c1, pm_1 c1]) -- o1 e1.1
        · exact ms -- o2 e1.2
        · exact fr -- o3 e1.3
      · skip
        try simp (disch := omega) only [jst_eq, jst_ne, jst_ni, jI_i, jcmp_lt, jcmp_gt, w32_id, jcpy_out, Sum.elim_inl, Sum.elim_inr, jt2, jt3, jt4, jt5, jt6, jt7, jt8] at c2
        refine OK_if (fun c3 => ?_) (fun c3 => ?_)
        · skip
          try simp (disch := omega) only [jst_eq, jst_ne, jst_ni, jI_i, jcmp_lt, jcmp_gt, w32_id, jcpy_out, Sum.elim_inl, Sum.elim_inr, jt2, jt3, jt4, jt5, jt6, jt7, jt8] at c3
          refine OK_mono (vX14_rest_j203_135 (E := E) (Rf := Rf) (W := W) (K := K) (tp := tp) (p := p) (T := T) (w := w) (sg := sg) (used := used) (b0 := b0 + pyW E W (kP K) (LV E W (kP K) (kA K) p) (ct E W (kP K) (kA K)) i8 w i6 i2 sg i12 i13 a14) _ _ _ _ _ _ _ _ _ _ (by exact ms) (by exact tq) (by exact ra) (by exact ⟨xs, Or.inl ⟨by omega, by omega⟩⟩) (by exact RX) (by exact q1)) (fun r r1 => ?_)
          rcases r with r | r
          · skip
            have r2 := r1; clear r1; dsimp only [Sum.elim_inl, Sum.elim_inr] at r2
            obtain ⟨y1, y2, y3⟩ := r
            try dsimp only [Sum.elim_inl, Sum.elim_inr, jt2, jt3, jt4, jt5, jt6, jt7, jt8] at r2
            obtain ⟨nx1, mr1, fs1⟩ := r2
            try simp (disch := omega) only [jst_eq, jst_ne, jst_ni, jI_i, jcmp_lt, jcmp_gt, w32_id, jcpy_out, Sum.elim_inl, Sum.elim_inr, jt2, jt3, jt4, jt5, jt6, jt7, jt8] at nx1
            try simp (disch := omega) only [jst_eq, jst_ne, jst_ni, jI_i, jcmp_lt, jcmp_gt, w32_id, jcpy_out, Sum.elim_inl, Sum.elim_inr, jt2, jt3, jt4, jt5, jt6, jt7, jt8] at mr1
            try simp (disch := omega) only [jst_eq, jst_ne, jst_ni, jI_i, jcmp_lt, jcmp_gt, w32_id, jcpy_out, Sum.elim_inl, Sum.elim_inr, jt2, jt3, jt4, jt5, jt6, jt7, jt8] at fs1
            try dsimp only [Sum.elim_inl, Sum.elim_inr, jt2, jt3, jt4, jt5, jt6, jt7, jt8]
            refine ⟨?_, ?_⟩
            · try dsimp only [Sum.elim_inl, Sum.elim_inr, jt2, jt3, jt4, jt5, jt6, jt7, jt8]
              refine ⟨?_, ?_, ?_, ?_⟩
              · (unfold ly3; omega) -- o10 e2i.1
              · (have e14 : a14 = -1 := (by omega); rw [nx1.1, nx1.2, e14, py_m c1, show (-1 : Int) + 1 = 0 from rfl, py_0 c1, Int.add_zero, qm_2 (by omega)]) -- o11 e2i.2
              · exact mr1 -- o12 e2i.3
              · exact fR_t fr fs1 -- o13 e2i.4
            · omega -- o14 e2m
          · skip
            have r3 := r1; clear r1; dsimp only [Sum.elim_inl, Sum.elim_inr] at r3
            obtain ⟨y4, y5⟩ := r
            try dsimp only [Sum.elim_inl, Sum.elim_inr, jt2, jt3, jt4, jt5, jt6, jt7, jt8] at r3
            have no2 := r3
            clear r3
            try simp (disch := omega) only [jst_eq, jst_ne, jst_ni, jI_i, jcmp_lt, jcmp_gt, w32_id, jcpy_out, Sum.elim_inl, Sum.elim_inr, jt2, jt3, jt4, jt5, jt6, jt7, jt8] at no2
            try dsimp only [Sum.elim_inl, Sum.elim_inr, jt2, jt3, jt4, jt5, jt6, jt7, jt8]
            try dsimp only [Sum.elim_inl, Sum.elim_inr, jt2, jt3, jt4, jt5, jt6, jt7, jt8]
            refine ⟨?_, ?_, ?_⟩
            · (first | assumption | omega | ((try dsimp only [jt2, jt3, jt4]); first | omega | (simp (disch := omega) only [jst_eq, jst_ne, jst_ni, jst_o, jI_i, jcpy_out, w32_id, jdiv_nn, jshr_k, jand_255] <;> first | done | omega | assumption)) | (intros; simp (disch := omega) only [jst_eq, jst_ne, jst_ni, jst_o, jI_i, jcpy_out, w32_id, jdiv_nn, *] <;> first | done | omega) | (intros; simp (disch := omega) only [jst_eq, jst_ne, jst_ni, jst_o, jI_i, jcpy_out, w32_id, jdiv_nn] at * <;> first | done | omega | assumption) | (intros; first | rfl | (exfalso; omega) | ((repeat' apply And.intro) <;> first | assumption | rfl | omega | trivial))) -- o15 e3.1
            · (first | assumption | omega | ((try dsimp only [jt2, jt3, jt4]); first | omega | (simp (disch := omega) only [jst_eq, jst_ne, jst_ni, jst_o, jI_i, jcpy_out, w32_id, jdiv_nn, jshr_k, jand_255] <;> first | done | omega | assumption)) | (intros; simp (disch := omega) only [jst_eq, jst_ne, jst_ni, jst_o, jI_i, jcpy_out, w32_id, jdiv_nn, *] <;> first | done | omega) | (intros; simp (disch := omega) only [jst_eq, jst_ne, jst_ni, jst_o, jI_i, jcpy_out, w32_id, jdiv_nn] at * <;> first | done | omega | assumption) | (intros; first | rfl | (exfalso; omega) | ((repeat' apply And.intro) <;> first | assumption | rfl | omega | trivial))) -- o16 e3.2
            · (first | assumption | omega | ((try dsimp only [jt2, jt3, jt4]); first | omega | (simp (disch := omega) only [jst_eq, jst_ne, jst_ni, jst_o, jI_i, jcpy_out, w32_id, jdiv_nn, jshr_k, jand_255] <;> first | done | omega | assumption)) | (intros; simp (disch := omega) only [jst_eq, jst_ne, jst_ni, jst_o, jI_i, jcpy_out, w32_id, jdiv_nn, *] <;> first | done | omega) | (intros; simp (disch := omega) only [jst_eq, jst_ne, jst_ni, jst_o, jI_i, jcpy_out, w32_id, jdiv_nn] at * <;> first | done | omega | assumption) | (intros; first | rfl | (exfalso; omega) | ((repeat' apply And.intro) <;> first | assumption | rfl | omega | trivial))) -- o17 e3.3
        · skip
          try simp (disch := omega) only [jst_eq, jst_ne, jst_ni, jI_i, jcmp_lt, jcmp_gt, w32_id, jcpy_out, Sum.elim_inl, Sum.elim_inr, jt2, jt3, jt4, jt5, jt6, jt7, jt8] at c3
          exfalso
          omega
    · skip
      try simp (disch := omega) only [jst_eq, jst_ne, jst_ni, jI_i, jcmp_lt, jcmp_gt, w32_id, jcpy_out, Sum.elim_inl, Sum.elim_inr, jt2, jt3, jt4, jt5, jt6, jt7, jt8] at c1
      unfold gX14_rest_j151_135
      refine OK_if (fun c4 => ?_) (fun c4 => ?_)
      · skip
        try simp (disch := omega) only [jst_eq, jst_ne, jst_ni, jI_i, jcmp_lt, jcmp_gt, w32_id, jcpy_out, Sum.elim_inl, Sum.elim_inr, jt2, jt3, jt4, jt5, jt6, jt7, jt8] at c4
        refine OK_ir ?_
        try dsimp only [Sum.elim_inl, Sum.elim_inr, jt2, jt3, jt4, jt5, jt6, jt7, jt8]
        refine ⟨?_, ?_, ?_⟩
        · (have e14 : a14 = (LV E W (kP K) (kA K) p).1 := (by omega); rw [q1, e14, py_2 c1, pm_2 c1]) -- o18 e4.1
        · exact ms -- o19 e4.2
        · exact fr -- o20 e4.3
      · skip
        try simp (disch := omega) only [jst_eq, jst_ne, jst_ni, jI_i, jcmp_lt, jcmp_gt, w32_id, jcpy_out, Sum.elim_inl, Sum.elim_inr, jt2, jt3, jt4, jt5, jt6, jt7, jt8] at c4
        have w38 : w32 (a14 + 1) = a14 + 1 := w32_id (by omega) (by omega)
        refine OK_if (fun c5 => ?_) (fun c5 => ?_)
        · skip
          try simp (disch := omega) only [jst_eq, jst_ne, jst_ni, jI_i, jcmp_lt, jcmp_gt, w32_id, jcpy_out, Sum.elim_inl, Sum.elim_inr, jt2, jt3, jt4, jt5, jt6, jt7, jt8] at c5
          exfalso
          omega
        · skip
          try simp (disch := omega) only [jst_eq, jst_ne, jst_ni, jI_i, jcmp_lt, jcmp_gt, w32_id, jcpy_out, Sum.elim_inl, Sum.elim_inr, jt2, jt3, jt4, jt5, jt6, jt7, jt8] at c5
          refine OK_jb (vIsOf (E := E) (Rf := Rf) (W := W) (K := K) (tp := tp) (p := p) (T := T) _ _ _ (by exact ms.1) (by exact ms.2.1) (by omega) (by exact ⟨RK.2.1, RK.2.2.1⟩) (by omega)) (fun v30 r4 => ?_)
          try dsimp only [Sum.elim_inl, Sum.elim_inr, jt2, jt3, jt4, jt5, jt6, jt7, jt8] at r4
          have io3 := r4
          clear r4
          try simp (disch := omega) only [jst_eq, jst_ne, jst_ni, jI_i, jcmp_lt, jcmp_gt, w32_id, jcpy_out, Sum.elim_inl, Sum.elim_inr, jt2, jt3, jt4, jt5, jt6, jt7, jt8] at io3
          try rw [wk] at io3
          refine OK_if (fun c6 => ?_) (fun c6 => ?_)
          · skip
            try simp (disch := omega) only [jst_eq, jst_ne, jst_ni, jI_i, jcmp_lt, jcmp_gt, w32_id, jcpy_out, Sum.elim_inl, Sum.elim_inr, jt2, jt3, jt4, jt5, jt6, jt7, jt8] at c6
            have QY : qyW E W (kP K) (LV E W (kP K) (kA K) p) (ct E W (kP K) (kA K)) i8 w i6 i2 sg i12 i13 a14 = 0 := cif_n (by rcases io3 with u | u; { exact u.2 }; { omega })
            unfold gX14_rest_j405_135
            refine OK_jlx (fun x38 ex38 => ?_)
            try simp (disch := omega) only [jst_eq, jst_ne, jst_ni, jI_i, jcmp_lt, jcmp_gt, w32_id, jcpy_out, Sum.elim_inl, Sum.elim_inr, jt2, jt3, jt4, jt5, jt6, jt7, jt8] at ex38
            refine OK_il ?_ ?_
            · try dsimp only [Sum.elim_inl, Sum.elim_inr, jt2, jt3, jt4, jt5, jt6, jt7, jt8]
              refine ⟨?_, ?_, ?_, ?_⟩
              · (unfold ly3; omega) -- o26 e5i.1
              · (rw [q1, show x38 = a14 + 1 by omega, py_s c1 (by omega), QY, Int.add_zero]) -- o27 e5i.2
              · exact ms -- o28 e5i.3
              · exact fr -- o29 e5i.4
            · (first | assumption | omega | ((try dsimp only [jt2, jt3, jt4]); first | omega | (simp (disch := omega) only [jst_eq, jst_ne, jst_ni, jst_o, jI_i, jcpy_out, w32_id, jdiv_nn, jshr_k, jand_255] <;> first | done | omega | assumption)) | (intros; simp (disch := omega) only [jst_eq, jst_ne, jst_ni, jst_o, jI_i, jcpy_out, w32_id, jdiv_nn, *] <;> first | done | omega) | (intros; simp (disch := omega) only [jst_eq, jst_ne, jst_ni, jst_o, jI_i, jcpy_out, w32_id, jdiv_nn] at * <;> first | done | omega | assumption) | (intros; first | rfl | (exfalso; omega) | ((repeat' apply And.intro) <;> first | assumption | rfl | omega | trivial))) -- o30 e5m
          · skip
            try simp (disch := omega) only [jst_eq, jst_ne, jst_ni, jI_i, jcmp_lt, jcmp_gt, w32_id, jcpy_out, Sum.elim_inl, Sum.elim_inr, jt2, jt3, jt4, jt5, jt6, jt7, jt8] at c6
            have kz : (LV E W (kP K) (kA K) p).2.1 a14 = eK E i8 (i6 + 1) := by { rcases io3 with u | u; { omega }; { exact u.2 } }
            have QY : qyW E W (kP K) (LV E W (kP K) (kA K) p) (ct E W (kP K) (kA K)) i8 w i6 i2 sg i12 i13 a14 = qmW E W (kP K) (LV E W (kP K) (kA K) p) (ct E W (kP K) (kA K)) i8 w i6 i2 sg i12 i13 a14 := cif_y kz
            have W1 := MT_w ms.2.1 xs.1 xs.2.1
            have W2 := MT_w ms.2.1 (a := a14) (by omega) (by omega)
            have T1 := tq.1.2.2.2 i13 xs.1 xs.2.1
            have T2 := tq.1.2.2.2 a14 (by omega) (by omega)
            have wa : w32 (h (h 454 38 + 14) i13 + h (h 454 38 + 14) a14) = h (h 454 38 + 14) i13 + h (h 454 38 + 14) a14 := w32_id (by omega) (by omega)
            refine OK_jg (by (first | assumption | omega | ((try dsimp only [jt2, jt3, jt4]); first | omega | (simp (disch := omega) only [jst_eq, jst_ne, jst_ni, jst_o, jI_i, jcpy_out, w32_id, jdiv_nn, jshr_k, jand_255] <;> first | done | omega | assumption)) | (intros; simp (disch := omega) only [jst_eq, jst_ne, jst_ni, jst_o, jI_i, jcpy_out, w32_id, jdiv_nn, *] <;> first | done | omega) | (intros; simp (disch := omega) only [jst_eq, jst_ne, jst_ni, jst_o, jI_i, jcpy_out, w32_id, jdiv_nn] at * <;> first | done | omega | assumption) | (intros; first | rfl | (exfalso; omega) | ((repeat' apply And.intro) <;> first | assumption | rfl | omega | trivial)))) ?_ -- o31
            refine OK_jg (by (first | assumption | omega | ((try dsimp only [jt2, jt3, jt4]); first | omega | (simp (disch := omega) only [jst_eq, jst_ne, jst_ni, jst_o, jI_i, jcpy_out, w32_id, jdiv_nn, jshr_k, jand_255] <;> first | done | omega | assumption)) | (intros; simp (disch := omega) only [jst_eq, jst_ne, jst_ni, jst_o, jI_i, jcpy_out, w32_id, jdiv_nn, *] <;> first | done | omega) | (intros; simp (disch := omega) only [jst_eq, jst_ne, jst_ni, jst_o, jI_i, jcpy_out, w32_id, jdiv_nn] at * <;> first | done | omega | assumption) | (intros; first | rfl | (exfalso; omega) | ((repeat' apply And.intro) <;> first | assumption | rfl | omega | trivial)))) ?_ -- o32
            refine OK_jg (by (first | assumption | omega | ((try dsimp only [jt2, jt3, jt4]); first | omega | (simp (disch := omega) only [jst_eq, jst_ne, jst_ni, jst_o, jI_i, jcpy_out, w32_id, jdiv_nn, jshr_k, jand_255] <;> first | done | omega | assumption)) | (intros; simp (disch := omega) only [jst_eq, jst_ne, jst_ni, jst_o, jI_i, jcpy_out, w32_id, jdiv_nn, *] <;> first | done | omega) | (intros; simp (disch := omega) only [jst_eq, jst_ne, jst_ni, jst_o, jI_i, jcpy_out, w32_id, jdiv_nn] at * <;> first | done | omega | assumption) | (intros; first | rfl | (exfalso; omega) | ((repeat' apply And.intro) <;> first | assumption | rfl | omega | trivial)))) ?_ -- o33
            refine OK_if (fun c7 => ?_) (fun c7 => ?_)
            · skip
              try simp (disch := omega) only [jst_eq, jst_ne, jst_ni, jI_i, jcmp_lt, jcmp_gt, w32_id, jcpy_out, Sum.elim_inl, Sum.elim_inr, jt2, jt3, jt4, jt5, jt6, jt7, jt8] at c7
              refine OK_mono (vX14_rest_j203_135 (E := E) (Rf := Rf) (W := W) (K := K) (tp := tp) (p := p) (T := T) (w := w) (sg := sg) (used := used) (b0 := b0 + pyW E W (kP K) (LV E W (kP K) (kA K) p) (ct E W (kP K) (kA K)) i8 w i6 i2 sg i12 i13 a14) _ _ _ _ _ _ _ _ _ _ (by exact ms) (by exact tq) (by exact ra) (by exact ⟨xs, Or.inr ⟨by omega, by omega, by omega, kz⟩⟩) (by exact RX) (by exact q1)) (fun r r5 => ?_)
              rcases r with r | r
              · skip
                have r6 := r5; clear r5; dsimp only [Sum.elim_inl, Sum.elim_inr] at r6
                obtain ⟨y6, y7, y8⟩ := r
                try dsimp only [Sum.elim_inl, Sum.elim_inr, jt2, jt3, jt4, jt5, jt6, jt7, jt8] at r6
                obtain ⟨nx4, mr4, fs4⟩ := r6
                try simp (disch := omega) only [jst_eq, jst_ne, jst_ni, jI_i, jcmp_lt, jcmp_gt, w32_id, jcpy_out, Sum.elim_inl, Sum.elim_inr, jt2, jt3, jt4, jt5, jt6, jt7, jt8] at nx4
                try simp (disch := omega) only [jst_eq, jst_ne, jst_ni, jI_i, jcmp_lt, jcmp_gt, w32_id, jcpy_out, Sum.elim_inl, Sum.elim_inr, jt2, jt3, jt4, jt5, jt6, jt7, jt8] at mr4
                try simp (disch := omega) only [jst_eq, jst_ne, jst_ni, jI_i, jcmp_lt, jcmp_gt, w32_id, jcpy_out, Sum.elim_inl, Sum.elim_inr, jt2, jt3, jt4, jt5, jt6, jt7, jt8] at fs4
                try dsimp only [Sum.elim_inl, Sum.elim_inr, jt2, jt3, jt4, jt5, jt6, jt7, jt8]
                refine ⟨?_, ?_⟩
                · try dsimp only [Sum.elim_inl, Sum.elim_inr, jt2, jt3, jt4, jt5, jt6, jt7, jt8]
                  refine ⟨?_, ?_, ?_, ?_⟩
                  · (unfold ly3; omega) -- o40 e6i.1
                  · (rw [nx4.1, nx4.2, py_s c1 (by omega), QY, Int.add_assoc]) -- o41 e6i.2
                  · exact mr4 -- o42 e6i.3
                  · exact fR_t fr fs4 -- o43 e6i.4
                · omega -- o44 e6m
              · skip
                have r7 := r5; clear r5; dsimp only [Sum.elim_inl, Sum.elim_inr] at r7
                obtain ⟨y9, y10⟩ := r
                try dsimp only [Sum.elim_inl, Sum.elim_inr, jt2, jt3, jt4, jt5, jt6, jt7, jt8] at r7
                have no5 := r7
                clear r7
                try simp (disch := omega) only [jst_eq, jst_ne, jst_ni, jI_i, jcmp_lt, jcmp_gt, w32_id, jcpy_out, Sum.elim_inl, Sum.elim_inr, jt2, jt3, jt4, jt5, jt6, jt7, jt8] at no5
                try dsimp only [Sum.elim_inl, Sum.elim_inr, jt2, jt3, jt4, jt5, jt6, jt7, jt8]
                try dsimp only [Sum.elim_inl, Sum.elim_inr, jt2, jt3, jt4, jt5, jt6, jt7, jt8]
                refine ⟨?_, ?_, ?_⟩
                · (first | assumption | omega | ((try dsimp only [jt2, jt3, jt4]); first | omega | (simp (disch := omega) only [jst_eq, jst_ne, jst_ni, jst_o, jI_i, jcpy_out, w32_id, jdiv_nn, jshr_k, jand_255] <;> first | done | omega | assumption)) | (intros; simp (disch := omega) only [jst_eq, jst_ne, jst_ni, jst_o, jI_i, jcpy_out, w32_id, jdiv_nn, *] <;> first | done | omega) | (intros; simp (disch := omega) only [jst_eq, jst_ne, jst_ni, jst_o, jI_i, jcpy_out, w32_id, jdiv_nn] at * <;> first | done | omega | assumption) | (intros; first | rfl | (exfalso; omega) | ((repeat' apply And.intro) <;> first | assumption | rfl | omega | trivial))) -- o45 e7.1
                · (first | assumption | omega | ((try dsimp only [jt2, jt3, jt4]); first | omega | (simp (disch := omega) only [jst_eq, jst_ne, jst_ni, jst_o, jI_i, jcpy_out, w32_id, jdiv_nn, jshr_k, jand_255] <;> first | done | omega | assumption)) | (intros; simp (disch := omega) only [jst_eq, jst_ne, jst_ni, jst_o, jI_i, jcpy_out, w32_id, jdiv_nn, *] <;> first | done | omega) | (intros; simp (disch := omega) only [jst_eq, jst_ne, jst_ni, jst_o, jI_i, jcpy_out, w32_id, jdiv_nn] at * <;> first | done | omega | assumption) | (intros; first | rfl | (exfalso; omega) | ((repeat' apply And.intro) <;> first | assumption | rfl | omega | trivial))) -- o46 e7.2
                · (first | assumption | omega | ((try dsimp only [jt2, jt3, jt4]); first | omega | (simp (disch := omega) only [jst_eq, jst_ne, jst_ni, jst_o, jI_i, jcpy_out, w32_id, jdiv_nn, jshr_k, jand_255] <;> first | done | omega | assumption)) | (intros; simp (disch := omega) only [jst_eq, jst_ne, jst_ni, jst_o, jI_i, jcpy_out, w32_id, jdiv_nn, *] <;> first | done | omega) | (intros; simp (disch := omega) only [jst_eq, jst_ne, jst_ni, jst_o, jI_i, jcpy_out, w32_id, jdiv_nn] at * <;> first | done | omega | assumption) | (intros; first | rfl | (exfalso; omega) | ((repeat' apply And.intro) <;> first | assumption | rfl | omega | trivial))) -- o47 e7.3
            · skip
              try simp (disch := omega) only [jst_eq, jst_ne, jst_ni, jI_i, jcmp_lt, jcmp_gt, w32_id, jcpy_out, Sum.elim_inl, Sum.elim_inr, jt2, jt3, jt4, jt5, jt6, jt7, jt8] at c7
              have QM0 : qmW E W (kP K) (LV E W (kP K) (kA K) p) (ct E W (kP K) (kA K)) i8 w i6 i2 sg i12 i13 a14 = 0 := qm_z tq.1 ra.2.2 xs.1 (by omega) (by omega)
              unfold gX14_rest_j405_135
              refine OK_jlx (fun x38 ex38 => ?_)
              try simp (disch := omega) only [jst_eq, jst_ne, jst_ni, jI_i, jcmp_lt, jcmp_gt, w32_id, jcpy_out, Sum.elim_inl, Sum.elim_inr, jt2, jt3, jt4, jt5, jt6, jt7, jt8] at ex38
              refine OK_il ?_ ?_
              · try dsimp only [Sum.elim_inl, Sum.elim_inr, jt2, jt3, jt4, jt5, jt6, jt7, jt8]
                refine ⟨?_, ?_, ?_, ?_⟩
                · (unfold ly3; omega) -- o48 e8i.1
                · (rw [q1, show x38 = a14 + 1 by omega, py_s c1 (by omega), QY, QM0, Int.add_zero]) -- o49 e8i.2
                · exact ms -- o50 e8i.3
                · exact fr -- o51 e8i.4
              · (first | assumption | omega | ((try dsimp only [jt2, jt3, jt4]); first | omega | (simp (disch := omega) only [jst_eq, jst_ne, jst_ni, jst_o, jI_i, jcpy_out, w32_id, jdiv_nn, jshr_k, jand_255] <;> first | done | omega | assumption)) | (intros; simp (disch := omega) only [jst_eq, jst_ne, jst_ni, jst_o, jI_i, jcpy_out, w32_id, jdiv_nn, *] <;> first | done | omega) | (intros; simp (disch := omega) only [jst_eq, jst_ne, jst_ni, jst_o, jI_i, jcpy_out, w32_id, jdiv_nn] at * <;> first | done | omega | assumption) | (intros; first | rfl | (exfalso; omega) | ((repeat' apply And.intro) <;> first | assumption | rfl | omega | trivial))) -- o52 e8m
  · try dsimp only [Sum.elim_inl, Sum.elim_inr, jt2, jt3, jt4, jt5, jt6, jt7, jt8]
    refine ⟨?_, ?_, ?_, ?_⟩
    · (have l := LV_0 (E := E) (W := W) (pts := kP K) (A := kA K) p; unfold ly3; omega) -- o53 init.1
    · (rcases z with u | u; { rw [ac, u.2, py_m u.1, Int.add_zero] }; { rw [ac, u.2, py_20 u.1, Int.add_zero] }) -- o54 init.2
    · exact mr -- o55 init.3
    · exact fun _ _ _ _ _ => rfl -- o56 init.4
theorem vX14_rest_l83 (i2 : Int) (i3 : Int) (i4 : Int) (i6 : Int) (i7 : Int) (i8 : Int) (i12 : Int) (a100 : Int) (a130 : Int) {h0 : AH} {E : EV} {Rf : Int → TR} {W : Int → Int → Int → VW} {K : AK} {tp : Int} {p : Nat} {T : TB} {w sg : Int → Int} {used : Int} (mr : MR h0 E Rf W K tp p T ((p : Int) + 1)) (tq : tqM E W K p p) (ra : raM E W K p i8 i6 i2 i3 i4 used i12 sg ∧ i2 ≤ p) (rx : rowM h0 i7 w (LV E W (kP K) (kA K) p).1) (z : a100 = 0 ∧ a130 = 0) : OK (gX14_rest_l83 i2 i3 i4 i6 i7 i8 i12 a100 a130 h0) (fun r => jt2 r fun v h' => (v = w64 (rsW E W (kP K) (LV E W (kP K) (kA K) p) (ct E W (kP K) (kA K)) i8 w i12.toNat i6 i2 sg)) ∧ (MR h' E Rf W K tp p T ((p : Int) + 1)) ∧ (fR h0 h')) := by
  unfold gX14_rest_l83
  refine OK_jit (I := (fun (s : Int × Int × AH) => jt3 s fun a10 a13 h => (0 ≤ a13 ∧ a13 ≤ (LV E W (kP K) (kA K) p).1) ∧ (a10 = w64 (sumN (pxW E W (kP K) (LV E W (kP K) (kA K) p) (ct E W (kP K) (kA K)) i8 w i6 i2 sg i12) a13.toNat)) ∧ (MR h E Rf W K tp p T ((p : Int) + 1)) ∧ (fR h0 h))) (m := (fun (s : Int × Int × AH) => jt3 s fun a10 a13 h => ((LV E W (kP K) (kA K) p).1 - a13).toNat)) ?_ ?_
  · intro s hs
    obtain ⟨a10, a13, h⟩ := s
    dsimp only [Sum.elim_inl, Sum.elim_inr, jt2, jt3, jt4, jt5, jt6, jt7, jt8] at hs
    obtain ⟨q0, q1, ms, fr⟩ := hs
    unfold gX14_rest_b83
    refine OK_jt3 ?_
    have n12 := tq.1.1.1
    have ae := tq.1.1.2.2.2.2.1
    have RK := raM_k ae ra.1
    have io := ra.1.2.1
    have lf0 := ra.1.2.2.2.2
    have L120 := tq.2.2
    have N44 := ms.2.2.1.1
    have RX := rowM_R rx fr
    have x16 := (akM_0 ms.1).1.1
    refine OK_if (fun c1 => ?_) (fun c1 => ?_)
    · skip
      try simp (disch := omega) only [jst_eq, jst_ne, jst_ni, jI_i, jcmp_lt, jcmp_gt, w32_id, jcpy_out, Sum.elim_inl, Sum.elim_inr, jt2, jt3, jt4, jt5, jt6, jt7, jt8] at c1
      refine OK_ir ?_
      try dsimp only [Sum.elim_inl, Sum.elim_inr, jt2, jt3, jt4, jt5, jt6, jt7, jt8]
      refine ⟨?_, ?_, ?_⟩
      · (rw [q1, show a13 = (LV E W (kP K) (kA K) p).1 by omega]; have ce : ((i12.toNat : Nat) : Int) = i12 := (by omega); have e := pm_rs (E := E) (W := W) (pts := kP K) (L := (LV E W (kP K) (kA K) p)) (c := (ct E W (kP K) (kA K))) (ac := i8) (w := w) (k := i6) (left := i2) (s := sg) (by omega) (fun f => ct_n (by decide)) i12.toNat (by omega) (fun y => by omega); rw [ce] at e; rw [e]) -- o1 e1.1
      · exact ms -- o2 e1.2
      · exact fr -- o3 e1.3
    · skip
      try simp (disch := omega) only [jst_eq, jst_ne, jst_ni, jI_i, jcmp_lt, jcmp_gt, w32_id, jcpy_out, Sum.elim_inl, Sum.elim_inr, jt2, jt3, jt4, jt5, jt6, jt7, jt8] at c1
      have w21 : w32 (a13 + 1) = a13 + 1 := w32_id (by omega) (by omega)
      refine OK_jb (vIsOf (E := E) (Rf := Rf) (W := W) (K := K) (tp := tp) (p := p) (T := T) _ _ _ (by exact ms.1) (by exact ms.2.1) (by omega) (by exact ⟨RK.2.1, RK.2.2.1⟩) (by omega)) (fun v17 r1 => ?_)
      try dsimp only [Sum.elim_inl, Sum.elim_inr, jt2, jt3, jt4, jt5, jt6, jt7, jt8] at r1
      have io1 := r1
      clear r1
      try simp (disch := omega) only [jst_eq, jst_ne, jst_ni, jI_i, jcmp_lt, jcmp_gt, w32_id, jcpy_out, Sum.elim_inl, Sum.elim_inr, jt2, jt3, jt4, jt5, jt6, jt7, jt8] at io1
      refine OK_if (fun c2 => ?_) (fun c2 => ?_)
      · skip
        try simp (disch := omega) only [jst_eq, jst_ne, jst_ni, jI_i, jcmp_lt, jcmp_gt, w32_id, jcpy_out, Sum.elim_inl, Sum.elim_inr, jt2, jt3, jt4, jt5, jt6, jt7, jt8] at c2
        have PX : pxW E W (kP K) (LV E W (kP K) (kA K) p) (ct E W (kP K) (kA K)) i8 w i6 i2 sg i12 a13 = 0 := cif_n (by rcases io1 with u | u; { exact u.2 }; { omega })
        unfold gX14_rest_j411_83
        refine OK_jlx (fun x21 ex21 => ?_)
        try simp (disch := omega) only [jst_eq, jst_ne, jst_ni, jI_i, jcmp_lt, jcmp_gt, w32_id, jcpy_out, Sum.elim_inl, Sum.elim_inr, jt2, jt3, jt4, jt5, jt6, jt7, jt8] at ex21
        refine OK_il ?_ ?_
        · try dsimp only [Sum.elim_inl, Sum.elim_inr, jt2, jt3, jt4, jt5, jt6, jt7, jt8]
          refine ⟨?_, ?_, ?_, ?_⟩
          · (first | (exact ms) | (exact tq) | (exact ⟨ra.1, by (have T1 := tq.1.2.2.2 a13 q0.1 (by omega); omega), ra.2⟩) | (exact ⟨q0.1, by omega, kz⟩) | (exact RX) | (exact q1) | (exact Or.inl ⟨by omega, rfl⟩) | (exact Or.inr ⟨by omega, rfl⟩) | (first | assumption | omega | ((try dsimp only [jt2, jt3, jt4]); first | omega | (simp (disch := omega) only [jst_eq, jst_ne, jst_ni, jst_o, jI_i, jcpy_out, w32_id, jdiv_nn, jshr_k, jand_255] <;> first | done | omega | assumption)) | (intros; simp (disch := omega) only [jst_eq, jst_ne, jst_ni, jst_o, jI_i, jcpy_out, w32_id, jdiv_nn, *] <;> first | done | omega) | (intros; simp (disch := omega) only [jst_eq, jst_ne, jst_ni, jst_o, jI_i, jcpy_out, w32_id, jdiv_nn] at * <;> first | done | omega | assumption) | (intros; first | rfl | (exfalso; omega) | ((repeat' apply And.intro) <;> first | assumption | rfl | omega | trivial)))) -- o9 e2i.1
          · (rw [q1, show x21 = a13 + 1 by omega, sumN_s q0.1, PX, Int.add_zero]) -- o10 e2i.2
          · exact ms -- o11 e2i.3
          · exact fr -- o12 e2i.4
        · (first | (exact ms) | (exact tq) | (exact ⟨ra.1, by (have T1 := tq.1.2.2.2 a13 q0.1 (by omega); omega), ra.2⟩) | (exact ⟨q0.1, by omega, kz⟩) | (exact RX) | (exact q1) | (exact Or.inl ⟨by omega, rfl⟩) | (exact Or.inr ⟨by omega, rfl⟩) | (first | assumption | omega | ((try dsimp only [jt2, jt3, jt4]); first | omega | (simp (disch := omega) only [jst_eq, jst_ne, jst_ni, jst_o, jI_i, jcpy_out, w32_id, jdiv_nn, jshr_k, jand_255] <;> first | done | omega | assumption)) | (intros; simp (disch := omega) only [jst_eq, jst_ne, jst_ni, jst_o, jI_i, jcpy_out, w32_id, jdiv_nn, *] <;> first | done | omega) | (intros; simp (disch := omega) only [jst_eq, jst_ne, jst_ni, jst_o, jI_i, jcpy_out, w32_id, jdiv_nn] at * <;> first | done | omega | assumption) | (intros; first | rfl | (exfalso; omega) | ((repeat' apply And.intro) <;> first | assumption | rfl | omega | trivial)))) -- o13 e2m
      · skip
        try simp (disch := omega) only [jst_eq, jst_ne, jst_ni, jI_i, jcmp_lt, jcmp_gt, w32_id, jcpy_out, Sum.elim_inl, Sum.elim_inr, jt2, jt3, jt4, jt5, jt6, jt7, jt8] at c2
        have kz : (LV E W (kP K) (kA K) p).2.1 a13 = eK E i8 i6 := by { rcases io1 with u | u; { omega }; { exact u.2 } }
        have PX : pxW E W (kP K) (LV E W (kP K) (kA K) p) (ct E W (kP K) (kA K)) i8 w i6 i2 sg i12 a13 = pmW E W (kP K) (LV E W (kP K) (kA K) p) (ct E W (kP K) (kA K)) i8 w i6 i2 sg i12 a13 := cif_y kz
        have W1 := MT_w ms.2.1 (a := a13) q0.1 (by omega)
        refine OK_jg (by (first | (exact ms) | (exact tq) | (exact ⟨ra.1, by (have T1 := tq.1.2.2.2 a13 q0.1 (by omega); omega), ra.2⟩) | (exact ⟨q0.1, by omega, kz⟩) | (exact RX) | (exact q1) | (exact Or.inl ⟨by omega, rfl⟩) | (exact Or.inr ⟨by omega, rfl⟩) | (first | assumption | omega | ((try dsimp only [jt2, jt3, jt4]); first | omega | (simp (disch := omega) only [jst_eq, jst_ne, jst_ni, jst_o, jI_i, jcpy_out, w32_id, jdiv_nn, jshr_k, jand_255] <;> first | done | omega | assumption)) | (intros; simp (disch := omega) only [jst_eq, jst_ne, jst_ni, jst_o, jI_i, jcpy_out, w32_id, jdiv_nn, *] <;> first | done | omega) | (intros; simp (disch := omega) only [jst_eq, jst_ne, jst_ni, jst_o, jI_i, jcpy_out, w32_id, jdiv_nn] at * <;> first | done | omega | assumption) | (intros; first | rfl | (exfalso; omega) | ((repeat' apply And.intro) <;> first | assumption | rfl | omega | trivial))))) ?_ -- o14
        refine OK_jg (by (first | (exact ms) | (exact tq) | (exact ⟨ra.1, by (have T1 := tq.1.2.2.2 a13 q0.1 (by omega); omega), ra.2⟩) | (exact ⟨q0.1, by omega, kz⟩) | (exact RX) | (exact q1) | (exact Or.inl ⟨by omega, rfl⟩) | (exact Or.inr ⟨by omega, rfl⟩) | (first | assumption | omega | ((try dsimp only [jt2, jt3, jt4]); first | omega | (simp (disch := omega) only [jst_eq, jst_ne, jst_ni, jst_o, jI_i, jcpy_out, w32_id, jdiv_nn, jshr_k, jand_255] <;> first | done | omega | assumption)) | (intros; simp (disch := omega) only [jst_eq, jst_ne, jst_ni, jst_o, jI_i, jcpy_out, w32_id, jdiv_nn, *] <;> first | done | omega) | (intros; simp (disch := omega) only [jst_eq, jst_ne, jst_ni, jst_o, jI_i, jcpy_out, w32_id, jdiv_nn] at * <;> first | done | omega | assumption) | (intros; first | rfl | (exfalso; omega) | ((repeat' apply And.intro) <;> first | assumption | rfl | omega | trivial))))) ?_ -- o15
        refine OK_if (fun c3 => ?_) (fun c3 => ?_)
        · skip
          try simp (disch := omega) only [jst_eq, jst_ne, jst_ni, jI_i, jcmp_lt, jcmp_gt, w32_id, jcpy_out, Sum.elim_inl, Sum.elim_inr, jt2, jt3, jt4, jt5, jt6, jt7, jt8] at c3
          refine OK_if (fun c4 => ?_) (fun c4 => ?_)
          · skip
            try simp (disch := omega) only [jst_eq, jst_ne, jst_ni, jI_i, jcmp_lt, jcmp_gt, w32_id, jcpy_out, Sum.elim_inl, Sum.elim_inr, jt2, jt3, jt4, jt5, jt6, jt7, jt8] at c4
            unfold gX14_rest_j133_83
            refine OK_jb (vX14_rest_l135 (E := E) (Rf := Rf) (W := W) (K := K) (tp := tp) (p := p) (T := T) (w := w) (sg := sg) (used := used) (b0 := sumN (pxW E W (kP K) (LV E W (kP K) (kA K) p) (ct E W (kP K) (kA K)) i8 w i6 i2 sg i12) a13.toNat) _ _ _ _ _ _ _ _ _ _ (by (first | (exact ms) | (exact tq) | (exact ⟨ra.1, by (have T1 := tq.1.2.2.2 a13 q0.1 (by omega); omega), ra.2⟩) | (exact ⟨q0.1, by omega, kz⟩) | (exact RX) | (exact q1) | (exact Or.inl ⟨by omega, rfl⟩) | (exact Or.inr ⟨by omega, rfl⟩) | (first | assumption | omega | ((try dsimp only [jt2, jt3, jt4]); first | omega | (simp (disch := omega) only [jst_eq, jst_ne, jst_ni, jst_o, jI_i, jcpy_out, w32_id, jdiv_nn, jshr_k, jand_255] <;> first | done | omega | assumption)) | (intros; simp (disch := omega) only [jst_eq, jst_ne, jst_ni, jst_o, jI_i, jcpy_out, w32_id, jdiv_nn, *] <;> first | done | omega) | (intros; simp (disch := omega) only [jst_eq, jst_ne, jst_ni, jst_o, jI_i, jcpy_out, w32_id, jdiv_nn] at * <;> first | done | omega | assumption) | (intros; first | rfl | (exfalso; omega) | ((repeat' apply And.intro) <;> first | assumption | rfl | omega | trivial))))) (by (first | (exact ms) | (exact tq) | (exact ⟨ra.1, by (have T1 := tq.1.2.2.2 a13 q0.1 (by omega); omega), ra.2⟩) | (exact ⟨q0.1, by omega, kz⟩) | (exact RX) | (exact q1) | (exact Or.inl ⟨by omega, rfl⟩) | (exact Or.inr ⟨by omega, rfl⟩) | (first | assumption | omega | ((try dsimp only [jt2, jt3, jt4]); first | omega | (simp (disch := omega) only [jst_eq, jst_ne, jst_ni, jst_o, jI_i, jcpy_out, w32_id, jdiv_nn, jshr_k, jand_255] <;> first | done | omega | assumption)) | (intros; simp (disch := omega) only [jst_eq, jst_ne, jst_ni, jst_o, jI_i, jcpy_out, w32_id, jdiv_nn, *] <;> first | done | omega) | (intros; simp (disch := omega) only [jst_eq, jst_ne, jst_ni, jst_o, jI_i, jcpy_out, w32_id, jdiv_nn] at * <;> first | done | omega | assumption) | (intros; first | rfl | (exfalso; omega) | ((repeat' apply And.intro) <;> first | assumption | rfl | omega | trivial))))) (by (first | (exact ms) | (exact tq) | (exact ⟨ra.1, by (have T1 := tq.1.2.2.2 a13 q0.1 (by omega); omega), ra.2⟩) | (exact ⟨q0.1, by omega, kz⟩) | (exact RX) | (exact q1) | (exact Or.inl ⟨by omega, rfl⟩) | (exact Or.inr ⟨by omega, rfl⟩) | (first | assumption | omega | ((try dsimp only [jt2, jt3, jt4]); first | omega | (simp (disch := omega) only [jst_eq, jst_ne, jst_ni, jst_o, jI_i, jcpy_out, w32_id, jdiv_nn, jshr_k, jand_255] <;> first | done | omega | assumption)) | (intros; simp (disch := omega) only [jst_eq, jst_ne, jst_ni, jst_o, jI_i, jcpy_out, w32_id, jdiv_nn, *] <;> first | done | omega) | (intros; simp (disch := omega) only [jst_eq, jst_ne, jst_ni, jst_o, jI_i, jcpy_out, w32_id, jdiv_nn] at * <;> first | done | omega | assumption) | (intros; first | rfl | (exfalso; omega) | ((repeat' apply And.intro) <;> first | assumption | rfl | omega | trivial))))) (by (first | (exact ms) | (exact tq) | (exact ⟨ra.1, by (have T1 := tq.1.2.2.2 a13 q0.1 (by omega); omega), ra.2⟩) | (exact ⟨q0.1, by omega, kz⟩) | (exact RX) | (exact q1) | (exact Or.inl ⟨by omega, rfl⟩) | (exact Or.inr ⟨by omega, rfl⟩) | (first | assumption | omega | ((try dsimp only [jt2, jt3, jt4]); first | omega | (simp (disch := omega) only [jst_eq, jst_ne, jst_ni, jst_o, jI_i, jcpy_out, w32_id, jdiv_nn, jshr_k, jand_255] <;> first | done | omega | assumption)) | (intros; simp (disch := omega) only [jst_eq, jst_ne, jst_ni, jst_o, jI_i, jcpy_out, w32_id, jdiv_nn, *] <;> first | done | omega) | (intros; simp (disch := omega) only [jst_eq, jst_ne, jst_ni, jst_o, jI_i, jcpy_out, w32_id, jdiv_nn] at * <;> first | done | omega | assumption) | (intros; first | rfl | (exfalso; omega) | ((repeat' apply And.intro) <;> first | assumption | rfl | omega | trivial))))) (by (first | (exact ms) | (exact tq) | (exact ⟨ra.1, by (have T1 := tq.1.2.2.2 a13 q0.1 (by omega); omega), ra.2⟩) | (exact ⟨q0.1, by omega, kz⟩) | (exact RX) | (exact q1) | (exact Or.inl ⟨by omega, rfl⟩) | (exact Or.inr ⟨by omega, rfl⟩) | (first | assumption | omega | ((try dsimp only [jt2, jt3, jt4]); first | omega | (simp (disch := omega) only [jst_eq, jst_ne, jst_ni, jst_o, jI_i, jcpy_out, w32_id, jdiv_nn, jshr_k, jand_255] <;> first | done | omega | assumption)) | (intros; simp (disch := omega) only [jst_eq, jst_ne, jst_ni, jst_o, jI_i, jcpy_out, w32_id, jdiv_nn, *] <;> first | done | omega) | (intros; simp (disch := omega) only [jst_eq, jst_ne, jst_ni, jst_o, jI_i, jcpy_out, w32_id, jdiv_nn] at * <;> first | done | omega | assumption) | (intros; first | rfl | (exfalso; omega) | ((repeat' apply And.intro) <;> first | assumption | rfl | omega | trivial))))) (by (first | (exact ms) | (exact tq) | (exact ⟨ra.1, by (have T1 := tq.1.2.2.2 a13 q0.1 (by omega); omega), ra.2⟩) | (exact ⟨q0.1, by omega, kz⟩) | (exact RX) | (exact q1) | (exact Or.inl ⟨by omega, rfl⟩) | (exact Or.inr ⟨by omega, rfl⟩) | (first | assumption | omega | ((try dsimp only [jt2, jt3, jt4]); first | omega | (simp (disch := omega) only [jst_eq, jst_ne, jst_ni, jst_o, jI_i, jcpy_out, w32_id, jdiv_nn, jshr_k, jand_255] <;> first | done | omega | assumption)) | (intros; simp (disch := omega) only [jst_eq, jst_ne, jst_ni, jst_o, jI_i, jcpy_out, w32_id, jdiv_nn, *] <;> first | done | omega) | (intros; simp (disch := omega) only [jst_eq, jst_ne, jst_ni, jst_o, jI_i, jcpy_out, w32_id, jdiv_nn] at * <;> first | done | omega | assumption) | (intros; first | rfl | (exfalso; omega) | ((repeat' apply And.intro) <;> first | assumption | rfl | omega | trivial))))) (by (first | (exact ms) | (exact tq) | (exact ⟨ra.1, by (have T1 := tq.1.2.2.2 a13 q0.1 (by omega); omega), ra.2⟩) | (exact ⟨q0.1, by omega, kz⟩) | (exact RX) | (exact q1) | (exact Or.inl ⟨by omega, rfl⟩) | (exact Or.inr ⟨by omega, rfl⟩) | (first | assumption | omega | ((try dsimp only [jt2, jt3, jt4]); first | omega | (simp (disch := omega) only [jst_eq, jst_ne, jst_ni, jst_o, jI_i, jcpy_out, w32_id, jdiv_nn, jshr_k, jand_255] <;> first | done | omega | assumption)) | (intros; simp (disch := omega) only [jst_eq, jst_ne, jst_ni, jst_o, jI_i, jcpy_out, w32_id, jdiv_nn, *] <;> first | done | omega) | (intros; simp (disch := omega) only [jst_eq, jst_ne, jst_ni, jst_o, jI_i, jcpy_out, w32_id, jdiv_nn] at * <;> first | done | omega | assumption) | (intros; first | rfl | (exfalso; omega) | ((repeat' apply And.intro) <;> first | assumption | rfl | omega | trivial)))))) (fun o22 r2 => ?_)
            obtain ⟨y24, h25⟩ := o22
            refine OK_jt2 ?_
            try dsimp only [Sum.elim_inl, Sum.elim_inr, jt2, jt3, jt4, jt5, jt6, jt7, jt8] at r2
            obtain ⟨vv2, mr2, fs2⟩ := r2
            try simp (disch := omega) only [jst_eq, jst_ne, jst_ni, jI_i, jcmp_lt, jcmp_gt, w32_id, jcpy_out, Sum.elim_inl, Sum.elim_inr, jt2, jt3, jt4, jt5, jt6, jt7, jt8] at vv2
            try simp (disch := omega) only [jst_eq, jst_ne, jst_ni, jI_i, jcmp_lt, jcmp_gt, w32_id, jcpy_out, Sum.elim_inl, Sum.elim_inr, jt2, jt3, jt4, jt5, jt6, jt7, jt8] at mr2
            try simp (disch := omega) only [jst_eq, jst_ne, jst_ni, jI_i, jcmp_lt, jcmp_gt, w32_id, jcpy_out, Sum.elim_inl, Sum.elim_inr, jt2, jt3, jt4, jt5, jt6, jt7, jt8] at fs2
            unfold gX14_rest_j411_83
            refine OK_jlx (fun x21 ex21 => ?_)
            try simp (disch := omega) only [jst_eq, jst_ne, jst_ni, jI_i, jcmp_lt, jcmp_gt, w32_id, jcpy_out, Sum.elim_inl, Sum.elim_inr, jt2, jt3, jt4, jt5, jt6, jt7, jt8] at ex21
            refine OK_il ?_ ?_
            · try dsimp only [Sum.elim_inl, Sum.elim_inr, jt2, jt3, jt4, jt5, jt6, jt7, jt8]
              refine ⟨?_, ?_, ?_, ?_⟩
              · (first | (exact ms) | (exact tq) | (exact ⟨ra.1, by (have T1 := tq.1.2.2.2 a13 q0.1 (by omega); omega), ra.2⟩) | (exact ⟨q0.1, by omega, kz⟩) | (exact RX) | (exact q1) | (exact Or.inl ⟨by omega, rfl⟩) | (exact Or.inr ⟨by omega, rfl⟩) | (first | assumption | omega | ((try dsimp only [jt2, jt3, jt4]); first | omega | (simp (disch := omega) only [jst_eq, jst_ne, jst_ni, jst_o, jI_i, jcpy_out, w32_id, jdiv_nn, jshr_k, jand_255] <;> first | done | omega | assumption)) | (intros; simp (disch := omega) only [jst_eq, jst_ne, jst_ni, jst_o, jI_i, jcpy_out, w32_id, jdiv_nn, *] <;> first | done | omega) | (intros; simp (disch := omega) only [jst_eq, jst_ne, jst_ni, jst_o, jI_i, jcpy_out, w32_id, jdiv_nn] at * <;> first | done | omega | assumption) | (intros; first | rfl | (exfalso; omega) | ((repeat' apply And.intro) <;> first | assumption | rfl | omega | trivial)))) -- o23 e3i.1
              · (rw [show y24 = _ from vv2, show x21 = a13 + 1 by omega, sumN_s q0.1, PX]) -- o24 e3i.2
              · exact mr2 -- o25 e3i.3
              · exact fR_t fr fs2 -- o26 e3i.4
            · (first | (exact ms) | (exact tq) | (exact ⟨ra.1, by (have T1 := tq.1.2.2.2 a13 q0.1 (by omega); omega), ra.2⟩) | (exact ⟨q0.1, by omega, kz⟩) | (exact RX) | (exact q1) | (exact Or.inl ⟨by omega, rfl⟩) | (exact Or.inr ⟨by omega, rfl⟩) | (first | assumption | omega | ((try dsimp only [jt2, jt3, jt4]); first | omega | (simp (disch := omega) only [jst_eq, jst_ne, jst_ni, jst_o, jI_i, jcpy_out, w32_id, jdiv_nn, jshr_k, jand_255] <;> first | done | omega | assumption)) | (intros; simp (disch := omega) only [jst_eq, jst_ne, jst_ni, jst_o, jI_i, jcpy_out, w32_id, jdiv_nn, *] <;> first | done | omega) | (intros; simp (disch := omega) only [jst_eq, jst_ne, jst_ni, jst_o, jI_i, jcpy_out, w32_id, jdiv_nn] at * <;> first | done | omega | assumption) | (intros; first | rfl | (exfalso; omega) | ((repeat' apply And.intro) <;> first | assumption | rfl | omega | trivial)))) -- o27 e3m
          · skip
            try simp (disch := omega) only [jst_eq, jst_ne, jst_ni, jI_i, jcmp_lt, jcmp_gt, w32_id, jcpy_out, Sum.elim_inl, Sum.elim_inr, jt2, jt3, jt4, jt5, jt6, jt7, jt8] at c4
            unfold gX14_rest_j133_83
            refine OK_jb (vX14_rest_l135 (E := E) (Rf := Rf) (W := W) (K := K) (tp := tp) (p := p) (T := T) (w := w) (sg := sg) (used := used) (b0 := sumN (pxW E W (kP K) (LV E W (kP K) (kA K) p) (ct E W (kP K) (kA K)) i8 w i6 i2 sg i12) a13.toNat) _ _ _ _ _ _ _ _ _ _ (by (first | (exact ms) | (exact tq) | (exact ⟨ra.1, by (have T1 := tq.1.2.2.2 a13 q0.1 (by omega); omega), ra.2⟩) | (exact ⟨q0.1, by omega, kz⟩) | (exact RX) | (exact q1) | (exact Or.inl ⟨by omega, rfl⟩) | (exact Or.inr ⟨by omega, rfl⟩) | (first | assumption | omega | ((try dsimp only [jt2, jt3, jt4]); first | omega | (simp (disch := omega) only [jst_eq, jst_ne, jst_ni, jst_o, jI_i, jcpy_out, w32_id, jdiv_nn, jshr_k, jand_255] <;> first | done | omega | assumption)) | (intros; simp (disch := omega) only [jst_eq, jst_ne, jst_ni, jst_o, jI_i, jcpy_out, w32_id, jdiv_nn, *] <;> first | done | omega) | (intros; simp (disch := omega) only [jst_eq, jst_ne, jst_ni, jst_o, jI_i, jcpy_out, w32_id, jdiv_nn] at * <;> first | done | omega | assumption) | (intros; first | rfl | (exfalso; omega) | ((repeat' apply And.intro) <;> first | assumption | rfl | omega | trivial))))) (by (first | (exact ms) | (exact tq) | (exact ⟨ra.1, by (have T1 := tq.1.2.2.2 a13 q0.1 (by omega); omega), ra.2⟩) | (exact ⟨q0.1, by omega, kz⟩) | (exact RX) | (exact q1) | (exact Or.inl ⟨by omega, rfl⟩) | (exact Or.inr ⟨by omega, rfl⟩) | (first | assumption | omega | ((try dsimp only [jt2, jt3, jt4]); first | omega | (simp (disch := omega) only [jst_eq, jst_ne, jst_ni, jst_o, jI_i, jcpy_out, w32_id, jdiv_nn, jshr_k, jand_255] <;> first | done | omega | assumption)) | (intros; simp (disch := omega) only [jst_eq, jst_ne, jst_ni, jst_o, jI_i, jcpy_out, w32_id, jdiv_nn, *] <;> first | done | omega) | (intros; simp (disch := omega) only [jst_eq, jst_ne, jst_ni, jst_o, jI_i, jcpy_out, w32_id, jdiv_nn] at * <;> first | done | omega | assumption) | (intros; first | rfl | (exfalso; omega) | ((repeat' apply And.intro) <;> first | assumption | rfl | omega | trivial))))) (by (first | (exact ms) | (exact tq) | (exact ⟨ra.1, by (have T1 := tq.1.2.2.2 a13 q0.1 (by omega); omega), ra.2⟩) | (exact ⟨q0.1, by omega, kz⟩) | (exact RX) | (exact q1) | (exact Or.inl ⟨by omega, rfl⟩) | (exact Or.inr ⟨by omega, rfl⟩) | (first | assumption | omega | ((try dsimp only [jt2, jt3, jt4]); first | omega | (simp (disch := omega) only [jst_eq, jst_ne, jst_ni, jst_o, jI_i, jcpy_out, w32_id, jdiv_nn, jshr_k, jand_255] <;> first | done | omega | assumption)) | (intros; simp (disch := omega) only [jst_eq, jst_ne, jst_ni, jst_o, jI_i, jcpy_out, w32_id, jdiv_nn, *] <;> first | done | omega) | (intros; simp (disch := omega) only [jst_eq, jst_ne, jst_ni, jst_o, jI_i, jcpy_out, w32_id, jdiv_nn] at * <;> first | done | omega | assumption) | (intros; first | rfl | (exfalso; omega) | ((repeat' apply And.intro) <;> first | assumption | rfl | omega | trivial))))) (by (first | (exact ms) | (exact tq) | (exact ⟨ra.1, by (have T1 := tq.1.2.2.2 a13 q0.1 (by omega); omega), ra.2⟩) | (exact ⟨q0.1, by omega, kz⟩) | (exact RX) | (exact q1) | (exact Or.inl ⟨by omega, rfl⟩) | (exact Or.inr ⟨by omega, rfl⟩) | (first | assumption | omega | ((try dsimp only [jt2, jt3, jt4]); first | omega | (simp (disch := omega) only [jst_eq, jst_ne, jst_ni, jst_o, jI_i, jcpy_out, w32_id, jdiv_nn, jshr_k, jand_255] <;> first | done | omega | assumption)) | (intros; simp (disch := omega) only [jst_eq, jst_ne, jst_ni, jst_o, jI_i, jcpy_out, w32_id, jdiv_nn, *] <;> first | done | omega) | (intros; simp (disch := omega) only [jst_eq, jst_ne, jst_ni, jst_o, jI_i, jcpy_out, w32_id, jdiv_nn] at * <;> first | done | omega | assumption) | (intros; first | rfl | (exfalso; omega) | ((repeat' apply And.intro) <;> first | assumption | rfl | omega | trivial))))) (by (first | (exact ms) | (exact tq) | (exact ⟨ra.1, by (have T1 := tq.1.2.2.2 a13 q0.1 (by omega); omega), ra.2⟩) | (exact ⟨q0.1, by omega, kz⟩) | (exact RX) | (exact q1) | (exact Or.inl ⟨by omega, rfl⟩) | (exact Or.inr ⟨by omega, rfl⟩) | (first | assumption | omega | ((try dsimp only [jt2, jt3, jt4]); first | omega | (simp (disch := omega) only [jst_eq, jst_ne, jst_ni, jst_o, jI_i, jcpy_out, w32_id, jdiv_nn, jshr_k, jand_255] <;> first | done | omega | assumption)) | (intros; simp (disch := omega) only [jst_eq, jst_ne, jst_ni, jst_o, jI_i, jcpy_out, w32_id, jdiv_nn, *] <;> first | done | omega) | (intros; simp (disch := omega) only [jst_eq, jst_ne, jst_ni, jst_o, jI_i, jcpy_out, w32_id, jdiv_nn] at * <;> first | done | omega | assumption) | (intros; first | rfl | (exfalso; omega) | ((repeat' apply And.intro) <;> first | assumption | rfl | omega | trivial))))) (by (first | (exact ms) | (exact tq) | (exact ⟨ra.1, by (have T1 := tq.1.2.2.2 a13 q0.1 (by omega); omega), ra.2⟩) | (exact ⟨q0.1, by omega, kz⟩) | (exact RX) | (exact q1) | (exact Or.inl ⟨by omega, rfl⟩) | (exact Or.inr ⟨by omega, rfl⟩) | (first | assumption | omega | ((try dsimp only [jt2, jt3, jt4]); first | omega | (simp (disch := omega) only [jst_eq, jst_ne, jst_ni, jst_o, jI_i, jcpy_out, w32_id, jdiv_nn, jshr_k, jand_255] <;> first | done | omega | assumption)) | (intros; simp (disch := omega) only [jst_eq, jst_ne, jst_ni, jst_o, jI_i, jcpy_out, w32_id, jdiv_nn, *] <;> first | done | omega) | (intros; simp (disch := omega) only [jst_eq, jst_ne, jst_ni, jst_o, jI_i, jcpy_out, w32_id, jdiv_nn] at * <;> first | done | omega | assumption) | (intros; first | rfl | (exfalso; omega) | ((repeat' apply And.intro) <;> first | assumption | rfl | omega | trivial))))) (by (first | (exact ms) | (exact tq) | (exact ⟨ra.1, by (have T1 := tq.1.2.2.2 a13 q0.1 (by omega); omega), ra.2⟩) | (exact ⟨q0.1, by omega, kz⟩) | (exact RX) | (exact q1) | (exact Or.inl ⟨by omega, rfl⟩) | (exact Or.inr ⟨by omega, rfl⟩) | (first | assumption | omega | ((try dsimp only [jt2, jt3, jt4]); first | omega | (simp (disch := omega) only [jst_eq, jst_ne, jst_ni, jst_o, jI_i, jcpy_out, w32_id, jdiv_nn, jshr_k, jand_255] <;> first | done | omega | assumption)) | (intros; simp (disch := omega) only [jst_eq, jst_ne, jst_ni, jst_o, jI_i, jcpy_out, w32_id, jdiv_nn, *] <;> first | done | omega) | (intros; simp (disch := omega) only [jst_eq, jst_ne, jst_ni, jst_o, jI_i, jcpy_out, w32_id, jdiv_nn] at * <;> first | done | omega | assumption) | (intros; first | rfl | (exfalso; omega) | ((repeat' apply And.intro) <;> first | assumption | rfl | omega | trivial)))))) (fun o22 r3 => ?_)
            obtain ⟨y24, h25⟩ := o22
            refine OK_jt2 ?_
            try dsimp only [Sum.elim_inl, Sum.elim_inr, jt2, jt3, jt4, jt5, jt6, jt7, jt8] at r3
            obtain ⟨vv3, mr3, fs3⟩ := r3
            try simp (disch := omega) only [jst_eq, jst_ne, jst_ni, jI_i, jcmp_lt, jcmp_gt, w32_id, jcpy_out, Sum.elim_inl, Sum.elim_inr, jt2, jt3, jt4, jt5, jt6, jt7, jt8] at vv3
            try simp (disch := omega) only [jst_eq, jst_ne, jst_ni, jI_i, jcmp_lt, jcmp_gt, w32_id, jcpy_out, Sum.elim_inl, Sum.elim_inr, jt2, jt3, jt4, jt5, jt6, jt7, jt8] at mr3
            try simp (disch := omega) only [jst_eq, jst_ne, jst_ni, jI_i, jcmp_lt, jcmp_gt, w32_id, jcpy_out, Sum.elim_inl, Sum.elim_inr, jt2, jt3, jt4, jt5, jt6, jt7, jt8] at fs3
            unfold gX14_rest_j411_83
            refine OK_jlx (fun x21 ex21 => ?_)
            try simp (disch := omega) only [jst_eq, jst_ne, jst_ni, jI_i, jcmp_lt, jcmp_gt, w32_id, jcpy_out, Sum.elim_inl, Sum.elim_inr, jt2, jt3, jt4, jt5, jt6, jt7, jt8] at ex21
            refine OK_il ?_ ?_
            · try dsimp only [Sum.elim_inl, Sum.elim_inr, jt2, jt3, jt4, jt5, jt6, jt7, jt8]
              refine ⟨?_, ?_, ?_, ?_⟩
              · (first | (exact ms) | (exact tq) | (exact ⟨ra.1, by (have T1 := tq.1.2.2.2 a13 q0.1 (by omega); omega), ra.2⟩) | (exact ⟨q0.1, by omega, kz⟩) | (exact RX) | (exact q1) | (exact Or.inl ⟨by omega, rfl⟩) | (exact Or.inr ⟨by omega, rfl⟩) | (first | assumption | omega | ((try dsimp only [jt2, jt3, jt4]); first | omega | (simp (disch := omega) only [jst_eq, jst_ne, jst_ni, jst_o, jI_i, jcpy_out, w32_id, jdiv_nn, jshr_k, jand_255] <;> first | done | omega | assumption)) | (intros; simp (disch := omega) only [jst_eq, jst_ne, jst_ni, jst_o, jI_i, jcpy_out, w32_id, jdiv_nn, *] <;> first | done | omega) | (intros; simp (disch := omega) only [jst_eq, jst_ne, jst_ni, jst_o, jI_i, jcpy_out, w32_id, jdiv_nn] at * <;> first | done | omega | assumption) | (intros; first | rfl | (exfalso; omega) | ((repeat' apply And.intro) <;> first | assumption | rfl | omega | trivial)))) -- o35 e4i.1
              · (rw [show y24 = _ from vv3, show x21 = a13 + 1 by omega, sumN_s q0.1, PX]) -- o36 e4i.2
              · exact mr3 -- o37 e4i.3
              · exact fR_t fr fs3 -- o38 e4i.4
            · (first | (exact ms) | (exact tq) | (exact ⟨ra.1, by (have T1 := tq.1.2.2.2 a13 q0.1 (by omega); omega), ra.2⟩) | (exact ⟨q0.1, by omega, kz⟩) | (exact RX) | (exact q1) | (exact Or.inl ⟨by omega, rfl⟩) | (exact Or.inr ⟨by omega, rfl⟩) | (first | assumption | omega | ((try dsimp only [jt2, jt3, jt4]); first | omega | (simp (disch := omega) only [jst_eq, jst_ne, jst_ni, jst_o, jI_i, jcpy_out, w32_id, jdiv_nn, jshr_k, jand_255] <;> first | done | omega | assumption)) | (intros; simp (disch := omega) only [jst_eq, jst_ne, jst_ni, jst_o, jI_i, jcpy_out, w32_id, jdiv_nn, *] <;> first | done | omega) | (intros; simp (disch := omega) only [jst_eq, jst_ne, jst_ni, jst_o, jI_i, jcpy_out, w32_id, jdiv_nn] at * <;> first | done | omega | assumption) | (intros; first | rfl | (exfalso; omega) | ((repeat' apply And.intro) <;> first | assumption | rfl | omega | trivial)))) -- o39 e4m
        · skip
          try simp (disch := omega) only [jst_eq, jst_ne, jst_ni, jI_i, jcmp_lt, jcmp_gt, w32_id, jcpy_out, Sum.elim_inl, Sum.elim_inr, jt2, jt3, jt4, jt5, jt6, jt7, jt8] at c3
          have PM0 : pmW E W (kP K) (LV E W (kP K) (kA K) p) (ct E W (kP K) (kA K)) i8 w i6 i2 sg i12 a13 = 0 := pm_z tq.1 ra.2 q0.1 (by omega)
          unfold gX14_rest_j411_83
          refine OK_jlx (fun x21 ex21 => ?_)
          try simp (disch := omega) only [jst_eq, jst_ne, jst_ni, jI_i, jcmp_lt, jcmp_gt, w32_id, jcpy_out, Sum.elim_inl, Sum.elim_inr, jt2, jt3, jt4, jt5, jt6, jt7, jt8] at ex21
          refine OK_il ?_ ?_
          · try dsimp only [Sum.elim_inl, Sum.elim_inr, jt2, jt3, jt4, jt5, jt6, jt7, jt8]
            refine ⟨?_, ?_, ?_, ?_⟩
            · (first | (exact ms) | (exact tq) | (exact ⟨ra.1, by (have T1 := tq.1.2.2.2 a13 q0.1 (by omega); omega), ra.2⟩) | (exact ⟨q0.1, by omega, kz⟩) | (exact RX) | (exact q1) | (exact Or.inl ⟨by omega, rfl⟩) | (exact Or.inr ⟨by omega, rfl⟩) | (first | assumption | omega | ((try dsimp only [jt2, jt3, jt4]); first | omega | (simp (disch := omega) only [jst_eq, jst_ne, jst_ni, jst_o, jI_i, jcpy_out, w32_id, jdiv_nn, jshr_k, jand_255] <;> first | done | omega | assumption)) | (intros; simp (disch := omega) only [jst_eq, jst_ne, jst_ni, jst_o, jI_i, jcpy_out, w32_id, jdiv_nn, *] <;> first | done | omega) | (intros; simp (disch := omega) only [jst_eq, jst_ne, jst_ni, jst_o, jI_i, jcpy_out, w32_id, jdiv_nn] at * <;> first | done | omega | assumption) | (intros; first | rfl | (exfalso; omega) | ((repeat' apply And.intro) <;> first | assumption | rfl | omega | trivial)))) -- o40 e5i.1
            · (rw [q1, show x21 = a13 + 1 by omega, sumN_s q0.1, PX, PM0, Int.add_zero]) -- o41 e5i.2
            · exact ms -- o42 e5i.3
            · exact fr -- o43 e5i.4
          · (first | (exact ms) | (exact tq) | (exact ⟨ra.1, by (have T1 := tq.1.2.2.2 a13 q0.1 (by omega); omega), ra.2⟩) | (exact ⟨q0.1, by omega, kz⟩) | (exact RX) | (exact q1) | (exact Or.inl ⟨by omega, rfl⟩) | (exact Or.inr ⟨by omega, rfl⟩) | (first | assumption | omega | ((try dsimp only [jt2, jt3, jt4]); first | omega | (simp (disch := omega) only [jst_eq, jst_ne, jst_ni, jst_o, jI_i, jcpy_out, w32_id, jdiv_nn, jshr_k, jand_255] <;> first | done | omega | assumption)) | (intros; simp (disch := omega) only [jst_eq, jst_ne, jst_ni, jst_o, jI_i, jcpy_out, w32_id, jdiv_nn, *] <;> first | done | omega) | (intros; simp (disch := omega) only [jst_eq, jst_ne, jst_ni, jst_o, jI_i, jcpy_out, w32_id, jdiv_nn] at * <;> first | done | omega | assumption) | (intros; first | rfl | (exfalso; omega) | ((repeat' apply And.intro) <;> first | assumption | rfl | omega | trivial)))) -- o44 e5m
  · try dsimp only [Sum.elim_inl, Sum.elim_inr, jt2, jt3, jt4, jt5, jt6, jt7, jt8]
    refine ⟨?_, ?_, ?_, ?_⟩
    · (have l := LV_0 (E := E) (W := W) (pts := kP K) (A := kA K) p; omega) -- o45 init.1
    · (rw [z.1, z.2]; rfl) -- o46 init.2
    · exact mr -- o47 init.3
    · exact fun _ _ _ _ _ => rfl -- o48 init.4
theorem vX14_rest (a1 : Int) (a2 : Int) (a3 : Int) (a4 : Int) (a5 : Int) (a6 : Int) (a7 : Int) {h : AH} {E : EV} {Rf : Int → TR} {W : Int → Int → Int → VW} {K : AK} {tp : Int} {p : Nat} {T : TB} {w sg : Int → Int} {used ac : Int} (mr : MR h E Rf W K tp p T ((p : Int) + 1)) (tq : tqM E W K p p) (ia : (0 ≤ a1 ∧ a1 < (kA K).2.2.2.1) ∧ (kA K).2.2.2.2.1 a1 = ac ∧ 0 ≤ ac ∧ ac < E.1.1) (op : opS E W (kP K) (kA K) p ac a6 used sg ∧ sg 0 = a3 ∧ sg 1 = a4 ∧ sg 2 = a5) (pr : (kA K).2.2.2.2.2.2.2 a1 + used + a2 ≤ p ∧ 0 ≤ used ∧ 0 ≤ a2 ∧ 0 ≤ a6 ∧ a6 ≤ eO E ac) (rx : rowM h a7 w (LV E W (kP K) (kA K) p).1) (wb : ∀ f, 0 ≤ w f ∧ (0 ≤ f → w f < 9223372036854775808)) : OK (gX14_rest a1 a2 a3 a4 a5 a6 a7 h) (fun r => jt2 r fun v h' => (v = w64 (rsW E W (kP K) (LV E W (kP K) (kA K) p) (ct E W (kP K) (kA K)) ac w (eO E ac - a6).toNat a6 a2 sg)) ∧ (MR h' E Rf W K tp p T ((p : Int) + 1)) ∧ (fR h h')) := by
  have a0 := akM_0 mr.1
  have pc := a0.2.1.2.2.1
  have np12 := pc.2.2.1
  have PC := pc.2.2.2 a1 ia.1.1 ia.1.2
  have am := a0.1.2.1.1
  have oo := a0.1.2.1.2.1.2.2.1 _ ia.2.2.1 ia.2.2.2
  have n12 := tq.1.1.1
  have pp := (tq.1.1.2.2.2.1.2.2 a1 ia.1.1 ia.1.2).1
  have N44 := mr.2.2.1.1
  have L120 := tq.2.2
  unfold gX14_rest
  refine OK_jg (by (first | (exact a0.1.1) | ((rw [jI_i]; have z1 := am.2.2.1; omega)) | (first | assumption | omega | ((try dsimp only [jt2, jt3, jt4]); first | omega | (simp (disch := omega) only [jst_eq, jst_ne, jst_ni, jst_o, jI_i, jcpy_out, w32_id, jdiv_nn, jshr_k, jand_255] <;> first | done | omega | assumption)) | (intros; simp (disch := omega) only [jst_eq, jst_ne, jst_ni, jst_o, jI_i, jcpy_out, w32_id, jdiv_nn, *] <;> first | done | omega) | (intros; simp (disch := omega) only [jst_eq, jst_ne, jst_ni, jst_o, jI_i, jcpy_out, w32_id, jdiv_nn] at * <;> first | done | omega | assumption) | (intros; first | rfl | (exfalso; omega) | ((repeat' apply And.intro) <;> first | assumption | rfl | omega | trivial))))) ?_ -- o1
  refine OK_jg (by (first | (exact a0.1.1) | ((rw [jI_i]; have z1 := am.2.2.1; omega)) | (first | assumption | omega | ((try dsimp only [jt2, jt3, jt4]); first | omega | (simp (disch := omega) only [jst_eq, jst_ne, jst_ni, jst_o, jI_i, jcpy_out, w32_id, jdiv_nn, jshr_k, jand_255] <;> first | done | omega | assumption)) | (intros; simp (disch := omega) only [jst_eq, jst_ne, jst_ni, jst_o, jI_i, jcpy_out, w32_id, jdiv_nn, *] <;> first | done | omega) | (intros; simp (disch := omega) only [jst_eq, jst_ne, jst_ni, jst_o, jI_i, jcpy_out, w32_id, jdiv_nn] at * <;> first | done | omega | assumption) | (intros; first | rfl | (exfalso; omega) | ((repeat' apply And.intro) <;> first | assumption | rfl | omega | trivial))))) ?_ -- o2
  refine OK_jlx (fun x1 ex1 => ?_)
  try simp (disch := omega) only [jst_eq, jst_ne, jst_ni, jI_i, jcmp_lt, jcmp_gt, w32_id, jcpy_out, Sum.elim_inl, Sum.elim_inr, jt2, jt3, jt4, jt5, jt6, jt7, jt8] at ex1
  have x1e : x1 = ac := by { first | omega | exact (ex1.trans PC.1).trans ia.2.1 }
  subst x1e
  refine OK_jg (by (first | (exact a0.1.1) | ((rw [jI_i]; have z1 := am.2.2.1; omega)) | (first | assumption | omega | ((try dsimp only [jt2, jt3, jt4]); first | omega | (simp (disch := omega) only [jst_eq, jst_ne, jst_ni, jst_o, jI_i, jcpy_out, w32_id, jdiv_nn, jshr_k, jand_255] <;> first | done | omega | assumption)) | (intros; simp (disch := omega) only [jst_eq, jst_ne, jst_ni, jst_o, jI_i, jcpy_out, w32_id, jdiv_nn, *] <;> first | done | omega) | (intros; simp (disch := omega) only [jst_eq, jst_ne, jst_ni, jst_o, jI_i, jcpy_out, w32_id, jdiv_nn] at * <;> first | done | omega | assumption) | (intros; first | rfl | (exfalso; omega) | ((repeat' apply And.intro) <;> first | assumption | rfl | omega | trivial))))) ?_ -- o3
  refine OK_jlx (fun x2 ex2 => ?_)
  try simp (disch := omega) only [jst_eq, jst_ne, jst_ni, jI_i, jcmp_lt, jcmp_gt, w32_id, jcpy_out, Sum.elim_inl, Sum.elim_inr, jt2, jt3, jt4, jt5, jt6, jt7, jt8] at ex2
  have x2e : eO E x1 = x2 := by { rw [← oper_eq ia.2.2.1, ← (am.2.2.2 _ ia.2.2.1 ia.2.2.2).2.1]; first | exact ex2.symm | (rw [ex2]) }
  refine OK_if (fun c1 => ?_) (fun c1 => ?_)
  · skip
    try simp (disch := omega) only [jst_eq, jst_ne, jst_ni, jI_i, jcmp_lt, jcmp_gt, w32_id, jcpy_out, Sum.elim_inl, Sum.elim_inr, jt2, jt3, jt4, jt5, jt6, jt7, jt8] at c1
    have OT := opS_T tq.1 tq.2.1 ia op.1 (by omega) (by omega) (by omega)
    have IXE : ixS E W (kP K) (LV E W (kP K) (kA K) p) x1 sg = ixC E W (kP K) (LV E W (kP K) (kA K) p) x1 a3 a4 a5 := by { show ixC E W (kP K) (LV E W (kP K) (kA K) p) x1 (sg 0) (sg 1) (sg 2) = _; rw [op.2.1, op.2.2.1, op.2.2.2] }
    have OTr := OT.2.2.2.1
    rw [op.2.1, op.2.2.1, op.2.2.2] at OT
    refine OK_if (fun c2 => ?_) (fun c2 => ?_)
    · skip
      try simp (disch := omega) only [jst_eq, jst_ne, jst_ni, jI_i, jcmp_lt, jcmp_gt, w32_id, jcpy_out, Sum.elim_inl, Sum.elim_inr, jt2, jt3, jt4, jt5, jt6, jt7, jt8] at c2
      refine OK_jb2 (vX14_result (E := E) (Rf := Rf) (W := W) (K := K) (tp := tp) (p := p) (T := T) _ _ _ _ (by exact ⟨mr.1, mr.2.1, mr.2.2.1, ia.2.2, OT.1, OT.2.1⟩)) (fun v6 h7 r1 => ?_)
      try dsimp only [Sum.elim_inl, Sum.elim_inr, jt2, jt3, jt4, jt5, jt6, jt7, jt8] at r1
      obtain ⟨rs1, cm1, fs1⟩ := r1
      try simp (disch := omega) only [jst_eq, jst_ne, jst_ni, jI_i, jcmp_lt, jcmp_gt, w32_id, jcpy_out, Sum.elim_inl, Sum.elim_inr, jt2, jt3, jt4, jt5, jt6, jt7, jt8] at rs1
      try simp (disch := omega) only [jst_eq, jst_ne, jst_ni, jI_i, jcmp_lt, jcmp_gt, w32_id, jcpy_out, Sum.elim_inl, Sum.elim_inr, jt2, jt3, jt4, jt5, jt6, jt7, jt8] at cm1
      try simp (disch := omega) only [jst_eq, jst_ne, jst_ni, jI_i, jcmp_lt, jcmp_gt, w32_id, jcpy_out, Sum.elim_inl, Sum.elim_inr, jt2, jt3, jt4, jt5, jt6, jt7, jt8] at fs1
      have M2 := MR_R mr (by omega) fs1.1 cm1 fs1.2
      have V5 : v6 = ixS E W (kP K) (LV E W (kP K) (kA K) p) x1 sg := (show v6 = _ from rs1).trans IXE.symm
      have N5 := M2.2.2.1.1
      have RX := rowM_R rx fs1.1
      have RX1 := RX.2.1
      have W5 : h7 a7 v6 = w (ixS E W (kP K) (LV E W (kP K) (kA K) p) x1 sg) := by { rw [V5]; exact RX.2.2 _ OTr.1 OTr.2 }
      have WB0 := (wb (ixS E W (kP K) (LV E W (kP K) (kA K) p) x1 sg)).1
      have WB := (wb (ixS E W (kP K) (LV E W (kP K) (kA K) p) x1 sg)).2 OTr.1
      refine OK_if (fun c3 => ?_) (fun c3 => ?_)
      · skip
        try simp (disch := omega) only [jst_eq, jst_ne, jst_ni, jI_i, jcmp_lt, jcmp_gt, w32_id, jcpy_out, Sum.elim_inl, Sum.elim_inr, jt2, jt3, jt4, jt5, jt6, jt7, jt8] at c3
        exfalso
        omega
      · skip
        try simp (disch := omega) only [jst_eq, jst_ne, jst_ni, jI_i, jcmp_lt, jcmp_gt, w32_id, jcpy_out, Sum.elim_inl, Sum.elim_inr, jt2, jt3, jt4, jt5, jt6, jt7, jt8] at c3
        refine OK_if (fun c4 => ?_) (fun c4 => ?_)
        · skip
          try simp (disch := omega) only [jst_eq, jst_ne, jst_ni, jI_i, jcmp_lt, jcmp_gt, w32_id, jcpy_out, Sum.elim_inl, Sum.elim_inr, jt2, jt3, jt4, jt5, jt6, jt7, jt8] at c4
          refine OK_jg (by (first | (exact a0.1.1) | ((rw [jI_i]; have z1 := am.2.2.1; omega)) | (first | assumption | omega | ((try dsimp only [jt2, jt3, jt4]); first | omega | (simp (disch := omega) only [jst_eq, jst_ne, jst_ni, jst_o, jI_i, jcpy_out, w32_id, jdiv_nn, jshr_k, jand_255] <;> first | done | omega | assumption)) | (intros; simp (disch := omega) only [jst_eq, jst_ne, jst_ni, jst_o, jI_i, jcpy_out, w32_id, jdiv_nn, *] <;> first | done | omega) | (intros; simp (disch := omega) only [jst_eq, jst_ne, jst_ni, jst_o, jI_i, jcpy_out, w32_id, jdiv_nn] at * <;> first | done | omega | assumption) | (intros; first | rfl | (exfalso; omega) | ((repeat' apply And.intro) <;> first | assumption | rfl | omega | trivial))))) ?_ -- o5
          refine OK_some ?_
          try dsimp only [Sum.elim_inl, Sum.elim_inr, jt2, jt3, jt4, jt5, jt6, jt7, jt8]
          try dsimp only [Sum.elim_inl, Sum.elim_inr, jt2, jt3, jt4, jt5, jt6, jt7, jt8]
          refine ⟨?_, ?_, ?_⟩
          · (have m0 : (eO E x1 - a6).toNat = 0 := (by omega); have e : rsW E W (kP K) (LV E W (kP K) (kA K) p) (ct E W (kP K) (kA K)) x1 w 0 a6 a2 sg = w (ixS E W (kP K) (LV E W (kP K) (kA K) p) x1 sg) := if_pos (by omega); rw [m0, W5, e]; exact (w64_id (by omega) (by omega)).symm) -- o6 e1.1
          · exact M2 -- o7 e1.2
          · exact fs1.1 -- o8 e1.3
        · skip
          try simp (disch := omega) only [jst_eq, jst_ne, jst_ni, jI_i, jcmp_lt, jcmp_gt, w32_id, jcpy_out, Sum.elim_inl, Sum.elim_inr, jt2, jt3, jt4, jt5, jt6, jt7, jt8] at c4
          exfalso
          omega
    · skip
      try simp (disch := omega) only [jst_eq, jst_ne, jst_ni, jI_i, jcmp_lt, jcmp_gt, w32_id, jcpy_out, Sum.elim_inl, Sum.elim_inr, jt2, jt3, jt4, jt5, jt6, jt7, jt8] at c2
      refine OK_some ?_
      try dsimp only [Sum.elim_inl, Sum.elim_inr, jt2, jt3, jt4, jt5, jt6, jt7, jt8]
      try dsimp only [Sum.elim_inl, Sum.elim_inr, jt2, jt3, jt4, jt5, jt6, jt7, jt8]
      refine ⟨?_, ?_, ?_⟩
      · (have m0 : (eO E x1 - a6).toNat = 0 := (by omega); have e : rsW E W (kP K) (LV E W (kP K) (kA K) p) (ct E W (kP K) (kA K)) x1 w 0 a6 a2 sg = 0 := if_neg (by omega); rw [m0, e]; rfl) -- o9 e2.1
      · exact mr -- o10 e2.2
      · exact fun _ _ _ _ _ => rfl -- o11 e2.3
  · skip
    try simp (disch := omega) only [jst_eq, jst_ne, jst_ni, jI_i, jcmp_lt, jcmp_gt, w32_id, jcpy_out, Sum.elim_inl, Sum.elim_inr, jt2, jt3, jt4, jt5, jt6, jt7, jt8] at c1
    refine OK_jlx (fun x10 ex10 => ?_)
    try simp (disch := omega) only [jst_eq, jst_ne, jst_ni, jI_i, jcmp_lt, jcmp_gt, w32_id, jcpy_out, Sum.elim_inl, Sum.elim_inr, jt2, jt3, jt4, jt5, jt6, jt7, jt8] at ex10
    have X10 : x10 = eO E x1 - a6 := by { first | omega | (rw [ex10, w32_id (by omega) (by omega)]; omega) }
    refine OK_jb (vX14_rest_l83 (E := E) (Rf := Rf) (W := W) (K := K) (tp := tp) (p := p) (T := T) (w := w) (sg := sg) (used := used) _ _ _ _ _ _ _ _ _ (by exact mr) (by exact tq) (by exact ⟨⟨⟨a1, ia, by omega⟩, ⟨X10, by omega, pr.2.2.2.1, by omega⟩, ⟨op.1, op.2.1, op.2.2.1⟩, pr.2.1, pr.2.2.1⟩, by omega⟩) (by exact rx) (by exact ⟨rfl, rfl⟩)) (fun o11 r2 => ?_)
    obtain ⟨y13, h14⟩ := o11
    refine OK_jt2 ?_
    try dsimp only [Sum.elim_inl, Sum.elim_inr, jt2, jt3, jt4, jt5, jt6, jt7, jt8] at r2
    obtain ⟨vv2, mr2, fs2⟩ := r2
    try simp (disch := omega) only [jst_eq, jst_ne, jst_ni, jI_i, jcmp_lt, jcmp_gt, w32_id, jcpy_out, Sum.elim_inl, Sum.elim_inr, jt2, jt3, jt4, jt5, jt6, jt7, jt8] at vv2
    try simp (disch := omega) only [jst_eq, jst_ne, jst_ni, jI_i, jcmp_lt, jcmp_gt, w32_id, jcpy_out, Sum.elim_inl, Sum.elim_inr, jt2, jt3, jt4, jt5, jt6, jt7, jt8] at mr2
    try simp (disch := omega) only [jst_eq, jst_ne, jst_ni, jI_i, jcmp_lt, jcmp_gt, w32_id, jcpy_out, Sum.elim_inl, Sum.elim_inr, jt2, jt3, jt4, jt5, jt6, jt7, jt8] at fs2
    refine OK_some ?_
    try dsimp only [Sum.elim_inl, Sum.elim_inr, jt2, jt3, jt4, jt5, jt6, jt7, jt8]
    try dsimp only [Sum.elim_inl, Sum.elim_inr, jt2, jt3, jt4, jt5, jt6, jt7, jt8]
    refine ⟨?_, ?_, ?_⟩
    · (rw [show y13 = _ from vv2, X10]) -- o17 e3.1
    · exact mr2 -- o18 e3.2
    · exact fs2 -- o19 e3.3

