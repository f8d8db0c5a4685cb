/-! x: what the operands of a price weigh -/
/-- operands that are chosen so far -/
def opS (E : EV) (W : Int → Int → Int → VW) (pts : Int) (A : AD) (n : Nat) (ac k used : Int) (s : Int → Int) : Prop := (∀ j, 0 ≤ j → j < k → 0 ≤ s j ∧ s j < (LV E W pts A n).1 ∧ (LV E W pts A n).2.1 (s j) = eK E ac j) ∧ (∀ j, k ≤ j → s j = -1) ∧ wO (LV E W pts A n) (s 0) + wO (LV E W pts A n) (s 1) + wO (LV E W pts A n) (s 2) ≤ used
section OPS
variable {E : EV} {W : Int → Int → Int → VW} {pts : Int} {A : AD} {n : Nat} {T : TB} {ac k used : Int} {s : Int → Int}
theorem opS_0 (ac : Int) : opS E W pts A n ac 0 0 s0T := ⟨fun j a b => by omega, fun j _ => rfl, by show wO _ (-1) + wO _ (-1) + wO _ (-1) ≤ (0 : Int); rw [wO_n]; decide⟩
theorem opS_1 {f r : Int} (o : opS E W pts A n ac k used s) (k0 : 0 ≤ k ∧ k < 3) (f0 : 0 ≤ f ∧ f < (LV E W pts A n).1) (kf : (LV E W pts A n).2.1 f = eK E ac k) (wf : (LV E W pts A n).2.2.1 f ≤ r) : opS E W pts A n ac (k + 1) (used + r) (up1 s k f) := by
  refine ⟨fun j a b => ?_, fun j a => ?_, ?_⟩
  · by_cases y : j = k
    · rw [y, up1_e]
      exact ⟨f0.1, f0.2, kf⟩
    · rw [up1_o y]
      exact o.1 j a (by omega)
  · rw [up1_o (by omega)]
    exact o.2.1 j (by omega)
  · have sk := o.2.1 k (Int.le_refl _)
    have wk : wO (LV E W pts A n) (s k) = 0 := by rw [sk, wO_n]
    have wf2 : wO (LV E W pts A n) f = (LV E W pts A n).2.2.1 f := wO_0 f0.1
    have o2 := o.2.2
    rcases (show k = 0 ∨ k = 1 ∨ k = 2 by omega) with y | y | y <;> subst y
    · rw [up1_e, up1_o (by decide), up1_o (by decide)]; omega
    · rw [up1_e, up1_o (by decide), up1_o (by decide)]; omega
    · rw [up1_e, up1_o (by decide), up1_o (by decide)]; omega
theorem opS_ar (o : opS E W pts A n ac k used s) (e : k = eO E ac) (e1 : 1 ≤ k ∧ k ≤ 3) : arT E (LV E W pts A n) (LV E W pts A n).1 ac (s 0) (s 1) (s 2) ∧ (LV E W pts A n).2.2.1 (s 0) + wO (LV E W pts A n) (s 1) + wO (LV E W pts A n) (s 2) ≤ used := by
  have a0 := o.1 0 (by omega) (by omega)
  have o2 := o.2.2
  rw [wO_0 a0.1] at o2
  refine ⟨⟨a0, ?_⟩, o2⟩
  rcases (show k = 1 ∨ k = 2 ∨ k = 3 by omega) with y | y | y
  · exact Or.inl ⟨by omega, o.2.1 1 (by omega), o.2.1 2 (by omega)⟩
  · exact Or.inr (Or.inl ⟨by omega, o.1 1 (by omega) (by omega), o.2.1 2 (by omega)⟩)
  · exact Or.inr (Or.inr ⟨by omega, o.1 1 (by omega) (by omega), o.1 2 (by omega) (by omega)⟩)
/-- all operands: what stands in the table -/
theorem opS_T (tq : TQ E W pts A n T) (d : dsT pts T) {i : Int} (ia : (0 ≤ i ∧ i < A.2.2.2.1) ∧ A.2.2.2.2.1 i = ac ∧ 0 ≤ ac ∧ ac < E.1.1) (o : opS E W pts A n ac k used s) (e : k = eO E ac) (e1 : 1 ≤ k ∧ k ≤ 3) (l : A.2.2.2.2.2.2.2 i + used ≤ n) : arT E T T.1 ac (s 0) (s 1) (s 2) ∧ hasT pts T (eK E ac (eO E ac)) (mkV E W T.2.2.2.2.2 ac (s 0) (s 1) (s 2)) ∧ ixS E W pts T ac s = ixS E W pts (LV E W pts A n) ac s ∧ (0 ≤ ixS E W pts T ac s ∧ ixS E W pts T ac s < (LV E W pts A n).1) ∧ ∀ p, 0 ≤ p → p < pts → GVP E ac (vlO T.2.2.2.2.2 (s 0) p) (vlO T.2.2.2.2.2 (s 1) p) (vlO T.2.2.2.2.2 (s 2) p) := by
  have ar := opS_ar o e e1
  have HT := hs_T tq d ia.1 ia.2.1 ia.2.2 ar.1 (by omega)
  refine ⟨HT.1, HT.2.1, HT.2.2.1, ?_, HT.2.2.2.2⟩
  show 0 ≤ ixC E W pts T ac (s 0) (s 1) (s 2) ∧ ixC E W pts T ac (s 0) (s 1) (s 2) < _
  rw [HT.2.2.1]
  exact HT.2.2.2.1
end OPS
/-- x with all that is counted up to a price -/
def JXq (h : AH) (E : EV) (Rf : Int → TR) (W : Int → Int → Int → VW) (A : AD) (pts wh : Int) (rv : Int → Int) (M : Int → (Int → Int) → Prop) (T : TB) (n : Nat) : Prop := seX h E Rf W (fun _ _ _ => 0) A pts wh rv ∧ XI h E W A pts M T ∧ ∀ (i f : Int), 0 ≤ i → i ≤ (n : Int) → 0 ≤ f → f < 120 → h 321 (120 * i + f) = ct E W pts A i f
/-- rows of weights from lo on are free -/
def fWx (lo : Int) (h h' : AH) : Prop := ∀ a s, ¬ (a = 200 ∧ (s = 9 ∨ s = 10)) → ¬ (a = 269 ∧ 0 ≤ s) → ¬ (a = 307 ∧ s = 0) → ¬ (308 ≤ a ∧ a ≤ 320 ∧ a ≠ 314 ∧ a ≠ 318 ∧ a ≠ 319 ∧ 0 ≤ s) → ¬ (a = 322 ∧ lo ≤ s) → h' a s = h a s
theorem fWx_r {lo : Int} (h : AH) : fWx lo h h := fun _ _ _ _ _ _ _ => rfl
theorem fWx_t {lo : Int} {h h1 h2 : AH} (a : fWx lo h h1) (b : fWx lo h1 h2) : fWx lo h h2 := fun x s y1 y2 y3 y4 y5 => (b x s y1 y2 y3 y4 y5).trans (a x s y1 y2 y3 y4 y5)
theorem fG_W {lo : Int} {h h' : AH} (f : fG h h') : fWx lo h h' := fun a s y1 y2 y3 y4 _ => f a s y1 y2 y3 y4
theorem fWx_le {lo lo' : Int} {h h' : AH} (f : fWx lo' h h') (l : lo ≤ lo') : fWx lo h h' := fun a s y1 y2 y3 y4 y5 => f a s y1 y2 y3 y4 (by omega)
theorem fWx_A {lo : Int} {h h' : AH} (f : fWx lo h h') (l : 0 ≤ lo) : agX h h' := fun a s y => by
  unfold nA at y
  exact f a s (by omega) (by omega) (by omega) (by omega) (by omega)
/-- the table does not see other cells -/
theorem XI_w {h h' : AH} {E : EV} {W : Int → Int → Int → VW} {A : AD} {pts : Int} {M : Int → (Int → Int) → Prop} {T : TB} (f : ∀ a s, 0 ≤ s → ((a = 200 ∧ s = 16) ∨ a = 271 ∨ a = 289 ∨ (a = 307 ∧ s = 0) ∨ (308 ≤ a ∧ a ≤ 317 ∧ a ≠ 314)) → h' a s = h a s) (x : XI h E W A pts M T) : XI h' E W A pts M T := by
  obtain ⟨x1, x2, x3, x4, x5⟩ := x
  refine ⟨x1, ?_, ⟨fun k x y k0 k1 x0 x1 y0 y1 => ?_, fun x y z x0 x1 y0 y1 z0 z1 => ?_⟩, meX_f (fun s s0 _ => f 315 s (by omega) (by omega)) x4, x5⟩
  · unfold tX tbX at *
    obtain ⟨t1, t2, t3, t4, t5, t6, t7, t8⟩ := x2
    have xx : h 200 16 = 271 ∨ h 200 16 = 289 := t1
    have e16 : h' 200 16 = h 200 16 := f _ _ (by omega) (by omega)
    refine ⟨by rw [e16]; exact t1, by rw [e16, f _ _ (by omega) (by omega)]; exact t2, t3, t4, by rw [f _ _ (by omega) (by omega)]; exact t5, t6, t7, fun x x0 x1 => ?_⟩
    obtain ⟨c1, c2, c3, c4, c5, c6⟩ := t8 x x0 x1
    refine ⟨?_, ?_, ?_, fun i i0 i1 => ?_, fun p p0 p1 => ?_, ?_⟩
    · rw [f _ _ (by omega) (by omega)]; exact c1
    · rw [f _ _ (by omega) (by omega)]; exact c2
    · rw [f _ _ (by omega) (by omega)]; exact c3
    · rw [f _ _ (by omega) (by omega)]; exact c4 i i0 i1
    · rw [f _ _ (by omega) (by omega)]; exact c5 p p0 p1
    · rw [f _ _ (by omega) (by omega)]; exact c6
  · rw [f 316 _ (ntI_0 k0 x0 y0) (by omega)]
    exact x3.1 k x y k0 k1 x0 x1 y0 y1
  · rw [f 317 _ (ntI_0 x0 y0 z0) (by omega)]
    exact x3.2 x y z x0 x1 y0 y1 z0 z1
section JXS
variable {h h' : AH} {E : EV} {Rf : Int → TR} {W : Int → Int → Int → VW} {A : AD} {pts wh : Int} {rv : Int → Int} {M : Int → (Int → Int) → Prop} {T : TB} {n : Nat} {ac k used : Int} {s : Int → Int}
theorem JX_G (j : JXq h E Rf W A pts wh rv M T n) (f : fG h h') (x : XI h' E W A pts M T) (b : b10 h') : JXq h' E Rf W A pts wh rv M T n := ⟨seX_G j.1 f b, x, fun i f' a b' c d => by rw [f _ _ (by omega) (by omega) (by omega) (by omega)]; exact j.2.2 i f' a b' c d⟩
/-- a change that x's table does not see -/
theorem JX_n (j : JXq h E Rf W A pts wh rv M T n) (f : ∀ a s, ¬ (a = 307 ∧ 1 ≤ s) → ¬ (322 ≤ a ∧ a ≤ 329 ∧ 0 ≤ s) → h' a s = h a s) : JXq h' E Rf W A pts wh rv M T n := by
  refine ⟨seX_n j.1 (fun a s y => ?_) ?_, XI_w (fun a s s0 y => f a s (by omega) (by omega)) j.2.1, fun i f' a b' c d => ?_⟩
  · unfold nA at y
    exact f a s (by omega) (by omega)
  · unfold b10
    rw [f _ _ (by omega) (by omega)]
    exact j.1.1.2.2.2.2
  · rw [f _ _ (by omega) (by omega)]
    exact j.2.2 i f' a b' c d
theorem JX_b (j : JXq h E Rf W A pts wh rv M T n) : b10 h := j.1.1.2.2.2.2
/-- all operands: what x's table has of them -/
theorem op_T (tq : TQ E W pts A n T) (d : dsT pts T) {i x y z : Int} (ia : (0 ≤ i ∧ i < A.2.2.2.1) ∧ A.2.2.2.2.1 i = ac ∧ 0 ≤ ac ∧ ac < E.1.1) (o : opS E W pts A n ac k used s) (e : k = eO E ac) (e1 : 1 ≤ k ∧ k ≤ 3) (l : A.2.2.2.2.2.2.2 i + used ≤ n) (s0 : s 0 = x) (s1 : s 1 = y) (s2 : s 2 = z) : arT E T T.1 ac x y z ∧ hasT pts T (eK E ac (eO E ac)) (mkV E W T.2.2.2.2.2 ac x y z) ∧ ixC E W pts T ac x y z = ixS E W pts T ac s ∧ (0 ≤ ixS E W pts T ac s ∧ ixS E W pts T ac s < T.1) ∧ ∀ p, 0 ≤ p → p < pts → GVP E ac (vlO T.2.2.2.2.2 x p) (vlO T.2.2.2.2.2 y p) (vlO T.2.2.2.2.2 z p) := by
  have HT := opS_T tq d ia o e e1 l
  have lx := tq.2.1.1
  subst s0
  subst s1
  subst s2
  exact ⟨HT.1, HT.2.1, rfl, by omega, HT.2.2.2.2⟩
end JXS
/-- what one more operand weighs -/
noncomputable def g1W (E : EV) (W : Int → Int → Int → VW) (pts : Int) (T : TB) (c : Int → Int → Int) (ac : Int) (w : Int → Int) (k left : Int) (s : Int → Int) (f : Int) : Int := cif (T.2.1 f = eK E ac k) (c left f * w (ixS E W pts T ac (up1 s k f))) 0
noncomputable def g2Y (E : EV) (W : Int → Int → Int → VW) (pts : Int) (T : TB) (c : Int → Int → Int) (ac : Int) (w : Int → Int) (k left : Int) (s : Int → Int) (f g : Int) : Int := cif (T.2.1 g = eK E ac (k + 1)) (w2C c left f g * w (ixS E W pts T ac (up1 (up1 s k f) (k + 1) g))) 0
noncomputable def g2W (E : EV) (W : Int → Int → Int → VW) (pts : Int) (T : TB) (c : Int → Int → Int) (ac : Int) (w : Int → Int) (k left : Int) (s : Int → Int) (f : Int) : Int := cif (T.2.1 f = eK E ac k) (sumN (g2Y E W pts T c ac w k left s f) T.1.toNat) 0
noncomputable def aTW (E : EV) (W : Int → Int → Int → VW) (pts : Int) (T : TB) (c : Int → Int → Int) (ac : Int) (w : Int → Int) (m : Nat) (k left : Int) (s : Int → Int) (r f : Int) : Int := c r f * owW E W pts T c ac w m k left s r f
section G1S
variable {E : EV} {W : Int → Int → Int → VW} {pts : Int} {T : TB} {c : Int → Int → Int} {ac : Int} {w : Int → Int} {k left : Int} {s : Int → Int}
theorem g1_rs (l0 : 0 ≤ left) : sumN (g1W E W pts T c ac w k left s) T.1.toNat = rsW E W pts T c ac w 1 k left s := (rs1 l0).symm
theorem g2_rs (l0 : 0 ≤ left) (c0 : ∀ f, c 0 f = 0) : sumN (g2W E W pts T c ac w k left s) T.1.toNat = rsW E W pts T c ac w 2 k left s := (rs2 l0 c0).symm
theorem aT_al {m : Nat} {r : Int} : sumN (aTW E W pts T c ac w m k left s r) T.1.toNat = alW E W pts T c ac w m k left s r := rfl
theorem aT_le (c0 : ∀ i f, 0 ≤ c i f) (w0 : ∀ f, 0 ≤ w f) {m : Nat} {r f : Int} (f0 : 0 ≤ f ∧ f < T.1) : aTW E W pts T c ac w m k left s r f ≤ alW E W pts T c ac w m k left s r := sumN_t (f := aTW E W pts T c ac w m k left s r) (fun j _ => Int.mul_nonneg (c0 _ _) (owT_0 c0 w0)) f0.1 (by omega)
/-- what is kept is small if the whole is -/
theorem ow_le (c0 : ∀ i f, 0 ≤ c i f) (w0 : ∀ f, 0 ≤ w f) {m : Nat} {r f : Int} (f0 : 0 ≤ f ∧ f < T.1) : owW E W pts T c ac w m k left s r f ≤ alW E W pts T c ac w m k left s r := by
  have a := aT_le (E := E) (W := W) (pts := pts) (ac := ac) (k := k) (left := left) (s := s) (m := m) (r := r) c0 w0 f0
  have o := owT_0 (E := E) (W := W) (pts := pts) (L := T) (ac := ac) (k := k) (left := left) (s := s) (m := m) (r := r) (f := f) c0 w0
  by_cases z : c r f = 0
  · have e : owW E W pts T c ac w m k left s r f = 0 := cif_n (fun y => y.2 z)
    have := Int.le_trans (Int.mul_nonneg (c0 r f) o) a
    omega
  · have c1 := c0 r f
    have : 1 * owW E W pts T c ac w m k left s r f ≤ c r f * owW E W pts T c ac w m k left s r f := Int.mul_le_mul_of_nonneg_right (by omega) o
    have b : c r f * owW E W pts T c ac w m k left s r f ≤ alW E W pts T c ac w m k left s r := a
    omega
end G1S
theorem vX5_weigh_l144 (i1 : Int) (i2 : Int) (i3 : Int) (i4 : Int) (i5 : Int) (i6 : Int) (i7 : Int) (i8 : Int) (i9 : Int) (i10 : Int) (i11 : Int) (i13 : Int) (a140 : Int) (a160 : Int) {h0 : AH} {E : EV} {Rf : Int → TR} {W : Int → Int → Int → VW} {A : AD} {pts wh : Int} {rv : Int → Int} {M : Int → (Int → Int) → Prop} {T : TB} {n : Nat} {w sg : Int → Int} {used : Int} (jx : JXq h0 E Rf W A pts wh rv M T n) (tq : TQ E W pts A n T) (ia : (0 ≤ i1 ∧ i1 < A.2.2.2.1) ∧ A.2.2.2.2.1 i1 = i10 ∧ 0 ≤ i10 ∧ i10 < E.1.1) (io : i3 = eO E i10 ∧ i2 = i3 - 2 ∧ (i3 = 2 ∨ i3 = 3)) (op : opS E W pts A n i10 (i2 + 1) used sg ∧ sg i2 = i13 ∧ sg 0 = (if i3 = 2 then i13 else i6)) (pr : A.2.2.2.2.2.2.2 i1 + used + i5 ≤ n ∧ 0 ≤ used ∧ 0 ≤ i5) (wr : (0 ≤ i8 ∧ i8 ≤ 4680) ∧ ∀ f, 0 ≤ f → f < T.1 → h0 322 (i8 + f) = w f) (z : a140 = 0 ∧ a160 = 0) : OK (gX5_weigh_l144 i1 i2 i3 i4 i5 i6 i7 i8 i9 i10 i11 i13 a140 a160 h0) (fun r => jt2 r fun v h' => (v = w64 (rsW E W pts T (ct E W pts A) i10 w 1 (i2 + 1) i5 sg)) ∧ (JXq h' E Rf W A pts wh rv M T n) ∧ (fG h0 h' ∧ b10 h')) := by
  unfold gX5_weigh_l144
  refine OK_jit (I := (fun (s : Int × Int × AH) => jt3 s fun a14 a16 h => (0 ≤ a16 ∧ a16 ≤ T.1) ∧ (a14 = w64 (sumN (g1W E W pts T (ct E W pts A) i10 w (i2 + 1) i5 sg) a16.toNat)) ∧ (JXq h E Rf W A pts wh rv M T n) ∧ (fG h0 h ∧ b10 h))) (m := (fun (s : Int × Int × AH) => jt3 s fun a14 a16 h => (T.1 - a16).toNat)) ?_ ?_
  · intro s hs
    obtain ⟨a14, a16, h⟩ := s
    dsimp only [Sum.elim_inl, Sum.elim_inr, jt2, jt3, jt4, jt5, jt6, jt7, jt8] at hs
    obtain ⟨q0, q1, JJ, fr⟩ := hs
    unfold gX5_weigh_b144
    refine OK_jt3 ?_
    have XX := JJ.2.1
    have CN := JJ.2.2
    have SE := JJ.1
    obtain ⟨H1, H2, H3, H4⟩ := XI_h XX
    have n12 := tq.1.1
    have en := SE.1.2.1
    have pp := (tq.1.2.2.2.1.2.2 i1 ia.1.1 ia.1.2).1
    have w1 : w32 (i2 + 1) = i2 + 1 := w32_id (by omega) (by omega)
    refine OK_if (fun c1 => ?_) (fun c1 => ?_)
    · skip
      try simp (disch := omega) only [jst_eq, jst_ne, jst_ni, jI_i, jcmp_lt, jcmp_gt, w32_id, jcpy_out, Sum.elim_inl, Sum.elim_inr, jt2, jt3, jt4, jt5, jt6, jt7, jt8] at c1
      refine OK_ir ?_
      try dsimp only [Sum.elim_inl, Sum.elim_inr, jt2, jt3, jt4, jt5, jt6, jt7, jt8]
      refine ⟨?_, ?_, ?_⟩
      · (rw [q1, show a16 = T.1 by omega, g1_rs (by omega)]) -- o1 e1.1
      · exact JJ -- o2 e1.2
      · exact fr -- o3 e1.3
    · skip
      try simp (disch := omega) only [jst_eq, jst_ne, jst_ni, jI_i, jcmp_lt, jcmp_gt, w32_id, jcpy_out, Sum.elim_inl, Sum.elim_inr, jt2, jt3, jt4, jt5, jt6, jt7, jt8] at c1
      have h7 := H4 a16 q0.1 (by omega)
      have w54 : w32 (a16 + 1) = a16 + 1 := w32_id (by omega) (by omega)
      refine OK_jg (by (first | ((rw [ex57]; (try rw [w8]); rw [W5, q1, w64_a, show x54 = a16 + 1 by omega, sumN_s q0.1, ST])) | (first | assumption | omega | ((try dsimp only [jt2, jt3, jt4]); first | omega | (simp (disch := omega) only [jst_eq, jst_ne, jst_ni, jst_o, jI_i, jcpy_out, w32_id, jdiv_nn, jshr_k, jand_255] <;> first | done | omega | assumption)) | (intros; simp (disch := omega) only [jst_eq, jst_ne, jst_ni, jst_o, jI_i, jcpy_out, w32_id, jdiv_nn, *] <;> first | done | omega) | (intros; simp (disch := omega) only [jst_eq, jst_ne, jst_ni, jst_o, jI_i, jcpy_out, w32_id, jdiv_nn] at * <;> first | done | omega | assumption) | (intros; first | rfl | (exfalso; omega) | ((repeat' apply And.intro) <;> first | assumption | rfl | omega | trivial))))) ?_ -- o4
      refine OK_jb (vX1_kindOf (nA := E.1.1) (cA := E.1.2.1) (oA := E.1.2.2.1) (wA := E.1.2.2.2.1) (kA := E.1.2.2.2.2) _ _ (by exact en.1) (by (rw [w1]; exact ⟨ia.2.2.1, ia.2.2.2, by omega, by (rw [oper_eq ia.2.2.1]; omega)⟩))) (fun v42 r1 => ?_)
      try dsimp only [Sum.elim_inl, Sum.elim_inr, jt2, jt3, jt4, jt5, jt6, jt7, jt8] at r1
      have v1 := r1
      clear r1
      try simp (disch := omega) only [jst_eq, jst_ne, jst_ni, jI_i, jcmp_lt, jcmp_gt, w32_id, jcpy_out, Sum.elim_inl, Sum.elim_inr, jt2, jt3, jt4, jt5, jt6, jt7, jt8] at v1
      have e42 : v42 = eK E i10 (i2 + 1) := by { rw [← kind_eq ia.2.2.1]; first | assumption | (rw [← w1]; assumption) }
      refine OK_if (fun c2 => ?_) (fun c2 => ?_)
      · skip
        try simp (disch := omega) only [jst_eq, jst_ne, jst_ni, jI_i, jcmp_lt, jcmp_gt, w32_id, jcpy_out, Sum.elim_inl, Sum.elim_inr, jt2, jt3, jt4, jt5, jt6, jt7, jt8] at c2
        have ky : T.2.1 a16 = eK E i10 (i2 + 1) := by { rw [← h7.1]; omega }
        refine OK_jb (vX5_count_2 _ _ (by (first | ((rw [ex57]; (try rw [w8]); rw [W5, q1, w64_a, show x54 = a16 + 1 by omega, sumN_s q0.1, ST])) | (first | assumption | omega | ((try dsimp only [jt2, jt3, jt4]); first | omega | (simp (disch := omega) only [jst_eq, jst_ne, jst_ni, jst_o, jI_i, jcpy_out, w32_id, jdiv_nn, jshr_k, jand_255] <;> first | done | omega | assumption)) | (intros; simp (disch := omega) only [jst_eq, jst_ne, jst_ni, jst_o, jI_i, jcpy_out, w32_id, jdiv_nn, *] <;> first | done | omega) | (intros; simp (disch := omega) only [jst_eq, jst_ne, jst_ni, jst_o, jI_i, jcpy_out, w32_id, jdiv_nn] at * <;> first | done | omega | assumption) | (intros; first | rfl | (exfalso; omega) | ((repeat' apply And.intro) <;> first | assumption | rfl | omega | trivial)))))) (fun v45 r2 => ?_)
        try dsimp only [Sum.elim_inl, Sum.elim_inr, jt2, jt3, jt4, jt5, jt6, jt7, jt8] at r2
        have cv2 := r2
        clear r2
        try simp (disch := omega) only [jst_eq, jst_ne, jst_ni, jI_i, jcmp_lt, jcmp_gt, w32_id, jcpy_out, Sum.elim_inl, Sum.elim_inr, jt2, jt3, jt4, jt5, jt6, jt7, jt8] at cv2
        have V45 : v45 = ct E W pts A i5 a16 := by { rw [show v45 = h 321 (120 * i5 + a16) by first | exact cv2 | assumption, CN i5 a16 (by omega) (by omega) q0.1 (by omega)] }
        refine OK_if (fun c3 => ?_) (fun c3 => ?_)
        · skip
          try simp (disch := omega) only [jst_eq, jst_ne, jst_ni, jI_i, jcmp_lt, jcmp_gt, w32_id, jcpy_out, Sum.elim_inl, Sum.elim_inr, jt2, jt3, jt4, jt5, jt6, jt7, jt8] at c3
          have c3w := jcmp_eq.1 c3
          unfold gX5_weigh_j246_144
          refine OK_jlx (fun x54 ex54 => ?_)
          try simp (disch := omega) only [jst_eq, jst_ne, jst_ni, jI_i, jcmp_lt, jcmp_gt, w32_id, jcpy_out, Sum.elim_inl, Sum.elim_inr, jt2, jt3, jt4, jt5, jt6, jt7, jt8] at ex54
          refine OK_il ?_ ?_
          · try dsimp only [Sum.elim_inl, Sum.elim_inr, jt2, jt3, jt4, jt5, jt6, jt7, jt8]
            refine ⟨?_, ?_, ?_, ?_⟩
            · (first | ((rw [ex57]; (try rw [w8]); rw [W5, q1, w64_a, show x54 = a16 + 1 by omega, sumN_s q0.1, ST])) | (first | assumption | omega | ((try dsimp only [jt2, jt3, jt4]); first | omega | (simp (disch := omega) only [jst_eq, jst_ne, jst_ni, jst_o, jI_i, jcpy_out, w32_id, jdiv_nn, jshr_k, jand_255] <;> first | done | omega | assumption)) | (intros; simp (disch := omega) only [jst_eq, jst_ne, jst_ni, jst_o, jI_i, jcpy_out, w32_id, jdiv_nn, *] <;> first | done | omega) | (intros; simp (disch := omega) only [jst_eq, jst_ne, jst_ni, jst_o, jI_i, jcpy_out, w32_id, jdiv_nn] at * <;> first | done | omega | assumption) | (intros; first | rfl | (exfalso; omega) | ((repeat' apply And.intro) <;> first | assumption | rfl | omega | trivial)))) -- o8 e2i.1
            · (have ST : g1W E W pts T (ct E W pts A) i10 w (i2 + 1) i5 sg a16 = 0 := (by rw [show g1W E W pts T (ct E W pts A) i10 w (i2 + 1) i5 sg a16 = ct E W pts A i5 a16 * _ from cif_y ky, ← V45, c3w, Int.zero_mul]); rw [q1, show x54 = a16 + 1 by omega, sumN_s q0.1, ST, Int.add_zero]) -- o9 e2i.2
            · (first | ((rw [ex57]; (try rw [w8]); rw [W5, q1, w64_a, show x54 = a16 + 1 by omega, sumN_s q0.1, ST])) | (first | assumption | omega | ((try dsimp only [jt2, jt3, jt4]); first | omega | (simp (disch := omega) only [jst_eq, jst_ne, jst_ni, jst_o, jI_i, jcpy_out, w32_id, jdiv_nn, jshr_k, jand_255] <;> first | done | omega | assumption)) | (intros; simp (disch := omega) only [jst_eq, jst_ne, jst_ni, jst_o, jI_i, jcpy_out, w32_id, jdiv_nn, *] <;> first | done | omega) | (intros; simp (disch := omega) only [jst_eq, jst_ne, jst_ni, jst_o, jI_i, jcpy_out, w32_id, jdiv_nn] at * <;> first | done | omega | assumption) | (intros; first | rfl | (exfalso; omega) | ((repeat' apply And.intro) <;> first | assumption | rfl | omega | trivial)))) -- o10 e2i.3
            · (first | ((rw [ex57]; (try rw [w8]); rw [W5, q1, w64_a, show x54 = a16 + 1 by omega, sumN_s q0.1, ST])) | (first | assumption | omega | ((try dsimp only [jt2, jt3, jt4]); first | omega | (simp (disch := omega) only [jst_eq, jst_ne, jst_ni, jst_o, jI_i, jcpy_out, w32_id, jdiv_nn, jshr_k, jand_255] <;> first | done | omega | assumption)) | (intros; simp (disch := omega) only [jst_eq, jst_ne, jst_ni, jst_o, jI_i, jcpy_out, w32_id, jdiv_nn, *] <;> first | done | omega) | (intros; simp (disch := omega) only [jst_eq, jst_ne, jst_ni, jst_o, jI_i, jcpy_out, w32_id, jdiv_nn] at * <;> first | done | omega | assumption) | (intros; first | rfl | (exfalso; omega) | ((repeat' apply And.intro) <;> first | assumption | rfl | omega | trivial)))) -- o11 e2i.4
          · (first | ((rw [ex57]; (try rw [w8]); rw [W5, q1, w64_a, show x54 = a16 + 1 by omega, sumN_s q0.1, ST])) | (first | assumption | omega | ((try dsimp only [jt2, jt3, jt4]); first | omega | (simp (disch := omega) only [jst_eq, jst_ne, jst_ni, jst_o, jI_i, jcpy_out, w32_id, jdiv_nn, jshr_k, jand_255] <;> first | done | omega | assumption)) | (intros; simp (disch := omega) only [jst_eq, jst_ne, jst_ni, jst_o, jI_i, jcpy_out, w32_id, jdiv_nn, *] <;> first | done | omega) | (intros; simp (disch := omega) only [jst_eq, jst_ne, jst_ni, jst_o, jI_i, jcpy_out, w32_id, jdiv_nn] at * <;> first | done | omega | assumption) | (intros; first | rfl | (exfalso; omega) | ((repeat' apply And.intro) <;> first | assumption | rfl | omega | trivial)))) -- o12 e2m
        · skip
          try simp (disch := omega) only [jst_eq, jst_ne, jst_ni, jI_i, jcmp_lt, jcmp_gt, w32_id, jcpy_out, Sum.elim_inl, Sum.elim_inr, jt2, jt3, jt4, jt5, jt6, jt7, jt8] at c3
          have c3w : ¬ v45 = 0 := fun y => c3 (jcmp_eq.2 y)
          have SU := ct_sup tq.1 (i := i5) (f := a16) q0.1 (by omega) (by omega)
          have qx := tq.2.1.2 a16 q0.1 SU.2.1
          have kz : (LV E W pts A n).2.1 a16 = eK E i10 (i2 + 1) := by { rw [← qx.1]; exact ky }
          have OP := opS_1 op.1 (by omega) ⟨q0.1, SU.2.1⟩ kz SU.2.2.2
          refine OK_if (fun c4 => ?_) (fun c4 => ?_)
          · skip
            try simp (disch := omega) only [jst_eq, jst_ne, jst_ni, jI_i, jcmp_lt, jcmp_gt, w32_id, jcpy_out, Sum.elim_inl, Sum.elim_inr, jt2, jt3, jt4, jt5, jt6, jt7, jt8] at c4
            have e0 : up1 sg (i2 + 1) a16 0 = i13 := by { rw [up1_o (by omega), op.2.2, if_pos c4] }
            have e1 : up1 sg (i2 + 1) a16 1 = a16 := by { have y : i2 + 1 = 1 := (by omega); rw [y]; exact up1_e }
            have e2 : up1 sg (i2 + 1) a16 2 = -1 := by { rw [up1_o (by omega)]; exact op.1.2.1 2 (by omega) }
            have OT := op_T tq XX.2.2.2.2 ia OP (by omega) (by omega) (by omega) e0 e1 e2
            refine OK_jb2 (vX5_result (E := E) (Rf := Rf) (W := W) (f := fun _ _ _ => 0) (A := A) (pts := pts) (wh := wh) (rv := rv) (M := M) (T := T) (ac := i10) _ _ _ _ (by exact SE) (by exact XX) (by exact OT.2.2.2.2) (by exact ia) (by exact OT.1) (by exact OT.2.1)) (fun v49 h50 r3 => ?_)
            try dsimp only [Sum.elim_inl, Sum.elim_inr, jt2, jt3, jt4, jt5, jt6, jt7, jt8] at r3
            obtain ⟨rs3, xs3, fs3⟩ := r3
            try simp (disch := omega) only [jst_eq, jst_ne, jst_ni, jI_i, jcmp_lt, jcmp_gt, w32_id, jcpy_out, Sum.elim_inl, Sum.elim_inr, jt2, jt3, jt4, jt5, jt6, jt7, jt8] at rs3
            try simp (disch := omega) only [jst_eq, jst_ne, jst_ni, jI_i, jcmp_lt, jcmp_gt, w32_id, jcpy_out, Sum.elim_inl, Sum.elim_inr, jt2, jt3, jt4, jt5, jt6, jt7, jt8] at xs3
            try simp (disch := omega) only [jst_eq, jst_ne, jst_ni, jI_i, jcmp_lt, jcmp_gt, w32_id, jcpy_out, Sum.elim_inl, Sum.elim_inr, jt2, jt3, jt4, jt5, jt6, jt7, jt8] at fs3
            have J2 := JX_G JJ fs3.1 xs3 fs3.2
            have V49 : v49 = ixS E W pts T i10 (up1 sg (i2 + 1) a16) := by { rw [← OT.2.2.1]; first | exact rs3 | assumption }
            have w8 : w32 (i8 + v49) = i8 + v49 := w32_id (by omega) (by omega)
            have W5 : h50 322 (i8 + v49) = w (ixS E W pts T i10 (up1 sg (i2 + 1) a16)) := by { rw [fs3.1 _ _ (by omega) (by omega) (by omega) (by omega), fr.1 _ _ (by omega) (by omega) (by omega) (by omega), V49]; exact wr.2 _ OT.2.2.2.1.1 OT.2.2.2.1.2 }
            unfold gX5_weigh_j220_144
            refine OK_jb (vX5_count_2 _ _ (by (first | ((rw [ex57]; (try rw [w8]); rw [W5, q1, w64_a, show x54 = a16 + 1 by omega, sumN_s q0.1, ST])) | (first | assumption | omega | ((try dsimp only [jt2, jt3, jt4]); first | omega | (simp (disch := omega) only [jst_eq, jst_ne, jst_ni, jst_o, jI_i, jcpy_out, w32_id, jdiv_nn, jshr_k, jand_255] <;> first | done | omega | assumption)) | (intros; simp (disch := omega) only [jst_eq, jst_ne, jst_ni, jst_o, jI_i, jcpy_out, w32_id, jdiv_nn, *] <;> first | done | omega) | (intros; simp (disch := omega) only [jst_eq, jst_ne, jst_ni, jst_o, jI_i, jcpy_out, w32_id, jdiv_nn] at * <;> first | done | omega | assumption) | (intros; first | rfl | (exfalso; omega) | ((repeat' apply And.intro) <;> first | assumption | rfl | omega | trivial)))))) (fun v56 r4 => ?_)
            try dsimp only [Sum.elim_inl, Sum.elim_inr, jt2, jt3, jt4, jt5, jt6, jt7, jt8] at r4
            have cv4 := r4
            clear r4
            try simp (disch := omega) only [jst_eq, jst_ne, jst_ni, jI_i, jcmp_lt, jcmp_gt, w32_id, jcpy_out, Sum.elim_inl, Sum.elim_inr, jt2, jt3, jt4, jt5, jt6, jt7, jt8] at cv4
            have V56 : v56 = ct E W pts A i5 a16 := by { have q := J2.2.2 i5 a16 (by omega) (by omega) q0.1 (by omega); rw [← q]; assumption }
            have ST : g1W E W pts T (ct E W pts A) i10 w (i2 + 1) i5 sg a16 = v56 * w (ixS E W pts T i10 (up1 sg (i2 + 1) a16)) := by { rw [V56]; exact cif_y ky }
            refine OK_jg (by (first | ((rw [ex57]; (try rw [w8]); rw [W5, q1, w64_a, show x54 = a16 + 1 by omega, sumN_s q0.1, ST])) | (first | assumption | omega | ((try dsimp only [jt2, jt3, jt4]); first | omega | (simp (disch := omega) only [jst_eq, jst_ne, jst_ni, jst_o, jI_i, jcpy_out, w32_id, jdiv_nn, jshr_k, jand_255] <;> first | done | omega | assumption)) | (intros; simp (disch := omega) only [jst_eq, jst_ne, jst_ni, jst_o, jI_i, jcpy_out, w32_id, jdiv_nn, *] <;> first | done | omega) | (intros; simp (disch := omega) only [jst_eq, jst_ne, jst_ni, jst_o, jI_i, jcpy_out, w32_id, jdiv_nn] at * <;> first | done | omega | assumption) | (intros; first | rfl | (exfalso; omega) | ((repeat' apply And.intro) <;> first | assumption | rfl | omega | trivial))))) ?_ -- o20
            refine OK_jlx (fun x57 ex57 => ?_)
            try simp (disch := omega) only [jst_eq, jst_ne, jst_ni, jI_i, jcmp_lt, jcmp_gt, w32_id, jcpy_out, Sum.elim_inl, Sum.elim_inr, jt2, jt3, jt4, jt5, jt6, jt7, jt8] at ex57
            unfold gX5_weigh_j246_144
            refine OK_jlx (fun x54 ex54 => ?_)
            try simp (disch := omega) only [jst_eq, jst_ne, jst_ni, jI_i, jcmp_lt, jcmp_gt, w32_id, jcpy_out, Sum.elim_inl, Sum.elim_inr, jt2, jt3, jt4, jt5, jt6, jt7, jt8] at ex54
            refine OK_il ?_ ?_
            · try dsimp only [Sum.elim_inl, Sum.elim_inr, jt2, jt3, jt4, jt5, jt6, jt7, jt8]
              refine ⟨?_, ?_, ?_, ?_⟩
              · (first | ((rw [ex57]; (try rw [w8]); rw [W5, q1, w64_a, show x54 = a16 + 1 by omega, sumN_s q0.1, ST])) | (first | assumption | omega | ((try dsimp only [jt2, jt3, jt4]); first | omega | (simp (disch := omega) only [jst_eq, jst_ne, jst_ni, jst_o, jI_i, jcpy_out, w32_id, jdiv_nn, jshr_k, jand_255] <;> first | done | omega | assumption)) | (intros; simp (disch := omega) only [jst_eq, jst_ne, jst_ni, jst_o, jI_i, jcpy_out, w32_id, jdiv_nn, *] <;> first | done | omega) | (intros; simp (disch := omega) only [jst_eq, jst_ne, jst_ni, jst_o, jI_i, jcpy_out, w32_id, jdiv_nn] at * <;> first | done | omega | assumption) | (intros; first | rfl | (exfalso; omega) | ((repeat' apply And.intro) <;> first | assumption | rfl | omega | trivial)))) -- o21 e3i.1
              · (first | ((rw [ex57]; (try rw [w8]); rw [W5, q1, w64_a, show x54 = a16 + 1 by omega, sumN_s q0.1, ST])) | (first | assumption | omega | ((try dsimp only [jt2, jt3, jt4]); first | omega | (simp (disch := omega) only [jst_eq, jst_ne, jst_ni, jst_o, jI_i, jcpy_out, w32_id, jdiv_nn, jshr_k, jand_255] <;> first | done | omega | assumption)) | (intros; simp (disch := omega) only [jst_eq, jst_ne, jst_ni, jst_o, jI_i, jcpy_out, w32_id, jdiv_nn, *] <;> first | done | omega) | (intros; simp (disch := omega) only [jst_eq, jst_ne, jst_ni, jst_o, jI_i, jcpy_out, w32_id, jdiv_nn] at * <;> first | done | omega | assumption) | (intros; first | rfl | (exfalso; omega) | ((repeat' apply And.intro) <;> first | assumption | rfl | omega | trivial)))) -- o22 e3i.2
              · exact J2 -- o23 e3i.3
              · exact ⟨fG_t fr.1 fs3.1, fs3.2⟩ -- o24 e3i.4
            · (first | ((rw [ex57]; (try rw [w8]); rw [W5, q1, w64_a, show x54 = a16 + 1 by omega, sumN_s q0.1, ST])) | (first | assumption | omega | ((try dsimp only [jt2, jt3, jt4]); first | omega | (simp (disch := omega) only [jst_eq, jst_ne, jst_ni, jst_o, jI_i, jcpy_out, w32_id, jdiv_nn, jshr_k, jand_255] <;> first | done | omega | assumption)) | (intros; simp (disch := omega) only [jst_eq, jst_ne, jst_ni, jst_o, jI_i, jcpy_out, w32_id, jdiv_nn, *] <;> first | done | omega) | (intros; simp (disch := omega) only [jst_eq, jst_ne, jst_ni, jst_o, jI_i, jcpy_out, w32_id, jdiv_nn] at * <;> first | done | omega | assumption) | (intros; first | rfl | (exfalso; omega) | ((repeat' apply And.intro) <;> first | assumption | rfl | omega | trivial)))) -- o25 e3m
          · skip
            try simp (disch := omega) only [jst_eq, jst_ne, jst_ni, jI_i, jcmp_lt, jcmp_gt, w32_id, jcpy_out, Sum.elim_inl, Sum.elim_inr, jt2, jt3, jt4, jt5, jt6, jt7, jt8] at c4
            have e0 : up1 sg (i2 + 1) a16 0 = i6 := by { rw [up1_o (by omega), op.2.2, if_neg c4] }
            have e1 : up1 sg (i2 + 1) a16 1 = i13 := by { have y : i2 = 1 := (by omega); have y1 := op.2.1; rw [y] at y1; rw [up1_o (by omega)]; exact y1 }
            have e2 : up1 sg (i2 + 1) a16 2 = a16 := by { have y : i2 + 1 = 2 := (by omega); rw [y]; exact up1_e }
            have OT := op_T tq XX.2.2.2.2 ia OP (by omega) (by omega) (by omega) e0 e1 e2
            refine OK_jb2 (vX5_resultOfThree (E := E) (Rf := Rf) (W := W) (f := fun _ _ _ => 0) (A := A) (pts := pts) (wh := wh) (rv := rv) (M := M) (T := T) (ac := i10) _ _ _ _ (by exact SE) (by exact XX) (by exact OT.2.2.2.2) (by exact ia) (by exact ⟨OT.1, by omega⟩) (by exact OT.2.1)) (fun v52 h53 r5 => ?_)
            try dsimp only [Sum.elim_inl, Sum.elim_inr, jt2, jt3, jt4, jt5, jt6, jt7, jt8] at r5
            obtain ⟨rs5, xs5, fs5⟩ := r5
            try simp (disch := omega) only [jst_eq, jst_ne, jst_ni, jI_i, jcmp_lt, jcmp_gt, w32_id, jcpy_out, Sum.elim_inl, Sum.elim_inr, jt2, jt3, jt4, jt5, jt6, jt7, jt8] at rs5
            try simp (disch := omega) only [jst_eq, jst_ne, jst_ni, jI_i, jcmp_lt, jcmp_gt, w32_id, jcpy_out, Sum.elim_inl, Sum.elim_inr, jt2, jt3, jt4, jt5, jt6, jt7, jt8] at xs5
            try simp (disch := omega) only [jst_eq, jst_ne, jst_ni, jI_i, jcmp_lt, jcmp_gt, w32_id, jcpy_out, Sum.elim_inl, Sum.elim_inr, jt2, jt3, jt4, jt5, jt6, jt7, jt8] at fs5
            have J2 := JX_G JJ fs5.1 xs5 fs5.2
            have V49 : v52 = ixS E W pts T i10 (up1 sg (i2 + 1) a16) := by { rw [← OT.2.2.1]; first | exact rs5 | assumption }
            have w8 : w32 (i8 + v52) = i8 + v52 := w32_id (by omega) (by omega)
            have W5 : h53 322 (i8 + v52) = w (ixS E W pts T i10 (up1 sg (i2 + 1) a16)) := by { rw [fs5.1 _ _ (by omega) (by omega) (by omega) (by omega), fr.1 _ _ (by omega) (by omega) (by omega) (by omega), V49]; exact wr.2 _ OT.2.2.2.1.1 OT.2.2.2.1.2 }
            unfold gX5_weigh_j220_144
            refine OK_jb (vX5_count_2 _ _ (by (first | ((rw [ex57]; (try rw [w8]); rw [W5, q1, w64_a, show x54 = a16 + 1 by omega, sumN_s q0.1, ST])) | (first | assumption | omega | ((try dsimp only [jt2, jt3, jt4]); first | omega | (simp (disch := omega) only [jst_eq, jst_ne, jst_ni, jst_o, jI_i, jcpy_out, w32_id, jdiv_nn, jshr_k, jand_255] <;> first | done | omega | assumption)) | (intros; simp (disch := omega) only [jst_eq, jst_ne, jst_ni, jst_o, jI_i, jcpy_out, w32_id, jdiv_nn, *] <;> first | done | omega) | (intros; simp (disch := omega) only [jst_eq, jst_ne, jst_ni, jst_o, jI_i, jcpy_out, w32_id, jdiv_nn] at * <;> first | done | omega | assumption) | (intros; first | rfl | (exfalso; omega) | ((repeat' apply And.intro) <;> first | assumption | rfl | omega | trivial)))))) (fun v56 r6 => ?_)
            try dsimp only [Sum.elim_inl, Sum.elim_inr, jt2, jt3, jt4, jt5, jt6, jt7, jt8] at r6
            have cv6 := r6
            clear r6
            try simp (disch := omega) only [jst_eq, jst_ne, jst_ni, jI_i, jcmp_lt, jcmp_gt, w32_id, jcpy_out, Sum.elim_inl, Sum.elim_inr, jt2, jt3, jt4, jt5, jt6, jt7, jt8] at cv6
            have V56 : v56 = ct E W pts A i5 a16 := by { have q := J2.2.2 i5 a16 (by omega) (by omega) q0.1 (by omega); rw [← q]; assumption }
            have ST : g1W E W pts T (ct E W pts A) i10 w (i2 + 1) i5 sg a16 = v56 * w (ixS E W pts T i10 (up1 sg (i2 + 1) a16)) := by { rw [V56]; exact cif_y ky }
            refine OK_jg (by (first | ((rw [ex57]; (try rw [w8]); rw [W5, q1, w64_a, show x54 = a16 + 1 by omega, sumN_s q0.1, ST])) | (first | assumption | omega | ((try dsimp only [jt2, jt3, jt4]); first | omega | (simp (disch := omega) only [jst_eq, jst_ne, jst_ni, jst_o, jI_i, jcpy_out, w32_id, jdiv_nn, jshr_k, jand_255] <;> first | done | omega | assumption)) | (intros; simp (disch := omega) only [jst_eq, jst_ne, jst_ni, jst_o, jI_i, jcpy_out, w32_id, jdiv_nn, *] <;> first | done | omega) | (intros; simp (disch := omega) only [jst_eq, jst_ne, jst_ni, jst_o, jI_i, jcpy_out, w32_id, jdiv_nn] at * <;> first | done | omega | assumption) | (intros; first | rfl | (exfalso; omega) | ((repeat' apply And.intro) <;> first | assumption | rfl | omega | trivial))))) ?_ -- o33
            refine OK_jlx (fun x57 ex57 => ?_)
            try simp (disch := omega) only [jst_eq, jst_ne, jst_ni, jI_i, jcmp_lt, jcmp_gt, w32_id, jcpy_out, Sum.elim_inl, Sum.elim_inr, jt2, jt3, jt4, jt5, jt6, jt7, jt8] at ex57
            unfold gX5_weigh_j246_144
            refine OK_jlx (fun x54 ex54 => ?_)
            try simp (disch := omega) only [jst_eq, jst_ne, jst_ni, jI_i, jcmp_lt, jcmp_gt, w32_id, jcpy_out, Sum.elim_inl, Sum.elim_inr, jt2, jt3, jt4, jt5, jt6, jt7, jt8] at ex54
            refine OK_il ?_ ?_
            · try dsimp only [Sum.elim_inl, Sum.elim_inr, jt2, jt3, jt4, jt5, jt6, jt7, jt8]
              refine ⟨?_, ?_, ?_, ?_⟩
              · (first | ((rw [ex57]; (try rw [w8]); rw [W5, q1, w64_a, show x54 = a16 + 1 by omega, sumN_s q0.1, ST])) | (first | assumption | omega | ((try dsimp only [jt2, jt3, jt4]); first | omega | (simp (disch := omega) only [jst_eq, jst_ne, jst_ni, jst_o, jI_i, jcpy_out, w32_id, jdiv_nn, jshr_k, jand_255] <;> first | done | omega | assumption)) | (intros; simp (disch := omega) only [jst_eq, jst_ne, jst_ni, jst_o, jI_i, jcpy_out, w32_id, jdiv_nn, *] <;> first | done | omega) | (intros; simp (disch := omega) only [jst_eq, jst_ne, jst_ni, jst_o, jI_i, jcpy_out, w32_id, jdiv_nn] at * <;> first | done | omega | assumption) | (intros; first | rfl | (exfalso; omega) | ((repeat' apply And.intro) <;> first | assumption | rfl | omega | trivial)))) -- o34 e4i.1
              · (first | ((rw [ex57]; (try rw [w8]); rw [W5, q1, w64_a, show x54 = a16 + 1 by omega, sumN_s q0.1, ST])) | (first | assumption | omega | ((try dsimp only [jt2, jt3, jt4]); first | omega | (simp (disch := omega) only [jst_eq, jst_ne, jst_ni, jst_o, jI_i, jcpy_out, w32_id, jdiv_nn, jshr_k, jand_255] <;> first | done | omega | assumption)) | (intros; simp (disch := omega) only [jst_eq, jst_ne, jst_ni, jst_o, jI_i, jcpy_out, w32_id, jdiv_nn, *] <;> first | done | omega) | (intros; simp (disch := omega) only [jst_eq, jst_ne, jst_ni, jst_o, jI_i, jcpy_out, w32_id, jdiv_nn] at * <;> first | done | omega | assumption) | (intros; first | rfl | (exfalso; omega) | ((repeat' apply And.intro) <;> first | assumption | rfl | omega | trivial)))) -- o35 e4i.2
              · exact J2 -- o36 e4i.3
              · exact ⟨fG_t fr.1 fs5.1, fs5.2⟩ -- o37 e4i.4
            · (first | ((rw [ex57]; (try rw [w8]); rw [W5, q1, w64_a, show x54 = a16 + 1 by omega, sumN_s q0.1, ST])) | (first | assumption | omega | ((try dsimp only [jt2, jt3, jt4]); first | omega | (simp (disch := omega) only [jst_eq, jst_ne, jst_ni, jst_o, jI_i, jcpy_out, w32_id, jdiv_nn, jshr_k, jand_255] <;> first | done | omega | assumption)) | (intros; simp (disch := omega) only [jst_eq, jst_ne, jst_ni, jst_o, jI_i, jcpy_out, w32_id, jdiv_nn, *] <;> first | done | omega) | (intros; simp (disch := omega) only [jst_eq, jst_ne, jst_ni, jst_o, jI_i, jcpy_out, w32_id, jdiv_nn] at * <;> first | done | omega | assumption) | (intros; first | rfl | (exfalso; omega) | ((repeat' apply And.intro) <;> first | assumption | rfl | omega | trivial)))) -- o38 e4m
      · skip
        try simp (disch := omega) only [jst_eq, jst_ne, jst_ni, jI_i, jcmp_lt, jcmp_gt, w32_id, jcpy_out, Sum.elim_inl, Sum.elim_inr, jt2, jt3, jt4, jt5, jt6, jt7, jt8] at c2
        have ky : ¬ T.2.1 a16 = eK E i10 (i2 + 1) := by { rw [← h7.1]; omega }
        unfold gX5_weigh_j246_144
        refine OK_jlx (fun x54 ex54 => ?_)
        try simp (disch := omega) only [jst_eq, jst_ne, jst_ni, jI_i, jcmp_lt, jcmp_gt, w32_id, jcpy_out, Sum.elim_inl, Sum.elim_inr, jt2, jt3, jt4, jt5, jt6, jt7, jt8] at ex54
        refine OK_il ?_ ?_
        · try dsimp only [Sum.elim_inl, Sum.elim_inr, jt2, jt3, jt4, jt5, jt6, jt7, jt8]
          refine ⟨?_, ?_, ?_, ?_⟩
          · (first | ((rw [ex57]; (try rw [w8]); rw [W5, q1, w64_a, show x54 = a16 + 1 by omega, sumN_s q0.1, ST])) | (first | assumption | omega | ((try dsimp only [jt2, jt3, jt4]); first | omega | (simp (disch := omega) only [jst_eq, jst_ne, jst_ni, jst_o, jI_i, jcpy_out, w32_id, jdiv_nn, jshr_k, jand_255] <;> first | done | omega | assumption)) | (intros; simp (disch := omega) only [jst_eq, jst_ne, jst_ni, jst_o, jI_i, jcpy_out, w32_id, jdiv_nn, *] <;> first | done | omega) | (intros; simp (disch := omega) only [jst_eq, jst_ne, jst_ni, jst_o, jI_i, jcpy_out, w32_id, jdiv_nn] at * <;> first | done | omega | assumption) | (intros; first | rfl | (exfalso; omega) | ((repeat' apply And.intro) <;> first | assumption | rfl | omega | trivial)))) -- o39 e5i.1
          · (have ST : g1W E W pts T (ct E W pts A) i10 w (i2 + 1) i5 sg a16 = 0 := cif_n ky; rw [q1, show x54 = a16 + 1 by omega, sumN_s q0.1, ST, Int.add_zero]) -- o40 e5i.2
          · (first | ((rw [ex57]; (try rw [w8]); rw [W5, q1, w64_a, show x54 = a16 + 1 by omega, sumN_s q0.1, ST])) | (first | assumption | omega | ((try dsimp only [jt2, jt3, jt4]); first | omega | (simp (disch := omega) only [jst_eq, jst_ne, jst_ni, jst_o, jI_i, jcpy_out, w32_id, jdiv_nn, jshr_k, jand_255] <;> first | done | omega | assumption)) | (intros; simp (disch := omega) only [jst_eq, jst_ne, jst_ni, jst_o, jI_i, jcpy_out, w32_id, jdiv_nn, *] <;> first | done | omega) | (intros; simp (disch := omega) only [jst_eq, jst_ne, jst_ni, jst_o, jI_i, jcpy_out, w32_id, jdiv_nn] at * <;> first | done | omega | assumption) | (intros; first | rfl | (exfalso; omega) | ((repeat' apply And.intro) <;> first | assumption | rfl | omega | trivial)))) -- o41 e5i.3
          · (first | ((rw [ex57]; (try rw [w8]); rw [W5, q1, w64_a, show x54 = a16 + 1 by omega, sumN_s q0.1, ST])) | (first | assumption | omega | ((try dsimp only [jt2, jt3, jt4]); first | omega | (simp (disch := omega) only [jst_eq, jst_ne, jst_ni, jst_o, jI_i, jcpy_out, w32_id, jdiv_nn, jshr_k, jand_255] <;> first | done | omega | assumption)) | (intros; simp (disch := omega) only [jst_eq, jst_ne, jst_ni, jst_o, jI_i, jcpy_out, w32_id, jdiv_nn, *] <;> first | done | omega) | (intros; simp (disch := omega) only [jst_eq, jst_ne, jst_ni, jst_o, jI_i, jcpy_out, w32_id, jdiv_nn] at * <;> first | done | omega | assumption) | (intros; first | rfl | (exfalso; omega) | ((repeat' apply And.intro) <;> first | assumption | rfl | omega | trivial)))) -- o42 e5i.4
        · (first | ((rw [ex57]; (try rw [w8]); rw [W5, q1, w64_a, show x54 = a16 + 1 by omega, sumN_s q0.1, ST])) | (first | assumption | omega | ((try dsimp only [jt2, jt3, jt4]); first | omega | (simp (disch := omega) only [jst_eq, jst_ne, jst_ni, jst_o, jI_i, jcpy_out, w32_id, jdiv_nn, jshr_k, jand_255] <;> first | done | omega | assumption)) | (intros; simp (disch := omega) only [jst_eq, jst_ne, jst_ni, jst_o, jI_i, jcpy_out, w32_id, jdiv_nn, *] <;> first | done | omega) | (intros; simp (disch := omega) only [jst_eq, jst_ne, jst_ni, jst_o, jI_i, jcpy_out, w32_id, jdiv_nn] at * <;> first | done | omega | assumption) | (intros; first | rfl | (exfalso; omega) | ((repeat' apply And.intro) <;> first | assumption | rfl | omega | trivial)))) -- o43 e5m
  · try dsimp only [Sum.elim_inl, Sum.elim_inr, jt2, jt3, jt4, jt5, jt6, jt7, jt8]
    refine ⟨?_, ?_, ?_, ?_⟩
    · (have l := (XI_h jx.2.1).2.1; omega) -- o44 init.1
    · (rw [z.1, z.2]; rfl) -- o45 init.2
    · exact jx -- o46 init.3
    · exact ⟨fG_r _, JX_b jx⟩ -- o47 init.4
theorem vX5_weigh_l293 (i1 : Int) (i2 : Int) (i3 : Int) (i4 : Int) (i5 : Int) (i6 : Int) (i7 : Int) (i8 : Int) (i9 : Int) (i10 : Int) (i11 : Int) (i13 : Int) (i16 : Int) (a140 : Int) (a170 : Int) {h0 : AH} {E : EV} {Rf : Int → TR} {W : Int → Int → Int → VW} {A : AD} {pts wh : Int} {rv : Int → Int} {M : Int → (Int → Int) → Prop} {T : TB} {n : Nat} {w sg : Int → Int} {used bb : Int} (jx : JXq h0 E Rf W A pts wh rv M T n) (tq : TQ E W pts A n T) (ia : (0 ≤ i1 ∧ i1 < A.2.2.2.1) ∧ A.2.2.2.2.1 i1 = i10 ∧ 0 ≤ i10 ∧ i10 < E.1.1) (io : eO E i10 = 3) (op : opS E W pts A n i10 1 used sg ∧ sg 0 = i13) (ix : 0 ≤ i16 ∧ i16 < T.1 ∧ T.2.1 i16 = eK E i10 1) (pr : A.2.2.2.2.2.2.2 i1 + used + i5 ≤ n ∧ 0 ≤ used ∧ 0 ≤ i5) (wr : (0 ≤ i8 ∧ i8 ≤ 4680) ∧ ∀ f, 0 ≤ f → f < T.1 → h0 322 (i8 + f) = w f) (b0 : a140 = w64 bb) (z : a170 = 0) : OK (gX5_weigh_l293 i1 i2 i3 i4 i5 i6 i7 i8 i9 i10 i11 i13 i16 a140 a170 h0) (fun r => jt2 r fun v h' => (v = w64 (bb + sumN (g2Y E W pts T (ct E W pts A) i10 w 1 i5 sg i16) T.1.toNat)) ∧ (JXq h' E Rf W A pts wh rv M T n) ∧ (fG h0 h' ∧ b10 h')) := by
  unfold gX5_weigh_l293
  refine OK_jit (I := (fun (s : Int × Int × AH) => jt3 s fun a14 a17 h => (0 ≤ a17 ∧ a17 ≤ T.1) ∧ (a14 = w64 (bb + sumN (g2Y E W pts T (ct E W pts A) i10 w 1 i5 sg i16) a17.toNat)) ∧ (JXq h E Rf W A pts wh rv M T n) ∧ (fG h0 h ∧ b10 h))) (m := (fun (s : Int × Int × AH) => jt3 s fun a14 a17 h => (T.1 - a17).toNat)) ?_ ?_
  · intro s hs
    obtain ⟨a14, a17, h⟩ := s
    dsimp only [Sum.elim_inl, Sum.elim_inr, jt2, jt3, jt4, jt5, jt6, jt7, jt8] at hs
    obtain ⟨q0, q1, JJ, fr⟩ := hs
    unfold gX5_weigh_b293
    refine OK_jt3 ?_
    have XX := JJ.2.1
    have CN := JJ.2.2
    have SE := JJ.1
    obtain ⟨H1, H2, H3, H4⟩ := XI_h XX
    have n12 := tq.1.1
    have en := SE.1.2.1
    have pp := (tq.1.2.2.2.1.2.2 i1 ia.1.1 ia.1.2).1
    have hx := (H4 i16 ix.1 ix.2.1).2
    have tx := tq.2.2.2 i16 ix.1 ix.2.1
    refine OK_if (fun c1 => ?_) (fun c1 => ?_)
    · skip
      try simp (disch := omega) only [jst_eq, jst_ne, jst_ni, jI_i, jcmp_lt, jcmp_gt, w32_id, jcpy_out, Sum.elim_inl, Sum.elim_inr, jt2, jt3, jt4, jt5, jt6, jt7, jt8] at c1
      refine OK_ir ?_
      try dsimp only [Sum.elim_inl, Sum.elim_inr, jt2, jt3, jt4, jt5, jt6, jt7, jt8]
      refine ⟨?_, ?_, ?_⟩
      · (rw [q1, show a17 = T.1 by omega]) -- o1 e1.1
      · (first | ((rw [q1, show x79 = a17 + 1 by omega, sumN_s q0.1, SZ, Int.add_zero])) | ((rw [ex78]; (try rw [w8]); rw [W5, q1, w64_a, show x79 = a17 + 1 by omega, sumN_s q0.1, ST, Int.add_assoc])) | (exact JJ) | (exact J2) | (exact fr) | (exact ⟨fG_t fr.1 fs3.1, fs3.2⟩) | (first | assumption | omega | ((try dsimp only [jt2, jt3, jt4]); first | omega | (simp (disch := omega) only [jst_eq, jst_ne, jst_ni, jst_o, jI_i, jcpy_out, w32_id, jdiv_nn, jshr_k, jand_255] <;> first | done | omega | assumption)) | (intros; simp (disch := omega) only [jst_eq, jst_ne, jst_ni, jst_o, jI_i, jcpy_out, w32_id, jdiv_nn, *] <;> first | done | omega) | (intros; simp (disch := omega) only [jst_eq, jst_ne, jst_ni, jst_o, jI_i, jcpy_out, w32_id, jdiv_nn] at * <;> first | done | omega | assumption) | (intros; first | rfl | (exfalso; omega) | ((repeat' apply And.intro) <;> first | assumption | rfl | omega | trivial)))) -- o2 e1.2
      · (first | ((rw [q1, show x79 = a17 + 1 by omega, sumN_s q0.1, SZ, Int.add_zero])) | ((rw [ex78]; (try rw [w8]); rw [W5, q1, w64_a, show x79 = a17 + 1 by omega, sumN_s q0.1, ST, Int.add_assoc])) | (exact JJ) | (exact J2) | (exact fr) | (exact ⟨fG_t fr.1 fs3.1, fs3.2⟩) | (first | assumption | omega | ((try dsimp only [jt2, jt3, jt4]); first | omega | (simp (disch := omega) only [jst_eq, jst_ne, jst_ni, jst_o, jI_i, jcpy_out, w32_id, jdiv_nn, jshr_k, jand_255] <;> first | done | omega | assumption)) | (intros; simp (disch := omega) only [jst_eq, jst_ne, jst_ni, jst_o, jI_i, jcpy_out, w32_id, jdiv_nn, *] <;> first | done | omega) | (intros; simp (disch := omega) only [jst_eq, jst_ne, jst_ni, jst_o, jI_i, jcpy_out, w32_id, jdiv_nn] at * <;> first | done | omega | assumption) | (intros; first | rfl | (exfalso; omega) | ((repeat' apply And.intro) <;> first | assumption | rfl | omega | trivial)))) -- o3 e1.3
    · skip
      try simp (disch := omega) only [jst_eq, jst_ne, jst_ni, jI_i, jcmp_lt, jcmp_gt, w32_id, jcpy_out, Sum.elim_inl, Sum.elim_inr, jt2, jt3, jt4, jt5, jt6, jt7, jt8] at c1
      have h7 := H4 a17 q0.1 (by omega)
      have t7 := tq.2.2.2 a17 q0.1 (by omega)
      have w79 : w32 (a17 + 1) = a17 + 1 := w32_id (by omega) (by omega)
      have wss : w32 (h 309 i16 + h 309 a17) = h 309 i16 + h 309 a17 := w32_id (by omega) (by omega)
      refine OK_jg (by (first | ((rw [q1, show x79 = a17 + 1 by omega, sumN_s q0.1, SZ, Int.add_zero])) | ((rw [ex78]; (try rw [w8]); rw [W5, q1, w64_a, show x79 = a17 + 1 by omega, sumN_s q0.1, ST, Int.add_assoc])) | (exact JJ) | (exact J2) | (exact fr) | (exact ⟨fG_t fr.1 fs3.1, fs3.2⟩) | (first | assumption | omega | ((try dsimp only [jt2, jt3, jt4]); first | omega | (simp (disch := omega) only [jst_eq, jst_ne, jst_ni, jst_o, jI_i, jcpy_out, w32_id, jdiv_nn, jshr_k, jand_255] <;> first | done | omega | assumption)) | (intros; simp (disch := omega) only [jst_eq, jst_ne, jst_ni, jst_o, jI_i, jcpy_out, w32_id, jdiv_nn, *] <;> first | done | omega) | (intros; simp (disch := omega) only [jst_eq, jst_ne, jst_ni, jst_o, jI_i, jcpy_out, w32_id, jdiv_nn] at * <;> first | done | omega | assumption) | (intros; first | rfl | (exfalso; omega) | ((repeat' apply And.intro) <;> first | assumption | rfl | omega | trivial))))) ?_ -- o4
      refine OK_jb (vX1_kindOf (nA := E.1.1) (cA := E.1.2.1) (oA := E.1.2.2.1) (wA := E.1.2.2.2.1) (kA := E.1.2.2.2.2) _ _ (by exact en.1) (by exact ⟨ia.2.2.1, ia.2.2.2, by decide, by (rw [oper_eq ia.2.2.1]; omega)⟩)) (fun v69 r1 => ?_)
      try dsimp only [Sum.elim_inl, Sum.elim_inr, jt2, jt3, jt4, jt5, jt6, jt7, jt8] at r1
      have v1 := r1
      clear r1
      try simp (disch := omega) only [jst_eq, jst_ne, jst_ni, jI_i, jcmp_lt, jcmp_gt, w32_id, jcpy_out, Sum.elim_inl, Sum.elim_inr, jt2, jt3, jt4, jt5, jt6, jt7, jt8] at v1
      have e69 : v69 = eK E i10 2 := by { rw [← kind_eq ia.2.2.1]; first | assumption | exact v1 }
      refine OK_if (fun c2 => ?_) (fun c2 => ?_)
      · skip
        try simp (disch := omega) only [jst_eq, jst_ne, jst_ni, jI_i, jcmp_lt, jcmp_gt, w32_id, jcpy_out, Sum.elim_inl, Sum.elim_inr, jt2, jt3, jt4, jt5, jt6, jt7, jt8] at c2
        have ky : T.2.1 a17 = eK E i10 (1 + 1) := by { have y : T.2.1 a17 = eK E i10 2 := (by (rw [← h7.1]; omega)); exact y }
        refine OK_jg (by (first | ((rw [q1, show x79 = a17 + 1 by omega, sumN_s q0.1, SZ, Int.add_zero])) | ((rw [ex78]; (try rw [w8]); rw [W5, q1, w64_a, show x79 = a17 + 1 by omega, sumN_s q0.1, ST, Int.add_assoc])) | (exact JJ) | (exact J2) | (exact fr) | (exact ⟨fG_t fr.1 fs3.1, fs3.2⟩) | (first | assumption | omega | ((try dsimp only [jt2, jt3, jt4]); first | omega | (simp (disch := omega) only [jst_eq, jst_ne, jst_ni, jst_o, jI_i, jcpy_out, w32_id, jdiv_nn, jshr_k, jand_255] <;> first | done | omega | assumption)) | (intros; simp (disch := omega) only [jst_eq, jst_ne, jst_ni, jst_o, jI_i, jcpy_out, w32_id, jdiv_nn, *] <;> first | done | omega) | (intros; simp (disch := omega) only [jst_eq, jst_ne, jst_ni, jst_o, jI_i, jcpy_out, w32_id, jdiv_nn] at * <;> first | done | omega | assumption) | (intros; first | rfl | (exfalso; omega) | ((repeat' apply And.intro) <;> first | assumption | rfl | omega | trivial))))) ?_ -- o7
        refine OK_if (fun c3 => ?_) (fun c3 => ?_)
        · skip
          try simp (disch := omega) only [jst_eq, jst_ne, jst_ni, jI_i, jcmp_lt, jcmp_gt, w32_id, jcpy_out, Sum.elim_inl, Sum.elim_inr, jt2, jt3, jt4, jt5, jt6, jt7, jt8] at c3
          refine OK_jb (vX5_both (c := ct E W pts A) (wx := T.2.2.1 i16) (wy := T.2.2.1 a17) _ _ _ (by exact ⟨ix.1, by omega, q0.1, by omega, by omega, by omega⟩) (by exact ⟨⟨hx, h7.2⟩, tx.1, tx.2, t7⟩) (by exact fun i f a b c d => CN i f a (by omega) c d) (by exact fun i a b => ct_zT tq ix.1 (by omega) (Or.inr b)) (by exact fun i a b => ct_zT tq q0.1 (by omega) (Or.inr b))) (fun v73 r2 => ?_)
          try dsimp only [Sum.elim_inl, Sum.elim_inr, jt2, jt3, jt4, jt5, jt6, jt7, jt8] at r2
          have bo2 := r2
          clear r2
          try simp (disch := omega) only [jst_eq, jst_ne, jst_ni, jI_i, jcmp_lt, jcmp_gt, w32_id, jcpy_out, Sum.elim_inl, Sum.elim_inr, jt2, jt3, jt4, jt5, jt6, jt7, jt8] at bo2
          have W0 := w2C_0 (c := ct E W pts A) ct_0 i5 i16 a17
          have WB := w2_b tq.1 (left := i5) (x := i16) (y := a17) (by omega) ix.1 q0.1
          have V73 : v73 = w2C (ct E W pts A) i5 i16 a17 := by { rw [← w64_id (x := w2C (ct E W pts A) i5 i16 a17) (by omega) (by omega)]; first | exact bo2 | assumption }
          refine OK_if (fun c4 => ?_) (fun c4 => ?_)
          · skip
            try simp (disch := omega) only [jst_eq, jst_ne, jst_ni, jI_i, jcmp_lt, jcmp_gt, w32_id, jcpy_out, Sum.elim_inl, Sum.elim_inr, jt2, jt3, jt4, jt5, jt6, jt7, jt8] at c4
            have c4w := jcmp_le.1 c4
            have SZ : g2Y E W pts T (ct E W pts A) i10 w 1 i5 sg i16 a17 = 0 := by { rw [show g2Y E W pts T (ct E W pts A) i10 w 1 i5 sg i16 a17 = w2C (ct E W pts A) i5 i16 a17 * _ from cif_y ky, show w2C (ct E W pts A) i5 i16 a17 = 0 by omega, Int.zero_mul] }
            unfold gX5_weigh_j391_293
            refine OK_jlx (fun x79 ex79 => ?_)
            try simp (disch := omega) only [jst_eq, jst_ne, jst_ni, jI_i, jcmp_lt, jcmp_gt, w32_id, jcpy_out, Sum.elim_inl, Sum.elim_inr, jt2, jt3, jt4, jt5, jt6, jt7, jt8] at ex79
            refine OK_il ?_ ?_
            · try dsimp only [Sum.elim_inl, Sum.elim_inr, jt2, jt3, jt4, jt5, jt6, jt7, jt8]
              refine ⟨?_, ?_, ?_, ?_⟩
              · (first | ((rw [q1, show x79 = a17 + 1 by omega, sumN_s q0.1, SZ, Int.add_zero])) | ((rw [ex78]; (try rw [w8]); rw [W5, q1, w64_a, show x79 = a17 + 1 by omega, sumN_s q0.1, ST, Int.add_assoc])) | (exact JJ) | (exact J2) | (exact fr) | (exact ⟨fG_t fr.1 fs3.1, fs3.2⟩) | (first | assumption | omega | ((try dsimp only [jt2, jt3, jt4]); first | omega | (simp (disch := omega) only [jst_eq, jst_ne, jst_ni, jst_o, jI_i, jcpy_out, w32_id, jdiv_nn, jshr_k, jand_255] <;> first | done | omega | assumption)) | (intros; simp (disch := omega) only [jst_eq, jst_ne, jst_ni, jst_o, jI_i, jcpy_out, w32_id, jdiv_nn, *] <;> first | done | omega) | (intros; simp (disch := omega) only [jst_eq, jst_ne, jst_ni, jst_o, jI_i, jcpy_out, w32_id, jdiv_nn] at * <;> first | done | omega | assumption) | (intros; first | rfl | (exfalso; omega) | ((repeat' apply And.intro) <;> first | assumption | rfl | omega | trivial)))) -- o13 e2i.1
              · (first | ((rw [q1, show x79 = a17 + 1 by omega, sumN_s q0.1, SZ, Int.add_zero])) | ((rw [ex78]; (try rw [w8]); rw [W5, q1, w64_a, show x79 = a17 + 1 by omega, sumN_s q0.1, ST, Int.add_assoc])) | (exact JJ) | (exact J2) | (exact fr) | (exact ⟨fG_t fr.1 fs3.1, fs3.2⟩) | (first | assumption | omega | ((try dsimp only [jt2, jt3, jt4]); first | omega | (simp (disch := omega) only [jst_eq, jst_ne, jst_ni, jst_o, jI_i, jcpy_out, w32_id, jdiv_nn, jshr_k, jand_255] <;> first | done | omega | assumption)) | (intros; simp (disch := omega) only [jst_eq, jst_ne, jst_ni, jst_o, jI_i, jcpy_out, w32_id, jdiv_nn, *] <;> first | done | omega) | (intros; simp (disch := omega) only [jst_eq, jst_ne, jst_ni, jst_o, jI_i, jcpy_out, w32_id, jdiv_nn] at * <;> first | done | omega | assumption) | (intros; first | rfl | (exfalso; omega) | ((repeat' apply And.intro) <;> first | assumption | rfl | omega | trivial)))) -- o14 e2i.2
              · (first | ((rw [q1, show x79 = a17 + 1 by omega, sumN_s q0.1, SZ, Int.add_zero])) | ((rw [ex78]; (try rw [w8]); rw [W5, q1, w64_a, show x79 = a17 + 1 by omega, sumN_s q0.1, ST, Int.add_assoc])) | (exact JJ) | (exact J2) | (exact fr) | (exact ⟨fG_t fr.1 fs3.1, fs3.2⟩) | (first | assumption | omega | ((try dsimp only [jt2, jt3, jt4]); first | omega | (simp (disch := omega) only [jst_eq, jst_ne, jst_ni, jst_o, jI_i, jcpy_out, w32_id, jdiv_nn, jshr_k, jand_255] <;> first | done | omega | assumption)) | (intros; simp (disch := omega) only [jst_eq, jst_ne, jst_ni, jst_o, jI_i, jcpy_out, w32_id, jdiv_nn, *] <;> first | done | omega) | (intros; simp (disch := omega) only [jst_eq, jst_ne, jst_ni, jst_o, jI_i, jcpy_out, w32_id, jdiv_nn] at * <;> first | done | omega | assumption) | (intros; first | rfl | (exfalso; omega) | ((repeat' apply And.intro) <;> first | assumption | rfl | omega | trivial)))) -- o15 e2i.3
              · (first | ((rw [q1, show x79 = a17 + 1 by omega, sumN_s q0.1, SZ, Int.add_zero])) | ((rw [ex78]; (try rw [w8]); rw [W5, q1, w64_a, show x79 = a17 + 1 by omega, sumN_s q0.1, ST, Int.add_assoc])) | (exact JJ) | (exact J2) | (exact fr) | (exact ⟨fG_t fr.1 fs3.1, fs3.2⟩) | (first | assumption | omega | ((try dsimp only [jt2, jt3, jt4]); first | omega | (simp (disch := omega) only [jst_eq, jst_ne, jst_ni, jst_o, jI_i, jcpy_out, w32_id, jdiv_nn, jshr_k, jand_255] <;> first | done | omega | assumption)) | (intros; simp (disch := omega) only [jst_eq, jst_ne, jst_ni, jst_o, jI_i, jcpy_out, w32_id, jdiv_nn, *] <;> first | done | omega) | (intros; simp (disch := omega) only [jst_eq, jst_ne, jst_ni, jst_o, jI_i, jcpy_out, w32_id, jdiv_nn] at * <;> first | done | omega | assumption) | (intros; first | rfl | (exfalso; omega) | ((repeat' apply And.intro) <;> first | assumption | rfl | omega | trivial)))) -- o16 e2i.4
            · (first | ((rw [q1, show x79 = a17 + 1 by omega, sumN_s q0.1, SZ, Int.add_zero])) | ((rw [ex78]; (try rw [w8]); rw [W5, q1, w64_a, show x79 = a17 + 1 by omega, sumN_s q0.1, ST, Int.add_assoc])) | (exact JJ) | (exact J2) | (exact fr) | (exact ⟨fG_t fr.1 fs3.1, fs3.2⟩) | (first | assumption | omega | ((try dsimp only [jt2, jt3, jt4]); first | omega | (simp (disch := omega) only [jst_eq, jst_ne, jst_ni, jst_o, jI_i, jcpy_out, w32_id, jdiv_nn, jshr_k, jand_255] <;> first | done | omega | assumption)) | (intros; simp (disch := omega) only [jst_eq, jst_ne, jst_ni, jst_o, jI_i, jcpy_out, w32_id, jdiv_nn, *] <;> first | done | omega) | (intros; simp (disch := omega) only [jst_eq, jst_ne, jst_ni, jst_o, jI_i, jcpy_out, w32_id, jdiv_nn] at * <;> first | done | omega | assumption) | (intros; first | rfl | (exfalso; omega) | ((repeat' apply And.intro) <;> first | assumption | rfl | omega | trivial)))) -- o17 e2m
          · skip
            try simp (disch := omega) only [jst_eq, jst_ne, jst_ni, jI_i, jcmp_lt, jcmp_gt, w32_id, jcpy_out, Sum.elim_inl, Sum.elim_inr, jt2, jt3, jt4, jt5, jt6, jt7, jt8] at c4
            have c4w : ¬ v73 ≤ 0 := fun y => c4 (jcmp_le.2 y)
            have SU := w2_sup tq.1 (left := i5) (x := i16) (y := a17) ix.1 q0.1 (by omega) (by omega)
            have qx := tq.2.1.2 i16 ix.1 SU.1
            have qy := tq.2.1.2 a17 q0.1 SU.2.1
            have kx2 : (LV E W pts A n).2.1 i16 = eK E i10 1 := by { rw [← qx.1]; exact ix.2.2 }
            have kz : (LV E W pts A n).2.1 a17 = eK E i10 (1 + 1) := by { rw [← qy.1]; exact ky }
            have OP1 := opS_1 (r := (LV E W pts A n).2.2.1 i16) op.1 (by decide) ⟨ix.1, SU.1⟩ kx2 (Int.le_refl _)
            have OP := opS_1 (r := (LV E W pts A n).2.2.1 a17) OP1 (by decide) ⟨q0.1, SU.2.1⟩ kz (Int.le_refl _)
            have e0 : up1 (up1 sg 1 i16) (1 + 1) a17 0 = i13 := by { rw [up1_o (by decide), up1_o (by decide)]; exact op.2 }
            have OT := op_T tq XX.2.2.2.2 ia OP (by omega) (by decide) (by omega) e0 rfl rfl
            refine OK_jb2 (vX5_resultOfThree (E := E) (Rf := Rf) (W := W) (f := fun _ _ _ => 0) (A := A) (pts := pts) (wh := wh) (rv := rv) (M := M) (T := T) (ac := i10) _ _ _ _ (by exact SE) (by exact XX) (by exact OT.2.2.2.2) (by exact ia) (by exact ⟨OT.1, io⟩) (by exact OT.2.1)) (fun v76 h77 r3 => ?_)
            try dsimp only [Sum.elim_inl, Sum.elim_inr, jt2, jt3, jt4, jt5, jt6, jt7, jt8] at r3
            obtain ⟨rs3, xs3, fs3⟩ := r3
            try simp (disch := omega) only [jst_eq, jst_ne, jst_ni, jI_i, jcmp_lt, jcmp_gt, w32_id, jcpy_out, Sum.elim_inl, Sum.elim_inr, jt2, jt3, jt4, jt5, jt6, jt7, jt8] at rs3
            try simp (disch := omega) only [jst_eq, jst_ne, jst_ni, jI_i, jcmp_lt, jcmp_gt, w32_id, jcpy_out, Sum.elim_inl, Sum.elim_inr, jt2, jt3, jt4, jt5, jt6, jt7, jt8] at xs3
            try simp (disch := omega) only [jst_eq, jst_ne, jst_ni, jI_i, jcmp_lt, jcmp_gt, w32_id, jcpy_out, Sum.elim_inl, Sum.elim_inr, jt2, jt3, jt4, jt5, jt6, jt7, jt8] at fs3
            have J2 := JX_G JJ fs3.1 xs3 fs3.2
            have V49 : v76 = ixS E W pts T i10 (up1 (up1 sg 1 i16) (1 + 1) a17) := by { rw [← OT.2.2.1]; first | exact rs3 | assumption }
            have w8 : w32 (i8 + v76) = i8 + v76 := w32_id (by omega) (by omega)
            have W5 : h77 322 (i8 + v76) = w (ixS E W pts T i10 (up1 (up1 sg 1 i16) (1 + 1) a17)) := by { rw [fs3.1 _ _ (by omega) (by omega) (by omega) (by omega), fr.1 _ _ (by omega) (by omega) (by omega) (by omega), V49]; exact wr.2 _ OT.2.2.2.1.1 OT.2.2.2.1.2 }
            have ST : g2Y E W pts T (ct E W pts A) i10 w 1 i5 sg i16 a17 = v73 * w (ixS E W pts T i10 (up1 (up1 sg 1 i16) (1 + 1) a17)) := by { rw [V73]; exact cif_y ky }
            refine OK_jg (by (first | ((rw [q1, show x79 = a17 + 1 by omega, sumN_s q0.1, SZ, Int.add_zero])) | ((rw [ex78]; (try rw [w8]); rw [W5, q1, w64_a, show x79 = a17 + 1 by omega, sumN_s q0.1, ST, Int.add_assoc])) | (exact JJ) | (exact J2) | (exact fr) | (exact ⟨fG_t fr.1 fs3.1, fs3.2⟩) | (first | assumption | omega | ((try dsimp only [jt2, jt3, jt4]); first | omega | (simp (disch := omega) only [jst_eq, jst_ne, jst_ni, jst_o, jI_i, jcpy_out, w32_id, jdiv_nn, jshr_k, jand_255] <;> first | done | omega | assumption)) | (intros; simp (disch := omega) only [jst_eq, jst_ne, jst_ni, jst_o, jI_i, jcpy_out, w32_id, jdiv_nn, *] <;> first | done | omega) | (intros; simp (disch := omega) only [jst_eq, jst_ne, jst_ni, jst_o, jI_i, jcpy_out, w32_id, jdiv_nn] at * <;> first | done | omega | assumption) | (intros; first | rfl | (exfalso; omega) | ((repeat' apply And.intro) <;> first | assumption | rfl | omega | trivial))))) ?_ -- o24
            refine OK_jlx (fun x78 ex78 => ?_)
            try simp (disch := omega) only [jst_eq, jst_ne, jst_ni, jI_i, jcmp_lt, jcmp_gt, w32_id, jcpy_out, Sum.elim_inl, Sum.elim_inr, jt2, jt3, jt4, jt5, jt6, jt7, jt8] at ex78
            unfold gX5_weigh_j391_293
            refine OK_jlx (fun x79 ex79 => ?_)
            try simp (disch := omega) only [jst_eq, jst_ne, jst_ni, jI_i, jcmp_lt, jcmp_gt, w32_id, jcpy_out, Sum.elim_inl, Sum.elim_inr, jt2, jt3, jt4, jt5, jt6, jt7, jt8] at ex79
            refine OK_il ?_ ?_
            · try dsimp only [Sum.elim_inl, Sum.elim_inr, jt2, jt3, jt4, jt5, jt6, jt7, jt8]
              refine ⟨?_, ?_, ?_, ?_⟩
              · (first | ((rw [q1, show x79 = a17 + 1 by omega, sumN_s q0.1, SZ, Int.add_zero])) | ((rw [ex78]; (try rw [w8]); rw [W5, q1, w64_a, show x79 = a17 + 1 by omega, sumN_s q0.1, ST, Int.add_assoc])) | (exact JJ) | (exact J2) | (exact fr) | (exact ⟨fG_t fr.1 fs3.1, fs3.2⟩) | (first | assumption | omega | ((try dsimp only [jt2, jt3, jt4]); first | omega | (simp (disch := omega) only [jst_eq, jst_ne, jst_ni, jst_o, jI_i, jcpy_out, w32_id, jdiv_nn, jshr_k, jand_255] <;> first | done | omega | assumption)) | (intros; simp (disch := omega) only [jst_eq, jst_ne, jst_ni, jst_o, jI_i, jcpy_out, w32_id, jdiv_nn, *] <;> first | done | omega) | (intros; simp (disch := omega) only [jst_eq, jst_ne, jst_ni, jst_o, jI_i, jcpy_out, w32_id, jdiv_nn] at * <;> first | done | omega | assumption) | (intros; first | rfl | (exfalso; omega) | ((repeat' apply And.intro) <;> first | assumption | rfl | omega | trivial)))) -- o25 e3i.1
              · (first | ((rw [q1, show x79 = a17 + 1 by omega, sumN_s q0.1, SZ, Int.add_zero])) | ((rw [ex78]; (try rw [w8]); rw [W5, q1, w64_a, show x79 = a17 + 1 by omega, sumN_s q0.1, ST, Int.add_assoc])) | (exact JJ) | (exact J2) | (exact fr) | (exact ⟨fG_t fr.1 fs3.1, fs3.2⟩) | (first | assumption | omega | ((try dsimp only [jt2, jt3, jt4]); first | omega | (simp (disch := omega) only [jst_eq, jst_ne, jst_ni, jst_o, jI_i, jcpy_out, w32_id, jdiv_nn, jshr_k, jand_255] <;> first | done | omega | assumption)) | (intros; simp (disch := omega) only [jst_eq, jst_ne, jst_ni, jst_o, jI_i, jcpy_out, w32_id, jdiv_nn, *] <;> first | done | omega) | (intros; simp (disch := omega) only [jst_eq, jst_ne, jst_ni, jst_o, jI_i, jcpy_out, w32_id, jdiv_nn] at * <;> first | done | omega | assumption) | (intros; first | rfl | (exfalso; omega) | ((repeat' apply And.intro) <;> first | assumption | rfl | omega | trivial)))) -- o26 e3i.2
              · (first | ((rw [q1, show x79 = a17 + 1 by omega, sumN_s q0.1, SZ, Int.add_zero])) | ((rw [ex78]; (try rw [w8]); rw [W5, q1, w64_a, show x79 = a17 + 1 by omega, sumN_s q0.1, ST, Int.add_assoc])) | (exact JJ) | (exact J2) | (exact fr) | (exact ⟨fG_t fr.1 fs3.1, fs3.2⟩) | (first | assumption | omega | ((try dsimp only [jt2, jt3, jt4]); first | omega | (simp (disch := omega) only [jst_eq, jst_ne, jst_ni, jst_o, jI_i, jcpy_out, w32_id, jdiv_nn, jshr_k, jand_255] <;> first | done | omega | assumption)) | (intros; simp (disch := omega) only [jst_eq, jst_ne, jst_ni, jst_o, jI_i, jcpy_out, w32_id, jdiv_nn, *] <;> first | done | omega) | (intros; simp (disch := omega) only [jst_eq, jst_ne, jst_ni, jst_o, jI_i, jcpy_out, w32_id, jdiv_nn] at * <;> first | done | omega | assumption) | (intros; first | rfl | (exfalso; omega) | ((repeat' apply And.intro) <;> first | assumption | rfl | omega | trivial)))) -- o27 e3i.3
              · (first | ((rw [q1, show x79 = a17 + 1 by omega, sumN_s q0.1, SZ, Int.add_zero])) | ((rw [ex78]; (try rw [w8]); rw [W5, q1, w64_a, show x79 = a17 + 1 by omega, sumN_s q0.1, ST, Int.add_assoc])) | (exact JJ) | (exact J2) | (exact fr) | (exact ⟨fG_t fr.1 fs3.1, fs3.2⟩) | (first | assumption | omega | ((try dsimp only [jt2, jt3, jt4]); first | omega | (simp (disch := omega) only [jst_eq, jst_ne, jst_ni, jst_o, jI_i, jcpy_out, w32_id, jdiv_nn, jshr_k, jand_255] <;> first | done | omega | assumption)) | (intros; simp (disch := omega) only [jst_eq, jst_ne, jst_ni, jst_o, jI_i, jcpy_out, w32_id, jdiv_nn, *] <;> first | done | omega) | (intros; simp (disch := omega) only [jst_eq, jst_ne, jst_ni, jst_o, jI_i, jcpy_out, w32_id, jdiv_nn] at * <;> first | done | omega | assumption) | (intros; first | rfl | (exfalso; omega) | ((repeat' apply And.intro) <;> first | assumption | rfl | omega | trivial)))) -- o28 e3i.4
            · (first | ((rw [q1, show x79 = a17 + 1 by omega, sumN_s q0.1, SZ, Int.add_zero])) | ((rw [ex78]; (try rw [w8]); rw [W5, q1, w64_a, show x79 = a17 + 1 by omega, sumN_s q0.1, ST, Int.add_assoc])) | (exact JJ) | (exact J2) | (exact fr) | (exact ⟨fG_t fr.1 fs3.1, fs3.2⟩) | (first | assumption | omega | ((try dsimp only [jt2, jt3, jt4]); first | omega | (simp (disch := omega) only [jst_eq, jst_ne, jst_ni, jst_o, jI_i, jcpy_out, w32_id, jdiv_nn, jshr_k, jand_255] <;> first | done | omega | assumption)) | (intros; simp (disch := omega) only [jst_eq, jst_ne, jst_ni, jst_o, jI_i, jcpy_out, w32_id, jdiv_nn, *] <;> first | done | omega) | (intros; simp (disch := omega) only [jst_eq, jst_ne, jst_ni, jst_o, jI_i, jcpy_out, w32_id, jdiv_nn] at * <;> first | done | omega | assumption) | (intros; first | rfl | (exfalso; omega) | ((repeat' apply And.intro) <;> first | assumption | rfl | omega | trivial)))) -- o29 e3m
        · skip
          try simp (disch := omega) only [jst_eq, jst_ne, jst_ni, jI_i, jcmp_lt, jcmp_gt, w32_id, jcpy_out, Sum.elim_inl, Sum.elim_inr, jt2, jt3, jt4, jt5, jt6, jt7, jt8] at c3
          have SZ : g2Y E W pts T (ct E W pts A) i10 w 1 i5 sg i16 a17 = 0 := by { rw [show g2Y E W pts T (ct E W pts A) i10 w 1 i5 sg i16 a17 = w2C (ct E W pts A) i5 i16 a17 * _ from cif_y ky, w2_zT tq ix.1 q0.1 (by omega) (Or.inr (Or.inr (by omega))), Int.zero_mul] }
          unfold gX5_weigh_j391_293
          refine OK_jlx (fun x79 ex79 => ?_)
          try simp (disch := omega) only [jst_eq, jst_ne, jst_ni, jI_i, jcmp_lt, jcmp_gt, w32_id, jcpy_out, Sum.elim_inl, Sum.elim_inr, jt2, jt3, jt4, jt5, jt6, jt7, jt8] at ex79
          refine OK_il ?_ ?_
          · try dsimp only [Sum.elim_inl, Sum.elim_inr, jt2, jt3, jt4, jt5, jt6, jt7, jt8]
            refine ⟨?_, ?_, ?_, ?_⟩
            · (first | ((rw [q1, show x79 = a17 + 1 by omega, sumN_s q0.1, SZ, Int.add_zero])) | ((rw [ex78]; (try rw [w8]); rw [W5, q1, w64_a, show x79 = a17 + 1 by omega, sumN_s q0.1, ST, Int.add_assoc])) | (exact JJ) | (exact J2) | (exact fr) | (exact ⟨fG_t fr.1 fs3.1, fs3.2⟩) | (first | assumption | omega | ((try dsimp only [jt2, jt3, jt4]); first | omega | (simp (disch := omega) only [jst_eq, jst_ne, jst_ni, jst_o, jI_i, jcpy_out, w32_id, jdiv_nn, jshr_k, jand_255] <;> first | done | omega | assumption)) | (intros; simp (disch := omega) only [jst_eq, jst_ne, jst_ni, jst_o, jI_i, jcpy_out, w32_id, jdiv_nn, *] <;> first | done | omega) | (intros; simp (disch := omega) only [jst_eq, jst_ne, jst_ni, jst_o, jI_i, jcpy_out, w32_id, jdiv_nn] at * <;> first | done | omega | assumption) | (intros; first | rfl | (exfalso; omega) | ((repeat' apply And.intro) <;> first | assumption | rfl | omega | trivial)))) -- o30 e4i.1
            · (first | ((rw [q1, show x79 = a17 + 1 by omega, sumN_s q0.1, SZ, Int.add_zero])) | ((rw [ex78]; (try rw [w8]); rw [W5, q1, w64_a, show x79 = a17 + 1 by omega, sumN_s q0.1, ST, Int.add_assoc])) | (exact JJ) | (exact J2) | (exact fr) | (exact ⟨fG_t fr.1 fs3.1, fs3.2⟩) | (first | assumption | omega | ((try dsimp only [jt2, jt3, jt4]); first | omega | (simp (disch := omega) only [jst_eq, jst_ne, jst_ni, jst_o, jI_i, jcpy_out, w32_id, jdiv_nn, jshr_k, jand_255] <;> first | done | omega | assumption)) | (intros; simp (disch := omega) only [jst_eq, jst_ne, jst_ni, jst_o, jI_i, jcpy_out, w32_id, jdiv_nn, *] <;> first | done | omega) | (intros; simp (disch := omega) only [jst_eq, jst_ne, jst_ni, jst_o, jI_i, jcpy_out, w32_id, jdiv_nn] at * <;> first | done | omega | assumption) | (intros; first | rfl | (exfalso; omega) | ((repeat' apply And.intro) <;> first | assumption | rfl | omega | trivial)))) -- o31 e4i.2
            · (first | ((rw [q1, show x79 = a17 + 1 by omega, sumN_s q0.1, SZ, Int.add_zero])) | ((rw [ex78]; (try rw [w8]); rw [W5, q1, w64_a, show x79 = a17 + 1 by omega, sumN_s q0.1, ST, Int.add_assoc])) | (exact JJ) | (exact J2) | (exact fr) | (exact ⟨fG_t fr.1 fs3.1, fs3.2⟩) | (first | assumption | omega | ((try dsimp only [jt2, jt3, jt4]); first | omega | (simp (disch := omega) only [jst_eq, jst_ne, jst_ni, jst_o, jI_i, jcpy_out, w32_id, jdiv_nn, jshr_k, jand_255] <;> first | done | omega | assumption)) | (intros; simp (disch := omega) only [jst_eq, jst_ne, jst_ni, jst_o, jI_i, jcpy_out, w32_id, jdiv_nn, *] <;> first | done | omega) | (intros; simp (disch := omega) only [jst_eq, jst_ne, jst_ni, jst_o, jI_i, jcpy_out, w32_id, jdiv_nn] at * <;> first | done | omega | assumption) | (intros; first | rfl | (exfalso; omega) | ((repeat' apply And.intro) <;> first | assumption | rfl | omega | trivial)))) -- o32 e4i.3
            · (first | ((rw [q1, show x79 = a17 + 1 by omega, sumN_s q0.1, SZ, Int.add_zero])) | ((rw [ex78]; (try rw [w8]); rw [W5, q1, w64_a, show x79 = a17 + 1 by omega, sumN_s q0.1, ST, Int.add_assoc])) | (exact JJ) | (exact J2) | (exact fr) | (exact ⟨fG_t fr.1 fs3.1, fs3.2⟩) | (first | assumption | omega | ((try dsimp only [jt2, jt3, jt4]); first | omega | (simp (disch := omega) only [jst_eq, jst_ne, jst_ni, jst_o, jI_i, jcpy_out, w32_id, jdiv_nn, jshr_k, jand_255] <;> first | done | omega | assumption)) | (intros; simp (disch := omega) only [jst_eq, jst_ne, jst_ni, jst_o, jI_i, jcpy_out, w32_id, jdiv_nn, *] <;> first | done | omega) | (intros; simp (disch := omega) only [jst_eq, jst_ne, jst_ni, jst_o, jI_i, jcpy_out, w32_id, jdiv_nn] at * <;> first | done | omega | assumption) | (intros; first | rfl | (exfalso; omega) | ((repeat' apply And.intro) <;> first | assumption | rfl | omega | trivial)))) -- o33 e4i.4
          · (first | ((rw [q1, show x79 = a17 + 1 by omega, sumN_s q0.1, SZ, Int.add_zero])) | ((rw [ex78]; (try rw [w8]); rw [W5, q1, w64_a, show x79 = a17 + 1 by omega, sumN_s q0.1, ST, Int.add_assoc])) | (exact JJ) | (exact J2) | (exact fr) | (exact ⟨fG_t fr.1 fs3.1, fs3.2⟩) | (first | assumption | omega | ((try dsimp only [jt2, jt3, jt4]); first | omega | (simp (disch := omega) only [jst_eq, jst_ne, jst_ni, jst_o, jI_i, jcpy_out, w32_id, jdiv_nn, jshr_k, jand_255] <;> first | done | omega | assumption)) | (intros; simp (disch := omega) only [jst_eq, jst_ne, jst_ni, jst_o, jI_i, jcpy_out, w32_id, jdiv_nn, *] <;> first | done | omega) | (intros; simp (disch := omega) only [jst_eq, jst_ne, jst_ni, jst_o, jI_i, jcpy_out, w32_id, jdiv_nn] at * <;> first | done | omega | assumption) | (intros; first | rfl | (exfalso; omega) | ((repeat' apply And.intro) <;> first | assumption | rfl | omega | trivial)))) -- o34 e4m
      · skip
        try simp (disch := omega) only [jst_eq, jst_ne, jst_ni, jI_i, jcmp_lt, jcmp_gt, w32_id, jcpy_out, Sum.elim_inl, Sum.elim_inr, jt2, jt3, jt4, jt5, jt6, jt7, jt8] at c2
        have ky : ¬ T.2.1 a17 = eK E i10 (1 + 1) := by { have y : ¬ T.2.1 a17 = eK E i10 2 := (by (rw [← h7.1]; omega)); exact y }
        have SZ : g2Y E W pts T (ct E W pts A) i10 w 1 i5 sg i16 a17 = 0 := cif_n ky
        unfold gX5_weigh_j391_293
        refine OK_jlx (fun x79 ex79 => ?_)
        try simp (disch := omega) only [jst_eq, jst_ne, jst_ni, jI_i, jcmp_lt, jcmp_gt, w32_id, jcpy_out, Sum.elim_inl, Sum.elim_inr, jt2, jt3, jt4, jt5, jt6, jt7, jt8] at ex79
        refine OK_il ?_ ?_
        · try dsimp only [Sum.elim_inl, Sum.elim_inr, jt2, jt3, jt4, jt5, jt6, jt7, jt8]
          refine ⟨?_, ?_, ?_, ?_⟩
          · (first | ((rw [q1, show x79 = a17 + 1 by omega, sumN_s q0.1, SZ, Int.add_zero])) | ((rw [ex78]; (try rw [w8]); rw [W5, q1, w64_a, show x79 = a17 + 1 by omega, sumN_s q0.1, ST, Int.add_assoc])) | (exact JJ) | (exact J2) | (exact fr) | (exact ⟨fG_t fr.1 fs3.1, fs3.2⟩) | (first | assumption | omega | ((try dsimp only [jt2, jt3, jt4]); first | omega | (simp (disch := omega) only [jst_eq, jst_ne, jst_ni, jst_o, jI_i, jcpy_out, w32_id, jdiv_nn, jshr_k, jand_255] <;> first | done | omega | assumption)) | (intros; simp (disch := omega) only [jst_eq, jst_ne, jst_ni, jst_o, jI_i, jcpy_out, w32_id, jdiv_nn, *] <;> first | done | omega) | (intros; simp (disch := omega) only [jst_eq, jst_ne, jst_ni, jst_o, jI_i, jcpy_out, w32_id, jdiv_nn] at * <;> first | done | omega | assumption) | (intros; first | rfl | (exfalso; omega) | ((repeat' apply And.intro) <;> first | assumption | rfl | omega | trivial)))) -- o35 e5i.1
          · (first | ((rw [q1, show x79 = a17 + 1 by omega, sumN_s q0.1, SZ, Int.add_zero])) | ((rw [ex78]; (try rw [w8]); rw [W5, q1, w64_a, show x79 = a17 + 1 by omega, sumN_s q0.1, ST, Int.add_assoc])) | (exact JJ) | (exact J2) | (exact fr) | (exact ⟨fG_t fr.1 fs3.1, fs3.2⟩) | (first | assumption | omega | ((try dsimp only [jt2, jt3, jt4]); first | omega | (simp (disch := omega) only [jst_eq, jst_ne, jst_ni, jst_o, jI_i, jcpy_out, w32_id, jdiv_nn, jshr_k, jand_255] <;> first | done | omega | assumption)) | (intros; simp (disch := omega) only [jst_eq, jst_ne, jst_ni, jst_o, jI_i, jcpy_out, w32_id, jdiv_nn, *] <;> first | done | omega) | (intros; simp (disch := omega) only [jst_eq, jst_ne, jst_ni, jst_o, jI_i, jcpy_out, w32_id, jdiv_nn] at * <;> first | done | omega | assumption) | (intros; first | rfl | (exfalso; omega) | ((repeat' apply And.intro) <;> first | assumption | rfl | omega | trivial)))) -- o36 e5i.2
          · (first | ((rw [q1, show x79 = a17 + 1 by omega, sumN_s q0.1, SZ, Int.add_zero])) | ((rw [ex78]; (try rw [w8]); rw [W5, q1, w64_a, show x79 = a17 + 1 by omega, sumN_s q0.1, ST, Int.add_assoc])) | (exact JJ) | (exact J2) | (exact fr) | (exact ⟨fG_t fr.1 fs3.1, fs3.2⟩) | (first | assumption | omega | ((try dsimp only [jt2, jt3, jt4]); first | omega | (simp (disch := omega) only [jst_eq, jst_ne, jst_ni, jst_o, jI_i, jcpy_out, w32_id, jdiv_nn, jshr_k, jand_255] <;> first | done | omega | assumption)) | (intros; simp (disch := omega) only [jst_eq, jst_ne, jst_ni, jst_o, jI_i, jcpy_out, w32_id, jdiv_nn, *] <;> first | done | omega) | (intros; simp (disch := omega) only [jst_eq, jst_ne, jst_ni, jst_o, jI_i, jcpy_out, w32_id, jdiv_nn] at * <;> first | done | omega | assumption) | (intros; first | rfl | (exfalso; omega) | ((repeat' apply And.intro) <;> first | assumption | rfl | omega | trivial)))) -- o37 e5i.3
          · (first | ((rw [q1, show x79 = a17 + 1 by omega, sumN_s q0.1, SZ, Int.add_zero])) | ((rw [ex78]; (try rw [w8]); rw [W5, q1, w64_a, show x79 = a17 + 1 by omega, sumN_s q0.1, ST, Int.add_assoc])) | (exact JJ) | (exact J2) | (exact fr) | (exact ⟨fG_t fr.1 fs3.1, fs3.2⟩) | (first | assumption | omega | ((try dsimp only [jt2, jt3, jt4]); first | omega | (simp (disch := omega) only [jst_eq, jst_ne, jst_ni, jst_o, jI_i, jcpy_out, w32_id, jdiv_nn, jshr_k, jand_255] <;> first | done | omega | assumption)) | (intros; simp (disch := omega) only [jst_eq, jst_ne, jst_ni, jst_o, jI_i, jcpy_out, w32_id, jdiv_nn, *] <;> first | done | omega) | (intros; simp (disch := omega) only [jst_eq, jst_ne, jst_ni, jst_o, jI_i, jcpy_out, w32_id, jdiv_nn] at * <;> first | done | omega | assumption) | (intros; first | rfl | (exfalso; omega) | ((repeat' apply And.intro) <;> first | assumption | rfl | omega | trivial)))) -- o38 e5i.4
        · (first | ((rw [q1, show x79 = a17 + 1 by omega, sumN_s q0.1, SZ, Int.add_zero])) | ((rw [ex78]; (try rw [w8]); rw [W5, q1, w64_a, show x79 = a17 + 1 by omega, sumN_s q0.1, ST, Int.add_assoc])) | (exact JJ) | (exact J2) | (exact fr) | (exact ⟨fG_t fr.1 fs3.1, fs3.2⟩) | (first | assumption | omega | ((try dsimp only [jt2, jt3, jt4]); first | omega | (simp (disch := omega) only [jst_eq, jst_ne, jst_ni, jst_o, jI_i, jcpy_out, w32_id, jdiv_nn, jshr_k, jand_255] <;> first | done | omega | assumption)) | (intros; simp (disch := omega) only [jst_eq, jst_ne, jst_ni, jst_o, jI_i, jcpy_out, w32_id, jdiv_nn, *] <;> first | done | omega) | (intros; simp (disch := omega) only [jst_eq, jst_ne, jst_ni, jst_o, jI_i, jcpy_out, w32_id, jdiv_nn] at * <;> first | done | omega | assumption) | (intros; first | rfl | (exfalso; omega) | ((repeat' apply And.intro) <;> first | assumption | rfl | omega | trivial)))) -- o39 e5m
  · try dsimp only [Sum.elim_inl, Sum.elim_inr, jt2, jt3, jt4, jt5, jt6, jt7, jt8]
    refine ⟨?_, ?_, ?_, ?_⟩
    · (first | ((rw [q1, show x79 = a17 + 1 by omega, sumN_s q0.1, SZ, Int.add_zero])) | ((rw [ex78]; (try rw [w8]); rw [W5, q1, w64_a, show x79 = a17 + 1 by omega, sumN_s q0.1, ST, Int.add_assoc])) | (exact JJ) | (exact J2) | (exact fr) | (exact ⟨fG_t fr.1 fs3.1, fs3.2⟩) | (first | assumption | omega | ((try dsimp only [jt2, jt3, jt4]); first | omega | (simp (disch := omega) only [jst_eq, jst_ne, jst_ni, jst_o, jI_i, jcpy_out, w32_id, jdiv_nn, jshr_k, jand_255] <;> first | done | omega | assumption)) | (intros; simp (disch := omega) only [jst_eq, jst_ne, jst_ni, jst_o, jI_i, jcpy_out, w32_id, jdiv_nn, *] <;> first | done | omega) | (intros; simp (disch := omega) only [jst_eq, jst_ne, jst_ni, jst_o, jI_i, jcpy_out, w32_id, jdiv_nn] at * <;> first | done | omega | assumption) | (intros; first | rfl | (exfalso; omega) | ((repeat' apply And.intro) <;> first | assumption | rfl | omega | trivial)))) -- o40 init.1
    · (rw [z, b0]; show w64 _ = w64 (_ + 0); rw [Int.add_zero]) -- o41 init.2
    · exact jx -- o42 init.3
    · exact ⟨fG_r _, JX_b jx⟩ -- o43 init.4
theorem vX5_weigh_l258 (i1 : Int) (i2 : Int) (i3 : Int) (i4 : Int) (i5 : Int) (i6 : Int) (i7 : Int) (i8 : Int) (i9 : Int) (i10 : Int) (i11 : Int) (i13 : Int) (a140 : Int) (a160 : Int) {h0 : AH} {E : EV} {Rf : Int → TR} {W : Int → Int → Int → VW} {A : AD} {pts wh : Int} {rv : Int → Int} {M : Int → (Int → Int) → Prop} {T : TB} {n : Nat} {w sg : Int → Int} {used : Int} (jx : JXq h0 E Rf W A pts wh rv M T n) (tq : TQ E W pts A n T) (ia : (0 ≤ i1 ∧ i1 < A.2.2.2.1) ∧ A.2.2.2.2.1 i1 = i10 ∧ 0 ≤ i10 ∧ i10 < E.1.1) (io : eO E i10 = 3) (op : opS E W pts A n i10 1 used sg ∧ sg 0 = i13) (pr : A.2.2.2.2.2.2.2 i1 + used + i5 ≤ n ∧ 0 ≤ used ∧ 0 ≤ i5) (wr : (0 ≤ i8 ∧ i8 ≤ 4680) ∧ ∀ f, 0 ≤ f → f < T.1 → h0 322 (i8 + f) = w f) (z : a140 = 0 ∧ a160 = 0) : OK (gX5_weigh_l258 i1 i2 i3 i4 i5 i6 i7 i8 i9 i10 i11 i13 a140 a160 h0) (fun r => jt2 r fun v h' => (v = w64 (rsW E W pts T (ct E W pts A) i10 w 2 1 i5 sg)) ∧ (JXq h' E Rf W A pts wh rv M T n) ∧ (fG h0 h' ∧ b10 h')) := by
  unfold gX5_weigh_l258
  refine OK_jit (I := (fun (s : Int × Int × AH) => jt3 s fun a14 a16 h => (0 ≤ a16 ∧ a16 ≤ T.1) ∧ (a14 = w64 (sumN (g2W E W pts T (ct E W pts A) i10 w 1 i5 sg) a16.toNat)) ∧ (JXq h E Rf W A pts wh rv M T n) ∧ (fG h0 h ∧ b10 h))) (m := (fun (s : Int × Int × AH) => jt3 s fun a14 a16 h => (T.1 - a16).toNat)) ?_ ?_
  · intro s hs
    obtain ⟨a14, a16, h⟩ := s
    dsimp only [Sum.elim_inl, Sum.elim_inr, jt2, jt3, jt4, jt5, jt6, jt7, jt8] at hs
    obtain ⟨q0, q1, JJ, fr⟩ := hs
    unfold gX5_weigh_b258
    refine OK_jt3 ?_
    have XX := JJ.2.1
    have CN := JJ.2.2
    have SE := JJ.1
    obtain ⟨H1, H2, H3, H4⟩ := XI_h XX
    have n12 := tq.1.1
    have en := SE.1.2.1
    have pp := (tq.1.2.2.2.1.2.2 i1 ia.1.1 ia.1.2).1
    refine OK_if (fun c1 => ?_) (fun c1 => ?_)
    · skip
      try simp (disch := omega) only [jst_eq, jst_ne, jst_ni, jI_i, jcmp_lt, jcmp_gt, w32_id, jcpy_out, Sum.elim_inl, Sum.elim_inr, jt2, jt3, jt4, jt5, jt6, jt7, jt8] at c1
      refine OK_ir ?_
      try dsimp only [Sum.elim_inl, Sum.elim_inr, jt2, jt3, jt4, jt5, jt6, jt7, jt8]
      refine ⟨?_, ?_, ?_⟩
      · (rw [q1, show a16 = T.1 by omega, g2_rs (by omega) (fun f => ct_n (by decide))]) -- o1 e1.1
      · (first | ((rw [q1, show x66 = a16 + 1 by omega, sumN_s q0.1, show g2W E W pts T (ct E W pts A) i10 w 1 i5 sg a16 = 0 from cif_n ky, Int.add_zero])) | ((rw [show y64 = _ from vv2, show x66 = a16 + 1 by omega, sumN_s q0.1, show g2W E W pts T (ct E W pts A) i10 w 1 i5 sg a16 = _ from cif_y ky])) | (exact JJ) | (exact jj2) | (exact fr) | (exact ⟨fG_t fr.1 fs2.1, fs2.2⟩) | (first | assumption | omega | ((try dsimp only [jt2, jt3, jt4]); first | omega | (simp (disch := omega) only [jst_eq, jst_ne, jst_ni, jst_o, jI_i, jcpy_out, w32_id, jdiv_nn, jshr_k, jand_255] <;> first | done | omega | assumption)) | (intros; simp (disch := omega) only [jst_eq, jst_ne, jst_ni, jst_o, jI_i, jcpy_out, w32_id, jdiv_nn, *] <;> first | done | omega) | (intros; simp (disch := omega) only [jst_eq, jst_ne, jst_ni, jst_o, jI_i, jcpy_out, w32_id, jdiv_nn] at * <;> first | done | omega | assumption) | (intros; first | rfl | (exfalso; omega) | ((repeat' apply And.intro) <;> first | assumption | rfl | omega | trivial)))) -- o2 e1.2
      · (first | ((rw [q1, show x66 = a16 + 1 by omega, sumN_s q0.1, show g2W E W pts T (ct E W pts A) i10 w 1 i5 sg a16 = 0 from cif_n ky, Int.add_zero])) | ((rw [show y64 = _ from vv2, show x66 = a16 + 1 by omega, sumN_s q0.1, show g2W E W pts T (ct E W pts A) i10 w 1 i5 sg a16 = _ from cif_y ky])) | (exact JJ) | (exact jj2) | (exact fr) | (exact ⟨fG_t fr.1 fs2.1, fs2.2⟩) | (first | assumption | omega | ((try dsimp only [jt2, jt3, jt4]); first | omega | (simp (disch := omega) only [jst_eq, jst_ne, jst_ni, jst_o, jI_i, jcpy_out, w32_id, jdiv_nn, jshr_k, jand_255] <;> first | done | omega | assumption)) | (intros; simp (disch := omega) only [jst_eq, jst_ne, jst_ni, jst_o, jI_i, jcpy_out, w32_id, jdiv_nn, *] <;> first | done | omega) | (intros; simp (disch := omega) only [jst_eq, jst_ne, jst_ni, jst_o, jI_i, jcpy_out, w32_id, jdiv_nn] at * <;> first | done | omega | assumption) | (intros; first | rfl | (exfalso; omega) | ((repeat' apply And.intro) <;> first | assumption | rfl | omega | trivial)))) -- o3 e1.3
    · skip
      try simp (disch := omega) only [jst_eq, jst_ne, jst_ni, jI_i, jcmp_lt, jcmp_gt, w32_id, jcpy_out, Sum.elim_inl, Sum.elim_inr, jt2, jt3, jt4, jt5, jt6, jt7, jt8] at c1
      have h7 := H4 a16 q0.1 (by omega)
      have w66 : w32 (a16 + 1) = a16 + 1 := w32_id (by omega) (by omega)
      refine OK_jg (by (first | ((rw [q1, show x66 = a16 + 1 by omega, sumN_s q0.1, show g2W E W pts T (ct E W pts A) i10 w 1 i5 sg a16 = 0 from cif_n ky, Int.add_zero])) | ((rw [show y64 = _ from vv2, show x66 = a16 + 1 by omega, sumN_s q0.1, show g2W E W pts T (ct E W pts A) i10 w 1 i5 sg a16 = _ from cif_y ky])) | (exact JJ) | (exact jj2) | (exact fr) | (exact ⟨fG_t fr.1 fs2.1, fs2.2⟩) | (first | assumption | omega | ((try dsimp only [jt2, jt3, jt4]); first | omega | (simp (disch := omega) only [jst_eq, jst_ne, jst_ni, jst_o, jI_i, jcpy_out, w32_id, jdiv_nn, jshr_k, jand_255] <;> first | done | omega | assumption)) | (intros; simp (disch := omega) only [jst_eq, jst_ne, jst_ni, jst_o, jI_i, jcpy_out, w32_id, jdiv_nn, *] <;> first | done | omega) | (intros; simp (disch := omega) only [jst_eq, jst_ne, jst_ni, jst_o, jI_i, jcpy_out, w32_id, jdiv_nn] at * <;> first | done | omega | assumption) | (intros; first | rfl | (exfalso; omega) | ((repeat' apply And.intro) <;> first | assumption | rfl | omega | trivial))))) ?_ -- o4
      refine OK_jb (vX1_kindOf (nA := E.1.1) (cA := E.1.2.1) (oA := E.1.2.2.1) (wA := E.1.2.2.2.1) (kA := E.1.2.2.2.2) _ _ (by exact en.1) (by exact ⟨ia.2.2.1, ia.2.2.2, by decide, by (rw [oper_eq ia.2.2.1]; omega)⟩)) (fun v60 r1 => ?_)
      try dsimp only [Sum.elim_inl, Sum.elim_inr, jt2, jt3, jt4, jt5, jt6, jt7, jt8] at r1
      have v1 := r1
      clear r1
      try simp (disch := omega) only [jst_eq, jst_ne, jst_ni, jI_i, jcmp_lt, jcmp_gt, w32_id, jcpy_out, Sum.elim_inl, Sum.elim_inr, jt2, jt3, jt4, jt5, jt6, jt7, jt8] at v1
      have e60 : v60 = eK E i10 1 := by { rw [← kind_eq ia.2.2.1]; first | assumption | exact v1 }
      refine OK_if (fun c2 => ?_) (fun c2 => ?_)
      · skip
        try simp (disch := omega) only [jst_eq, jst_ne, jst_ni, jI_i, jcmp_lt, jcmp_gt, w32_id, jcpy_out, Sum.elim_inl, Sum.elim_inr, jt2, jt3, jt4, jt5, jt6, jt7, jt8] at c2
        have ky : T.2.1 a16 = eK E i10 1 := by { rw [← h7.1]; omega }
        refine OK_jb (vX5_weigh_l293 (E := E) (Rf := Rf) (W := W) (A := A) (pts := pts) (wh := wh) (rv := rv) (M := M) (T := T) (n := n) (w := w) (sg := sg) (used := used) (bb := sumN (g2W E W pts T (ct E W pts A) i10 w 1 i5 sg) a16.toNat) _ _ _ _ _ _ _ _ _ _ _ _ _ _ _ (by exact JJ) (by exact tq) (by exact ia) (by exact io) (by exact op) (by exact ⟨q0.1, by omega, ky⟩) (by exact pr) (by exact ⟨wr.1, fun f f0 f1 => by (rw [fr.1 _ _ (by omega) (by omega) (by omega) (by omega)]; exact wr.2 f f0 f1)⟩) (by exact q1) (by rfl)) (fun o62 r2 => ?_)
        obtain ⟨y64, h65⟩ := o62
        refine OK_jt2 ?_
        try dsimp only [Sum.elim_inl, Sum.elim_inr, jt2, jt3, jt4, jt5, jt6, jt7, jt8] at r2
        obtain ⟨vv2, jj2, fs2⟩ := r2
        try simp (disch := omega) only [jst_eq, jst_ne, jst_ni, jI_i, jcmp_lt, jcmp_gt, w32_id, jcpy_out, Sum.elim_inl, Sum.elim_inr, jt2, jt3, jt4, jt5, jt6, jt7, jt8] at vv2
        try simp (disch := omega) only [jst_eq, jst_ne, jst_ni, jI_i, jcmp_lt, jcmp_gt, w32_id, jcpy_out, Sum.elim_inl, Sum.elim_inr, jt2, jt3, jt4, jt5, jt6, jt7, jt8] at jj2
        try simp (disch := omega) only [jst_eq, jst_ne, jst_ni, jI_i, jcmp_lt, jcmp_gt, w32_id, jcpy_out, Sum.elim_inl, Sum.elim_inr, jt2, jt3, jt4, jt5, jt6, jt7, jt8] at fs2
        unfold gX5_weigh_j397_258
        refine OK_jlx (fun x66 ex66 => ?_)
        try simp (disch := omega) only [jst_eq, jst_ne, jst_ni, jI_i, jcmp_lt, jcmp_gt, w32_id, jcpy_out, Sum.elim_inl, Sum.elim_inr, jt2, jt3, jt4, jt5, jt6, jt7, jt8] at ex66
        refine OK_il ?_ ?_
        · try dsimp only [Sum.elim_inl, Sum.elim_inr, jt2, jt3, jt4, jt5, jt6, jt7, jt8]
          refine ⟨?_, ?_, ?_, ?_⟩
          · (first | ((rw [q1, show x66 = a16 + 1 by omega, sumN_s q0.1, show g2W E W pts T (ct E W pts A) i10 w 1 i5 sg a16 = 0 from cif_n ky, Int.add_zero])) | ((rw [show y64 = _ from vv2, show x66 = a16 + 1 by omega, sumN_s q0.1, show g2W E W pts T (ct E W pts A) i10 w 1 i5 sg a16 = _ from cif_y ky])) | (exact JJ) | (exact jj2) | (exact fr) | (exact ⟨fG_t fr.1 fs2.1, fs2.2⟩) | (first | assumption | omega | ((try dsimp only [jt2, jt3, jt4]); first | omega | (simp (disch := omega) only [jst_eq, jst_ne, jst_ni, jst_o, jI_i, jcpy_out, w32_id, jdiv_nn, jshr_k, jand_255] <;> first | done | omega | assumption)) | (intros; simp (disch := omega) only [jst_eq, jst_ne, jst_ni, jst_o, jI_i, jcpy_out, w32_id, jdiv_nn, *] <;> first | done | omega) | (intros; simp (disch := omega) only [jst_eq, jst_ne, jst_ni, jst_o, jI_i, jcpy_out, w32_id, jdiv_nn] at * <;> first | done | omega | assumption) | (intros; first | rfl | (exfalso; omega) | ((repeat' apply And.intro) <;> first | assumption | rfl | omega | trivial)))) -- o17 e2i.1
          · (first | ((rw [q1, show x66 = a16 + 1 by omega, sumN_s q0.1, show g2W E W pts T (ct E W pts A) i10 w 1 i5 sg a16 = 0 from cif_n ky, Int.add_zero])) | ((rw [show y64 = _ from vv2, show x66 = a16 + 1 by omega, sumN_s q0.1, show g2W E W pts T (ct E W pts A) i10 w 1 i5 sg a16 = _ from cif_y ky])) | (exact JJ) | (exact jj2) | (exact fr) | (exact ⟨fG_t fr.1 fs2.1, fs2.2⟩) | (first | assumption | omega | ((try dsimp only [jt2, jt3, jt4]); first | omega | (simp (disch := omega) only [jst_eq, jst_ne, jst_ni, jst_o, jI_i, jcpy_out, w32_id, jdiv_nn, jshr_k, jand_255] <;> first | done | omega | assumption)) | (intros; simp (disch := omega) only [jst_eq, jst_ne, jst_ni, jst_o, jI_i, jcpy_out, w32_id, jdiv_nn, *] <;> first | done | omega) | (intros; simp (disch := omega) only [jst_eq, jst_ne, jst_ni, jst_o, jI_i, jcpy_out, w32_id, jdiv_nn] at * <;> first | done | omega | assumption) | (intros; first | rfl | (exfalso; omega) | ((repeat' apply And.intro) <;> first | assumption | rfl | omega | trivial)))) -- o18 e2i.2
          · (first | ((rw [q1, show x66 = a16 + 1 by omega, sumN_s q0.1, show g2W E W pts T (ct E W pts A) i10 w 1 i5 sg a16 = 0 from cif_n ky, Int.add_zero])) | ((rw [show y64 = _ from vv2, show x66 = a16 + 1 by omega, sumN_s q0.1, show g2W E W pts T (ct E W pts A) i10 w 1 i5 sg a16 = _ from cif_y ky])) | (exact JJ) | (exact jj2) | (exact fr) | (exact ⟨fG_t fr.1 fs2.1, fs2.2⟩) | (first | assumption | omega | ((try dsimp only [jt2, jt3, jt4]); first | omega | (simp (disch := omega) only [jst_eq, jst_ne, jst_ni, jst_o, jI_i, jcpy_out, w32_id, jdiv_nn, jshr_k, jand_255] <;> first | done | omega | assumption)) | (intros; simp (disch := omega) only [jst_eq, jst_ne, jst_ni, jst_o, jI_i, jcpy_out, w32_id, jdiv_nn, *] <;> first | done | omega) | (intros; simp (disch := omega) only [jst_eq, jst_ne, jst_ni, jst_o, jI_i, jcpy_out, w32_id, jdiv_nn] at * <;> first | done | omega | assumption) | (intros; first | rfl | (exfalso; omega) | ((repeat' apply And.intro) <;> first | assumption | rfl | omega | trivial)))) -- o19 e2i.3
          · (first | ((rw [q1, show x66 = a16 + 1 by omega, sumN_s q0.1, show g2W E W pts T (ct E W pts A) i10 w 1 i5 sg a16 = 0 from cif_n ky, Int.add_zero])) | ((rw [show y64 = _ from vv2, show x66 = a16 + 1 by omega, sumN_s q0.1, show g2W E W pts T (ct E W pts A) i10 w 1 i5 sg a16 = _ from cif_y ky])) | (exact JJ) | (exact jj2) | (exact fr) | (exact ⟨fG_t fr.1 fs2.1, fs2.2⟩) | (first | assumption | omega | ((try dsimp only [jt2, jt3, jt4]); first | omega | (simp (disch := omega) only [jst_eq, jst_ne, jst_ni, jst_o, jI_i, jcpy_out, w32_id, jdiv_nn, jshr_k, jand_255] <;> first | done | omega | assumption)) | (intros; simp (disch := omega) only [jst_eq, jst_ne, jst_ni, jst_o, jI_i, jcpy_out, w32_id, jdiv_nn, *] <;> first | done | omega) | (intros; simp (disch := omega) only [jst_eq, jst_ne, jst_ni, jst_o, jI_i, jcpy_out, w32_id, jdiv_nn] at * <;> first | done | omega | assumption) | (intros; first | rfl | (exfalso; omega) | ((repeat' apply And.intro) <;> first | assumption | rfl | omega | trivial)))) -- o20 e2i.4
        · (first | ((rw [q1, show x66 = a16 + 1 by omega, sumN_s q0.1, show g2W E W pts T (ct E W pts A) i10 w 1 i5 sg a16 = 0 from cif_n ky, Int.add_zero])) | ((rw [show y64 = _ from vv2, show x66 = a16 + 1 by omega, sumN_s q0.1, show g2W E W pts T (ct E W pts A) i10 w 1 i5 sg a16 = _ from cif_y ky])) | (exact JJ) | (exact jj2) | (exact fr) | (exact ⟨fG_t fr.1 fs2.1, fs2.2⟩) | (first | assumption | omega | ((try dsimp only [jt2, jt3, jt4]); first | omega | (simp (disch := omega) only [jst_eq, jst_ne, jst_ni, jst_o, jI_i, jcpy_out, w32_id, jdiv_nn, jshr_k, jand_255] <;> first | done | omega | assumption)) | (intros; simp (disch := omega) only [jst_eq, jst_ne, jst_ni, jst_o, jI_i, jcpy_out, w32_id, jdiv_nn, *] <;> first | done | omega) | (intros; simp (disch := omega) only [jst_eq, jst_ne, jst_ni, jst_o, jI_i, jcpy_out, w32_id, jdiv_nn] at * <;> first | done | omega | assumption) | (intros; first | rfl | (exfalso; omega) | ((repeat' apply And.intro) <;> first | assumption | rfl | omega | trivial)))) -- o21 e2m
      · skip
        try simp (disch := omega) only [jst_eq, jst_ne, jst_ni, jI_i, jcmp_lt, jcmp_gt, w32_id, jcpy_out, Sum.elim_inl, Sum.elim_inr, jt2, jt3, jt4, jt5, jt6, jt7, jt8] at c2
        have ky : ¬ T.2.1 a16 = eK E i10 1 := by { rw [← h7.1]; omega }
        unfold gX5_weigh_j397_258
        refine OK_jlx (fun x66 ex66 => ?_)
        try simp (disch := omega) only [jst_eq, jst_ne, jst_ni, jI_i, jcmp_lt, jcmp_gt, w32_id, jcpy_out, Sum.elim_inl, Sum.elim_inr, jt2, jt3, jt4, jt5, jt6, jt7, jt8] at ex66
        refine OK_il ?_ ?_
        · try dsimp only [Sum.elim_inl, Sum.elim_inr, jt2, jt3, jt4, jt5, jt6, jt7, jt8]
          refine ⟨?_, ?_, ?_, ?_⟩
          · (first | ((rw [q1, show x66 = a16 + 1 by omega, sumN_s q0.1, show g2W E W pts T (ct E W pts A) i10 w 1 i5 sg a16 = 0 from cif_n ky, Int.add_zero])) | ((rw [show y64 = _ from vv2, show x66 = a16 + 1 by omega, sumN_s q0.1, show g2W E W pts T (ct E W pts A) i10 w 1 i5 sg a16 = _ from cif_y ky])) | (exact JJ) | (exact jj2) | (exact fr) | (exact ⟨fG_t fr.1 fs2.1, fs2.2⟩) | (first | assumption | omega | ((try dsimp only [jt2, jt3, jt4]); first | omega | (simp (disch := omega) only [jst_eq, jst_ne, jst_ni, jst_o, jI_i, jcpy_out, w32_id, jdiv_nn, jshr_k, jand_255] <;> first | done | omega | assumption)) | (intros; simp (disch := omega) only [jst_eq, jst_ne, jst_ni, jst_o, jI_i, jcpy_out, w32_id, jdiv_nn, *] <;> first | done | omega) | (intros; simp (disch := omega) only [jst_eq, jst_ne, jst_ni, jst_o, jI_i, jcpy_out, w32_id, jdiv_nn] at * <;> first | done | omega | assumption) | (intros; first | rfl | (exfalso; omega) | ((repeat' apply And.intro) <;> first | assumption | rfl | omega | trivial)))) -- o22 e3i.1
          · (first | ((rw [q1, show x66 = a16 + 1 by omega, sumN_s q0.1, show g2W E W pts T (ct E W pts A) i10 w 1 i5 sg a16 = 0 from cif_n ky, Int.add_zero])) | ((rw [show y64 = _ from vv2, show x66 = a16 + 1 by omega, sumN_s q0.1, show g2W E W pts T (ct E W pts A) i10 w 1 i5 sg a16 = _ from cif_y ky])) | (exact JJ) | (exact jj2) | (exact fr) | (exact ⟨fG_t fr.1 fs2.1, fs2.2⟩) | (first | assumption | omega | ((try dsimp only [jt2, jt3, jt4]); first | omega | (simp (disch := omega) only [jst_eq, jst_ne, jst_ni, jst_o, jI_i, jcpy_out, w32_id, jdiv_nn, jshr_k, jand_255] <;> first | done | omega | assumption)) | (intros; simp (disch := omega) only [jst_eq, jst_ne, jst_ni, jst_o, jI_i, jcpy_out, w32_id, jdiv_nn, *] <;> first | done | omega) | (intros; simp (disch := omega) only [jst_eq, jst_ne, jst_ni, jst_o, jI_i, jcpy_out, w32_id, jdiv_nn] at * <;> first | done | omega | assumption) | (intros; first | rfl | (exfalso; omega) | ((repeat' apply And.intro) <;> first | assumption | rfl | omega | trivial)))) -- o23 e3i.2
          · (first | ((rw [q1, show x66 = a16 + 1 by omega, sumN_s q0.1, show g2W E W pts T (ct E W pts A) i10 w 1 i5 sg a16 = 0 from cif_n ky, Int.add_zero])) | ((rw [show y64 = _ from vv2, show x66 = a16 + 1 by omega, sumN_s q0.1, show g2W E W pts T (ct E W pts A) i10 w 1 i5 sg a16 = _ from cif_y ky])) | (exact JJ) | (exact jj2) | (exact fr) | (exact ⟨fG_t fr.1 fs2.1, fs2.2⟩) | (first | assumption | omega | ((try dsimp only [jt2, jt3, jt4]); first | omega | (simp (disch := omega) only [jst_eq, jst_ne, jst_ni, jst_o, jI_i, jcpy_out, w32_id, jdiv_nn, jshr_k, jand_255] <;> first | done | omega | assumption)) | (intros; simp (disch := omega) only [jst_eq, jst_ne, jst_ni, jst_o, jI_i, jcpy_out, w32_id, jdiv_nn, *] <;> first | done | omega) | (intros; simp (disch := omega) only [jst_eq, jst_ne, jst_ni, jst_o, jI_i, jcpy_out, w32_id, jdiv_nn] at * <;> first | done | omega | assumption) | (intros; first | rfl | (exfalso; omega) | ((repeat' apply And.intro) <;> first | assumption | rfl | omega | trivial)))) -- o24 e3i.3
          · (first | ((rw [q1, show x66 = a16 + 1 by omega, sumN_s q0.1, show g2W E W pts T (ct E W pts A) i10 w 1 i5 sg a16 = 0 from cif_n ky, Int.add_zero])) | ((rw [show y64 = _ from vv2, show x66 = a16 + 1 by omega, sumN_s q0.1, show g2W E W pts T (ct E W pts A) i10 w 1 i5 sg a16 = _ from cif_y ky])) | (exact JJ) | (exact jj2) | (exact fr) | (exact ⟨fG_t fr.1 fs2.1, fs2.2⟩) | (first | assumption | omega | ((try dsimp only [jt2, jt3, jt4]); first | omega | (simp (disch := omega) only [jst_eq, jst_ne, jst_ni, jst_o, jI_i, jcpy_out, w32_id, jdiv_nn, jshr_k, jand_255] <;> first | done | omega | assumption)) | (intros; simp (disch := omega) only [jst_eq, jst_ne, jst_ni, jst_o, jI_i, jcpy_out, w32_id, jdiv_nn, *] <;> first | done | omega) | (intros; simp (disch := omega) only [jst_eq, jst_ne, jst_ni, jst_o, jI_i, jcpy_out, w32_id, jdiv_nn] at * <;> first | done | omega | assumption) | (intros; first | rfl | (exfalso; omega) | ((repeat' apply And.intro) <;> first | assumption | rfl | omega | trivial)))) -- o25 e3i.4
        · (first | ((rw [q1, show x66 = a16 + 1 by omega, sumN_s q0.1, show g2W E W pts T (ct E W pts A) i10 w 1 i5 sg a16 = 0 from cif_n ky, Int.add_zero])) | ((rw [show y64 = _ from vv2, show x66 = a16 + 1 by omega, sumN_s q0.1, show g2W E W pts T (ct E W pts A) i10 w 1 i5 sg a16 = _ from cif_y ky])) | (exact JJ) | (exact jj2) | (exact fr) | (exact ⟨fG_t fr.1 fs2.1, fs2.2⟩) | (first | assumption | omega | ((try dsimp only [jt2, jt3, jt4]); first | omega | (simp (disch := omega) only [jst_eq, jst_ne, jst_ni, jst_o, jI_i, jcpy_out, w32_id, jdiv_nn, jshr_k, jand_255] <;> first | done | omega | assumption)) | (intros; simp (disch := omega) only [jst_eq, jst_ne, jst_ni, jst_o, jI_i, jcpy_out, w32_id, jdiv_nn, *] <;> first | done | omega) | (intros; simp (disch := omega) only [jst_eq, jst_ne, jst_ni, jst_o, jI_i, jcpy_out, w32_id, jdiv_nn] at * <;> first | done | omega | assumption) | (intros; first | rfl | (exfalso; omega) | ((repeat' apply And.intro) <;> first | assumption | rfl | omega | trivial)))) -- o26 e3m
  · try dsimp only [Sum.elim_inl, Sum.elim_inr, jt2, jt3, jt4, jt5, jt6, jt7, jt8]
    refine ⟨?_, ?_, ?_, ?_⟩
    · (have l := (XI_h jx.2.1).2.1; omega) -- o27 init.1
    · (rw [z.1, z.2]; rfl) -- o28 init.2
    · exact jx -- o29 init.3
    · exact ⟨fG_r _, JX_b jx⟩ -- o30 init.4
theorem row_z {h : AH} {b N j : Int} {g : Int → Int} (q : ∀ f, 0 ≤ f → f < N → h 322 (b + f) = if f < j then g f else 0) (z : g j = 0) : ∀ f, 0 ≤ f → f < N → h 322 (b + f) = if f < j + 1 then g f else 0 := fun f f0 f1 => by
  rw [q f f0 f1]
  by_cases y : f < j
  · rw [if_pos y, if_pos (by omega)]
  · rw [if_neg y]
    by_cases u : f = j
    · rw [if_pos (by omega), u, z]
    · rw [if_neg (by omega)]
theorem vX5_weigh_j403_20 (a1 : Int) (a2 : Int) (a3 : Int) (a4 : Int) (a5 : Int) (a6 : Int) (a7 : Int) (a8 : Int) (a9 : Int) (a10 : Int) (a11 : Int) (a13 : Int) (a14 : Int) {h : AH} {E : EV} {Rf : Int → TR} {W : Int → Int → Int → VW} {A : AD} {pts wh : Int} {rv : Int → Int} {M : Int → (Int → Int) → Prop} {T : TB} {n m : Nat} {w sg : Int → Int} {used : Int} (jx : JXq h E Rf W A pts wh rv M T n) (q0 : 0 ≤ a13 ∧ a13 < T.1 ∧ 0 ≤ a4 ∧ a4 ≤ n ∧ n ≤ 12) (q1 : a11 = w64 (sumN (aTW E W pts T (ct E W pts A) a10 w m a2 (a4 + a5) sg a4) a13.toNat)) (q2 : ∀ f, 0 ≤ f → f < T.1 → h 322 (a9 + f) = if f < a13 then owW E W pts T (ct E W pts A) a10 w m a2 (a4 + a5) sg a4 f else 0) (vv : a14 = owW E W pts T (ct E W pts A) a10 w m a2 (a4 + a5) sg a4 a13) (z9 : 0 ≤ a9 ∧ a9 ≤ 4680) : OK (gX5_weigh_j403_20 a1 a2 a3 a4 a5 a6 a7 a8 a9 a10 a11 a13 a14 h) (Sum.elim (fun r => jt3 r fun x y h' => (x = w64 (sumN (aTW E W pts T (ct E W pts A) a10 w m a2 (a4 + a5) sg a4) (a13 + 1).toNat) ∧ y = a13 + 1) ∧ (∀ f, 0 ≤ f → f < T.1 → h' 322 (a9 + f) = if f < a13 + 1 then owW E W pts T (ct E W pts A) a10 w m a2 (a4 + a5) sg a4 f else 0) ∧ (JXq h' E Rf W A pts wh rv M T n) ∧ (fWx a9 h h' ∧ b10 h')) (fun r => jt2 r fun x h' => (0 : Int) = 1)) := by
  have T120 := jx.2.1.1
  have w1 : w32 (a9 + a13) = a9 + a13 := w32_id (by omega) (by omega)
  have w2 : w32 (a13 + 1) = a13 + 1 := w32_id (by omega) (by omega)
  unfold gX5_weigh_j403_20
  refine OK_jg (by (first | assumption | omega | ((try dsimp only [jt2, jt3, jt4]); first | omega | (simp (disch := omega) only [jst_eq, jst_ne, jst_ni, jst_o, jI_i, jcpy_out, w32_id, jdiv_nn, jshr_k, jand_255] <;> first | done | omega | assumption)) | (intros; simp (disch := omega) only [jst_eq, jst_ne, jst_ni, jst_o, jI_i, jcpy_out, w32_id, jdiv_nn, *] <;> first | done | omega) | (intros; simp (disch := omega) only [jst_eq, jst_ne, jst_ni, jst_o, jI_i, jcpy_out, w32_id, jdiv_nn] at * <;> first | done | omega | assumption) | (intros; first | rfl | (exfalso; omega) | ((repeat' apply And.intro) <;> first | assumption | rfl | omega | trivial)))) ?_ -- o1
  refine OK_jl ?_
  rw [w1]
  have J2 : JXq (jst h 322 (a9 + a13) a14) E Rf W A pts wh rv M T n := JX_n jx (fun a s y1 y2 => jst_o (by omega))
  have F2 : fWx a9 h (jst h 322 (a9 + a13) a14) := fun a s y1 y2 y3 y4 y5 => jst_o (by omega)
  have S2 : ∀ f, 0 ≤ f → f < T.1 → jst h 322 (a9 + a13) a14 322 (a9 + f) = if f < a13 + 1 then owW E W pts T (ct E W pts A) a10 w m a2 (a4 + a5) sg a4 f else 0 := fun f f0 f1 => by
      by_cases y : f = a13
      · subst y
        rw [if_pos (by omega)]
        exact jst_eq.trans vv
      · rw [jst_o (by omega), q2 f f0 f1]
        by_cases z : f < a13
        · rw [if_pos z, if_pos (by omega)]
        · rw [if_neg z, if_neg (by omega)]
  refine OK_jb (vX5_count_2 _ _ (by (first | assumption | omega | ((try dsimp only [jt2, jt3, jt4]); first | omega | (simp (disch := omega) only [jst_eq, jst_ne, jst_ni, jst_o, jI_i, jcpy_out, w32_id, jdiv_nn, jshr_k, jand_255] <;> first | done | omega | assumption)) | (intros; simp (disch := omega) only [jst_eq, jst_ne, jst_ni, jst_o, jI_i, jcpy_out, w32_id, jdiv_nn, *] <;> first | done | omega) | (intros; simp (disch := omega) only [jst_eq, jst_ne, jst_ni, jst_o, jI_i, jcpy_out, w32_id, jdiv_nn] at * <;> first | done | omega | assumption) | (intros; first | rfl | (exfalso; omega) | ((repeat' apply And.intro) <;> first | assumption | rfl | omega | trivial))))) (fun v38 r1 => ?_)
  try dsimp only [Sum.elim_inl, Sum.elim_inr, jt2, jt3, jt4, jt5, jt6, jt7, jt8] at r1
  have cv1 := r1
  clear r1
  try simp (disch := omega) only [jst_eq, jst_ne, jst_ni, jI_i, jcmp_lt, jcmp_gt, w32_id, jcpy_out, Sum.elim_inl, Sum.elim_inr, jt2, jt3, jt4, jt5, jt6, jt7, jt8] at cv1
  have V38 : v38 = ct E W pts A a4 a13 := by { first | (rw [show v38 = jst h 322 (a9 + a13) a14 321 (120 * a4 + a13) by first | assumption | exact cv1]; exact J2.2.2 a4 a13 q0.2.2.1 q0.2.2.2.1 q0.1 (by omega)) }
  have ST : aTW E W pts T (ct E W pts A) a10 w m a2 (a4 + a5) sg a4 a13 = v38 * a14 := by { rw [V38, vv]; rfl }
  refine OK_jlx (fun x39 ex39 => ?_)
  try simp (disch := omega) only [jst_eq, jst_ne, jst_ni, jI_i, jcmp_lt, jcmp_gt, w32_id, jcpy_out, Sum.elim_inl, Sum.elim_inr, jt2, jt3, jt4, jt5, jt6, jt7, jt8] at ex39
  unfold gX5_weigh_j431_20
  refine OK_jlx (fun x34 ex34 => ?_)
  try simp (disch := omega) only [jst_eq, jst_ne, jst_ni, jI_i, jcmp_lt, jcmp_gt, w32_id, jcpy_out, Sum.elim_inl, Sum.elim_inr, jt2, jt3, jt4, jt5, jt6, jt7, jt8] at ex34
  refine OK_some ?_
  try dsimp only [Sum.elim_inl, Sum.elim_inr, jt2, jt3, jt4, jt5, jt6, jt7, jt8]
  try dsimp only [Sum.elim_inl, Sum.elim_inr, jt2, jt3, jt4, jt5, jt6, jt7, jt8]
  refine ⟨?_, ?_, ?_, ?_⟩
  · (refine ⟨?_, by omega⟩; rw [ex39, q1, w64_a, sumN_s q0.1, ST]) -- o3 e1.1
  · exact S2 -- o4 e1.2
  · exact J2 -- o5 e1.3
  · exact ⟨F2, JX_b J2⟩ -- o6 e1.4
theorem vX5_weigh_l20 (i1 : Int) (i2 : Int) (i3 : Int) (i4 : Int) (i5 : Int) (i6 : Int) (i7 : Int) (i8 : Int) (i9 : Int) (i10 : Int) (a110 : Int) (a130 : Int) {h0 : AH} {E : EV} {Rf : Int → TR} {W : Int → Int → Int → VW} {A : AD} {pts wh : Int} {rv : Int → Int} {M : Int → (Int → Int) → Prop} {T : TB} {n m : Nat} {w sg : Int → Int} {used : Int} (jx : JXq h0 E Rf W A pts wh rv M T n) (tq : TQ E W pts A n T) (ia : (0 ≤ i1 ∧ i1 < A.2.2.2.1) ∧ A.2.2.2.2.1 i1 = i10 ∧ 0 ≤ i10 ∧ i10 < E.1.1) (io : i3 = eO E i10 ∧ 0 ≤ i2 ∧ i3 ≤ 3 ∧ (m : Int) = i3 - i2 - 1) (op : opS E W pts A n i10 i2 used sg ∧ sg 0 = i6 ∧ sg 1 = i7) (pr : A.2.2.2.2.2.2.2 i1 + used + i4 + i5 ≤ n ∧ 0 ≤ used ∧ 1 ≤ i4 ∧ 0 ≤ i5 ∧ (m = 0 → i5 = 0)) (wr : (0 ≤ i8 ∧ i8 + 120 ≤ i9 ∧ i9 ≤ 4680) ∧ (∀ f, 0 ≤ f → f < T.1 → h0 322 (i8 + f) = w f) ∧ (∀ f, 0 ≤ f → f < T.1 → h0 322 (i9 + f) = 0) ∧ (∀ f, 0 ≤ w f)) (bd : alW E W pts T (ct E W pts A) i10 w m i2 (i4 + i5) sg i4 < 9223372036854775808) (z : a110 = 0 ∧ a130 = 0) : OK (gX5_weigh_l20 i1 i2 i3 i4 i5 i6 i7 i8 i9 i10 a110 a130 h0) (fun r => jt2 r fun v h' => (v = w64 (alW E W pts T (ct E W pts A) i10 w m i2 (i4 + i5) sg i4)) ∧ (∀ f, 0 ≤ f → f < T.1 → h' 322 (i9 + f) = owW E W pts T (ct E W pts A) i10 w m i2 (i4 + i5) sg i4 f) ∧ (JXq h' E Rf W A pts wh rv M T n) ∧ (fWx i9 h0 h' ∧ b10 h')) := by
  unfold gX5_weigh_l20
  refine OK_jit (I := (fun (s : Int × Int × AH) => jt3 s fun a11 a13 h => (0 ≤ a13 ∧ a13 ≤ T.1) ∧ (a11 = w64 (sumN (aTW E W pts T (ct E W pts A) i10 w m i2 (i4 + i5) sg i4) a13.toNat)) ∧ (∀ f, 0 ≤ f → f < T.1 → h 322 (i9 + f) = if f < a13 then owW E W pts T (ct E W pts A) i10 w m i2 (i4 + i5) sg i4 f else 0) ∧ (JXq h E Rf W A pts wh rv M T n) ∧ (fWx i9 h0 h ∧ b10 h))) (m := (fun (s : Int × Int × AH) => jt3 s fun a11 a13 h => (T.1 - a13).toNat)) ?_ ?_
  · intro s hs
    obtain ⟨a11, a13, h⟩ := s
    dsimp only [Sum.elim_inl, Sum.elim_inr, jt2, jt3, jt4, jt5, jt6, jt7, jt8] at hs
    obtain ⟨q0, q1, q2, JJ, fr⟩ := hs
    unfold gX5_weigh_b20
    refine OK_jt3 ?_
    have XX := JJ.2.1
    have CN := JJ.2.2
    have SE := JJ.1
    obtain ⟨H1, H2, H3, H4⟩ := XI_h XX
    have n12 := tq.1.1
    have en := SE.1.2.1
    have pp := (tq.1.2.2.2.1.2.2 i1 ia.1.1 ia.1.2).1
    have w1 : w32 (i3 - 1) = i3 - 1 := w32_id (by omega) (by omega)
    have w2 : w32 (i3 - 2) = i3 - 2 := w32_id (by omega) (by omega)
    refine OK_if (fun c1 => ?_) (fun c1 => ?_)
    · skip
      try simp (disch := omega) only [jst_eq, jst_ne, jst_ni, jI_i, jcmp_lt, jcmp_gt, w32_id, jcpy_out, Sum.elim_inl, Sum.elim_inr, jt2, jt3, jt4, jt5, jt6, jt7, jt8] at c1
      refine OK_ir ?_
      try dsimp only [Sum.elim_inl, Sum.elim_inr, jt2, jt3, jt4, jt5, jt6, jt7, jt8]
      refine ⟨?_, ?_, ?_, ?_⟩
      · (rw [q1, show a13 = T.1 by omega, aT_al]) -- o1 e1.1
      · exact fun f f0 f1 => by (rw [q2 f f0 f1, if_pos (by omega)]) -- o2 e1.2
      · (first | (exact SE) | (exact XX) | (exact OT.2.2.2.2) | (exact ia) | (exact OT.1) | (exact OT.2.1) | (exact ⟨OT.1, by omega⟩) | ((rw [q1, show x34 = a13 + 1 by omega, sumN_s q0.1, ST, Int.add_zero])) | ((rw [show x34 = a13 + 1 by omega]; exact row_z q2 Z0)) | (exact JJ) | (exact fr) | (first | assumption | omega | ((try dsimp only [jt2, jt3, jt4]); first | omega | (simp (disch := omega) only [jst_eq, jst_ne, jst_ni, jst_o, jI_i, jcpy_out, w32_id, jdiv_nn, jshr_k, jand_255] <;> first | done | omega | assumption)) | (intros; simp (disch := omega) only [jst_eq, jst_ne, jst_ni, jst_o, jI_i, jcpy_out, w32_id, jdiv_nn, *] <;> first | done | omega) | (intros; simp (disch := omega) only [jst_eq, jst_ne, jst_ni, jst_o, jI_i, jcpy_out, w32_id, jdiv_nn] at * <;> first | done | omega | assumption) | (intros; first | rfl | (exfalso; omega) | ((repeat' apply And.intro) <;> first | assumption | rfl | omega | trivial)))) -- o3 e1.3
      · (first | (exact SE) | (exact XX) | (exact OT.2.2.2.2) | (exact ia) | (exact OT.1) | (exact OT.2.1) | (exact ⟨OT.1, by omega⟩) | ((rw [q1, show x34 = a13 + 1 by omega, sumN_s q0.1, ST, Int.add_zero])) | ((rw [show x34 = a13 + 1 by omega]; exact row_z q2 Z0)) | (exact JJ) | (exact fr) | (first | assumption | omega | ((try dsimp only [jt2, jt3, jt4]); first | omega | (simp (disch := omega) only [jst_eq, jst_ne, jst_ni, jst_o, jI_i, jcpy_out, w32_id, jdiv_nn, jshr_k, jand_255] <;> first | done | omega | assumption)) | (intros; simp (disch := omega) only [jst_eq, jst_ne, jst_ni, jst_o, jI_i, jcpy_out, w32_id, jdiv_nn, *] <;> first | done | omega) | (intros; simp (disch := omega) only [jst_eq, jst_ne, jst_ni, jst_o, jI_i, jcpy_out, w32_id, jdiv_nn] at * <;> first | done | omega | assumption) | (intros; first | rfl | (exfalso; omega) | ((repeat' apply And.intro) <;> first | assumption | rfl | omega | trivial)))) -- o4 e1.4
    · skip
      try simp (disch := omega) only [jst_eq, jst_ne, jst_ni, jI_i, jcmp_lt, jcmp_gt, w32_id, jcpy_out, Sum.elim_inl, Sum.elim_inr, jt2, jt3, jt4, jt5, jt6, jt7, jt8] at c1
      have h7 := H4 a13 q0.1 (by omega)
      have w34 : w32 (a13 + 1) = a13 + 1 := w32_id (by omega) (by omega)
      refine OK_jg (by (first | (exact SE) | (exact XX) | (exact OT.2.2.2.2) | (exact ia) | (exact OT.1) | (exact OT.2.1) | (exact ⟨OT.1, by omega⟩) | ((rw [q1, show x34 = a13 + 1 by omega, sumN_s q0.1, ST, Int.add_zero])) | ((rw [show x34 = a13 + 1 by omega]; exact row_z q2 Z0)) | (exact JJ) | (exact fr) | (first | assumption | omega | ((try dsimp only [jt2, jt3, jt4]); first | omega | (simp (disch := omega) only [jst_eq, jst_ne, jst_ni, jst_o, jI_i, jcpy_out, w32_id, jdiv_nn, jshr_k, jand_255] <;> first | done | omega | assumption)) | (intros; simp (disch := omega) only [jst_eq, jst_ne, jst_ni, jst_o, jI_i, jcpy_out, w32_id, jdiv_nn, *] <;> first | done | omega) | (intros; simp (disch := omega) only [jst_eq, jst_ne, jst_ni, jst_o, jI_i, jcpy_out, w32_id, jdiv_nn] at * <;> first | done | omega | assumption) | (intros; first | rfl | (exfalso; omega) | ((repeat' apply And.intro) <;> first | assumption | rfl | omega | trivial))))) ?_ -- o5
      refine OK_jb (vX1_kindOf (nA := E.1.1) (cA := E.1.2.1) (oA := E.1.2.2.1) (wA := E.1.2.2.2.1) (kA := E.1.2.2.2.2) _ _ (by exact en.1) (by exact ⟨ia.2.2.1, ia.2.2.2, io.2.1, by (rw [oper_eq ia.2.2.1]; omega)⟩)) (fun v8 r1 => ?_)
      try dsimp only [Sum.elim_inl, Sum.elim_inr, jt2, jt3, jt4, jt5, jt6, jt7, jt8] at r1
      have v1 := r1
      clear r1
      try simp (disch := omega) only [jst_eq, jst_ne, jst_ni, jI_i, jcmp_lt, jcmp_gt, w32_id, jcpy_out, Sum.elim_inl, Sum.elim_inr, jt2, jt3, jt4, jt5, jt6, jt7, jt8] at v1
      have e8 : v8 = eK E i10 i2 := by { rw [← kind_eq ia.2.2.1]; assumption }
      refine OK_if (fun c2 => ?_) (fun c2 => ?_)
      · skip
        try simp (disch := omega) only [jst_eq, jst_ne, jst_ni, jI_i, jcmp_lt, jcmp_gt, w32_id, jcpy_out, Sum.elim_inl, Sum.elim_inr, jt2, jt3, jt4, jt5, jt6, jt7, jt8] at c2
        have ky : T.2.1 a13 = eK E i10 i2 := by { rw [← h7.1]; omega }
        refine OK_jb (vX5_count_2 _ _ (by (first | (exact SE) | (exact XX) | (exact OT.2.2.2.2) | (exact ia) | (exact OT.1) | (exact OT.2.1) | (exact ⟨OT.1, by omega⟩) | ((rw [q1, show x34 = a13 + 1 by omega, sumN_s q0.1, ST, Int.add_zero])) | ((rw [show x34 = a13 + 1 by omega]; exact row_z q2 Z0)) | (exact JJ) | (exact fr) | (first | assumption | omega | ((try dsimp only [jt2, jt3, jt4]); first | omega | (simp (disch := omega) only [jst_eq, jst_ne, jst_ni, jst_o, jI_i, jcpy_out, w32_id, jdiv_nn, jshr_k, jand_255] <;> first | done | omega | assumption)) | (intros; simp (disch := omega) only [jst_eq, jst_ne, jst_ni, jst_o, jI_i, jcpy_out, w32_id, jdiv_nn, *] <;> first | done | omega) | (intros; simp (disch := omega) only [jst_eq, jst_ne, jst_ni, jst_o, jI_i, jcpy_out, w32_id, jdiv_nn] at * <;> first | done | omega | assumption) | (intros; first | rfl | (exfalso; omega) | ((repeat' apply And.intro) <;> first | assumption | rfl | omega | trivial)))))) (fun v11 r2 => ?_)
        try dsimp only [Sum.elim_inl, Sum.elim_inr, jt2, jt3, jt4, jt5, jt6, jt7, jt8] at r2
        have cv2 := r2
        clear r2
        try simp (disch := omega) only [jst_eq, jst_ne, jst_ni, jI_i, jcmp_lt, jcmp_gt, w32_id, jcpy_out, Sum.elim_inl, Sum.elim_inr, jt2, jt3, jt4, jt5, jt6, jt7, jt8] at cv2
        have V11 : v11 = ct E W pts A i4 a13 := by { rw [show v11 = h 321 (120 * i4 + a13) by first | assumption | exact cv2, CN i4 a13 (by omega) (by omega) q0.1 (by omega)] }
        refine OK_if (fun c3 => ?_) (fun c3 => ?_)
        · skip
          try simp (disch := omega) only [jst_eq, jst_ne, jst_ni, jI_i, jcmp_lt, jcmp_gt, w32_id, jcpy_out, Sum.elim_inl, Sum.elim_inr, jt2, jt3, jt4, jt5, jt6, jt7, jt8] at c3
          have c3w := jcmp_eq.1 c3
          have Z0 : owW E W pts T (ct E W pts A) i10 w m i2 (i4 + i5) sg i4 a13 = 0 := cif_n (fun y => y.2 (by omega))
          unfold gX5_weigh_j431_20
          refine OK_jlx (fun x34 ex34 => ?_)
          try simp (disch := omega) only [jst_eq, jst_ne, jst_ni, jI_i, jcmp_lt, jcmp_gt, w32_id, jcpy_out, Sum.elim_inl, Sum.elim_inr, jt2, jt3, jt4, jt5, jt6, jt7, jt8] at ex34
          have ST : aTW E W pts T (ct E W pts A) i10 w m i2 (i4 + i5) sg i4 a13 = 0 := by { rw [show aTW E W pts T (ct E W pts A) i10 w m i2 (i4 + i5) sg i4 a13 = ct E W pts A i4 a13 * owW E W pts T (ct E W pts A) i10 w m i2 (i4 + i5) sg i4 a13 from rfl, Z0, Int.mul_zero] }
          refine OK_il ?_ ?_
          · try dsimp only [Sum.elim_inl, Sum.elim_inr, jt2, jt3, jt4, jt5, jt6, jt7, jt8]
            refine ⟨?_, ?_, ?_, ?_, ?_⟩
            · (first | (exact SE) | (exact XX) | (exact OT.2.2.2.2) | (exact ia) | (exact OT.1) | (exact OT.2.1) | (exact ⟨OT.1, by omega⟩) | ((rw [q1, show x34 = a13 + 1 by omega, sumN_s q0.1, ST, Int.add_zero])) | ((rw [show x34 = a13 + 1 by omega]; exact row_z q2 Z0)) | (exact JJ) | (exact fr) | (first | assumption | omega | ((try dsimp only [jt2, jt3, jt4]); first | omega | (simp (disch := omega) only [jst_eq, jst_ne, jst_ni, jst_o, jI_i, jcpy_out, w32_id, jdiv_nn, jshr_k, jand_255] <;> first | done | omega | assumption)) | (intros; simp (disch := omega) only [jst_eq, jst_ne, jst_ni, jst_o, jI_i, jcpy_out, w32_id, jdiv_nn, *] <;> first | done | omega) | (intros; simp (disch := omega) only [jst_eq, jst_ne, jst_ni, jst_o, jI_i, jcpy_out, w32_id, jdiv_nn] at * <;> first | done | omega | assumption) | (intros; first | rfl | (exfalso; omega) | ((repeat' apply And.intro) <;> first | assumption | rfl | omega | trivial)))) -- o9 e2i.1
            · (first | (exact SE) | (exact XX) | (exact OT.2.2.2.2) | (exact ia) | (exact OT.1) | (exact OT.2.1) | (exact ⟨OT.1, by omega⟩) | ((rw [q1, show x34 = a13 + 1 by omega, sumN_s q0.1, ST, Int.add_zero])) | ((rw [show x34 = a13 + 1 by omega]; exact row_z q2 Z0)) | (exact JJ) | (exact fr) | (first | assumption | omega | ((try dsimp only [jt2, jt3, jt4]); first | omega | (simp (disch := omega) only [jst_eq, jst_ne, jst_ni, jst_o, jI_i, jcpy_out, w32_id, jdiv_nn, jshr_k, jand_255] <;> first | done | omega | assumption)) | (intros; simp (disch := omega) only [jst_eq, jst_ne, jst_ni, jst_o, jI_i, jcpy_out, w32_id, jdiv_nn, *] <;> first | done | omega) | (intros; simp (disch := omega) only [jst_eq, jst_ne, jst_ni, jst_o, jI_i, jcpy_out, w32_id, jdiv_nn] at * <;> first | done | omega | assumption) | (intros; first | rfl | (exfalso; omega) | ((repeat' apply And.intro) <;> first | assumption | rfl | omega | trivial)))) -- o10 e2i.2
            · (first | (exact SE) | (exact XX) | (exact OT.2.2.2.2) | (exact ia) | (exact OT.1) | (exact OT.2.1) | (exact ⟨OT.1, by omega⟩) | ((rw [q1, show x34 = a13 + 1 by omega, sumN_s q0.1, ST, Int.add_zero])) | ((rw [show x34 = a13 + 1 by omega]; exact row_z q2 Z0)) | (exact JJ) | (exact fr) | (first | assumption | omega | ((try dsimp only [jt2, jt3, jt4]); first | omega | (simp (disch := omega) only [jst_eq, jst_ne, jst_ni, jst_o, jI_i, jcpy_out, w32_id, jdiv_nn, jshr_k, jand_255] <;> first | done | omega | assumption)) | (intros; simp (disch := omega) only [jst_eq, jst_ne, jst_ni, jst_o, jI_i, jcpy_out, w32_id, jdiv_nn, *] <;> first | done | omega) | (intros; simp (disch := omega) only [jst_eq, jst_ne, jst_ni, jst_o, jI_i, jcpy_out, w32_id, jdiv_nn] at * <;> first | done | omega | assumption) | (intros; first | rfl | (exfalso; omega) | ((repeat' apply And.intro) <;> first | assumption | rfl | omega | trivial)))) -- o11 e2i.3
            · (first | (exact SE) | (exact XX) | (exact OT.2.2.2.2) | (exact ia) | (exact OT.1) | (exact OT.2.1) | (exact ⟨OT.1, by omega⟩) | ((rw [q1, show x34 = a13 + 1 by omega, sumN_s q0.1, ST, Int.add_zero])) | ((rw [show x34 = a13 + 1 by omega]; exact row_z q2 Z0)) | (exact JJ) | (exact fr) | (first | assumption | omega | ((try dsimp only [jt2, jt3, jt4]); first | omega | (simp (disch := omega) only [jst_eq, jst_ne, jst_ni, jst_o, jI_i, jcpy_out, w32_id, jdiv_nn, jshr_k, jand_255] <;> first | done | omega | assumption)) | (intros; simp (disch := omega) only [jst_eq, jst_ne, jst_ni, jst_o, jI_i, jcpy_out, w32_id, jdiv_nn, *] <;> first | done | omega) | (intros; simp (disch := omega) only [jst_eq, jst_ne, jst_ni, jst_o, jI_i, jcpy_out, w32_id, jdiv_nn] at * <;> first | done | omega | assumption) | (intros; first | rfl | (exfalso; omega) | ((repeat' apply And.intro) <;> first | assumption | rfl | omega | trivial)))) -- o12 e2i.4
            · (first | (exact SE) | (exact XX) | (exact OT.2.2.2.2) | (exact ia) | (exact OT.1) | (exact OT.2.1) | (exact ⟨OT.1, by omega⟩) | ((rw [q1, show x34 = a13 + 1 by omega, sumN_s q0.1, ST, Int.add_zero])) | ((rw [show x34 = a13 + 1 by omega]; exact row_z q2 Z0)) | (exact JJ) | (exact fr) | (first | assumption | omega | ((try dsimp only [jt2, jt3, jt4]); first | omega | (simp (disch := omega) only [jst_eq, jst_ne, jst_ni, jst_o, jI_i, jcpy_out, w32_id, jdiv_nn, jshr_k, jand_255] <;> first | done | omega | assumption)) | (intros; simp (disch := omega) only [jst_eq, jst_ne, jst_ni, jst_o, jI_i, jcpy_out, w32_id, jdiv_nn, *] <;> first | done | omega) | (intros; simp (disch := omega) only [jst_eq, jst_ne, jst_ni, jst_o, jI_i, jcpy_out, w32_id, jdiv_nn] at * <;> first | done | omega | assumption) | (intros; first | rfl | (exfalso; omega) | ((repeat' apply And.intro) <;> first | assumption | rfl | omega | trivial)))) -- o13 e2i.5
          · (first | (exact SE) | (exact XX) | (exact OT.2.2.2.2) | (exact ia) | (exact OT.1) | (exact OT.2.1) | (exact ⟨OT.1, by omega⟩) | ((rw [q1, show x34 = a13 + 1 by omega, sumN_s q0.1, ST, Int.add_zero])) | ((rw [show x34 = a13 + 1 by omega]; exact row_z q2 Z0)) | (exact JJ) | (exact fr) | (first | assumption | omega | ((try dsimp only [jt2, jt3, jt4]); first | omega | (simp (disch := omega) only [jst_eq, jst_ne, jst_ni, jst_o, jI_i, jcpy_out, w32_id, jdiv_nn, jshr_k, jand_255] <;> first | done | omega | assumption)) | (intros; simp (disch := omega) only [jst_eq, jst_ne, jst_ni, jst_o, jI_i, jcpy_out, w32_id, jdiv_nn, *] <;> first | done | omega) | (intros; simp (disch := omega) only [jst_eq, jst_ne, jst_ni, jst_o, jI_i, jcpy_out, w32_id, jdiv_nn] at * <;> first | done | omega | assumption) | (intros; first | rfl | (exfalso; omega) | ((repeat' apply And.intro) <;> first | assumption | rfl | omega | trivial)))) -- o14 e2m
        · skip
          try simp (disch := omega) only [jst_eq, jst_ne, jst_ni, jI_i, jcmp_lt, jcmp_gt, w32_id, jcpy_out, Sum.elim_inl, Sum.elim_inr, jt2, jt3, jt4, jt5, jt6, jt7, jt8] at c3
          have c3w : ¬ v11 = 0 := fun y => c3 (jcmp_eq.2 y)
          have SU := ct_sup tq.1 (i := i4) (f := a13) q0.1 (by omega) (by omega)
          have qx := tq.2.1.2 a13 q0.1 SU.2.1
          have kz : (LV E W pts A n).2.1 a13 = eK E i10 i2 := by { rw [← qx.1]; exact ky }
          have OP := opS_1 op.1 (by omega) ⟨q0.1, SU.2.1⟩ kz SU.2.2.2
          have OW : owW E W pts T (ct E W pts A) i10 w m i2 (i4 + i5) sg i4 a13 = rsW E W pts T (ct E W pts A) i10 w m (i2 + 1) i5 (up1 sg i2 a13) := by { rw [show owW E W pts T (ct E W pts A) i10 w m i2 (i4 + i5) sg i4 a13 = _ from cif_y ⟨ky, by omega⟩, show i4 + i5 - i4 = i5 by omega] }
          have OB := ow_le (E := E) (W := W) (pts := pts) (ac := i10) (k := i2) (left := i4 + i5) (s := sg) (m := m) (r := i4) (c := ct E W pts A) (T := T) (f := a13) ct_0 wr.2.2.2 ⟨q0.1, by omega⟩
          have O0 := owT_0 (E := E) (W := W) (pts := pts) (ac := i10) (k := i2) (left := i4 + i5) (s := sg) (m := m) (r := i4) (c := ct E W pts A) (L := T) (f := a13) ct_0 wr.2.2.2
          refine OK_if (fun c4 => ?_) (fun c4 => ?_)
          · skip
            try simp (disch := omega) only [jst_eq, jst_ne, jst_ni, jI_i, jcmp_lt, jcmp_gt, w32_id, jcpy_out, Sum.elim_inl, Sum.elim_inr, jt2, jt3, jt4, jt5, jt6, jt7, jt8] at c4
            have m0 : m = 0 := by omega
            have i50 := pr.2.2.2.2 m0
            refine OK_if (fun c5 => ?_) (fun c5 => ?_)
            · skip
              try simp (disch := omega) only [jst_eq, jst_ne, jst_ni, jI_i, jcmp_lt, jcmp_gt, w32_id, jcpy_out, Sum.elim_inl, Sum.elim_inr, jt2, jt3, jt4, jt5, jt6, jt7, jt8] at c5
              have e0 : up1 sg i2 a13 0 = a13 := by { have y : i2 = 0 := (by omega); rw [y]; exact up1_e }
              have e1 : up1 sg i2 a13 1 = -1 := by { rw [up1_o (by omega)]; exact op.1.2.1 1 (by omega) }
              have e2 : up1 sg i2 a13 2 = -1 := by { rw [up1_o (by omega)]; exact op.1.2.1 2 (by omega) }
              have OT := op_T tq XX.2.2.2.2 ia OP (by omega) (by omega) (by omega) e0 e1 e2
              refine OK_jb2 (vX5_result (E := E) (Rf := Rf) (W := W) (f := fun _ _ _ => 0) (A := A) (pts := pts) (wh := wh) (rv := rv) (M := M) (T := T) (ac := i10) _ _ _ _ (by (first | (exact SE) | (exact XX) | (exact OT.2.2.2.2) | (exact ia) | (exact OT.1) | (exact OT.2.1) | (exact ⟨OT.1, by omega⟩) | ((rw [q1, show x34 = a13 + 1 by omega, sumN_s q0.1, ST, Int.add_zero])) | ((rw [show x34 = a13 + 1 by omega]; exact row_z q2 Z0)) | (exact JJ) | (exact fr) | (first | assumption | omega | ((try dsimp only [jt2, jt3, jt4]); first | omega | (simp (disch := omega) only [jst_eq, jst_ne, jst_ni, jst_o, jI_i, jcpy_out, w32_id, jdiv_nn, jshr_k, jand_255] <;> first | done | omega | assumption)) | (intros; simp (disch := omega) only [jst_eq, jst_ne, jst_ni, jst_o, jI_i, jcpy_out, w32_id, jdiv_nn, *] <;> first | done | omega) | (intros; simp (disch := omega) only [jst_eq, jst_ne, jst_ni, jst_o, jI_i, jcpy_out, w32_id, jdiv_nn] at * <;> first | done | omega | assumption) | (intros; first | rfl | (exfalso; omega) | ((repeat' apply And.intro) <;> first | assumption | rfl | omega | trivial))))) (by (first | (exact SE) | (exact XX) | (exact OT.2.2.2.2) | (exact ia) | (exact OT.1) | (exact OT.2.1) | (exact ⟨OT.1, by omega⟩) | ((rw [q1, show x34 = a13 + 1 by omega, sumN_s q0.1, ST, Int.add_zero])) | ((rw [show x34 = a13 + 1 by omega]; exact row_z q2 Z0)) | (exact JJ) | (exact fr) | (first | assumption | omega | ((try dsimp only [jt2, jt3, jt4]); first | omega | (simp (disch := omega) only [jst_eq, jst_ne, jst_ni, jst_o, jI_i, jcpy_out, w32_id, jdiv_nn, jshr_k, jand_255] <;> first | done | omega | assumption)) | (intros; simp (disch := omega) only [jst_eq, jst_ne, jst_ni, jst_o, jI_i, jcpy_out, w32_id, jdiv_nn, *] <;> first | done | omega) | (intros; simp (disch := omega) only [jst_eq, jst_ne, jst_ni, jst_o, jI_i, jcpy_out, w32_id, jdiv_nn] at * <;> first | done | omega | assumption) | (intros; first | rfl | (exfalso; omega) | ((repeat' apply And.intro) <;> first | assumption | rfl | omega | trivial))))) (by (first | (exact SE) | (exact XX) | (exact OT.2.2.2.2) | (exact ia) | (exact OT.1) | (exact OT.2.1) | (exact ⟨OT.1, by omega⟩) | ((rw [q1, show x34 = a13 + 1 by omega, sumN_s q0.1, ST, Int.add_zero])) | ((rw [show x34 = a13 + 1 by omega]; exact row_z q2 Z0)) | (exact JJ) | (exact fr) | (first | assumption | omega | ((try dsimp only [jt2, jt3, jt4]); first | omega | (simp (disch := omega) only [jst_eq, jst_ne, jst_ni, jst_o, jI_i, jcpy_out, w32_id, jdiv_nn, jshr_k, jand_255] <;> first | done | omega | assumption)) | (intros; simp (disch := omega) only [jst_eq, jst_ne, jst_ni, jst_o, jI_i, jcpy_out, w32_id, jdiv_nn, *] <;> first | done | omega) | (intros; simp (disch := omega) only [jst_eq, jst_ne, jst_ni, jst_o, jI_i, jcpy_out, w32_id, jdiv_nn] at * <;> first | done | omega | assumption) | (intros; first | rfl | (exfalso; omega) | ((repeat' apply And.intro) <;> first | assumption | rfl | omega | trivial))))) (by (first | (exact SE) | (exact XX) | (exact OT.2.2.2.2) | (exact ia) | (exact OT.1) | (exact OT.2.1) | (exact ⟨OT.1, by omega⟩) | ((rw [q1, show x34 = a13 + 1 by omega, sumN_s q0.1, ST, Int.add_zero])) | ((rw [show x34 = a13 + 1 by omega]; exact row_z q2 Z0)) | (exact JJ) | (exact fr) | (first | assumption | omega | ((try dsimp only [jt2, jt3, jt4]); first | omega | (simp (disch := omega) only [jst_eq, jst_ne, jst_ni, jst_o, jI_i, jcpy_out, w32_id, jdiv_nn, jshr_k, jand_255] <;> first | done | omega | assumption)) | (intros; simp (disch := omega) only [jst_eq, jst_ne, jst_ni, jst_o, jI_i, jcpy_out, w32_id, jdiv_nn, *] <;> first | done | omega) | (intros; simp (disch := omega) only [jst_eq, jst_ne, jst_ni, jst_o, jI_i, jcpy_out, w32_id, jdiv_nn] at * <;> first | done | omega | assumption) | (intros; first | rfl | (exfalso; omega) | ((repeat' apply And.intro) <;> first | assumption | rfl | omega | trivial))))) (by (first | (exact SE) | (exact XX) | (exact OT.2.2.2.2) | (exact ia) | (exact OT.1) | (exact OT.2.1) | (exact ⟨OT.1, by omega⟩) | ((rw [q1, show x34 = a13 + 1 by omega, sumN_s q0.1, ST, Int.add_zero])) | ((rw [show x34 = a13 + 1 by omega]; exact row_z q2 Z0)) | (exact JJ) | (exact fr) | (first | assumption | omega | ((try dsimp only [jt2, jt3, jt4]); first | omega | (simp (disch := omega) only [jst_eq, jst_ne, jst_ni, jst_o, jI_i, jcpy_out, w32_id, jdiv_nn, jshr_k, jand_255] <;> first | done | omega | assumption)) | (intros; simp (disch := omega) only [jst_eq, jst_ne, jst_ni, jst_o, jI_i, jcpy_out, w32_id, jdiv_nn, *] <;> first | done | omega) | (intros; simp (disch := omega) only [jst_eq, jst_ne, jst_ni, jst_o, jI_i, jcpy_out, w32_id, jdiv_nn] at * <;> first | done | omega | assumption) | (intros; first | rfl | (exfalso; omega) | ((repeat' apply And.intro) <;> first | assumption | rfl | omega | trivial))))) (by (first | (exact SE) | (exact XX) | (exact OT.2.2.2.2) | (exact ia) | (exact OT.1) | (exact OT.2.1) | (exact ⟨OT.1, by omega⟩) | ((rw [q1, show x34 = a13 + 1 by omega, sumN_s q0.1, ST, Int.add_zero])) | ((rw [show x34 = a13 + 1 by omega]; exact row_z q2 Z0)) | (exact JJ) | (exact fr) | (first | assumption | omega | ((try dsimp only [jt2, jt3, jt4]); first | omega | (simp (disch := omega) only [jst_eq, jst_ne, jst_ni, jst_o, jI_i, jcpy_out, w32_id, jdiv_nn, jshr_k, jand_255] <;> first | done | omega | assumption)) | (intros; simp (disch := omega) only [jst_eq, jst_ne, jst_ni, jst_o, jI_i, jcpy_out, w32_id, jdiv_nn, *] <;> first | done | omega) | (intros; simp (disch := omega) only [jst_eq, jst_ne, jst_ni, jst_o, jI_i, jcpy_out, w32_id, jdiv_nn] at * <;> first | done | omega | assumption) | (intros; first | rfl | (exfalso; omega) | ((repeat' apply And.intro) <;> first | assumption | rfl | omega | trivial)))))) (fun v16 h17 r3 => ?_)
              try dsimp only [Sum.elim_inl, Sum.elim_inr, jt2, jt3, jt4, jt5, jt6, jt7, jt8] at r3
              obtain ⟨rs3, xs3, fs3⟩ := r3
              try simp (disch := omega) only [jst_eq, jst_ne, jst_ni, jI_i, jcmp_lt, jcmp_gt, w32_id, jcpy_out, Sum.elim_inl, Sum.elim_inr, jt2, jt3, jt4, jt5, jt6, jt7, jt8] at rs3
              try simp (disch := omega) only [jst_eq, jst_ne, jst_ni, jI_i, jcmp_lt, jcmp_gt, w32_id, jcpy_out, Sum.elim_inl, Sum.elim_inr, jt2, jt3, jt4, jt5, jt6, jt7, jt8] at xs3
              try simp (disch := omega) only [jst_eq, jst_ne, jst_ni, jI_i, jcmp_lt, jcmp_gt, w32_id, jcpy_out, Sum.elim_inl, Sum.elim_inr, jt2, jt3, jt4, jt5, jt6, jt7, jt8] at fs3
              have J2 := JX_G JJ fs3.1 xs3 fs3.2
              have VV : v16 = ixS E W pts T i10 (up1 sg i2 a13) := by { rw [← OT.2.2.1]; first | exact rs3 | assumption }
              have w8 : w32 (i8 + v16) = i8 + v16 := w32_id (by omega) (by omega)
              have W5 : h17 322 (i8 + v16) = w (ixS E W pts T i10 (up1 sg i2 a13)) := by { rw [fs3.1 _ _ (by omega) (by omega) (by omega) (by omega), fr.1 _ _ (by omega) (by omega) (by omega) (by omega) (by omega), VV]; exact wr.2.1 _ OT.2.2.2.1.1 OT.2.2.2.1.2 }
              unfold gX5_weigh_j127_20
              refine OK_jg (by (first | (exact SE) | (exact XX) | (exact OT.2.2.2.2) | (exact ia) | (exact OT.1) | (exact OT.2.1) | (exact ⟨OT.1, by omega⟩) | ((rw [q1, show x34 = a13 + 1 by omega, sumN_s q0.1, ST, Int.add_zero])) | ((rw [show x34 = a13 + 1 by omega]; exact row_z q2 Z0)) | (exact JJ) | (exact fr) | (first | assumption | omega | ((try dsimp only [jt2, jt3, jt4]); first | omega | (simp (disch := omega) only [jst_eq, jst_ne, jst_ni, jst_o, jI_i, jcpy_out, w32_id, jdiv_nn, jshr_k, jand_255] <;> first | done | omega | assumption)) | (intros; simp (disch := omega) only [jst_eq, jst_ne, jst_ni, jst_o, jI_i, jcpy_out, w32_id, jdiv_nn, *] <;> first | done | omega) | (intros; simp (disch := omega) only [jst_eq, jst_ne, jst_ni, jst_o, jI_i, jcpy_out, w32_id, jdiv_nn] at * <;> first | done | omega | assumption) | (intros; first | rfl | (exfalso; omega) | ((repeat' apply And.intro) <;> first | assumption | rfl | omega | trivial))))) ?_ -- o21
              refine OK_jlx (fun x35 ex35 => ?_)
              try simp (disch := omega) only [jst_eq, jst_ne, jst_ni, jI_i, jcmp_lt, jcmp_gt, w32_id, jcpy_out, Sum.elim_inl, Sum.elim_inr, jt2, jt3, jt4, jt5, jt6, jt7, jt8] at ex35
              have X35 : x35 = owW E W pts T (ct E W pts A) i10 w m i2 (i4 + i5) sg i4 a13 := by { rw [OW, m0, i50, ex35]; (first | rw [w8, W5] | rw [W5]); exact (if_pos rfl).symm }
              refine OK_mono (vX5_weigh_j403_20 (E := E) (Rf := Rf) (W := W) (A := A) (pts := pts) (wh := wh) (rv := rv) (M := M) (T := T) (n := n) (m := m) (w := w) (sg := sg) (used := used) _ _ _ _ _ _ _ _ _ _ _ _ _ (by exact J2) (by exact ⟨q0.1, by omega, by omega, by omega, n12.2⟩) (by exact q1) (by exact fun f f0 f1 => by (rw [fs3.1 _ _ (by omega) (by omega) (by omega) (by omega)]; exact q2 f f0 f1)) (by exact X35) (by omega)) (fun r r4 => ?_)
              rcases r with r | r
              · skip
                have r5 := r4; clear r4; dsimp only [Sum.elim_inl, Sum.elim_inr] at r5
                obtain ⟨y1, y2, y3⟩ := r
                try dsimp only [Sum.elim_inl, Sum.elim_inr, jt2, jt3, jt4, jt5, jt6, jt7, jt8] at r5
                obtain ⟨sq4, sr4, jj4, fs4⟩ := r5
                try simp (disch := omega) only [jst_eq, jst_ne, jst_ni, jI_i, jcmp_lt, jcmp_gt, w32_id, jcpy_out, Sum.elim_inl, Sum.elim_inr, jt2, jt3, jt4, jt5, jt6, jt7, jt8] at sq4
                try simp (disch := omega) only [jst_eq, jst_ne, jst_ni, jI_i, jcmp_lt, jcmp_gt, w32_id, jcpy_out, Sum.elim_inl, Sum.elim_inr, jt2, jt3, jt4, jt5, jt6, jt7, jt8] at sr4
                try simp (disch := omega) only [jst_eq, jst_ne, jst_ni, jI_i, jcmp_lt, jcmp_gt, w32_id, jcpy_out, Sum.elim_inl, Sum.elim_inr, jt2, jt3, jt4, jt5, jt6, jt7, jt8] at jj4
                try simp (disch := omega) only [jst_eq, jst_ne, jst_ni, jI_i, jcmp_lt, jcmp_gt, w32_id, jcpy_out, Sum.elim_inl, Sum.elim_inr, jt2, jt3, jt4, jt5, jt6, jt7, jt8] at fs4
                try dsimp only [Sum.elim_inl, Sum.elim_inr, jt2, jt3, jt4, jt5, jt6, jt7, jt8]
                refine ⟨?_, ?_⟩
                · try dsimp only [Sum.elim_inl, Sum.elim_inr, jt2, jt3, jt4, jt5, jt6, jt7, jt8]
                  refine ⟨?_, ?_, ?_, ?_, ?_⟩
                  · (rw [sq4.2]; omega) -- o28 e3i.1
                  · (rw [sq4.2]; exact sq4.1) -- o29 e3i.2
                  · exact fun f f0 f1 => by (rw [sq4.2]; exact sr4 f f0 f1) -- o30 e3i.3
                  · exact jj4 -- o31 e3i.4
                  · exact ⟨fWx_t fr.1 (fWx_t (fG_W fs3.1) fs4.1), fs4.2⟩ -- o32 e3i.5
                · (rw [sq4.2]; omega) -- o33 e3m
              · skip
                have r6 := r4; clear r4; dsimp only [Sum.elim_inl, Sum.elim_inr] at r6
                obtain ⟨y4, y5⟩ := r
                try dsimp only [Sum.elim_inl, Sum.elim_inr, jt2, jt3, jt4, jt5, jt6, jt7, jt8] at r6
                have no5 := r6
                clear r6
                try simp (disch := omega) only [jst_eq, jst_ne, jst_ni, jI_i, jcmp_lt, jcmp_gt, w32_id, jcpy_out, Sum.elim_inl, Sum.elim_inr, jt2, jt3, jt4, jt5, jt6, jt7, jt8] at no5
                try dsimp only [Sum.elim_inl, Sum.elim_inr, jt2, jt3, jt4, jt5, jt6, jt7, jt8]
                try dsimp only [Sum.elim_inl, Sum.elim_inr, jt2, jt3, jt4, jt5, jt6, jt7, jt8]
                refine ⟨?_, ?_, ?_, ?_⟩
                · (first | (exact SE) | (exact XX) | (exact OT.2.2.2.2) | (exact ia) | (exact OT.1) | (exact OT.2.1) | (exact ⟨OT.1, by omega⟩) | ((rw [q1, show x34 = a13 + 1 by omega, sumN_s q0.1, ST, Int.add_zero])) | ((rw [show x34 = a13 + 1 by omega]; exact row_z q2 Z0)) | (exact JJ) | (exact fr) | (first | assumption | omega | ((try dsimp only [jt2, jt3, jt4]); first | omega | (simp (disch := omega) only [jst_eq, jst_ne, jst_ni, jst_o, jI_i, jcpy_out, w32_id, jdiv_nn, jshr_k, jand_255] <;> first | done | omega | assumption)) | (intros; simp (disch := omega) only [jst_eq, jst_ne, jst_ni, jst_o, jI_i, jcpy_out, w32_id, jdiv_nn, *] <;> first | done | omega) | (intros; simp (disch := omega) only [jst_eq, jst_ne, jst_ni, jst_o, jI_i, jcpy_out, w32_id, jdiv_nn] at * <;> first | done | omega | assumption) | (intros; first | rfl | (exfalso; omega) | ((repeat' apply And.intro) <;> first | assumption | rfl | omega | trivial)))) -- o34 e4.1
                · (first | (exact SE) | (exact XX) | (exact OT.2.2.2.2) | (exact ia) | (exact OT.1) | (exact OT.2.1) | (exact ⟨OT.1, by omega⟩) | ((rw [q1, show x34 = a13 + 1 by omega, sumN_s q0.1, ST, Int.add_zero])) | ((rw [show x34 = a13 + 1 by omega]; exact row_z q2 Z0)) | (exact JJ) | (exact fr) | (first | assumption | omega | ((try dsimp only [jt2, jt3, jt4]); first | omega | (simp (disch := omega) only [jst_eq, jst_ne, jst_ni, jst_o, jI_i, jcpy_out, w32_id, jdiv_nn, jshr_k, jand_255] <;> first | done | omega | assumption)) | (intros; simp (disch := omega) only [jst_eq, jst_ne, jst_ni, jst_o, jI_i, jcpy_out, w32_id, jdiv_nn, *] <;> first | done | omega) | (intros; simp (disch := omega) only [jst_eq, jst_ne, jst_ni, jst_o, jI_i, jcpy_out, w32_id, jdiv_nn] at * <;> first | done | omega | assumption) | (intros; first | rfl | (exfalso; omega) | ((repeat' apply And.intro) <;> first | assumption | rfl | omega | trivial)))) -- o35 e4.2
                · (first | (exact SE) | (exact XX) | (exact OT.2.2.2.2) | (exact ia) | (exact OT.1) | (exact OT.2.1) | (exact ⟨OT.1, by omega⟩) | ((rw [q1, show x34 = a13 + 1 by omega, sumN_s q0.1, ST, Int.add_zero])) | ((rw [show x34 = a13 + 1 by omega]; exact row_z q2 Z0)) | (exact JJ) | (exact fr) | (first | assumption | omega | ((try dsimp only [jt2, jt3, jt4]); first | omega | (simp (disch := omega) only [jst_eq, jst_ne, jst_ni, jst_o, jI_i, jcpy_out, w32_id, jdiv_nn, jshr_k, jand_255] <;> first | done | omega | assumption)) | (intros; simp (disch := omega) only [jst_eq, jst_ne, jst_ni, jst_o, jI_i, jcpy_out, w32_id, jdiv_nn, *] <;> first | done | omega) | (intros; simp (disch := omega) only [jst_eq, jst_ne, jst_ni, jst_o, jI_i, jcpy_out, w32_id, jdiv_nn] at * <;> first | done | omega | assumption) | (intros; first | rfl | (exfalso; omega) | ((repeat' apply And.intro) <;> first | assumption | rfl | omega | trivial)))) -- o36 e4.3
                · (first | (exact SE) | (exact XX) | (exact OT.2.2.2.2) | (exact ia) | (exact OT.1) | (exact OT.2.1) | (exact ⟨OT.1, by omega⟩) | ((rw [q1, show x34 = a13 + 1 by omega, sumN_s q0.1, ST, Int.add_zero])) | ((rw [show x34 = a13 + 1 by omega]; exact row_z q2 Z0)) | (exact JJ) | (exact fr) | (first | assumption | omega | ((try dsimp only [jt2, jt3, jt4]); first | omega | (simp (disch := omega) only [jst_eq, jst_ne, jst_ni, jst_o, jI_i, jcpy_out, w32_id, jdiv_nn, jshr_k, jand_255] <;> first | done | omega | assumption)) | (intros; simp (disch := omega) only [jst_eq, jst_ne, jst_ni, jst_o, jI_i, jcpy_out, w32_id, jdiv_nn, *] <;> first | done | omega) | (intros; simp (disch := omega) only [jst_eq, jst_ne, jst_ni, jst_o, jI_i, jcpy_out, w32_id, jdiv_nn] at * <;> first | done | omega | assumption) | (intros; first | rfl | (exfalso; omega) | ((repeat' apply And.intro) <;> first | assumption | rfl | omega | trivial)))) -- o37 e4.4
            · skip
              try simp (disch := omega) only [jst_eq, jst_ne, jst_ni, jI_i, jcmp_lt, jcmp_gt, w32_id, jcpy_out, Sum.elim_inl, Sum.elim_inr, jt2, jt3, jt4, jt5, jt6, jt7, jt8] at c5
              have e0 : up1 sg i2 a13 0 = i6 := by { rw [up1_o (by omega)]; exact op.2.1 }
              refine OK_if (fun c6 => ?_) (fun c6 => ?_)
              · skip
                try simp (disch := omega) only [jst_eq, jst_ne, jst_ni, jI_i, jcmp_lt, jcmp_gt, w32_id, jcpy_out, Sum.elim_inl, Sum.elim_inr, jt2, jt3, jt4, jt5, jt6, jt7, jt8] at c6
                have e1 : up1 sg i2 a13 1 = a13 := by { have y : i2 = 1 := (by omega); rw [y]; exact up1_e }
                have e2 : up1 sg i2 a13 2 = -1 := by { rw [up1_o (by omega)]; exact op.1.2.1 2 (by omega) }
                have OT := op_T tq XX.2.2.2.2 ia OP (by omega) (by omega) (by omega) e0 e1 e2
                refine OK_jb2 (vX5_result (E := E) (Rf := Rf) (W := W) (f := fun _ _ _ => 0) (A := A) (pts := pts) (wh := wh) (rv := rv) (M := M) (T := T) (ac := i10) _ _ _ _ (by (first | (exact SE) | (exact XX) | (exact OT.2.2.2.2) | (exact ia) | (exact OT.1) | (exact OT.2.1) | (exact ⟨OT.1, by omega⟩) | ((rw [q1, show x34 = a13 + 1 by omega, sumN_s q0.1, ST, Int.add_zero])) | ((rw [show x34 = a13 + 1 by omega]; exact row_z q2 Z0)) | (exact JJ) | (exact fr) | (first | assumption | omega | ((try dsimp only [jt2, jt3, jt4]); first | omega | (simp (disch := omega) only [jst_eq, jst_ne, jst_ni, jst_o, jI_i, jcpy_out, w32_id, jdiv_nn, jshr_k, jand_255] <;> first | done | omega | assumption)) | (intros; simp (disch := omega) only [jst_eq, jst_ne, jst_ni, jst_o, jI_i, jcpy_out, w32_id, jdiv_nn, *] <;> first | done | omega) | (intros; simp (disch := omega) only [jst_eq, jst_ne, jst_ni, jst_o, jI_i, jcpy_out, w32_id, jdiv_nn] at * <;> first | done | omega | assumption) | (intros; first | rfl | (exfalso; omega) | ((repeat' apply And.intro) <;> first | assumption | rfl | omega | trivial))))) (by (first | (exact SE) | (exact XX) | (exact OT.2.2.2.2) | (exact ia) | (exact OT.1) | (exact OT.2.1) | (exact ⟨OT.1, by omega⟩) | ((rw [q1, show x34 = a13 + 1 by omega, sumN_s q0.1, ST, Int.add_zero])) | ((rw [show x34 = a13 + 1 by omega]; exact row_z q2 Z0)) | (exact JJ) | (exact fr) | (first | assumption | omega | ((try dsimp only [jt2, jt3, jt4]); first | omega | (simp (disch := omega) only [jst_eq, jst_ne, jst_ni, jst_o, jI_i, jcpy_out, w32_id, jdiv_nn, jshr_k, jand_255] <;> first | done | omega | assumption)) | (intros; simp (disch := omega) only [jst_eq, jst_ne, jst_ni, jst_o, jI_i, jcpy_out, w32_id, jdiv_nn, *] <;> first | done | omega) | (intros; simp (disch := omega) only [jst_eq, jst_ne, jst_ni, jst_o, jI_i, jcpy_out, w32_id, jdiv_nn] at * <;> first | done | omega | assumption) | (intros; first | rfl | (exfalso; omega) | ((repeat' apply And.intro) <;> first | assumption | rfl | omega | trivial))))) (by (first | (exact SE) | (exact XX) | (exact OT.2.2.2.2) | (exact ia) | (exact OT.1) | (exact OT.2.1) | (exact ⟨OT.1, by omega⟩) | ((rw [q1, show x34 = a13 + 1 by omega, sumN_s q0.1, ST, Int.add_zero])) | ((rw [show x34 = a13 + 1 by omega]; exact row_z q2 Z0)) | (exact JJ) | (exact fr) | (first | assumption | omega | ((try dsimp only [jt2, jt3, jt4]); first | omega | (simp (disch := omega) only [jst_eq, jst_ne, jst_ni, jst_o, jI_i, jcpy_out, w32_id, jdiv_nn, jshr_k, jand_255] <;> first | done | omega | assumption)) | (intros; simp (disch := omega) only [jst_eq, jst_ne, jst_ni, jst_o, jI_i, jcpy_out, w32_id, jdiv_nn, *] <;> first | done | omega) | (intros; simp (disch := omega) only [jst_eq, jst_ne, jst_ni, jst_o, jI_i, jcpy_out, w32_id, jdiv_nn] at * <;> first | done | omega | assumption) | (intros; first | rfl | (exfalso; omega) | ((repeat' apply And.intro) <;> first | assumption | rfl | omega | trivial))))) (by (first | (exact SE) | (exact XX) | (exact OT.2.2.2.2) | (exact ia) | (exact OT.1) | (exact OT.2.1) | (exact ⟨OT.1, by omega⟩) | ((rw [q1, show x34 = a13 + 1 by omega, sumN_s q0.1, ST, Int.add_zero])) | ((rw [show x34 = a13 + 1 by omega]; exact row_z q2 Z0)) | (exact JJ) | (exact fr) | (first | assumption | omega | ((try dsimp only [jt2, jt3, jt4]); first | omega | (simp (disch := omega) only [jst_eq, jst_ne, jst_ni, jst_o, jI_i, jcpy_out, w32_id, jdiv_nn, jshr_k, jand_255] <;> first | done | omega | assumption)) | (intros; simp (disch := omega) only [jst_eq, jst_ne, jst_ni, jst_o, jI_i, jcpy_out, w32_id, jdiv_nn, *] <;> first | done | omega) | (intros; simp (disch := omega) only [jst_eq, jst_ne, jst_ni, jst_o, jI_i, jcpy_out, w32_id, jdiv_nn] at * <;> first | done | omega | assumption) | (intros; first | rfl | (exfalso; omega) | ((repeat' apply And.intro) <;> first | assumption | rfl | omega | trivial))))) (by (first | (exact SE) | (exact XX) | (exact OT.2.2.2.2) | (exact ia) | (exact OT.1) | (exact OT.2.1) | (exact ⟨OT.1, by omega⟩) | ((rw [q1, show x34 = a13 + 1 by omega, sumN_s q0.1, ST, Int.add_zero])) | ((rw [show x34 = a13 + 1 by omega]; exact row_z q2 Z0)) | (exact JJ) | (exact fr) | (first | assumption | omega | ((try dsimp only [jt2, jt3, jt4]); first | omega | (simp (disch := omega) only [jst_eq, jst_ne, jst_ni, jst_o, jI_i, jcpy_out, w32_id, jdiv_nn, jshr_k, jand_255] <;> first | done | omega | assumption)) | (intros; simp (disch := omega) only [jst_eq, jst_ne, jst_ni, jst_o, jI_i, jcpy_out, w32_id, jdiv_nn, *] <;> first | done | omega) | (intros; simp (disch := omega) only [jst_eq, jst_ne, jst_ni, jst_o, jI_i, jcpy_out, w32_id, jdiv_nn] at * <;> first | done | omega | assumption) | (intros; first | rfl | (exfalso; omega) | ((repeat' apply And.intro) <;> first | assumption | rfl | omega | trivial))))) (by (first | (exact SE) | (exact XX) | (exact OT.2.2.2.2) | (exact ia) | (exact OT.1) | (exact OT.2.1) | (exact ⟨OT.1, by omega⟩) | ((rw [q1, show x34 = a13 + 1 by omega, sumN_s q0.1, ST, Int.add_zero])) | ((rw [show x34 = a13 + 1 by omega]; exact row_z q2 Z0)) | (exact JJ) | (exact fr) | (first | assumption | omega | ((try dsimp only [jt2, jt3, jt4]); first | omega | (simp (disch := omega) only [jst_eq, jst_ne, jst_ni, jst_o, jI_i, jcpy_out, w32_id, jdiv_nn, jshr_k, jand_255] <;> first | done | omega | assumption)) | (intros; simp (disch := omega) only [jst_eq, jst_ne, jst_ni, jst_o, jI_i, jcpy_out, w32_id, jdiv_nn, *] <;> first | done | omega) | (intros; simp (disch := omega) only [jst_eq, jst_ne, jst_ni, jst_o, jI_i, jcpy_out, w32_id, jdiv_nn] at * <;> first | done | omega | assumption) | (intros; first | rfl | (exfalso; omega) | ((repeat' apply And.intro) <;> first | assumption | rfl | omega | trivial)))))) (fun v20 h21 r7 => ?_)
                try dsimp only [Sum.elim_inl, Sum.elim_inr, jt2, jt3, jt4, jt5, jt6, jt7, jt8] at r7
                obtain ⟨rs6, xs6, fs6⟩ := r7
                try simp (disch := omega) only [jst_eq, jst_ne, jst_ni, jI_i, jcmp_lt, jcmp_gt, w32_id, jcpy_out, Sum.elim_inl, Sum.elim_inr, jt2, jt3, jt4, jt5, jt6, jt7, jt8] at rs6
                try simp (disch := omega) only [jst_eq, jst_ne, jst_ni, jI_i, jcmp_lt, jcmp_gt, w32_id, jcpy_out, Sum.elim_inl, Sum.elim_inr, jt2, jt3, jt4, jt5, jt6, jt7, jt8] at xs6
                try simp (disch := omega) only [jst_eq, jst_ne, jst_ni, jI_i, jcmp_lt, jcmp_gt, w32_id, jcpy_out, Sum.elim_inl, Sum.elim_inr, jt2, jt3, jt4, jt5, jt6, jt7, jt8] at fs6
                have J2 := JX_G JJ fs6.1 xs6 fs6.2
                have VV : v20 = ixS E W pts T i10 (up1 sg i2 a13) := by { rw [← OT.2.2.1]; first | exact rs6 | assumption }
                have w8 : w32 (i8 + v20) = i8 + v20 := w32_id (by omega) (by omega)
                have W5 : h21 322 (i8 + v20) = w (ixS E W pts T i10 (up1 sg i2 a13)) := by { rw [fs6.1 _ _ (by omega) (by omega) (by omega) (by omega), fr.1 _ _ (by omega) (by omega) (by omega) (by omega) (by omega), VV]; exact wr.2.1 _ OT.2.2.2.1.1 OT.2.2.2.1.2 }
                unfold gX5_weigh_j127_20
                refine OK_jg (by (first | (exact SE) | (exact XX) | (exact OT.2.2.2.2) | (exact ia) | (exact OT.1) | (exact OT.2.1) | (exact ⟨OT.1, by omega⟩) | ((rw [q1, show x34 = a13 + 1 by omega, sumN_s q0.1, ST, Int.add_zero])) | ((rw [show x34 = a13 + 1 by omega]; exact row_z q2 Z0)) | (exact JJ) | (exact fr) | (first | assumption | omega | ((try dsimp only [jt2, jt3, jt4]); first | omega | (simp (disch := omega) only [jst_eq, jst_ne, jst_ni, jst_o, jI_i, jcpy_out, w32_id, jdiv_nn, jshr_k, jand_255] <;> first | done | omega | assumption)) | (intros; simp (disch := omega) only [jst_eq, jst_ne, jst_ni, jst_o, jI_i, jcpy_out, w32_id, jdiv_nn, *] <;> first | done | omega) | (intros; simp (disch := omega) only [jst_eq, jst_ne, jst_ni, jst_o, jI_i, jcpy_out, w32_id, jdiv_nn] at * <;> first | done | omega | assumption) | (intros; first | rfl | (exfalso; omega) | ((repeat' apply And.intro) <;> first | assumption | rfl | omega | trivial))))) ?_ -- o44
                refine OK_jlx (fun x35 ex35 => ?_)
                try simp (disch := omega) only [jst_eq, jst_ne, jst_ni, jI_i, jcmp_lt, jcmp_gt, w32_id, jcpy_out, Sum.elim_inl, Sum.elim_inr, jt2, jt3, jt4, jt5, jt6, jt7, jt8] at ex35
                have X35 : x35 = owW E W pts T (ct E W pts A) i10 w m i2 (i4 + i5) sg i4 a13 := by { rw [OW, m0, i50, ex35]; (first | rw [w8, W5] | rw [W5]); exact (if_pos rfl).symm }
                refine OK_mono (vX5_weigh_j403_20 (E := E) (Rf := Rf) (W := W) (A := A) (pts := pts) (wh := wh) (rv := rv) (M := M) (T := T) (n := n) (m := m) (w := w) (sg := sg) (used := used) _ _ _ _ _ _ _ _ _ _ _ _ _ (by exact J2) (by exact ⟨q0.1, by omega, by omega, by omega, n12.2⟩) (by exact q1) (by exact fun f f0 f1 => by (rw [fs6.1 _ _ (by omega) (by omega) (by omega) (by omega)]; exact q2 f f0 f1)) (by exact X35) (by omega)) (fun r r8 => ?_)
                rcases r with r | r
                · skip
                  have r9 := r8; clear r8; dsimp only [Sum.elim_inl, Sum.elim_inr] at r9
                  obtain ⟨y6, y7, y8⟩ := r
                  try dsimp only [Sum.elim_inl, Sum.elim_inr, jt2, jt3, jt4, jt5, jt6, jt7, jt8] at r9
                  obtain ⟨sq7, sr7, jj7, fs7⟩ := r9
                  try simp (disch := omega) only [jst_eq, jst_ne, jst_ni, jI_i, jcmp_lt, jcmp_gt, w32_id, jcpy_out, Sum.elim_inl, Sum.elim_inr, jt2, jt3, jt4, jt5, jt6, jt7, jt8] at sq7
                  try simp (disch := omega) only [jst_eq, jst_ne, jst_ni, jI_i, jcmp_lt, jcmp_gt, w32_id, jcpy_out, Sum.elim_inl, Sum.elim_inr, jt2, jt3, jt4, jt5, jt6, jt7, jt8] at sr7
                  try simp (disch := omega) only [jst_eq, jst_ne, jst_ni, jI_i, jcmp_lt, jcmp_gt, w32_id, jcpy_out, Sum.elim_inl, Sum.elim_inr, jt2, jt3, jt4, jt5, jt6, jt7, jt8] at jj7
                  try simp (disch := omega) only [jst_eq, jst_ne, jst_ni, jI_i, jcmp_lt, jcmp_gt, w32_id, jcpy_out, Sum.elim_inl, Sum.elim_inr, jt2, jt3, jt4, jt5, jt6, jt7, jt8] at fs7
                  try dsimp only [Sum.elim_inl, Sum.elim_inr, jt2, jt3, jt4, jt5, jt6, jt7, jt8]
                  refine ⟨?_, ?_⟩
                  · try dsimp only [Sum.elim_inl, Sum.elim_inr, jt2, jt3, jt4, jt5, jt6, jt7, jt8]
                    refine ⟨?_, ?_, ?_, ?_, ?_⟩
                    · (rw [sq7.2]; omega) -- o51 e5i.1
                    · (rw [sq7.2]; exact sq7.1) -- o52 e5i.2
                    · exact fun f f0 f1 => by (rw [sq7.2]; exact sr7 f f0 f1) -- o53 e5i.3
                    · exact jj7 -- o54 e5i.4
                    · exact ⟨fWx_t fr.1 (fWx_t (fG_W fs6.1) fs7.1), fs7.2⟩ -- o55 e5i.5
                  · (rw [sq7.2]; omega) -- o56 e5m
                · skip
                  have r10 := r8; clear r8; dsimp only [Sum.elim_inl, Sum.elim_inr] at r10
                  obtain ⟨y9, y10⟩ := r
                  try dsimp only [Sum.elim_inl, Sum.elim_inr, jt2, jt3, jt4, jt5, jt6, jt7, jt8] at r10
                  have no8 := r10
                  clear r10
                  try simp (disch := omega) only [jst_eq, jst_ne, jst_ni, jI_i, jcmp_lt, jcmp_gt, w32_id, jcpy_out, Sum.elim_inl, Sum.elim_inr, jt2, jt3, jt4, jt5, jt6, jt7, jt8] at no8
                  try dsimp only [Sum.elim_inl, Sum.elim_inr, jt2, jt3, jt4, jt5, jt6, jt7, jt8]
                  try dsimp only [Sum.elim_inl, Sum.elim_inr, jt2, jt3, jt4, jt5, jt6, jt7, jt8]
                  refine ⟨?_, ?_, ?_, ?_⟩
                  · (first | (exact SE) | (exact XX) | (exact OT.2.2.2.2) | (exact ia) | (exact OT.1) | (exact OT.2.1) | (exact ⟨OT.1, by omega⟩) | ((rw [q1, show x34 = a13 + 1 by omega, sumN_s q0.1, ST, Int.add_zero])) | ((rw [show x34 = a13 + 1 by omega]; exact row_z q2 Z0)) | (exact JJ) | (exact fr) | (first | assumption | omega | ((try dsimp only [jt2, jt3, jt4]); first | omega | (simp (disch := omega) only [jst_eq, jst_ne, jst_ni, jst_o, jI_i, jcpy_out, w32_id, jdiv_nn, jshr_k, jand_255] <;> first | done | omega | assumption)) | (intros; simp (disch := omega) only [jst_eq, jst_ne, jst_ni, jst_o, jI_i, jcpy_out, w32_id, jdiv_nn, *] <;> first | done | omega) | (intros; simp (disch := omega) only [jst_eq, jst_ne, jst_ni, jst_o, jI_i, jcpy_out, w32_id, jdiv_nn] at * <;> first | done | omega | assumption) | (intros; first | rfl | (exfalso; omega) | ((repeat' apply And.intro) <;> first | assumption | rfl | omega | trivial)))) -- o57 e6.1
                  · (first | (exact SE) | (exact XX) | (exact OT.2.2.2.2) | (exact ia) | (exact OT.1) | (exact OT.2.1) | (exact ⟨OT.1, by omega⟩) | ((rw [q1, show x34 = a13 + 1 by omega, sumN_s q0.1, ST, Int.add_zero])) | ((rw [show x34 = a13 + 1 by omega]; exact row_z q2 Z0)) | (exact JJ) | (exact fr) | (first | assumption | omega | ((try dsimp only [jt2, jt3, jt4]); first | omega | (simp (disch := omega) only [jst_eq, jst_ne, jst_ni, jst_o, jI_i, jcpy_out, w32_id, jdiv_nn, jshr_k, jand_255] <;> first | done | omega | assumption)) | (intros; simp (disch := omega) only [jst_eq, jst_ne, jst_ni, jst_o, jI_i, jcpy_out, w32_id, jdiv_nn, *] <;> first | done | omega) | (intros; simp (disch := omega) only [jst_eq, jst_ne, jst_ni, jst_o, jI_i, jcpy_out, w32_id, jdiv_nn] at * <;> first | done | omega | assumption) | (intros; first | rfl | (exfalso; omega) | ((repeat' apply And.intro) <;> first | assumption | rfl | omega | trivial)))) -- o58 e6.2
                  · (first | (exact SE) | (exact XX) | (exact OT.2.2.2.2) | (exact ia) | (exact OT.1) | (exact OT.2.1) | (exact ⟨OT.1, by omega⟩) | ((rw [q1, show x34 = a13 + 1 by omega, sumN_s q0.1, ST, Int.add_zero])) | ((rw [show x34 = a13 + 1 by omega]; exact row_z q2 Z0)) | (exact JJ) | (exact fr) | (first | assumption | omega | ((try dsimp only [jt2, jt3, jt4]); first | omega | (simp (disch := omega) only [jst_eq, jst_ne, jst_ni, jst_o, jI_i, jcpy_out, w32_id, jdiv_nn, jshr_k, jand_255] <;> first | done | omega | assumption)) | (intros; simp (disch := omega) only [jst_eq, jst_ne, jst_ni, jst_o, jI_i, jcpy_out, w32_id, jdiv_nn, *] <;> first | done | omega) | (intros; simp (disch := omega) only [jst_eq, jst_ne, jst_ni, jst_o, jI_i, jcpy_out, w32_id, jdiv_nn] at * <;> first | done | omega | assumption) | (intros; first | rfl | (exfalso; omega) | ((repeat' apply And.intro) <;> first | assumption | rfl | omega | trivial)))) -- o59 e6.3
                  · (first | (exact SE) | (exact XX) | (exact OT.2.2.2.2) | (exact ia) | (exact OT.1) | (exact OT.2.1) | (exact ⟨OT.1, by omega⟩) | ((rw [q1, show x34 = a13 + 1 by omega, sumN_s q0.1, ST, Int.add_zero])) | ((rw [show x34 = a13 + 1 by omega]; exact row_z q2 Z0)) | (exact JJ) | (exact fr) | (first | assumption | omega | ((try dsimp only [jt2, jt3, jt4]); first | omega | (simp (disch := omega) only [jst_eq, jst_ne, jst_ni, jst_o, jI_i, jcpy_out, w32_id, jdiv_nn, jshr_k, jand_255] <;> first | done | omega | assumption)) | (intros; simp (disch := omega) only [jst_eq, jst_ne, jst_ni, jst_o, jI_i, jcpy_out, w32_id, jdiv_nn, *] <;> first | done | omega) | (intros; simp (disch := omega) only [jst_eq, jst_ne, jst_ni, jst_o, jI_i, jcpy_out, w32_id, jdiv_nn] at * <;> first | done | omega | assumption) | (intros; first | rfl | (exfalso; omega) | ((repeat' apply And.intro) <;> first | assumption | rfl | omega | trivial)))) -- o60 e6.4
              · skip
                try simp (disch := omega) only [jst_eq, jst_ne, jst_ni, jI_i, jcmp_lt, jcmp_gt, w32_id, jcpy_out, Sum.elim_inl, Sum.elim_inr, jt2, jt3, jt4, jt5, jt6, jt7, jt8] at c6
                have e1 : up1 sg i2 a13 1 = i7 := by { rw [up1_o (by omega)]; exact op.2.2 }
                have e2 : up1 sg i2 a13 2 = a13 := by { have y : i2 = 2 := (by omega); rw [y]; exact up1_e }
                have OT := op_T tq XX.2.2.2.2 ia OP (by omega) (by omega) (by omega) e0 e1 e2
                refine OK_jb2 (vX5_resultOfThree (E := E) (Rf := Rf) (W := W) (f := fun _ _ _ => 0) (A := A) (pts := pts) (wh := wh) (rv := rv) (M := M) (T := T) (ac := i10) _ _ _ _ (by (first | (exact SE) | (exact XX) | (exact OT.2.2.2.2) | (exact ia) | (exact OT.1) | (exact OT.2.1) | (exact ⟨OT.1, by omega⟩) | ((rw [q1, show x34 = a13 + 1 by omega, sumN_s q0.1, ST, Int.add_zero])) | ((rw [show x34 = a13 + 1 by omega]; exact row_z q2 Z0)) | (exact JJ) | (exact fr) | (first | assumption | omega | ((try dsimp only [jt2, jt3, jt4]); first | omega | (simp (disch := omega) only [jst_eq, jst_ne, jst_ni, jst_o, jI_i, jcpy_out, w32_id, jdiv_nn, jshr_k, jand_255] <;> first | done | omega | assumption)) | (intros; simp (disch := omega) only [jst_eq, jst_ne, jst_ni, jst_o, jI_i, jcpy_out, w32_id, jdiv_nn, *] <;> first | done | omega) | (intros; simp (disch := omega) only [jst_eq, jst_ne, jst_ni, jst_o, jI_i, jcpy_out, w32_id, jdiv_nn] at * <;> first | done | omega | assumption) | (intros; first | rfl | (exfalso; omega) | ((repeat' apply And.intro) <;> first | assumption | rfl | omega | trivial))))) (by (first | (exact SE) | (exact XX) | (exact OT.2.2.2.2) | (exact ia) | (exact OT.1) | (exact OT.2.1) | (exact ⟨OT.1, by omega⟩) | ((rw [q1, show x34 = a13 + 1 by omega, sumN_s q0.1, ST, Int.add_zero])) | ((rw [show x34 = a13 + 1 by omega]; exact row_z q2 Z0)) | (exact JJ) | (exact fr) | (first | assumption | omega | ((try dsimp only [jt2, jt3, jt4]); first | omega | (simp (disch := omega) only [jst_eq, jst_ne, jst_ni, jst_o, jI_i, jcpy_out, w32_id, jdiv_nn, jshr_k, jand_255] <;> first | done | omega | assumption)) | (intros; simp (disch := omega) only [jst_eq, jst_ne, jst_ni, jst_o, jI_i, jcpy_out, w32_id, jdiv_nn, *] <;> first | done | omega) | (intros; simp (disch := omega) only [jst_eq, jst_ne, jst_ni, jst_o, jI_i, jcpy_out, w32_id, jdiv_nn] at * <;> first | done | omega | assumption) | (intros; first | rfl | (exfalso; omega) | ((repeat' apply And.intro) <;> first | assumption | rfl | omega | trivial))))) (by (first | (exact SE) | (exact XX) | (exact OT.2.2.2.2) | (exact ia) | (exact OT.1) | (exact OT.2.1) | (exact ⟨OT.1, by omega⟩) | ((rw [q1, show x34 = a13 + 1 by omega, sumN_s q0.1, ST, Int.add_zero])) | ((rw [show x34 = a13 + 1 by omega]; exact row_z q2 Z0)) | (exact JJ) | (exact fr) | (first | assumption | omega | ((try dsimp only [jt2, jt3, jt4]); first | omega | (simp (disch := omega) only [jst_eq, jst_ne, jst_ni, jst_o, jI_i, jcpy_out, w32_id, jdiv_nn, jshr_k, jand_255] <;> first | done | omega | assumption)) | (intros; simp (disch := omega) only [jst_eq, jst_ne, jst_ni, jst_o, jI_i, jcpy_out, w32_id, jdiv_nn, *] <;> first | done | omega) | (intros; simp (disch := omega) only [jst_eq, jst_ne, jst_ni, jst_o, jI_i, jcpy_out, w32_id, jdiv_nn] at * <;> first | done | omega | assumption) | (intros; first | rfl | (exfalso; omega) | ((repeat' apply And.intro) <;> first | assumption | rfl | omega | trivial))))) (by (first | (exact SE) | (exact XX) | (exact OT.2.2.2.2) | (exact ia) | (exact OT.1) | (exact OT.2.1) | (exact ⟨OT.1, by omega⟩) | ((rw [q1, show x34 = a13 + 1 by omega, sumN_s q0.1, ST, Int.add_zero])) | ((rw [show x34 = a13 + 1 by omega]; exact row_z q2 Z0)) | (exact JJ) | (exact fr) | (first | assumption | omega | ((try dsimp only [jt2, jt3, jt4]); first | omega | (simp (disch := omega) only [jst_eq, jst_ne, jst_ni, jst_o, jI_i, jcpy_out, w32_id, jdiv_nn, jshr_k, jand_255] <;> first | done | omega | assumption)) | (intros; simp (disch := omega) only [jst_eq, jst_ne, jst_ni, jst_o, jI_i, jcpy_out, w32_id, jdiv_nn, *] <;> first | done | omega) | (intros; simp (disch := omega) only [jst_eq, jst_ne, jst_ni, jst_o, jI_i, jcpy_out, w32_id, jdiv_nn] at * <;> first | done | omega | assumption) | (intros; first | rfl | (exfalso; omega) | ((repeat' apply And.intro) <;> first | assumption | rfl | omega | trivial))))) (by (first | (exact SE) | (exact XX) | (exact OT.2.2.2.2) | (exact ia) | (exact OT.1) | (exact OT.2.1) | (exact ⟨OT.1, by omega⟩) | ((rw [q1, show x34 = a13 + 1 by omega, sumN_s q0.1, ST, Int.add_zero])) | ((rw [show x34 = a13 + 1 by omega]; exact row_z q2 Z0)) | (exact JJ) | (exact fr) | (first | assumption | omega | ((try dsimp only [jt2, jt3, jt4]); first | omega | (simp (disch := omega) only [jst_eq, jst_ne, jst_ni, jst_o, jI_i, jcpy_out, w32_id, jdiv_nn, jshr_k, jand_255] <;> first | done | omega | assumption)) | (intros; simp (disch := omega) only [jst_eq, jst_ne, jst_ni, jst_o, jI_i, jcpy_out, w32_id, jdiv_nn, *] <;> first | done | omega) | (intros; simp (disch := omega) only [jst_eq, jst_ne, jst_ni, jst_o, jI_i, jcpy_out, w32_id, jdiv_nn] at * <;> first | done | omega | assumption) | (intros; first | rfl | (exfalso; omega) | ((repeat' apply And.intro) <;> first | assumption | rfl | omega | trivial))))) (by (first | (exact SE) | (exact XX) | (exact OT.2.2.2.2) | (exact ia) | (exact OT.1) | (exact OT.2.1) | (exact ⟨OT.1, by omega⟩) | ((rw [q1, show x34 = a13 + 1 by omega, sumN_s q0.1, ST, Int.add_zero])) | ((rw [show x34 = a13 + 1 by omega]; exact row_z q2 Z0)) | (exact JJ) | (exact fr) | (first | assumption | omega | ((try dsimp only [jt2, jt3, jt4]); first | omega | (simp (disch := omega) only [jst_eq, jst_ne, jst_ni, jst_o, jI_i, jcpy_out, w32_id, jdiv_nn, jshr_k, jand_255] <;> first | done | omega | assumption)) | (intros; simp (disch := omega) only [jst_eq, jst_ne, jst_ni, jst_o, jI_i, jcpy_out, w32_id, jdiv_nn, *] <;> first | done | omega) | (intros; simp (disch := omega) only [jst_eq, jst_ne, jst_ni, jst_o, jI_i, jcpy_out, w32_id, jdiv_nn] at * <;> first | done | omega | assumption) | (intros; first | rfl | (exfalso; omega) | ((repeat' apply And.intro) <;> first | assumption | rfl | omega | trivial)))))) (fun v23 h24 r11 => ?_)
                try dsimp only [Sum.elim_inl, Sum.elim_inr, jt2, jt3, jt4, jt5, jt6, jt7, jt8] at r11
                obtain ⟨rs9, xs9, fs9⟩ := r11
                try simp (disch := omega) only [jst_eq, jst_ne, jst_ni, jI_i, jcmp_lt, jcmp_gt, w32_id, jcpy_out, Sum.elim_inl, Sum.elim_inr, jt2, jt3, jt4, jt5, jt6, jt7, jt8] at rs9
                try simp (disch := omega) only [jst_eq, jst_ne, jst_ni, jI_i, jcmp_lt, jcmp_gt, w32_id, jcpy_out, Sum.elim_inl, Sum.elim_inr, jt2, jt3, jt4, jt5, jt6, jt7, jt8] at xs9
                try simp (disch := omega) only [jst_eq, jst_ne, jst_ni, jI_i, jcmp_lt, jcmp_gt, w32_id, jcpy_out, Sum.elim_inl, Sum.elim_inr, jt2, jt3, jt4, jt5, jt6, jt7, jt8] at fs9
                have J2 := JX_G JJ fs9.1 xs9 fs9.2
                have VV : v23 = ixS E W pts T i10 (up1 sg i2 a13) := by { rw [← OT.2.2.1]; first | exact rs9 | assumption }
                have w8 : w32 (i8 + v23) = i8 + v23 := w32_id (by omega) (by omega)
                have W5 : h24 322 (i8 + v23) = w (ixS E W pts T i10 (up1 sg i2 a13)) := by { rw [fs9.1 _ _ (by omega) (by omega) (by omega) (by omega), fr.1 _ _ (by omega) (by omega) (by omega) (by omega) (by omega), VV]; exact wr.2.1 _ OT.2.2.2.1.1 OT.2.2.2.1.2 }
                unfold gX5_weigh_j127_20
                refine OK_jg (by (first | (exact SE) | (exact XX) | (exact OT.2.2.2.2) | (exact ia) | (exact OT.1) | (exact OT.2.1) | (exact ⟨OT.1, by omega⟩) | ((rw [q1, show x34 = a13 + 1 by omega, sumN_s q0.1, ST, Int.add_zero])) | ((rw [show x34 = a13 + 1 by omega]; exact row_z q2 Z0)) | (exact JJ) | (exact fr) | (first | assumption | omega | ((try dsimp only [jt2, jt3, jt4]); first | omega | (simp (disch := omega) only [jst_eq, jst_ne, jst_ni, jst_o, jI_i, jcpy_out, w32_id, jdiv_nn, jshr_k, jand_255] <;> first | done | omega | assumption)) | (intros; simp (disch := omega) only [jst_eq, jst_ne, jst_ni, jst_o, jI_i, jcpy_out, w32_id, jdiv_nn, *] <;> first | done | omega) | (intros; simp (disch := omega) only [jst_eq, jst_ne, jst_ni, jst_o, jI_i, jcpy_out, w32_id, jdiv_nn] at * <;> first | done | omega | assumption) | (intros; first | rfl | (exfalso; omega) | ((repeat' apply And.intro) <;> first | assumption | rfl | omega | trivial))))) ?_ -- o67
                refine OK_jlx (fun x35 ex35 => ?_)
                try simp (disch := omega) only [jst_eq, jst_ne, jst_ni, jI_i, jcmp_lt, jcmp_gt, w32_id, jcpy_out, Sum.elim_inl, Sum.elim_inr, jt2, jt3, jt4, jt5, jt6, jt7, jt8] at ex35
                have X35 : x35 = owW E W pts T (ct E W pts A) i10 w m i2 (i4 + i5) sg i4 a13 := by { rw [OW, m0, i50, ex35]; (first | rw [w8, W5] | rw [W5]); exact (if_pos rfl).symm }
                refine OK_mono (vX5_weigh_j403_20 (E := E) (Rf := Rf) (W := W) (A := A) (pts := pts) (wh := wh) (rv := rv) (M := M) (T := T) (n := n) (m := m) (w := w) (sg := sg) (used := used) _ _ _ _ _ _ _ _ _ _ _ _ _ (by exact J2) (by exact ⟨q0.1, by omega, by omega, by omega, n12.2⟩) (by exact q1) (by exact fun f f0 f1 => by (rw [fs9.1 _ _ (by omega) (by omega) (by omega) (by omega)]; exact q2 f f0 f1)) (by exact X35) (by omega)) (fun r r12 => ?_)
                rcases r with r | r
                · skip
                  have r13 := r12; clear r12; dsimp only [Sum.elim_inl, Sum.elim_inr] at r13
                  obtain ⟨y11, y12, y13⟩ := r
                  try dsimp only [Sum.elim_inl, Sum.elim_inr, jt2, jt3, jt4, jt5, jt6, jt7, jt8] at r13
                  obtain ⟨sq10, sr10, jj10, fs10⟩ := r13
                  try simp (disch := omega) only [jst_eq, jst_ne, jst_ni, jI_i, jcmp_lt, jcmp_gt, w32_id, jcpy_out, Sum.elim_inl, Sum.elim_inr, jt2, jt3, jt4, jt5, jt6, jt7, jt8] at sq10
                  try simp (disch := omega) only [jst_eq, jst_ne, jst_ni, jI_i, jcmp_lt, jcmp_gt, w32_id, jcpy_out, Sum.elim_inl, Sum.elim_inr, jt2, jt3, jt4, jt5, jt6, jt7, jt8] at sr10
                  try simp (disch := omega) only [jst_eq, jst_ne, jst_ni, jI_i, jcmp_lt, jcmp_gt, w32_id, jcpy_out, Sum.elim_inl, Sum.elim_inr, jt2, jt3, jt4, jt5, jt6, jt7, jt8] at jj10
                  try simp (disch := omega) only [jst_eq, jst_ne, jst_ni, jI_i, jcmp_lt, jcmp_gt, w32_id, jcpy_out, Sum.elim_inl, Sum.elim_inr, jt2, jt3, jt4, jt5, jt6, jt7, jt8] at fs10
                  try dsimp only [Sum.elim_inl, Sum.elim_inr, jt2, jt3, jt4, jt5, jt6, jt7, jt8]
                  refine ⟨?_, ?_⟩
                  · try dsimp only [Sum.elim_inl, Sum.elim_inr, jt2, jt3, jt4, jt5, jt6, jt7, jt8]
                    refine ⟨?_, ?_, ?_, ?_, ?_⟩
                    · (rw [sq10.2]; omega) -- o74 e7i.1
                    · (rw [sq10.2]; exact sq10.1) -- o75 e7i.2
                    · exact fun f f0 f1 => by (rw [sq10.2]; exact sr10 f f0 f1) -- o76 e7i.3
                    · exact jj10 -- o77 e7i.4
                    · exact ⟨fWx_t fr.1 (fWx_t (fG_W fs9.1) fs10.1), fs10.2⟩ -- o78 e7i.5
                  · (rw [sq10.2]; omega) -- o79 e7m
                · skip
                  have r14 := r12; clear r12; dsimp only [Sum.elim_inl, Sum.elim_inr] at r14
                  obtain ⟨y14, y15⟩ := r
                  try dsimp only [Sum.elim_inl, Sum.elim_inr, jt2, jt3, jt4, jt5, jt6, jt7, jt8] at r14
                  have no11 := r14
                  clear r14
                  try simp (disch := omega) only [jst_eq, jst_ne, jst_ni, jI_i, jcmp_lt, jcmp_gt, w32_id, jcpy_out, Sum.elim_inl, Sum.elim_inr, jt2, jt3, jt4, jt5, jt6, jt7, jt8] at no11
                  try dsimp only [Sum.elim_inl, Sum.elim_inr, jt2, jt3, jt4, jt5, jt6, jt7, jt8]
                  try dsimp only [Sum.elim_inl, Sum.elim_inr, jt2, jt3, jt4, jt5, jt6, jt7, jt8]
                  refine ⟨?_, ?_, ?_, ?_⟩
                  · (first | (exact SE) | (exact XX) | (exact OT.2.2.2.2) | (exact ia) | (exact OT.1) | (exact OT.2.1) | (exact ⟨OT.1, by omega⟩) | ((rw [q1, show x34 = a13 + 1 by omega, sumN_s q0.1, ST, Int.add_zero])) | ((rw [show x34 = a13 + 1 by omega]; exact row_z q2 Z0)) | (exact JJ) | (exact fr) | (first | assumption | omega | ((try dsimp only [jt2, jt3, jt4]); first | omega | (simp (disch := omega) only [jst_eq, jst_ne, jst_ni, jst_o, jI_i, jcpy_out, w32_id, jdiv_nn, jshr_k, jand_255] <;> first | done | omega | assumption)) | (intros; simp (disch := omega) only [jst_eq, jst_ne, jst_ni, jst_o, jI_i, jcpy_out, w32_id, jdiv_nn, *] <;> first | done | omega) | (intros; simp (disch := omega) only [jst_eq, jst_ne, jst_ni, jst_o, jI_i, jcpy_out, w32_id, jdiv_nn] at * <;> first | done | omega | assumption) | (intros; first | rfl | (exfalso; omega) | ((repeat' apply And.intro) <;> first | assumption | rfl | omega | trivial)))) -- o80 e8.1
                  · (first | (exact SE) | (exact XX) | (exact OT.2.2.2.2) | (exact ia) | (exact OT.1) | (exact OT.2.1) | (exact ⟨OT.1, by omega⟩) | ((rw [q1, show x34 = a13 + 1 by omega, sumN_s q0.1, ST, Int.add_zero])) | ((rw [show x34 = a13 + 1 by omega]; exact row_z q2 Z0)) | (exact JJ) | (exact fr) | (first | assumption | omega | ((try dsimp only [jt2, jt3, jt4]); first | omega | (simp (disch := omega) only [jst_eq, jst_ne, jst_ni, jst_o, jI_i, jcpy_out, w32_id, jdiv_nn, jshr_k, jand_255] <;> first | done | omega | assumption)) | (intros; simp (disch := omega) only [jst_eq, jst_ne, jst_ni, jst_o, jI_i, jcpy_out, w32_id, jdiv_nn, *] <;> first | done | omega) | (intros; simp (disch := omega) only [jst_eq, jst_ne, jst_ni, jst_o, jI_i, jcpy_out, w32_id, jdiv_nn] at * <;> first | done | omega | assumption) | (intros; first | rfl | (exfalso; omega) | ((repeat' apply And.intro) <;> first | assumption | rfl | omega | trivial)))) -- o81 e8.2
                  · (first | (exact SE) | (exact XX) | (exact OT.2.2.2.2) | (exact ia) | (exact OT.1) | (exact OT.2.1) | (exact ⟨OT.1, by omega⟩) | ((rw [q1, show x34 = a13 + 1 by omega, sumN_s q0.1, ST, Int.add_zero])) | ((rw [show x34 = a13 + 1 by omega]; exact row_z q2 Z0)) | (exact JJ) | (exact fr) | (first | assumption | omega | ((try dsimp only [jt2, jt3, jt4]); first | omega | (simp (disch := omega) only [jst_eq, jst_ne, jst_ni, jst_o, jI_i, jcpy_out, w32_id, jdiv_nn, jshr_k, jand_255] <;> first | done | omega | assumption)) | (intros; simp (disch := omega) only [jst_eq, jst_ne, jst_ni, jst_o, jI_i, jcpy_out, w32_id, jdiv_nn, *] <;> first | done | omega) | (intros; simp (disch := omega) only [jst_eq, jst_ne, jst_ni, jst_o, jI_i, jcpy_out, w32_id, jdiv_nn] at * <;> first | done | omega | assumption) | (intros; first | rfl | (exfalso; omega) | ((repeat' apply And.intro) <;> first | assumption | rfl | omega | trivial)))) -- o82 e8.3
                  · (first | (exact SE) | (exact XX) | (exact OT.2.2.2.2) | (exact ia) | (exact OT.1) | (exact OT.2.1) | (exact ⟨OT.1, by omega⟩) | ((rw [q1, show x34 = a13 + 1 by omega, sumN_s q0.1, ST, Int.add_zero])) | ((rw [show x34 = a13 + 1 by omega]; exact row_z q2 Z0)) | (exact JJ) | (exact fr) | (first | assumption | omega | ((try dsimp only [jt2, jt3, jt4]); first | omega | (simp (disch := omega) only [jst_eq, jst_ne, jst_ni, jst_o, jI_i, jcpy_out, w32_id, jdiv_nn, jshr_k, jand_255] <;> first | done | omega | assumption)) | (intros; simp (disch := omega) only [jst_eq, jst_ne, jst_ni, jst_o, jI_i, jcpy_out, w32_id, jdiv_nn, *] <;> first | done | omega) | (intros; simp (disch := omega) only [jst_eq, jst_ne, jst_ni, jst_o, jI_i, jcpy_out, w32_id, jdiv_nn] at * <;> first | done | omega | assumption) | (intros; first | rfl | (exfalso; omega) | ((repeat' apply And.intro) <;> first | assumption | rfl | omega | trivial)))) -- o83 e8.4
          · skip
            try simp (disch := omega) only [jst_eq, jst_ne, jst_ni, jI_i, jcmp_lt, jcmp_gt, w32_id, jcpy_out, Sum.elim_inl, Sum.elim_inr, jt2, jt3, jt4, jt5, jt6, jt7, jt8] at c4
            refine OK_if (fun c7 => ?_) (fun c7 => ?_)
            · skip
              try simp (disch := omega) only [jst_eq, jst_ne, jst_ni, jI_i, jcmp_lt, jcmp_gt, w32_id, jcpy_out, Sum.elim_inl, Sum.elim_inr, jt2, jt3, jt4, jt5, jt6, jt7, jt8] at c7
              have m1 : m = 1 := by omega
              have U0 : up1 sg i2 a13 0 = (if i3 = 2 then a13 else i6) := by { by_cases y : i3 = 2; { have z : i2 = 0 := (by omega); rw [if_pos y, z]; exact up1_e }; { rw [if_neg y, up1_o (by omega)]; exact op.2.1 } }
              refine OK_jb (vX5_weigh_l144 (E := E) (Rf := Rf) (W := W) (A := A) (pts := pts) (wh := wh) (rv := rv) (M := M) (T := T) (n := n) (w := w) (sg := up1 sg i2 a13) (used := used + i4) _ _ _ _ _ _ _ _ _ _ _ _ _ _ (by exact JJ) (by exact tq) (by exact ia) (by exact ⟨io.1, by omega, by omega⟩) (by exact ⟨OP, up1_e, U0⟩) (by omega) (by exact ⟨by omega, fun f f0 f1 => by (rw [fr.1 _ _ (by omega) (by omega) (by omega) (by omega) (by omega)]; exact wr.2.1 f f0 f1)⟩) (by exact ⟨rfl, rfl⟩)) (fun o26 r15 => ?_)
              obtain ⟨y28, h29⟩ := o26
              refine OK_jt2 ?_
              try dsimp only [Sum.elim_inl, Sum.elim_inr, jt2, jt3, jt4, jt5, jt6, jt7, jt8] at r15
              obtain ⟨vv12, jj12, fs12⟩ := r15
              try simp (disch := omega) only [jst_eq, jst_ne, jst_ni, jI_i, jcmp_lt, jcmp_gt, w32_id, jcpy_out, Sum.elim_inl, Sum.elim_inr, jt2, jt3, jt4, jt5, jt6, jt7, jt8] at vv12
              try simp (disch := omega) only [jst_eq, jst_ne, jst_ni, jI_i, jcmp_lt, jcmp_gt, w32_id, jcpy_out, Sum.elim_inl, Sum.elim_inr, jt2, jt3, jt4, jt5, jt6, jt7, jt8] at jj12
              try simp (disch := omega) only [jst_eq, jst_ne, jst_ni, jI_i, jcmp_lt, jcmp_gt, w32_id, jcpy_out, Sum.elim_inl, Sum.elim_inr, jt2, jt3, jt4, jt5, jt6, jt7, jt8] at fs12
              have Y1 : y28 = owW E W pts T (ct E W pts A) i10 w m i2 (i4 + i5) sg i4 a13 := by { rw [show y28 = _ from vv12, OW, m1]; have RS : rsW E W pts T (ct E W pts A) i10 w m (i2 + 1) i5 (up1 sg i2 a13) = rsW E W pts T (ct E W pts A) i10 w 1 (i2 + 1) i5 (up1 sg i2 a13) := (by rw [m1]); rw [← RS, ← OW]; exact w64_id (by omega) (by omega) }
              refine OK_mono (vX5_weigh_j403_20 (E := E) (Rf := Rf) (W := W) (A := A) (pts := pts) (wh := wh) (rv := rv) (M := M) (T := T) (n := n) (m := m) (w := w) (sg := sg) (used := used) _ _ _ _ _ _ _ _ _ _ _ _ _ (by exact jj12) (by exact ⟨q0.1, by omega, by omega, by omega, n12.2⟩) (by exact q1) (by exact fun f f0 f1 => by (rw [fs12.1 _ _ (by omega) (by omega) (by omega) (by omega)]; exact q2 f f0 f1)) (by exact Y1) (by omega)) (fun r r16 => ?_)
              rcases r with r | r
              · skip
                have r17 := r16; clear r16; dsimp only [Sum.elim_inl, Sum.elim_inr] at r17
                obtain ⟨y16, y17, y18⟩ := r
                try dsimp only [Sum.elim_inl, Sum.elim_inr, jt2, jt3, jt4, jt5, jt6, jt7, jt8] at r17
                obtain ⟨sq13, sr13, jj13, fs13⟩ := r17
                try simp (disch := omega) only [jst_eq, jst_ne, jst_ni, jI_i, jcmp_lt, jcmp_gt, w32_id, jcpy_out, Sum.elim_inl, Sum.elim_inr, jt2, jt3, jt4, jt5, jt6, jt7, jt8] at sq13
                try simp (disch := omega) only [jst_eq, jst_ne, jst_ni, jI_i, jcmp_lt, jcmp_gt, w32_id, jcpy_out, Sum.elim_inl, Sum.elim_inr, jt2, jt3, jt4, jt5, jt6, jt7, jt8] at sr13
                try simp (disch := omega) only [jst_eq, jst_ne, jst_ni, jI_i, jcmp_lt, jcmp_gt, w32_id, jcpy_out, Sum.elim_inl, Sum.elim_inr, jt2, jt3, jt4, jt5, jt6, jt7, jt8] at jj13
                try simp (disch := omega) only [jst_eq, jst_ne, jst_ni, jI_i, jcmp_lt, jcmp_gt, w32_id, jcpy_out, Sum.elim_inl, Sum.elim_inr, jt2, jt3, jt4, jt5, jt6, jt7, jt8] at fs13
                try dsimp only [Sum.elim_inl, Sum.elim_inr, jt2, jt3, jt4, jt5, jt6, jt7, jt8]
                refine ⟨?_, ?_⟩
                · try dsimp only [Sum.elim_inl, Sum.elim_inr, jt2, jt3, jt4, jt5, jt6, jt7, jt8]
                  refine ⟨?_, ?_, ?_, ?_, ?_⟩
                  · (rw [sq13.2]; omega) -- o98 e9i.1
                  · (rw [sq13.2]; exact sq13.1) -- o99 e9i.2
                  · exact fun f f0 f1 => by (rw [sq13.2]; exact sr13 f f0 f1) -- o100 e9i.3
                  · exact jj13 -- o101 e9i.4
                  · exact ⟨fWx_t fr.1 (fWx_t (fG_W fs12.1) fs13.1), fs13.2⟩ -- o102 e9i.5
                · (rw [sq13.2]; omega) -- o103 e9m
              · skip
                have r18 := r16; clear r16; dsimp only [Sum.elim_inl, Sum.elim_inr] at r18
                obtain ⟨y19, y20⟩ := r
                try dsimp only [Sum.elim_inl, Sum.elim_inr, jt2, jt3, jt4, jt5, jt6, jt7, jt8] at r18
                have no14 := r18
                clear r18
                try simp (disch := omega) only [jst_eq, jst_ne, jst_ni, jI_i, jcmp_lt, jcmp_gt, w32_id, jcpy_out, Sum.elim_inl, Sum.elim_inr, jt2, jt3, jt4, jt5, jt6, jt7, jt8] at no14
                try dsimp only [Sum.elim_inl, Sum.elim_inr, jt2, jt3, jt4, jt5, jt6, jt7, jt8]
                try dsimp only [Sum.elim_inl, Sum.elim_inr, jt2, jt3, jt4, jt5, jt6, jt7, jt8]
                refine ⟨?_, ?_, ?_, ?_⟩
                · (first | (exact SE) | (exact XX) | (exact OT.2.2.2.2) | (exact ia) | (exact OT.1) | (exact OT.2.1) | (exact ⟨OT.1, by omega⟩) | ((rw [q1, show x34 = a13 + 1 by omega, sumN_s q0.1, ST, Int.add_zero])) | ((rw [show x34 = a13 + 1 by omega]; exact row_z q2 Z0)) | (exact JJ) | (exact fr) | (first | assumption | omega | ((try dsimp only [jt2, jt3, jt4]); first | omega | (simp (disch := omega) only [jst_eq, jst_ne, jst_ni, jst_o, jI_i, jcpy_out, w32_id, jdiv_nn, jshr_k, jand_255] <;> first | done | omega | assumption)) | (intros; simp (disch := omega) only [jst_eq, jst_ne, jst_ni, jst_o, jI_i, jcpy_out, w32_id, jdiv_nn, *] <;> first | done | omega) | (intros; simp (disch := omega) only [jst_eq, jst_ne, jst_ni, jst_o, jI_i, jcpy_out, w32_id, jdiv_nn] at * <;> first | done | omega | assumption) | (intros; first | rfl | (exfalso; omega) | ((repeat' apply And.intro) <;> first | assumption | rfl | omega | trivial)))) -- o104 e10.1
                · (first | (exact SE) | (exact XX) | (exact OT.2.2.2.2) | (exact ia) | (exact OT.1) | (exact OT.2.1) | (exact ⟨OT.1, by omega⟩) | ((rw [q1, show x34 = a13 + 1 by omega, sumN_s q0.1, ST, Int.add_zero])) | ((rw [show x34 = a13 + 1 by omega]; exact row_z q2 Z0)) | (exact JJ) | (exact fr) | (first | assumption | omega | ((try dsimp only [jt2, jt3, jt4]); first | omega | (simp (disch := omega) only [jst_eq, jst_ne, jst_ni, jst_o, jI_i, jcpy_out, w32_id, jdiv_nn, jshr_k, jand_255] <;> first | done | omega | assumption)) | (intros; simp (disch := omega) only [jst_eq, jst_ne, jst_ni, jst_o, jI_i, jcpy_out, w32_id, jdiv_nn, *] <;> first | done | omega) | (intros; simp (disch := omega) only [jst_eq, jst_ne, jst_ni, jst_o, jI_i, jcpy_out, w32_id, jdiv_nn] at * <;> first | done | omega | assumption) | (intros; first | rfl | (exfalso; omega) | ((repeat' apply And.intro) <;> first | assumption | rfl | omega | trivial)))) -- o105 e10.2
                · (first | (exact SE) | (exact XX) | (exact OT.2.2.2.2) | (exact ia) | (exact OT.1) | (exact OT.2.1) | (exact ⟨OT.1, by omega⟩) | ((rw [q1, show x34 = a13 + 1 by omega, sumN_s q0.1, ST, Int.add_zero])) | ((rw [show x34 = a13 + 1 by omega]; exact row_z q2 Z0)) | (exact JJ) | (exact fr) | (first | assumption | omega | ((try dsimp only [jt2, jt3, jt4]); first | omega | (simp (disch := omega) only [jst_eq, jst_ne, jst_ni, jst_o, jI_i, jcpy_out, w32_id, jdiv_nn, jshr_k, jand_255] <;> first | done | omega | assumption)) | (intros; simp (disch := omega) only [jst_eq, jst_ne, jst_ni, jst_o, jI_i, jcpy_out, w32_id, jdiv_nn, *] <;> first | done | omega) | (intros; simp (disch := omega) only [jst_eq, jst_ne, jst_ni, jst_o, jI_i, jcpy_out, w32_id, jdiv_nn] at * <;> first | done | omega | assumption) | (intros; first | rfl | (exfalso; omega) | ((repeat' apply And.intro) <;> first | assumption | rfl | omega | trivial)))) -- o106 e10.3
                · (first | (exact SE) | (exact XX) | (exact OT.2.2.2.2) | (exact ia) | (exact OT.1) | (exact OT.2.1) | (exact ⟨OT.1, by omega⟩) | ((rw [q1, show x34 = a13 + 1 by omega, sumN_s q0.1, ST, Int.add_zero])) | ((rw [show x34 = a13 + 1 by omega]; exact row_z q2 Z0)) | (exact JJ) | (exact fr) | (first | assumption | omega | ((try dsimp only [jt2, jt3, jt4]); first | omega | (simp (disch := omega) only [jst_eq, jst_ne, jst_ni, jst_o, jI_i, jcpy_out, w32_id, jdiv_nn, jshr_k, jand_255] <;> first | done | omega | assumption)) | (intros; simp (disch := omega) only [jst_eq, jst_ne, jst_ni, jst_o, jI_i, jcpy_out, w32_id, jdiv_nn, *] <;> first | done | omega) | (intros; simp (disch := omega) only [jst_eq, jst_ne, jst_ni, jst_o, jI_i, jcpy_out, w32_id, jdiv_nn] at * <;> first | done | omega | assumption) | (intros; first | rfl | (exfalso; omega) | ((repeat' apply And.intro) <;> first | assumption | rfl | omega | trivial)))) -- o107 e10.4
            · skip
              try simp (disch := omega) only [jst_eq, jst_ne, jst_ni, jI_i, jcmp_lt, jcmp_gt, w32_id, jcpy_out, Sum.elim_inl, Sum.elim_inr, jt2, jt3, jt4, jt5, jt6, jt7, jt8] at c7
              have m2 : m = 2 := by omega
              have y1 : i2 + 1 = 1 := by omega
              have U0 : up1 sg i2 a13 0 = a13 := by { have z : i2 = 0 := (by omega); rw [z]; exact up1_e }
              refine OK_jb (vX5_weigh_l258 (E := E) (Rf := Rf) (W := W) (A := A) (pts := pts) (wh := wh) (rv := rv) (M := M) (T := T) (n := n) (w := w) (sg := up1 sg i2 a13) (used := used + i4) _ _ _ _ _ _ _ _ _ _ _ _ _ _ (by exact JJ) (by exact tq) (by exact ia) (by omega) (by (rw [y1] at OP; exact ⟨OP, U0⟩)) (by omega) (by exact ⟨by omega, fun f f0 f1 => by (rw [fr.1 _ _ (by omega) (by omega) (by omega) (by omega) (by omega)]; exact wr.2.1 f f0 f1)⟩) (by exact ⟨rfl, rfl⟩)) (fun o30 r19 => ?_)
              obtain ⟨y32, h33⟩ := o30
              refine OK_jt2 ?_
              try dsimp only [Sum.elim_inl, Sum.elim_inr, jt2, jt3, jt4, jt5, jt6, jt7, jt8] at r19
              obtain ⟨vv15, jj15, fs15⟩ := r19
              try simp (disch := omega) only [jst_eq, jst_ne, jst_ni, jI_i, jcmp_lt, jcmp_gt, w32_id, jcpy_out, Sum.elim_inl, Sum.elim_inr, jt2, jt3, jt4, jt5, jt6, jt7, jt8] at vv15
              try simp (disch := omega) only [jst_eq, jst_ne, jst_ni, jI_i, jcmp_lt, jcmp_gt, w32_id, jcpy_out, Sum.elim_inl, Sum.elim_inr, jt2, jt3, jt4, jt5, jt6, jt7, jt8] at jj15
              try simp (disch := omega) only [jst_eq, jst_ne, jst_ni, jI_i, jcmp_lt, jcmp_gt, w32_id, jcpy_out, Sum.elim_inl, Sum.elim_inr, jt2, jt3, jt4, jt5, jt6, jt7, jt8] at fs15
              have Y1 : y32 = owW E W pts T (ct E W pts A) i10 w m i2 (i4 + i5) sg i4 a13 := by { have RS : rsW E W pts T (ct E W pts A) i10 w m (i2 + 1) i5 (up1 sg i2 a13) = rsW E W pts T (ct E W pts A) i10 w 2 1 i5 (up1 sg i2 a13) := (by rw [m2, y1]); rw [show y32 = _ from vv15, ← RS, ← OW]; exact w64_id (by omega) (by omega) }
              refine OK_mono (vX5_weigh_j403_20 (E := E) (Rf := Rf) (W := W) (A := A) (pts := pts) (wh := wh) (rv := rv) (M := M) (T := T) (n := n) (m := m) (w := w) (sg := sg) (used := used) _ _ _ _ _ _ _ _ _ _ _ _ _ (by exact jj15) (by exact ⟨q0.1, by omega, by omega, by omega, n12.2⟩) (by exact q1) (by exact fun f f0 f1 => by (rw [fs15.1 _ _ (by omega) (by omega) (by omega) (by omega)]; exact q2 f f0 f1)) (by exact Y1) (by omega)) (fun r r20 => ?_)
              rcases r with r | r
              · skip
                have r21 := r20; clear r20; dsimp only [Sum.elim_inl, Sum.elim_inr] at r21
                obtain ⟨y21, y22, y23⟩ := r
                try dsimp only [Sum.elim_inl, Sum.elim_inr, jt2, jt3, jt4, jt5, jt6, jt7, jt8] at r21
                obtain ⟨sq16, sr16, jj16, fs16⟩ := r21
                try simp (disch := omega) only [jst_eq, jst_ne, jst_ni, jI_i, jcmp_lt, jcmp_gt, w32_id, jcpy_out, Sum.elim_inl, Sum.elim_inr, jt2, jt3, jt4, jt5, jt6, jt7, jt8] at sq16
                try simp (disch := omega) only [jst_eq, jst_ne, jst_ni, jI_i, jcmp_lt, jcmp_gt, w32_id, jcpy_out, Sum.elim_inl, Sum.elim_inr, jt2, jt3, jt4, jt5, jt6, jt7, jt8] at sr16
                try simp (disch := omega) only [jst_eq, jst_ne, jst_ni, jI_i, jcmp_lt, jcmp_gt, w32_id, jcpy_out, Sum.elim_inl, Sum.elim_inr, jt2, jt3, jt4, jt5, jt6, jt7, jt8] at jj16
                try simp (disch := omega) only [jst_eq, jst_ne, jst_ni, jI_i, jcmp_lt, jcmp_gt, w32_id, jcpy_out, Sum.elim_inl, Sum.elim_inr, jt2, jt3, jt4, jt5, jt6, jt7, jt8] at fs16
                try dsimp only [Sum.elim_inl, Sum.elim_inr, jt2, jt3, jt4, jt5, jt6, jt7, jt8]
                refine ⟨?_, ?_⟩
                · try dsimp only [Sum.elim_inl, Sum.elim_inr, jt2, jt3, jt4, jt5, jt6, jt7, jt8]
                  refine ⟨?_, ?_, ?_, ?_, ?_⟩
                  · (rw [sq16.2]; omega) -- o122 e11i.1
                  · (rw [sq16.2]; exact sq16.1) -- o123 e11i.2
                  · exact fun f f0 f1 => by (rw [sq16.2]; exact sr16 f f0 f1) -- o124 e11i.3
                  · exact jj16 -- o125 e11i.4
                  · exact ⟨fWx_t fr.1 (fWx_t (fG_W fs15.1) fs16.1), fs16.2⟩ -- o126 e11i.5
                · (rw [sq16.2]; omega) -- o127 e11m
              · skip
                have r22 := r20; clear r20; dsimp only [Sum.elim_inl, Sum.elim_inr] at r22
                obtain ⟨y24, y25⟩ := r
                try dsimp only [Sum.elim_inl, Sum.elim_inr, jt2, jt3, jt4, jt5, jt6, jt7, jt8] at r22
                have no17 := r22
                clear r22
                try simp (disch := omega) only [jst_eq, jst_ne, jst_ni, jI_i, jcmp_lt, jcmp_gt, w32_id, jcpy_out, Sum.elim_inl, Sum.elim_inr, jt2, jt3, jt4, jt5, jt6, jt7, jt8] at no17
                try dsimp only [Sum.elim_inl, Sum.elim_inr, jt2, jt3, jt4, jt5, jt6, jt7, jt8]
                try dsimp only [Sum.elim_inl, Sum.elim_inr, jt2, jt3, jt4, jt5, jt6, jt7, jt8]
                refine ⟨?_, ?_, ?_, ?_⟩
                · (first | (exact SE) | (exact XX) | (exact OT.2.2.2.2) | (exact ia) | (exact OT.1) | (exact OT.2.1) | (exact ⟨OT.1, by omega⟩) | ((rw [q1, show x34 = a13 + 1 by omega, sumN_s q0.1, ST, Int.add_zero])) | ((rw [show x34 = a13 + 1 by omega]; exact row_z q2 Z0)) | (exact JJ) | (exact fr) | (first | assumption | omega | ((try dsimp only [jt2, jt3, jt4]); first | omega | (simp (disch := omega) only [jst_eq, jst_ne, jst_ni, jst_o, jI_i, jcpy_out, w32_id, jdiv_nn, jshr_k, jand_255] <;> first | done | omega | assumption)) | (intros; simp (disch := omega) only [jst_eq, jst_ne, jst_ni, jst_o, jI_i, jcpy_out, w32_id, jdiv_nn, *] <;> first | done | omega) | (intros; simp (disch := omega) only [jst_eq, jst_ne, jst_ni, jst_o, jI_i, jcpy_out, w32_id, jdiv_nn] at * <;> first | done | omega | assumption) | (intros; first | rfl | (exfalso; omega) | ((repeat' apply And.intro) <;> first | assumption | rfl | omega | trivial)))) -- o128 e12.1
                · (first | (exact SE) | (exact XX) | (exact OT.2.2.2.2) | (exact ia) | (exact OT.1) | (exact OT.2.1) | (exact ⟨OT.1, by omega⟩) | ((rw [q1, show x34 = a13 + 1 by omega, sumN_s q0.1, ST, Int.add_zero])) | ((rw [show x34 = a13 + 1 by omega]; exact row_z q2 Z0)) | (exact JJ) | (exact fr) | (first | assumption | omega | ((try dsimp only [jt2, jt3, jt4]); first | omega | (simp (disch := omega) only [jst_eq, jst_ne, jst_ni, jst_o, jI_i, jcpy_out, w32_id, jdiv_nn, jshr_k, jand_255] <;> first | done | omega | assumption)) | (intros; simp (disch := omega) only [jst_eq, jst_ne, jst_ni, jst_o, jI_i, jcpy_out, w32_id, jdiv_nn, *] <;> first | done | omega) | (intros; simp (disch := omega) only [jst_eq, jst_ne, jst_ni, jst_o, jI_i, jcpy_out, w32_id, jdiv_nn] at * <;> first | done | omega | assumption) | (intros; first | rfl | (exfalso; omega) | ((repeat' apply And.intro) <;> first | assumption | rfl | omega | trivial)))) -- o129 e12.2
                · (first | (exact SE) | (exact XX) | (exact OT.2.2.2.2) | (exact ia) | (exact OT.1) | (exact OT.2.1) | (exact ⟨OT.1, by omega⟩) | ((rw [q1, show x34 = a13 + 1 by omega, sumN_s q0.1, ST, Int.add_zero])) | ((rw [show x34 = a13 + 1 by omega]; exact row_z q2 Z0)) | (exact JJ) | (exact fr) | (first | assumption | omega | ((try dsimp only [jt2, jt3, jt4]); first | omega | (simp (disch := omega) only [jst_eq, jst_ne, jst_ni, jst_o, jI_i, jcpy_out, w32_id, jdiv_nn, jshr_k, jand_255] <;> first | done | omega | assumption)) | (intros; simp (disch := omega) only [jst_eq, jst_ne, jst_ni, jst_o, jI_i, jcpy_out, w32_id, jdiv_nn, *] <;> first | done | omega) | (intros; simp (disch := omega) only [jst_eq, jst_ne, jst_ni, jst_o, jI_i, jcpy_out, w32_id, jdiv_nn] at * <;> first | done | omega | assumption) | (intros; first | rfl | (exfalso; omega) | ((repeat' apply And.intro) <;> first | assumption | rfl | omega | trivial)))) -- o130 e12.3
                · (first | (exact SE) | (exact XX) | (exact OT.2.2.2.2) | (exact ia) | (exact OT.1) | (exact OT.2.1) | (exact ⟨OT.1, by omega⟩) | ((rw [q1, show x34 = a13 + 1 by omega, sumN_s q0.1, ST, Int.add_zero])) | ((rw [show x34 = a13 + 1 by omega]; exact row_z q2 Z0)) | (exact JJ) | (exact fr) | (first | assumption | omega | ((try dsimp only [jt2, jt3, jt4]); first | omega | (simp (disch := omega) only [jst_eq, jst_ne, jst_ni, jst_o, jI_i, jcpy_out, w32_id, jdiv_nn, jshr_k, jand_255] <;> first | done | omega | assumption)) | (intros; simp (disch := omega) only [jst_eq, jst_ne, jst_ni, jst_o, jI_i, jcpy_out, w32_id, jdiv_nn, *] <;> first | done | omega) | (intros; simp (disch := omega) only [jst_eq, jst_ne, jst_ni, jst_o, jI_i, jcpy_out, w32_id, jdiv_nn] at * <;> first | done | omega | assumption) | (intros; first | rfl | (exfalso; omega) | ((repeat' apply And.intro) <;> first | assumption | rfl | omega | trivial)))) -- o131 e12.4
      · skip
        try simp (disch := omega) only [jst_eq, jst_ne, jst_ni, jI_i, jcmp_lt, jcmp_gt, w32_id, jcpy_out, Sum.elim_inl, Sum.elim_inr, jt2, jt3, jt4, jt5, jt6, jt7, jt8] at c2
        have ky : ¬ T.2.1 a13 = eK E i10 i2 := by { rw [← h7.1]; omega }
        have Z0 : owW E W pts T (ct E W pts A) i10 w m i2 (i4 + i5) sg i4 a13 = 0 := cif_n (fun y => ky y.1)
        unfold gX5_weigh_j431_20
        refine OK_jlx (fun x34 ex34 => ?_)
        try simp (disch := omega) only [jst_eq, jst_ne, jst_ni, jI_i, jcmp_lt, jcmp_gt, w32_id, jcpy_out, Sum.elim_inl, Sum.elim_inr, jt2, jt3, jt4, jt5, jt6, jt7, jt8] at ex34
        have ST : aTW E W pts T (ct E W pts A) i10 w m i2 (i4 + i5) sg i4 a13 = 0 := by { rw [show aTW E W pts T (ct E W pts A) i10 w m i2 (i4 + i5) sg i4 a13 = ct E W pts A i4 a13 * owW E W pts T (ct E W pts A) i10 w m i2 (i4 + i5) sg i4 a13 from rfl, Z0, Int.mul_zero] }
        refine OK_il ?_ ?_
        · try dsimp only [Sum.elim_inl, Sum.elim_inr, jt2, jt3, jt4, jt5, jt6, jt7, jt8]
          refine ⟨?_, ?_, ?_, ?_, ?_⟩
          · (first | (exact SE) | (exact XX) | (exact OT.2.2.2.2) | (exact ia) | (exact OT.1) | (exact OT.2.1) | (exact ⟨OT.1, by omega⟩) | ((rw [q1, show x34 = a13 + 1 by omega, sumN_s q0.1, ST, Int.add_zero])) | ((rw [show x34 = a13 + 1 by omega]; exact row_z q2 Z0)) | (exact JJ) | (exact fr) | (first | assumption | omega | ((try dsimp only [jt2, jt3, jt4]); first | omega | (simp (disch := omega) only [jst_eq, jst_ne, jst_ni, jst_o, jI_i, jcpy_out, w32_id, jdiv_nn, jshr_k, jand_255] <;> first | done | omega | assumption)) | (intros; simp (disch := omega) only [jst_eq, jst_ne, jst_ni, jst_o, jI_i, jcpy_out, w32_id, jdiv_nn, *] <;> first | done | omega) | (intros; simp (disch := omega) only [jst_eq, jst_ne, jst_ni, jst_o, jI_i, jcpy_out, w32_id, jdiv_nn] at * <;> first | done | omega | assumption) | (intros; first | rfl | (exfalso; omega) | ((repeat' apply And.intro) <;> first | assumption | rfl | omega | trivial)))) -- o132 e13i.1
          · (first | (exact SE) | (exact XX) | (exact OT.2.2.2.2) | (exact ia) | (exact OT.1) | (exact OT.2.1) | (exact ⟨OT.1, by omega⟩) | ((rw [q1, show x34 = a13 + 1 by omega, sumN_s q0.1, ST, Int.add_zero])) | ((rw [show x34 = a13 + 1 by omega]; exact row_z q2 Z0)) | (exact JJ) | (exact fr) | (first | assumption | omega | ((try dsimp only [jt2, jt3, jt4]); first | omega | (simp (disch := omega) only [jst_eq, jst_ne, jst_ni, jst_o, jI_i, jcpy_out, w32_id, jdiv_nn, jshr_k, jand_255] <;> first | done | omega | assumption)) | (intros; simp (disch := omega) only [jst_eq, jst_ne, jst_ni, jst_o, jI_i, jcpy_out, w32_id, jdiv_nn, *] <;> first | done | omega) | (intros; simp (disch := omega) only [jst_eq, jst_ne, jst_ni, jst_o, jI_i, jcpy_out, w32_id, jdiv_nn] at * <;> first | done | omega | assumption) | (intros; first | rfl | (exfalso; omega) | ((repeat' apply And.intro) <;> first | assumption | rfl | omega | trivial)))) -- o133 e13i.2
          · (first | (exact SE) | (exact XX) | (exact OT.2.2.2.2) | (exact ia) | (exact OT.1) | (exact OT.2.1) | (exact ⟨OT.1, by omega⟩) | ((rw [q1, show x34 = a13 + 1 by omega, sumN_s q0.1, ST, Int.add_zero])) | ((rw [show x34 = a13 + 1 by omega]; exact row_z q2 Z0)) | (exact JJ) | (exact fr) | (first | assumption | omega | ((try dsimp only [jt2, jt3, jt4]); first | omega | (simp (disch := omega) only [jst_eq, jst_ne, jst_ni, jst_o, jI_i, jcpy_out, w32_id, jdiv_nn, jshr_k, jand_255] <;> first | done | omega | assumption)) | (intros; simp (disch := omega) only [jst_eq, jst_ne, jst_ni, jst_o, jI_i, jcpy_out, w32_id, jdiv_nn, *] <;> first | done | omega) | (intros; simp (disch := omega) only [jst_eq, jst_ne, jst_ni, jst_o, jI_i, jcpy_out, w32_id, jdiv_nn] at * <;> first | done | omega | assumption) | (intros; first | rfl | (exfalso; omega) | ((repeat' apply And.intro) <;> first | assumption | rfl | omega | trivial)))) -- o134 e13i.3
          · (first | (exact SE) | (exact XX) | (exact OT.2.2.2.2) | (exact ia) | (exact OT.1) | (exact OT.2.1) | (exact ⟨OT.1, by omega⟩) | ((rw [q1, show x34 = a13 + 1 by omega, sumN_s q0.1, ST, Int.add_zero])) | ((rw [show x34 = a13 + 1 by omega]; exact row_z q2 Z0)) | (exact JJ) | (exact fr) | (first | assumption | omega | ((try dsimp only [jt2, jt3, jt4]); first | omega | (simp (disch := omega) only [jst_eq, jst_ne, jst_ni, jst_o, jI_i, jcpy_out, w32_id, jdiv_nn, jshr_k, jand_255] <;> first | done | omega | assumption)) | (intros; simp (disch := omega) only [jst_eq, jst_ne, jst_ni, jst_o, jI_i, jcpy_out, w32_id, jdiv_nn, *] <;> first | done | omega) | (intros; simp (disch := omega) only [jst_eq, jst_ne, jst_ni, jst_o, jI_i, jcpy_out, w32_id, jdiv_nn] at * <;> first | done | omega | assumption) | (intros; first | rfl | (exfalso; omega) | ((repeat' apply And.intro) <;> first | assumption | rfl | omega | trivial)))) -- o135 e13i.4
          · (first | (exact SE) | (exact XX) | (exact OT.2.2.2.2) | (exact ia) | (exact OT.1) | (exact OT.2.1) | (exact ⟨OT.1, by omega⟩) | ((rw [q1, show x34 = a13 + 1 by omega, sumN_s q0.1, ST, Int.add_zero])) | ((rw [show x34 = a13 + 1 by omega]; exact row_z q2 Z0)) | (exact JJ) | (exact fr) | (first | assumption | omega | ((try dsimp only [jt2, jt3, jt4]); first | omega | (simp (disch := omega) only [jst_eq, jst_ne, jst_ni, jst_o, jI_i, jcpy_out, w32_id, jdiv_nn, jshr_k, jand_255] <;> first | done | omega | assumption)) | (intros; simp (disch := omega) only [jst_eq, jst_ne, jst_ni, jst_o, jI_i, jcpy_out, w32_id, jdiv_nn, *] <;> first | done | omega) | (intros; simp (disch := omega) only [jst_eq, jst_ne, jst_ni, jst_o, jI_i, jcpy_out, w32_id, jdiv_nn] at * <;> first | done | omega | assumption) | (intros; first | rfl | (exfalso; omega) | ((repeat' apply And.intro) <;> first | assumption | rfl | omega | trivial)))) -- o136 e13i.5
        · (first | (exact SE) | (exact XX) | (exact OT.2.2.2.2) | (exact ia) | (exact OT.1) | (exact OT.2.1) | (exact ⟨OT.1, by omega⟩) | ((rw [q1, show x34 = a13 + 1 by omega, sumN_s q0.1, ST, Int.add_zero])) | ((rw [show x34 = a13 + 1 by omega]; exact row_z q2 Z0)) | (exact JJ) | (exact fr) | (first | assumption | omega | ((try dsimp only [jt2, jt3, jt4]); first | omega | (simp (disch := omega) only [jst_eq, jst_ne, jst_ni, jst_o, jI_i, jcpy_out, w32_id, jdiv_nn, jshr_k, jand_255] <;> first | done | omega | assumption)) | (intros; simp (disch := omega) only [jst_eq, jst_ne, jst_ni, jst_o, jI_i, jcpy_out, w32_id, jdiv_nn, *] <;> first | done | omega) | (intros; simp (disch := omega) only [jst_eq, jst_ne, jst_ni, jst_o, jI_i, jcpy_out, w32_id, jdiv_nn] at * <;> first | done | omega | assumption) | (intros; first | rfl | (exfalso; omega) | ((repeat' apply And.intro) <;> first | assumption | rfl | omega | trivial)))) -- o137 e13m
  · try dsimp only [Sum.elim_inl, Sum.elim_inr, jt2, jt3, jt4, jt5, jt6, jt7, jt8]
    refine ⟨?_, ?_, ?_, ?_, ?_⟩
    · (have l := (XI_h jx.2.1).2.1; omega) -- o138 init.1
    · (rw [z.1, z.2]; rfl) -- o139 init.2
    · exact fun f f0 f1 => by (rw [z.2, if_neg (by omega)]; exact wr.2.2.1 f f0 f1) -- o140 init.3
    · exact jx -- o141 init.4
    · exact ⟨fWx_r _, JX_b jx⟩ -- o142 init.5
theorem vX5_weigh (a1 : Int) (a2 : Int) (a3 : Int) (a4 : Int) (a5 : Int) (a6 : Int) (a7 : Int) (a8 : Int) (a9 : Int) {h : AH} {E : EV} {Rf : Int → TR} {W : Int → Int → Int → VW} {A : AD} {pts wh : Int} {rv : Int → Int} {M : Int → (Int → Int) → Prop} {T : TB} {n m : Nat} {w sg : Int → Int} {used ac : Int} (jx : JXq h E Rf W A pts wh rv M T n) (tq : TQ E W pts A n T) (ia : (0 ≤ a1 ∧ a1 < A.2.2.2.1) ∧ A.2.2.2.2.1 a1 = ac ∧ 0 ≤ ac ∧ ac < E.1.1) (io : a3 = eO E ac ∧ 0 ≤ a2 ∧ a3 ≤ 3 ∧ (m : Int) = a3 - a2 - 1) (op : opS E W pts A n ac a2 used sg ∧ sg 0 = a6 ∧ sg 1 = a7) (pr : A.2.2.2.2.2.2.2 a1 + used + a4 + a5 ≤ n ∧ 0 ≤ used ∧ 1 ≤ a4 ∧ 0 ≤ a5 ∧ (m = 0 → a5 = 0)) (wr : (0 ≤ a8 ∧ a8 + 120 ≤ a9 ∧ a9 ≤ 4680) ∧ (∀ f, 0 ≤ f → f < T.1 → h 322 (a8 + f) = w f) ∧ (∀ f, 0 ≤ f → f < T.1 → h 322 (a9 + f) = 0) ∧ (∀ f, 0 ≤ w f)) (bd : alW E W pts T (ct E W pts A) ac w m a2 (a4 + a5) sg a4 < 9223372036854775808) : OK (gX5_weigh a1 a2 a3 a4 a5 a6 a7 a8 a9 h) (fun r => jt2 r fun v h' => (v = alW E W pts T (ct E W pts A) ac w m a2 (a4 + a5) sg a4) ∧ (∀ f, 0 ≤ f → f < T.1 → h' 322 (a9 + f) = owW E W pts T (ct E W pts A) ac w m a2 (a4 + a5) sg a4 f) ∧ (JXq h' E Rf W A pts wh rv M T n) ∧ (fWx a9 h h' ∧ b10 h')) := by
  have pc := (jx.1.2.2.2.1.2.2.2 a1 ia.1.1 ia.1.2).1
  have NP := jx.1.2.2.2.1.2.2.1
  have AL0 := alT_0 (E := E) (W := W) (pts := pts) (L := T) (ac := ac) (k := a2) (left := a4 + a5) (s := sg) (m := m) (r := a4) (c := ct E W pts A) ct_0 wr.2.2.2
  unfold gX5_weigh
  refine OK_jg (by (first | assumption | omega | ((try dsimp only [jt2, jt3, jt4]); first | omega | (simp (disch := omega) only [jst_eq, jst_ne, jst_ni, jst_o, jI_i, jcpy_out, w32_id, jdiv_nn, jshr_k, jand_255] <;> first | done | omega | assumption)) | (intros; simp (disch := omega) only [jst_eq, jst_ne, jst_ni, jst_o, jI_i, jcpy_out, w32_id, jdiv_nn, *] <;> first | done | omega) | (intros; simp (disch := omega) only [jst_eq, jst_ne, jst_ni, jst_o, jI_i, jcpy_out, w32_id, jdiv_nn] at * <;> first | done | omega | assumption) | (intros; first | rfl | (exfalso; omega) | ((repeat' apply And.intro) <;> first | assumption | rfl | omega | trivial)))) ?_ -- o1
  refine OK_jlx (fun x1 ex1 => ?_)
  try simp (disch := omega) only [jst_eq, jst_ne, jst_ni, jI_i, jcmp_lt, jcmp_gt, w32_id, jcpy_out, Sum.elim_inl, Sum.elim_inr, jt2, jt3, jt4, jt5, jt6, jt7, jt8] at ex1
  have x1e : x1 = ac := by { rw [← ia.2.1]; first | omega | (rw [ex1]; exact pc) }
  subst x1e
  refine OK_jb (vX5_weigh_l20 (E := E) (Rf := Rf) (W := W) (A := A) (pts := pts) (wh := wh) (rv := rv) (M := M) (T := T) (n := n) (m := m) (w := w) (sg := sg) (used := used) _ _ _ _ _ _ _ _ _ _ _ _ (by exact jx) (by exact tq) (by exact ia) (by exact io) (by exact op) (by exact pr) (by exact wr) (by exact bd) (by exact ⟨rfl, rfl⟩)) (fun o2 r1 => ?_)
  obtain ⟨y4, h5⟩ := o2
  refine OK_jt2 ?_
  try dsimp only [Sum.elim_inl, Sum.elim_inr, jt2, jt3, jt4, jt5, jt6, jt7, jt8] at r1
  obtain ⟨vv1, sr1, jj1, fs1⟩ := r1
  try simp (disch := omega) only [jst_eq, jst_ne, jst_ni, jI_i, jcmp_lt, jcmp_gt, w32_id, jcpy_out, Sum.elim_inl, Sum.elim_inr, jt2, jt3, jt4, jt5, jt6, jt7, jt8] at vv1
  try simp (disch := omega) only [jst_eq, jst_ne, jst_ni, jI_i, jcmp_lt, jcmp_gt, w32_id, jcpy_out, Sum.elim_inl, Sum.elim_inr, jt2, jt3, jt4, jt5, jt6, jt7, jt8] at sr1
  try simp (disch := omega) only [jst_eq, jst_ne, jst_ni, jI_i, jcmp_lt, jcmp_gt, w32_id, jcpy_out, Sum.elim_inl, Sum.elim_inr, jt2, jt3, jt4, jt5, jt6, jt7, jt8] at jj1
  try simp (disch := omega) only [jst_eq, jst_ne, jst_ni, jI_i, jcmp_lt, jcmp_gt, w32_id, jcpy_out, Sum.elim_inl, Sum.elim_inr, jt2, jt3, jt4, jt5, jt6, jt7, jt8] at fs1
  refine OK_some ?_
  try dsimp only [Sum.elim_inl, Sum.elim_inr, jt2, jt3, jt4, jt5, jt6, jt7, jt8]
  try dsimp only [Sum.elim_inl, Sum.elim_inr, jt2, jt3, jt4, jt5, jt6, jt7, jt8]
  refine ⟨?_, ?_, ?_, ?_⟩
  · (rw [show y4 = _ from vv1]; exact w64_id (by omega) (by omega)) -- o11 e1.1
  · exact sr1 -- o12 e1.2
  · exact jj1 -- o13 e1.3
  · exact fs1 -- o14 e1.4
theorem vX5_newRow_l18 (i1 : Int) (a20 : Int) {h0 : AH} (b : 0 ≤ i1 ∧ i1 ≤ 4680) (z : a20 = 0) : OK (gX5_newRow_l18 i1 a20 h0) (fun h' => ∀ a s, h' a s = if a = 322 ∧ i1 ≤ s ∧ s < i1 + 120 then 0 else h0 a s) := by
  unfold gX5_newRow_l18
  refine OK_jit (I := (fun (s : Int × AH) => jt2 s fun a2 h => (0 ≤ a2 ∧ a2 ≤ 120) ∧ (∀ a s, h a s = if a = 322 ∧ i1 ≤ s ∧ s < i1 + a2 then 0 else h0 a s))) (m := (fun (s : Int × AH) => jt2 s fun a2 h => (120 - a2).toNat)) ?_ ?_
  · intro s hs
    obtain ⟨a2, h⟩ := s
    dsimp only [Sum.elim_inl, Sum.elim_inr, jt2, jt3, jt4, jt5, jt6, jt7, jt8] at hs
    obtain ⟨q0, q1⟩ := hs
    unfold gX5_newRow_b18
    refine OK_jt2 ?_
    have w1 : w32 (i1 + a2) = i1 + a2 := w32_id (by omega) (by omega)
    have w2 : w32 (a2 + 1) = a2 + 1 := w32_id (by omega) (by omega)
    refine OK_if (fun c1 => ?_) (fun c1 => ?_)
    · skip
      try simp (disch := omega) only [jst_eq, jst_ne, jst_ni, jI_i, jcmp_lt, jcmp_gt, w32_id, jcpy_out, Sum.elim_inl, Sum.elim_inr, jt2, jt3, jt4, jt5, jt6, jt7, jt8] at c1
      refine OK_ir ?_
      (rw [show a2 = 120 by omega] at q1; exact q1) -- o1 e1
    · skip
      try simp (disch := omega) only [jst_eq, jst_ne, jst_ni, jI_i, jcmp_lt, jcmp_gt, w32_id, jcpy_out, Sum.elim_inl, Sum.elim_inr, jt2, jt3, jt4, jt5, jt6, jt7, jt8] at c1
      refine OK_jg (by (first | assumption | omega | ((try dsimp only [jt2, jt3, jt4]); first | omega | (simp (disch := omega) only [jst_eq, jst_ne, jst_ni, jst_o, jI_i, jcpy_out, w32_id, jdiv_nn, jshr_k, jand_255] <;> first | done | omega | assumption)) | (intros; simp (disch := omega) only [jst_eq, jst_ne, jst_ni, jst_o, jI_i, jcpy_out, w32_id, jdiv_nn, *] <;> first | done | omega) | (intros; simp (disch := omega) only [jst_eq, jst_ne, jst_ni, jst_o, jI_i, jcpy_out, w32_id, jdiv_nn] at * <;> first | done | omega | assumption) | (intros; first | rfl | (exfalso; omega) | ((repeat' apply And.intro) <;> first | assumption | rfl | omega | trivial)))) ?_ -- o2
      refine OK_jl ?_
      rw [w1]
      refine OK_jlx (fun x7 ex7 => ?_)
      try simp (disch := omega) only [jst_eq, jst_ne, jst_ni, jI_i, jcmp_lt, jcmp_gt, w32_id, jcpy_out, Sum.elim_inl, Sum.elim_inr, jt2, jt3, jt4, jt5, jt6, jt7, jt8] at ex7
      refine OK_il ?_ ?_
      · try dsimp only [Sum.elim_inl, Sum.elim_inr, jt2, jt3, jt4, jt5, jt6, jt7, jt8]
        refine ⟨?_, ?_⟩
        · (first | assumption | omega | ((try dsimp only [jt2, jt3, jt4]); first | omega | (simp (disch := omega) only [jst_eq, jst_ne, jst_ni, jst_o, jI_i, jcpy_out, w32_id, jdiv_nn, jshr_k, jand_255] <;> first | done | omega | assumption)) | (intros; simp (disch := omega) only [jst_eq, jst_ne, jst_ni, jst_o, jI_i, jcpy_out, w32_id, jdiv_nn, *] <;> first | done | omega) | (intros; simp (disch := omega) only [jst_eq, jst_ne, jst_ni, jst_o, jI_i, jcpy_out, w32_id, jdiv_nn] at * <;> first | done | omega | assumption) | (intros; first | rfl | (exfalso; omega) | ((repeat' apply And.intro) <;> first | assumption | rfl | omega | trivial))) -- o3 e2i.1
        · (intro a s; rw [show x7 = a2 + 1 by omega]; by_cases y : a = 322 ∧ s = i1 + a2; { rw [y.1, y.2, if_pos (by omega)]; exact jst_eq }; { rw [jst_o (by omega), q1 a s]; by_cases u : a = 322 ∧ i1 ≤ s ∧ s < i1 + a2; { rw [if_pos u, if_pos (by omega)] }; { rw [if_neg u, if_neg (by omega)] } }) -- o4 e2i.2
      · (first | assumption | omega | ((try dsimp only [jt2, jt3, jt4]); first | omega | (simp (disch := omega) only [jst_eq, jst_ne, jst_ni, jst_o, jI_i, jcpy_out, w32_id, jdiv_nn, jshr_k, jand_255] <;> first | done | omega | assumption)) | (intros; simp (disch := omega) only [jst_eq, jst_ne, jst_ni, jst_o, jI_i, jcpy_out, w32_id, jdiv_nn, *] <;> first | done | omega) | (intros; simp (disch := omega) only [jst_eq, jst_ne, jst_ni, jst_o, jI_i, jcpy_out, w32_id, jdiv_nn] at * <;> first | done | omega | assumption) | (intros; first | rfl | (exfalso; omega) | ((repeat' apply And.intro) <;> first | assumption | rfl | omega | trivial))) -- o5 e2m
  · try dsimp only [Sum.elim_inl, Sum.elim_inr, jt2, jt3, jt4, jt5, jt6, jt7, jt8]
    refine ⟨?_, ?_⟩
    · (first | assumption | omega | ((try dsimp only [jt2, jt3, jt4]); first | omega | (simp (disch := omega) only [jst_eq, jst_ne, jst_ni, jst_o, jI_i, jcpy_out, w32_id, jdiv_nn, jshr_k, jand_255] <;> first | done | omega | assumption)) | (intros; simp (disch := omega) only [jst_eq, jst_ne, jst_ni, jst_o, jI_i, jcpy_out, w32_id, jdiv_nn, *] <;> first | done | omega) | (intros; simp (disch := omega) only [jst_eq, jst_ne, jst_ni, jst_o, jI_i, jcpy_out, w32_id, jdiv_nn] at * <;> first | done | omega | assumption) | (intros; first | rfl | (exfalso; omega) | ((repeat' apply And.intro) <;> first | assumption | rfl | omega | trivial))) -- o6 init.1
    · (intro a s; rw [z, if_neg (by omega)]) -- o7 init.2
theorem vX5_newRow {h : AH} (b : 0 ≤ h 307 19 ∧ h 307 19 ≤ 4680) : OK (gX5_newRow h) (fun r => jt2 r fun v h' => (v = h 307 19 ∧ h' 307 19 = h 307 19 + 120) ∧ (∀ f, 0 ≤ f → f < 120 → h' 322 (h 307 19 + f) = 0) ∧ (∀ a s, ¬ (a = 307 ∧ s = 19) → ¬ (a = 322 ∧ h 307 19 ≤ s) → h' a s = h a s)) := by
  have w1 : w32 (h 307 19 + 120) = h 307 19 + 120 := w32_id (by omega) (by omega)
  unfold gX5_newRow
  refine OK_jlx (fun x1 ex1 => ?_)
  try simp (disch := omega) only [jst_eq, jst_ne, jst_ni, jI_i, jcmp_lt, jcmp_gt, w32_id, jcpy_out, Sum.elim_inl, Sum.elim_inr, jt2, jt3, jt4, jt5, jt6, jt7, jt8] at ex1
  refine OK_jl ?_
  refine OK_jb (vX5_newRow_l18 _ _ (by omega) (by rfl)) (fun o3 r1 => ?_)
  try dsimp only [Sum.elim_inl, Sum.elim_inr, jt2, jt3, jt4, jt5, jt6, jt7, jt8] at r1
  have nr1 := r1
  clear r1
  try simp (disch := omega) only [jst_eq, jst_ne, jst_ni, jI_i, jcmp_lt, jcmp_gt, w32_id, jcpy_out, Sum.elim_inl, Sum.elim_inr, jt2, jt3, jt4, jt5, jt6, jt7, jt8] at nr1
  refine OK_some ?_
  try dsimp only [Sum.elim_inl, Sum.elim_inr, jt2, jt3, jt4, jt5, jt6, jt7, jt8]
  try dsimp only [Sum.elim_inl, Sum.elim_inr, jt2, jt3, jt4, jt5, jt6, jt7, jt8]
  refine ⟨?_, ?_, ?_⟩
  · (refine ⟨by omega, ?_⟩; rw [nr1, if_neg (by omega)]; exact jst_eq) -- o3 e1.1
  · (intro f f0 f1; rw [nr1, if_pos (by omega)]) -- o4 e1.2
  · (intro a s y1 y2; rw [nr1, if_neg (by omega)]; exact jst_o (by omega)) -- o5 e1.3

