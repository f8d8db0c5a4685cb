/-! x: the ask that stands is carried over to the grown acts -/
theorem dpE_cg {wA wA' : Int → Int} {N : Int} (e : ∀ b, b < N → wA' b = wA b) : ∀ {R : TR}, acR N R → dpE wA' R = dpE wA R
  | .leaf i, a => by
    have a : i.1 = 2 → 0 ≤ i.2.1 ∧ i.2.1 < N := a
    show lwI wA' i = lwI wA i
    unfold lwI
    by_cases c : i.1 = 2
    · rw [if_pos c, if_pos c, e _ (a c).2]
    · rw [if_neg c, if_neg c]
  | .branch _ s r, a => by
    have a : ((inf r).1 = 2 ∨ (inf r).1 = 4) ∧ acR N s ∧ acR N r := a
    show max (dpE wA' s + 1) (dpE wA' r) = max (dpE wA s + 1) (dpE wA r)
    rw [dpE_cg e a.2.1, dpE_cg e a.2.2]
/-- where the ask of x lies -/
def frXk (h h' : AH) : Prop := ∀ a s, (269 ≤ a ∧ a ≤ 323) ∨ (a = 200 ∧ s ≠ 7 ∧ s ≠ 55 ∧ s ≠ 56) → h' a s = h a s
theorem frXk_n {N : Int} {h h' : AH} (hp : 1078 ≤ h 0 0) (f : frXn N h h') : frXk h h' := fun a s y => f a s (by omega) (by omega) (by omega) (by omega) (by omega) (by omega) (by omega) (by omega) (by omega) (by omega) (by omega) (by omega) (by omega) (by omega) (by omega)
theorem sdX_U {h h' : AH} {E : EV} {w kr wt T np d : Int} {l : List Int} {kp : Int → Int} {R : TR} (ac : acE E) (x : sdX h E T np kp R d) (t : 269 ≤ T ∧ T ≤ 318) (f : frXk h h') : sdX h' (evU E w l kr wt) T np kp R d := by
  obtain ⟨x1, x2, x3, x4⟩ := x
  have N0 := ac.1
  refine ⟨capX_fr x1 (fun a y0 y1 => f a (-1) (by omega)), vwX_fr (fun a s y => f a s (by omega)) x2, tyT_U (by omega) (Int.le_refl _) x3, ?_⟩
  show dpE (upF E.1.2.2.2.1 E.1.1 wt) R ≤ 100
  rw [dpE_cg (N := E.1.1) (fun b y => upF_o (by omega)) (tyT_ac ac (Int.le_refl _) x3)]
  exact x4
theorem lwX_U {h h' : AH} {E : EV} {w kr wt i : Int} {l : List Int} {nn : Int → Int} {lk : Int → Int → Int} {LL LR : Int → TR} (ac : acE E) (x : lwX h E nn lk LL LR i) (i4 : isX4 (h 200 16)) (f : frXk h h') : lwX h' (evU E w l kr wt) nn lk LL LR i := by
  obtain ⟨x1, x2, x3, x4, x5, x6⟩ := x
  have i4 : h 200 16 = 271 ∨ h 200 16 = 289 := i4
  have e16 : h' 200 16 = h 200 16 := f 200 16 (by omega)
  unfold lwX
  rw [e16, f (h 200 16 + 8) i (by omega), f (h 200 16 + 9) i (by omega)]
  exact ⟨x1, x2, (f _ _ (by omega)).trans x3, fun k k0 k1 => ⟨(f _ _ (by omega)).trans (x4 k k0 k1).1, (x4 k k0 k1).2⟩, sdX_U ac x5 (by omega) f, sdX_U ac x6 (by omega) f⟩
theorem akX_U {h h' : AH} {E : EV} {Rf Rf' : Int → TR} {W W' : Int → Int → Int → VW} {w kr wt : Int} {l : List Int} {T : TR} {K : AK} (ak : akX h E Rf W K) (g : owGd E l kr T) (st : stX h' (evU E w l kr wt) Rf' W') (f : frXk h h') : akX h' (evU E w l kr wt) Rf' W' K := by
  obtain ⟨se, mt, k2, l312, len, ⟨p18, p0⟩, va, kr02, wh01, ls, od⟩ := ak
  obtain ⟨⟨i4, en, l0, oc⟩, ⟨a1, a2, a3, a4⟩, ⟨b1, b2, b3⟩, ⟨c1, c2, c3, c4⟩, pv⟩ := se
  obtain ⟨⟨m1, en0, m11, mh, m10⟩, ⟨q1, q2, q3, q4, q5, q6⟩, ⟨r1, r2, r3, r4, r5⟩, ⟨t1, t2, t3, t4⟩, u⟩ := mt
  obtain ⟨⟨sx, sac, swo, sox, sl0, sew⟩, soc, s11, sls, sod⟩ := st
  obtain ⟨ll, lk, e35, _, krr, _⟩ := g
  have ac0 : acE (evF E K) := en0.2.1
  have N26 : 26 ≤ E.1.1 := en.2.1.1
  have ne1 : E.2.2.1 ≠ 1 := by omega
  have j4 : h 200 16 = 271 ∨ h 200 16 = 289 := i4
  have e16 : h' 200 16 = h 200 16 := f 200 16 (by omega)
  have ee : evF (evU E w l kr wt) K = evU (evF E K) w l kr wt := rfl
  have l269 : h' 269 (-2) = 101 ∧ h' 269 (-1) = 1000 := lnS_k sls (by decide) (by decide) (by decide) (by decide)
  have ac1 : acE (evU (evF E K) w l kr wt) := acE_U ac0 e35 ll lk krr
  have o2 : eO (evU (evF E K) w l kr wt) (-2) = eO (evF E K) (-2) := eO_o (by show (-2 : Int) ≠ E.1.1; omega)
  have k2' : ∀ k, eK (evU (evF E K) w l kr wt) (-2) k = eK (evF E K) (-2) k := fun k => eK_o (by show (-2 : Int) ≠ E.1.1; omega)
  have p2 : ∀ x y z, ptE (evU (evF E K) w l kr wt) x y z = ptE (evF E K) x y z := fun x y z => by unfold ptE; simp only [o2, k2']
  refine ⟨?_, ?_, by rw [e16]; exact (f _ _ (by omega)).trans k2, lnS_k sls (by decide) (by decide) (by decide) (by decide), ⟨lnS_k sls (by decide) (by decide) (by decide) (by decide), lnS_k sls (by decide) (by decide) (by decide) (by decide), lnS_k sls (by decide) (by decide) (by decide) (by decide)⟩, ⟨by rw [e16]; exact (f _ _ (by omega)).trans p18, p0⟩, ⟨va.1, va.2.1, fun k k0 k1 => ⟨(va.2.2 k k0 k1).1, (va.2.2 k k0 k1).2.imp id (fun y => ⟨y.1, ?_⟩)⟩⟩, kr02, wh01, sls, sod⟩
  · unfold seX
    rw [e16]
    refine ⟨⟨i4, ⟨sx, sac, swo, fun z => absurd z ne1, sox, fun z => absurd z ne1, l269, sew⟩, l0, soc⟩, ⟨(f _ _ (by omega)).trans a1, a2, a3, fun k k0 k1 => (f _ _ (by omega)).trans (a4 k k0 k1)⟩, ⟨(f _ _ (by omega)).trans b1, fun z => ⟨(b2 z).1, fun s s0 s1 => (f _ _ (by omega)).trans ((b2 z).2 s s0 s1)⟩, b3⟩, ⟨(f _ _ (by omega)).trans c1, c2, c3, fun k k0 k1 => ?_⟩, pv⟩
    obtain ⟨u1, u2, u3, u4⟩ := c4 k k0 k1
    exact ⟨(f _ _ (by omega)).trans u1, (f _ _ (by omega)).trans u2, (f _ _ (by omega)).trans u3, (f _ _ (by omega)).trans u4⟩
  · rw [ee]
    unfold mtX
    rw [e16]
    refine ⟨⟨i4, ⟨sx, ac1, wOK_c (E := evU E w l kr wt) (E' := evU (evF E K) w l kr wt) rfl swo, ownX_c (E := evU E w l kr wt) (E' := evU (evF E K) w l kr wt) rfl ne1 sox, l269, sew⟩, (f _ _ (by omega)).trans m11, fun c y0 y1 => ⟨(f _ _ (by omega)).trans (mh c y0 y1).1, (mh c y0 y1).2⟩, by rw [f 200 10 (by omega)]; exact m10⟩, ⟨(f _ _ (by omega)).trans q1, q2, q3, fun k k0 k1 => (f _ _ (by omega)).trans (q4 k k0 k1), (f _ _ (by omega)).trans q5, fun z => ⟨(f _ _ (by omega)).trans (q6 z).1, (f _ _ (by omega)).trans (q6 z).2.1, fun r k r0 r1' k0 k1 => ⟨(f _ _ (by omega)).trans ((q6 z).2.2 r k r0 r1' k0 k1).1, ((q6 z).2.2 r k r0 r1' k0 k1).2⟩⟩⟩, ⟨(f _ _ (by omega)).trans r1, r2, r3, fun r y0 y1 => ⟨(f _ _ (by omega)).trans (r4 r y0 y1).1, (r4 r y0 y1).2⟩, r5⟩, ⟨(f _ _ (by omega)).trans t1, t2, t3, fun i y0 y1 => lwX_U ac0 (t4 i y0 y1) i4 f⟩, fun z => ?_⟩
    obtain ⟨u1, u2, u3⟩ := u z
    simp only [o2, k2', p2]
    exact ⟨(f _ _ (by omega)).trans u1, fun k k0 k1 => ⟨(f _ _ (by omega)).trans (u2 k k0 k1).1, (u2 k k0 k1).2⟩, u3⟩
  · show (kA K).2.2.2.2.1 k < E.1.1 + 1
    have := y.2
    omega

