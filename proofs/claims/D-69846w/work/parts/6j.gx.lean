/-! x: the search's state while its table grows -/
def fG (h h' : AH) : Prop := ∀ a s, ¬ (a = 200 ∧ (s = 9 ∨ s = 10)) → ¬ (a = 269 ∧ 0 ≤ s) → ¬ (a = 307 ∧ s = 0) → ¬ (308 ≤ a ∧ a ≤ 320 ∧ a ≠ 314 ∧ a ≠ 318 ∧ a ≠ 319 ∧ 0 ≤ s) → h' a s = h a s
theorem fG_r (h : AH) : fG h h := fun _ _ _ _ _ _ => rfl
theorem fG_t {h h1 h2 : AH} (a : fG h h1) (b : fG h1 h2) : fG h h2 := fun x s y1 y2 y3 y4 => (b x s y1 y2 y3 y4).trans (a x s y1 y2 y3 y4)
theorem fG_3 {h h' : AH} {pts : Int} (f : f320 pts h h') : fG h h' := fun a s y1 y2 _ y4 => f a s y1 y2 (by omega)
theorem fG_p {h h' : AH} {N pts : Int} (n : 0 ≤ N) (f : frP N pts h h') : fG h h' := fun a s _ _ y3 y4 => f a s y3 (by omega) (by omega) (by omega)
theorem ntI_0 {a b c : Int} (x : 0 ≤ a) (y : 0 ≤ b) (z : 0 ≤ c) : 0 ≤ ntI a b c := by unfold ntI; omega
theorem ntH_o {h : AH} {a1 a2 a3 a4 a5 a s : Int} (i : 0 ≤ a1 ∧ 0 ≤ a2 ∧ (0 ≤ a4 → 0 ≤ a3)) (y : ¬ ((a = 316 ∨ a = 317) ∧ 0 ≤ s)) : ntH h a1 a2 a3 a4 a5 a s = h a s := by
  unfold ntH
  by_cases q : 0 ≤ a4
  · rw [if_pos q]
    have := ntI_0 i.2.1 (i.2.2 q) q
    exact jst_o (by omega)
  · rw [if_neg q]
    have := ntI_0 (c := max 0 a3) i.1 i.2.1 (by omega)
    exact jst_o (by omega)
theorem fG_n {h : AH} {a1 a2 a3 a4 a5 : Int} (i : 0 ≤ a1 ∧ 0 ≤ a2 ∧ (0 ≤ a4 → 0 ≤ a3)) : fG h (ntH h a1 a2 a3 a4 a5) := fun a s _ _ _ y4 => ntH_o i (by omega)
/-- the ask's cells that a level is made of, and what terms answer -/
def seX (h : AH) (E : EV) (Rf : Int → TR) (W : Int → Int → Int → VW) (f : Int → Int → Int → Int) (A : AD) (pts wh : Int) (rv : Int → Int) : Prop := (isX4 (h 200 16) ∧ enuX h E Rf W f ∧ E.2.2.1 = 0 ∧ OWC h) ∧ (h (h 200 16) 1 = A.1 ∧ 1 ≤ A.1 ∧ A.1 ≤ 3 ∧ (∀ k, 0 ≤ k → k < A.1 → h (h 200 16 + 1) k = A.2.1 k)) ∧ (h (h 200 16) 17 = wh ∧ (wh = 0 → pts ≤ 12 ∧ ∀ s, 0 ≤ s → s < 36 → h (h 200 16 + 6) s = rv s) ∧ pts ≤ 256) ∧ (h (h 200 16) 3 = A.2.2.2.1 ∧ 0 ≤ A.2.2.2.1 ∧ A.2.2.2.1 ≤ 12 ∧ ∀ k, 0 ≤ k → k < A.2.2.2.1 → h (h 200 16 + 2) k = A.2.2.2.2.1 k ∧ h (h 200 16 + 3) k = A.2.2.2.2.2.1 k ∧ h (h 200 16 + 4) k = A.2.2.2.2.2.2.1 k ∧ h (h 200 16 + 5) k = A.2.2.2.2.2.2.2 k) ∧ ∀ p k, A.2.2.1 p k = pvA A.1 A.2.1 wh rv p k
/-- an ask that may be: kinds, pieces, values -/
def VA (E : EV) (A : AD) (pts : Int) : Prop := (∀ k, 0 ≤ k → k < A.1 → 0 ≤ A.2.1 k ∧ A.2.1 k ≤ 2) ∧ (∀ p k, 0 ≤ p → p < pts → 0 ≤ k → k < A.1 → vlR (A.2.1 k) (A.2.2.1 p k)) ∧ ∀ k, 0 ≤ k → k < A.2.2.2.1 → (1 ≤ A.2.2.2.2.2.2.2 k ∧ A.2.2.2.2.2.2.2 k ≤ 9) ∧ ((A.2.2.2.2.1 k = -1 ∧ (0 ≤ A.2.2.2.2.2.1 k ∧ A.2.2.2.2.2.1 k ≤ 2) ∧ vlR (A.2.2.2.2.2.1 k) (A.2.2.2.2.2.2.1 k)) ∨ (0 ≤ A.2.2.2.2.1 k ∧ A.2.2.2.2.1 k < E.1.1))
def fS (h h' : AH) : Prop := ∀ a s, ¬ (a = 200 ∧ (s = 9 ∨ s = 10)) → ¬ (a = 269 ∧ 0 ≤ s) → ¬ (a = 307 ∧ 0 ≤ s) → ¬ (308 ≤ a ∧ a ≤ 321 ∧ 0 ≤ s) → h' a s = h a s
theorem fS_r (h : AH) : fS h h := fun _ _ _ _ _ _ => rfl
theorem fS_t {h h1 h2 : AH} (a : fS h h1) (b : fS h1 h2) : fS h h2 := fun x s y1 y2 y3 y4 => (b x s y1 y2 y3 y4).trans (a x s y1 y2 y3 y4)
theorem fG_S {h h' : AH} (f : fG h h') : fS h h' := fun a s y1 y2 y3 y4 => f a s y1 y2 (by omega) (by omega)
theorem enX_S {h h' : AH} {E : EV} {Rf : Int → TR} {W : Int → Int → Int → VW} {f : Int → Int → Int → Int} (e : enuX h E Rf W f) (z : E.2.2.1 = 0) (g : fS h h') : enuX h' E Rf W f := by
  obtain ⟨e1, e2, e3, e4, e5, e6, e8, e7⟩ := e
  refine ⟨actX_fr e1 (fun a s q => by unfold actC at q; exact g a s (by omega) (by omega) (by omega) (by omega)), e2, e3, e4, ?_, fun y => by omega, ⟨by rw [g _ _ (by omega) (by omega) (by omega) (by omega)]; exact e8.1, by rw [g _ _ (by omega) (by omega) (by omega) (by omega)]; exact e8.2⟩, e7⟩
  obtain ⟨N, c, o⟩ := e5
  refine ⟨N, capX_fr c (fun a a0 a1 => g _ _ (by omega) (by omega) (by omega) (by omega)), fun a a0 a1 => ?_⟩
  obtain ⟨o1, o2⟩ := o a a0 a1
  rw [g 264 _ (by omega) (by omega) (by omega) (by omega)]
  exact ⟨vwX_fr (fun a s q => g _ _ (by omega) (by omega) (by omega) (by omega)) o1, o2⟩
theorem seX_S {h h' : AH} {E : EV} {Rf : Int → TR} {W : Int → Int → Int → VW} {f : Int → Int → Int → Int} {A : AD} {pts wh : Int} {rv : Int → Int} (x : seX h E Rf W f A pts wh rv) (g : fS h h') (b : -2147483648 ≤ h' 200 10 ∧ h' 200 10 < 2147483648) : seX h' E Rf W f A pts wh rv := by
  obtain ⟨⟨x1, x2, x3, x4⟩, ⟨y1, y2, y3, y4⟩, ⟨z1, z2, z3⟩, ⟨w1, w2, w3, w4⟩, pv⟩ := x
  have xx : h 200 16 = 271 ∨ h 200 16 = 289 := x1
  have e : h' 200 16 = h 200 16 := g _ _ (by omega) (by omega) (by omega) (by omega)
  unfold seX
  rw [e]
  refine ⟨⟨x1, enX_S x2 x3 g, x3, ⟨fun c c0 c1 => by rw [g _ _ (by omega) (by omega) (by omega) (by omega)]; exact x4.1 c c0 c1, b⟩⟩, ⟨by rw [g _ _ (by omega) (by omega) (by omega) (by omega)]; exact y1, y2, y3, fun k k0 k1 => by rw [g _ _ (by omega) (by omega) (by omega) (by omega)]; exact y4 k k0 k1⟩, ⟨by rw [g _ _ (by omega) (by omega) (by omega) (by omega)]; exact z1, fun q => ⟨(z2 q).1, fun s s0 s1 => by rw [g _ _ (by omega) (by omega) (by omega) (by omega)]; exact (z2 q).2 s s0 s1⟩, z3⟩, ⟨by rw [g _ _ (by omega) (by omega) (by omega) (by omega)]; exact w1, w2, w3, fun k k0 k1 => ?_⟩, pv⟩
  have c := w4 k k0 k1
  rw [g (h 200 16 + 2) _ (by omega) (by omega) (by omega) (by omega), g (h 200 16 + 3) _ (by omega) (by omega) (by omega) (by omega), g (h 200 16 + 4) _ (by omega) (by omega) (by omega) (by omega), g (h 200 16 + 5) _ (by omega) (by omega) (by omega) (by omega)]
  exact c
theorem seX_G {h h' : AH} {E : EV} {Rf : Int → TR} {W : Int → Int → Int → VW} {f : Int → Int → Int → Int} {A : AD} {pts wh : Int} {rv : Int → Int} (x : seX h E Rf W f A pts wh rv) (g : fG h h') (b : -2147483648 ≤ h' 200 10 ∧ h' 200 10 < 2147483648) : seX h' E Rf W f A pts wh rv := seX_S x (fG_S g) b
def tX (h : AH) (T : TB) (pts : Int) : Prop := tbX h T.1 T.2.1 T.2.2.1 T.2.2.2.1 T.2.2.2.2.1 T.2.2.2.2.2 pts
/-- what is kept of acts on functions -/
def caX (h : AH) (E : EV) (W : Int → Int → Int → VW) (A : AD) (pts : Int) (T : TB) : Prop := (∀ k x y, 0 ≤ k → k < 12 → 0 ≤ x → x < 120 → 0 ≤ y → y < 120 → h 316 (ntI k x y) = 0 ∨ (x < T.1 ∧ y < T.1 ∧ 1 ≤ h 316 (ntI k x y) ∧ h 316 (ntI k x y) ≤ T.1 ∧ T.2.1 (h 316 (ntI k x y) - 1) = eK E (A.2.2.2.2.1 k) (eO E (A.2.2.2.2.1 k)) ∧ eqV pts (T.2.2.2.2.2 (h 316 (ntI k x y) - 1)) (mkV E W T.2.2.2.2.2 (A.2.2.2.2.1 k) x (if eO E (A.2.2.2.2.1 k) = 1 then -1 else y) (-1)))) ∧ ∀ x y z, 0 ≤ x → x < 120 → 0 ≤ y → y < 120 → 0 ≤ z → z < 120 → h 317 (ntI x y z) = 0 ∨ (x < T.1 ∧ y < T.1 ∧ z < T.1 ∧ 1 ≤ h 317 (ntI x y z) ∧ h 317 (ntI x y z) ≤ T.1 ∧ T.2.1 (h 317 (ntI x y z) - 1) = T.2.1 y ∧ eqV pts (T.2.2.2.2.2 (h 317 (ntI x y z) - 1)) (mkV E W T.2.2.2.2.2 15 x y z))
/-- what is kept of their meeting -/
def meX (h : AH) (M : Int → (Int → Int) → Prop) (T : TB) : Prop := ∀ a, 0 ≤ a → a < T.1 → h 315 a = -1 ∨ mkS h a (M (T.2.1 a) (T.2.2.2.2.2 a))
def XI (h : AH) (E : EV) (W : Int → Int → Int → VW) (A : AD) (pts : Int) (M : Int → (Int → Int) → Prop) (T : TB) : Prop := T.1 ≤ 120 ∧ tX h T pts ∧ caX h E W A pts T ∧ meX h M T ∧ dsT pts T
theorem ntI_ij {a b c a' b' c' : Int} (x : 0 ≤ b ∧ b < 120 ∧ 0 ≤ c ∧ c < 120) (x' : 0 ≤ b' ∧ b' < 120 ∧ 0 ≤ c' ∧ c' < 120) (e : ntI a b c = ntI a' b' c') : a = a' ∧ b = b' ∧ c = c' := by unfold ntI at e; omega
theorem caX_e {h : AH} {E : EV} {W : Int → Int → Int → VW} {A : AD} {pts : Int} {T T' : TB} (e : extT T T') (c : caX h E W A pts T) : caX h E W A pts T' := by
  refine ⟨fun k x y k0 k1 x0 x1 y0 y1 => ?_, fun x y z x0 x1 y0 y1 z0 z1 => ?_⟩
  · rcases c.1 k x y k0 k1 x0 x1 y0 y1 with q | ⟨q1, q2, q3, q4, q5, q6⟩
    · exact Or.inl q
    · have g := e.2 (h 316 (ntI k x y) - 1) (by omega) (by omega)
      have l := e.1
      refine Or.inr ⟨by omega, by omega, q3, by omega, by rw [g.1]; exact q5, ?_⟩
      rw [g.2.2.2.2]
      intro p p0 p1
      rw [mkV_e e ⟨q1, by split <;> omega, by omega⟩]
      exact q6 p p0 p1
  · rcases c.2 x y z x0 x1 y0 y1 z0 z1 with q | ⟨q1, q2, q7, q3, q4, q5, q6⟩
    · exact Or.inl q
    · have g := e.2 (h 317 (ntI x y z) - 1) (by omega) (by omega)
      have g2 := e.2 y y0 q2
      have l := e.1
      refine Or.inr ⟨by omega, by omega, by omega, q3, by omega, by rw [g.1, g2.1]; exact q5, ?_⟩
      rw [g.2.2.2.2]
      intro p p0 p1
      rw [mkV_e e ⟨q1, q2, q7⟩]
      exact q6 p p0 p1
theorem caX_f {h h' : AH} {E : EV} {W : Int → Int → Int → VW} {A : AD} {pts : Int} {T : TB} (f : ∀ a s, a = 316 ∨ a = 317 → h' a s = h a s) (c : caX h E W A pts T) : caX h' E W A pts T := by
  refine ⟨fun k x y k0 k1 x0 x1 y0 y1 => ?_, fun x y z x0 x1 y0 y1 z0 z1 => ?_⟩
  · rw [f 316 _ (Or.inl rfl)]; exact c.1 k x y k0 k1 x0 x1 y0 y1
  · rw [f 317 _ (Or.inr rfl)]; exact c.2 x y z x0 x1 y0 y1 z0 z1
theorem mkV_16 {E : EV} {W : Int → Int → Int → VW} {vl : Int → Int → Int} {ac x y z : Int} (h : ac = 15 ∨ ac = 16) : mkV E W vl ac x y z = mkV E W vl 15 x y z := by
  funext p
  unfold mkV gvA
  rw [if_pos h, if_pos (Or.inl rfl)]
theorem eO_3 {E : EV} (c : acE E) {ac : Int} (a : 0 ≤ ac ∧ ac < E.1.1) (h : eO E ac = 3) : (ac = 15 ∨ ac = 16) ∧ eK E ac 3 = eK E ac 1 := by
  have A := c.2.2.1 ac a.1 a.2
  have l : ac < 26 := by
    by_cases y : 26 ≤ ac
    · have := A.2.2.1 y; omega
    · omega
  have B := c.2.2.2.1 ac a.1 l
  have e : ac = 15 ∨ ac = 16 := by
    have o := B.1
    unfold oB at o
    by_cases q : ac = 15 ∨ ac = 16
    · exact q
    · rw [if_neg q] at o
      split at o <;> omega
  have o3 : oB ac = 3 := by omega
  refine ⟨e, ?_⟩
  rw [B.2 3 (by omega) (by omega), B.2 1 (by omega) (by omega)]
  rcases e with e | e <;> rw [e] <;> decide
/-- what was made is noted -/
theorem caX_n {h : AH} {E : EV} {W : Int → Int → Int → VW} {A : AD} {pts : Int} {T : TB} {k ac x y z v : Int} (ae : acE E) (c : caX h E W A pts T) (k0 : 0 ≤ k ∧ k < 12) (ka : A.2.2.2.2.1 k = ac) (an : 0 ≤ ac ∧ ac < E.1.1) (n1 : T.1 ≤ 120) (ar : arT E T T.1 ac x y z) (v0 : 0 ≤ v ∧ v < T.1) (kv : T.2.1 v = eK E ac (eO E ac)) (ev : eqV pts (T.2.2.2.2.2 v) (mkV E W T.2.2.2.2.2 ac x y z)) : caX (ntH h k x y z v) E W A pts T := by
  have b := arT_b ar
  have hx := ar.1
  unfold ntH
  by_cases q : 0 ≤ z
  · rw [if_pos q]
    have h3 : eO E ac = 3 ∧ (0 ≤ y ∧ y < T.1 ∧ T.2.1 y = eK E ac 1) ∧ (0 ≤ z ∧ z < T.1 ∧ T.2.1 z = eK E ac 2) := by
      rcases ar.2 with r | r | r
      · omega
      · omega
      · exact r
    obtain ⟨e15, ek⟩ := eO_3 ae an h3.1
    refine ⟨fun k' x' y' k0 k1 x0 x1 y0 y1 => ?_, fun x' y' z' x0 x1 y0 y1 z0 z1 => ?_⟩
    · rw [jst_o (by omega)]; exact c.1 k' x' y' k0 k1 x0 x1 y0 y1
    · by_cases w : ntI x' y' z' = ntI x y z
      · obtain ⟨w1, w2, w3⟩ := ntI_ij ⟨y0, y1, z0, z1⟩ ⟨by omega, by omega, by omega, by omega⟩ w
        rw [w1, w2, w3, jst_eq]
        refine Or.inr ⟨by omega, by omega, by omega, by omega, by omega, ?_, ?_⟩
        · rw [show v + 1 - 1 = v by omega, kv, h3.1, ek, h3.2.1.2.2]
        · rw [show v + 1 - 1 = v by omega, ← mkV_16 e15]; exact ev
      · rw [jst_ni w]; exact c.2 x' y' z' x0 x1 y0 y1 z0 z1
  · rw [if_neg q]
    refine ⟨fun k' x' y' k0 k1 x0 x1 y0 y1 => ?_, fun x' y' z' x0 x1 y0 y1 z0 z1 => ?_⟩
    · by_cases w : ntI k' x' y' = ntI k x (max 0 y)
      · obtain ⟨w1, w2, w3⟩ := ntI_ij ⟨x0, x1, y0, y1⟩ ⟨by omega, by omega, by omega, by omega⟩ w
        rw [w1, w2, w3, jst_eq, ka]
        refine Or.inr ⟨by omega, by omega, by omega, by omega, ?_, ?_⟩
        · rw [show v + 1 - 1 = v by omega]; exact kv
        · rw [show v + 1 - 1 = v by omega]
          rcases ar.2 with r | r | r
          · rw [if_pos r.1]; rw [r.2.1, r.2.2] at ev; exact ev
          · rw [if_neg (by omega), show max 0 y = y by omega]; rw [r.2.2] at ev; exact ev
          · omega
      · rw [jst_ni w]; exact c.1 k' x' y' k0 k1 x0 x1 y0 y1
    · rw [jst_o (by omega)]; exact c.2 x' y' z' x0 x1 y0 y1 z0 z1
theorem meX_f {h h' : AH} {M : Int → (Int → Int) → Prop} {T : TB} (f : ∀ s, 0 ≤ s → s < T.1 → h' 315 s = h 315 s) (m : meX h M T) : meX h' M T := fun a a0 a1 => by
  have e := f a a0 a1
  unfold mkS
  rw [e]
  exact m a a0 a1
theorem tX_o {h h' : AH} {T : TB} {pts : Int} (f : ∀ a s, ¬ ((a = 316 ∨ a = 317) ∧ 0 ≤ s) → h' a s = h a s) (t : tX h T pts) : tX h' T pts := by
  unfold tX tbX at *
  obtain ⟨t1, t2, t3, t4, t5, t6, t7, t8⟩ := t
  have x4 : h 200 16 = 271 ∨ h 200 16 = 289 := t1
  have e16 : h' 200 16 = h 200 16 := f _ _ (by omega)
  refine ⟨by rw [e16]; exact t1, by rw [e16, f _ _ (by omega)]; exact t2, t3, t4, by rw [f _ _ (by omega)]; exact t5, t6, t7, fun x x0 x1 => ?_⟩
  obtain ⟨c1, c2, c3, c4, c5, c6⟩ := t8 x x0 x1
  refine ⟨?_, ?_, ?_, fun i i0 i1 => ?_, fun p p0 p1 => ?_, ?_⟩
  · rw [f _ _ (by omega)]; exact c1
  · rw [f _ _ (by omega)]; exact c2
  · rw [f _ _ (by omega)]; exact c3
  · rw [f _ _ (by omega)]; exact c4 i i0 i1
  · rw [f _ _ (by omega)]; exact c5 p p0 p1
  · rw [f _ _ (by omega)]; exact c6
theorem dsT_a {pts : Int} {T : TB} {k w d : Int} {o u : Int → Int} (n : ¬ hasT pts T k u) (h : dsT pts T) : dsT pts (addT T k w d o u) := by
  intro a c a0 a1 c1
  have ex := extT_add T k w d o u
  have c2 : c < T.1 + 1 := c1
  have p := ex.2 a a0 (by omega)
  by_cases z : c = T.1
  · rw [z, p.1, p.2.2.2.2]
    show ¬ (T.2.1 a = up1 T.2.1 T.1 k T.1 ∧ eqV pts (T.2.2.2.2.2 a) (up1 T.2.2.2.2.2 T.1 u T.1))
    rw [up1_e, up1_e]
    exact fun e => n ⟨a, a0, by omega, e⟩
  · have r := ex.2 c (by omega) (by omega)
    rw [p.1, p.2.2.2.2, r.1, r.2.2.2.2]
    exact h a c a0 a1 (by omega)
theorem hasT_no {pts : Int} {T : TB} {k : Int} {u : Int → Int} (h : ∀ o, 0 ≤ o → o < T.1 → ¬ (T.2.1 o = k ∧ eqV pts (T.2.2.2.2.2 o) u)) : ¬ hasT pts T k u := fun ⟨f, f0, f1, f2⟩ => h f f0 f1 f2
/-- a place for a function -/
theorem XI_pl {h h' : AH} {E : EV} {W : Int → Int → Int → VW} {A : AD} {pts : Int} {M : Int → (Int → Int) → Prop} {T : TB} {k q d x y z v : Int} {u : Int → Int} (xi : XI h E W A pts M T) (m : (0 ≤ v ∧ v < T.1 ∧ T.2.1 v = k ∧ eqV pts (T.2.2.2.2.2 v) u ∧ h' = h) ∨ ((∀ o, 0 ≤ o → o < T.1 → ¬ (T.2.1 o = k ∧ eqV pts (T.2.2.2.2.2 o) u)) ∧ T.1 = 120 ∧ v = -1 ∧ h' = h) ∨ ((∀ o, 0 ≤ o → o < T.1 → ¬ (T.2.1 o = k ∧ eqV pts (T.2.2.2.2.2 o) u)) ∧ T.1 < 120 ∧ v = T.1 ∧ h' 315 T.1 = -1 ∧ frP T.1 pts h h' ∧ tbX h' (T.1 + 1) (up1 T.2.1 T.1 k) (up1 T.2.2.1 T.1 q) (up1 T.2.2.2.1 T.1 d) (up1 T.2.2.2.2.1 T.1 (op3 x y z)) (up1 T.2.2.2.2.2 T.1 u) pts)) : fG h h' ∧ ((v = -1 ∧ 120 < (stepT pts T k q d (op3 x y z) u).1 ∧ XI h' E W A pts M T) ∨ (0 ≤ v ∧ v < (stepT pts T k q d (op3 x y z) u).1 ∧ (stepT pts T k q d (op3 x y z) u).2.1 v = k ∧ eqV pts ((stepT pts T k q d (op3 x y z) u).2.2.2.2.2 v) u ∧ XI h' E W A pts M (stepT pts T k q d (op3 x y z) u))) := by
  have t6 := xi.2.1.2.2.2.2.2.1
  rcases m with ⟨m1, m2, m3, m4, m5⟩ | ⟨m1, m2, m3, m4⟩ | ⟨m1, m2, m3, m4, m5, m6⟩
  · rw [m5]
    refine ⟨fG_r h, Or.inr ?_⟩
    rw [stepT_h ⟨v, m1, m2, m3, m4⟩]
    exact ⟨m1, m2, m3, m4, xi⟩
  · rw [m4]
    refine ⟨fG_r h, Or.inl ⟨m3, ?_, xi⟩⟩
    rw [stepT_n (hasT_no m1)]
    show 120 < T.1 + 1
    omega
  · refine ⟨fG_p t6 m5, Or.inr ?_⟩
    rw [stepT_n (hasT_no m1)]
    have ex := extT_add T k q d (op3 x y z) u
    refine ⟨by omega, by show v < T.1 + 1; omega, by rw [m3]; exact up1_e, by rw [m3]; show eqV pts (up1 T.2.2.2.2.2 T.1 u T.1) u; rw [up1_e]; exact eqV_r u, by show T.1 + 1 ≤ 120; omega, m6, caX_e ex (caX_f (fun a s y => m5 a s (by omega) (by omega) (by omega) (by omega)) xi.2.2.1), fun a a0 a1 => ?_, dsT_a (hasT_no m1) xi.2.2.2.2⟩
    by_cases w : a = T.1
    · rw [w]; exact Or.inl m4
    · have a2 : a < T.1 + 1 := a1
      have e := ex.2 a a0 (by omega)
      have g := m5 315 a (by omega) (by omega) (by omega) (by omega)
      rw [e.1, e.2.2.2.2]
      unfold mkS
      rw [g]
      exact xi.2.2.2.1 a a0 (by omega)
theorem XI_3 {h h' : AH} {E : EV} {W : Int → Int → Int → VW} {A : AD} {pts q : Int} {M : Int → (Int → Int) → Prop} {T : TB} (xi : XI h E W A pts M T) (f : f320 q h h') : XI h' E W A pts M T := ⟨xi.1, tbX_f3 xi.2.1 f, caX_f (fun a s y => f a s (by omega) (by omega) (by omega)) xi.2.2.1, meX_f (fun s _ _ => f 315 s (by omega) (by omega) (by omega)) xi.2.2.2.1, xi.2.2.2.2⟩
theorem XI_n {h : AH} {E : EV} {W : Int → Int → Int → VW} {A : AD} {pts : Int} {M : Int → (Int → Int) → Prop} {T : TB} {k ac x y z v : Int} (xi : XI h E W A pts M T) (ae : acE E) (k0 : 0 ≤ k ∧ k < 12) (ka : A.2.2.2.2.1 k = ac) (an : 0 ≤ ac ∧ ac < E.1.1) (ar : arT E T T.1 ac x y z) (v0 : 0 ≤ v ∧ v < T.1) (kv : T.2.1 v = eK E ac (eO E ac)) (ev : eqV pts (T.2.2.2.2.2 v) (mkV E W T.2.2.2.2.2 ac x y z)) : XI (ntH h k x y z v) E W A pts M T := by
  have b := arT_b ar
  have hx := ar.1
  have ii : 0 ≤ k ∧ 0 ≤ x ∧ (0 ≤ z → 0 ≤ y) := ⟨k0.1, hx.1, fun _ => by rcases ar.2 with r | r | r <;> omega⟩
  exact ⟨xi.1, tX_o (fun a s y => ntH_o ii y) xi.2.1, caX_n ae xi.2.2.1 k0 ka an xi.1 ar v0 kv ev, meX_f (fun s _ _ => ntH_o ii (by omega)) xi.2.2.2.1, xi.2.2.2.2⟩
/-- what an act makes: found, noted; new, noted; full -/
theorem mk_step {h h' : AH} {E : EV} {W : Int → Int → Int → VW} {A : AD} {pts : Int} {M : Int → (Int → Int) → Prop} {T0 T : TB} {q k d ac x y z v : Int} (dk : d = A.1 + k) (xi : XI h E W A pts M T) (ae : acE E) (ex : extT T0 T) (k0 : 0 ≤ k ∧ k < 12) (ka : A.2.2.2.2.1 k = ac) (an : 0 ≤ ac ∧ ac < E.1.1) (ar : arT E T0 T0.1 ac x y z) (m : MKR h h' E W T.1 pts T.2.1 T.2.2.1 T.2.2.2.1 T.2.2.2.2.1 T.2.2.2.2.2 ac q k d x y z v) : fG h h' ∧ (-2147483648 ≤ h' 200 10 ∧ h' 200 10 < 2147483648) ∧ ((v = -1 ∧ 120 < (mkT E W pts A T0 q k ac x y z T).1 ∧ XI h' E W A pts M T) ∨ (v ≠ -1 ∧ XI h' E W A pts M (mkT E W pts A T0 q k ac x y z T))) := by
  subst dk
  have b := arT_b ar
  have l := ex.1
  have ev : mkV E W T0.2.2.2.2.2 ac x y z = mkV E W T.2.2.2.2.2 ac x y z := by
    funext p
    exact (mkV_e ex ⟨by omega, by omega, by omega⟩).symm
  have art := arT_e (N' := T.1) ex (Int.le_refl _) l ar
  have ii : 0 ≤ k ∧ 0 ≤ x ∧ (0 ≤ z → 0 ≤ y) := ⟨k0.1, ar.1.1, fun _ => by rcases ar.2 with r | r | r <;> omega⟩
  unfold mkT
  rw [ev]
  obtain ⟨h2, f2, b2, m⟩ := m
  have xi2 := XI_3 xi f2
  rcases m with ⟨m1, m2, m3, m4, m5⟩ | ⟨m1, ⟨m2, m3, m4⟩ | ⟨m2, m3, h3, m4, m5, m6, m7⟩⟩
  · have g := XI_pl (k := eK E ac (eO E ac)) (q := q) (d := A.1 + k) (x := x) (y := y) (z := z) (v := v) (u := mkV E W T.2.2.2.2.2 ac x y z) xi2 (Or.inl ⟨m1, m2, m3, m4, rfl⟩)
    rw [m5]
    refine ⟨fG_t (fG_3 f2) (fG_n ii), by rw [ntH_o ii (by omega)]; exact b2, Or.inr ⟨by omega, ?_⟩⟩
    rcases g.2 with r | r
    · omega
    · have e2 := extT_s pts T (eK E ac (eO E ac)) q (A.1 + k) (op3 x y z) (mkV E W T.2.2.2.2.2 ac x y z)
      refine XI_n r.2.2.2.2 ae k0 ka an (arT_e e2 (Int.le_refl _) e2.1 art) ⟨r.1, r.2.1⟩ r.2.2.1 (fun p p0 p1 => ?_)
      rw [mkV_e e2 ⟨by omega, by omega, by omega⟩]
      exact r.2.2.2.1 p p0 p1
  · have g := XI_pl (k := eK E ac (eO E ac)) (q := q) (d := A.1 + k) (x := x) (y := y) (z := z) (v := v) (u := mkV E W T.2.2.2.2.2 ac x y z) xi2 (Or.inr (Or.inl ⟨m1, m2, m3, rfl⟩))
    rw [m4]
    refine ⟨fG_3 f2, b2, ?_⟩
    rcases g.2 with r | r
    · exact Or.inl r
    · omega
  · have g := XI_pl (k := eK E ac (eO E ac)) (q := q) (d := A.1 + k) (x := x) (y := y) (z := z) (v := v) (u := mkV E W T.2.2.2.2.2 ac x y z) xi2 (Or.inr (Or.inr ⟨m1, m2, m3, m4, m5, m6⟩))
    have n0 := xi.2.1.2.2.2.2.2.1
    rw [m7]
    refine ⟨fG_t (fG_3 f2) (fG_t g.1 (fG_n ii)), by rw [ntH_o ii (by omega), m5 _ _ (by omega) (by omega) (by omega) (by omega)]; exact b2, Or.inr ⟨by omega, ?_⟩⟩
    rcases g.2 with r | r
    · omega
    · have e2 := extT_s pts T (eK E ac (eO E ac)) q (A.1 + k) (op3 x y z) (mkV E W T.2.2.2.2.2 ac x y z)
      have w := XI_n r.2.2.2.2 ae k0 ka an (arT_e e2 (Int.le_refl _) e2.1 art) ⟨r.1, r.2.1⟩ r.2.2.1 (fun p p0 p1 => by rw [mkV_e e2 ⟨by omega, by omega, by omega⟩]; exact r.2.2.2.1 p p0 p1)
      rw [m3] at w
      exact w

