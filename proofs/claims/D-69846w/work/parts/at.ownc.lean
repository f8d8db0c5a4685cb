/-! x: the terms of own acts -/
theorem cX_vw {h : AH} {T N : Int} : ∀ {R : TR} {d j p : Int}, cX h T R d j p → 0 ≤ d → d < N → 0 ≤ p → p + (sz R - 1) ≤ N → vwX h T N (-1) 0 R d j
  | .leaf i, d, j, p, c, d0, d1, _, _ => ⟨d0, d1, Or.inr ⟨by omega, c.1, c.2.1⟩⟩
  | .branch b s r, d, j, p, c, d0, d1, p0, p1 => by
    obtain ⟨c1, c2, c3, c4, c5⟩ := c
    have z1 := sz_pos s
    have z2 := sz_pos r
    have e : sz (.branch b s r) = sz s + sz r := rfl
    rw [e] at p1
    exact ⟨by omega, c1, c2, by rw [c3]; exact cX_vw c4 p0 (by omega) (by omega) (by omega), cX_vw c5 d0 d1 (by omega) (by omega)⟩
/-- x's own acts, each term behind the other -/
def ownC (h : AH) (E : EV) (Rf : Int → TR) : Prop := capT h 258 1300 ∧ (0 ≤ h 258 0 ∧ h 258 0 ≤ 121 * (E.1.1 - 26)) ∧ ∀ a, 26 ≤ a → a < E.1.1 → cX h 258 (Rf a) (h 264 (a - 26)) 0 (h 264 (a - 26) + 1) ∧ (0 ≤ h 264 (a - 26) ∧ h 264 (a - 26) + sz (Rf a) ≤ h 258 0) ∧ (wtR E.1.2.2.2.1 (Rf a) = E.1.2.2.2.1 a ∧ 0 ≤ E.1.2.2.2.1 a ∧ E.1.2.2.2.1 a ≤ 40) ∧ acR a (Rf a)
theorem ownX_C {h : AH} {E : EV} {Rf : Int → TR} (o : ownC h E Rf) (ac : acE E) (ow : owT E Rf) (ew : ∀ a, 26 ≤ a → 0 ≤ E.1.2.2.2.1 a) : ownX h E Rf := by
  obtain ⟨o1, o2, o3⟩ := o
  refine ⟨1300, ⟨by unfold isX3; omega, o1⟩, fun a a0 a1 => ?_⟩
  obtain ⟨p1, p2, p3, p4⟩ := o3 a a0 a1
  have SP := sz_pos (Rf a)
  have A2 := ac.2.1
  refine ⟨cX_vw p1 p2.1 (by omega) (by omega) (by omega), (ow a a0 a1).2.1, ?_, p3.2.1, p3.2.2⟩
  have y := dpE_wt (wA := E.1.2.2.2.1) ew p4
  omega
def frXv (N : Int) (h h' : AH) : Prop := ∀ a s, 258 ≤ a → a ≤ 264 → ¬ (a = 264 ∧ s = N - 26) → ¬ (a = 258 ∧ s = 0) → ¬ (259 ≤ a ∧ a ≤ 262 ∧ h 258 0 ≤ s) → ¬ (a = 263 ∧ 3 * h 258 0 ≤ s) → h' a s = h a s
theorem frXv_n {N : Int} {h h' : AH} (hp : 1078 ≤ h 0 0) (f : frXn N h h') : frXv N h h' := fun a s y0 y1 y2 y3 y4 y5 => f a s (by omega) (by omega) (by omega) (by omega) (by omega) (by omega) (by omega) (by omega) (by omega) (by omega) (by omega) (by omega) y3 y4 y5
theorem frXv_o {N : Int} {h h' : AH} (hp : 1078 ≤ h 0 0) (f : frXo N h h') : frXv N h h' := fun a s y0 y1 y2 y3 y4 y5 => f a s (by omega) (by omega) (by omega) (by omega) (by omega) (by omega) (by omega) (by omega) (by omega) (by omega) y3 y4 y5
theorem ownC_U {h h' : AH} {E : EV} {Rf : Int → TR} {w kr : Int} {l : List Int} {T : TR} (x2 : 26 ≤ E.1.1) (o : ownC h E Rf) (g : owGd E l kr T) (n : nwX E w kr l T h h') (f : frXv E.1.1 h h') : ownC h' (evU E w l kr (wtR E.1.2.2.2.1 (rsE (EL E l) T 0))) (upF Rf E.1.1 (rsE (EL E l) T 0)) := by
  obtain ⟨o1, o2, o3⟩ := o
  obtain ⟨⟨l1, l2⟩, lk, e35, tm, krr, wtr, s1, d1, hl, ar⟩ := g
  obtain ⟨n7, n268, nS, nv0, n264, n265, n266, n2662, n267, n258, ncx, _⟩ := n
  have SZ : sz (rsE (EL E l) T 0) = sz T := sz_rs _ _ _ _ _ _ T 0
  have SP := sz_pos T
  refine ⟨capT_fr o1 (fun a y0 y1 => f a (-1) (by omega) (by omega) (by omega) (by omega) (by omega) (by omega)), ?_, fun a a0 a1 => ?_⟩
  · show 0 ≤ h' 258 0 ∧ h' 258 0 ≤ 121 * (E.1.1 + 1 - 26)
    omega
  · have a1 : a < E.1.1 + 1 := a1
    show cX h' 258 (upF Rf E.1.1 (rsE (EL E l) T 0) a) (h' 264 (a - 26)) 0 (h' 264 (a - 26) + 1) ∧ (0 ≤ h' 264 (a - 26) ∧ h' 264 (a - 26) + sz (upF Rf E.1.1 (rsE (EL E l) T 0) a) ≤ h' 258 0) ∧ (wtR (upF E.1.2.2.2.1 E.1.1 (wtR E.1.2.2.2.1 (rsE (EL E l) T 0))) (upF Rf E.1.1 (rsE (EL E l) T 0) a) = upF E.1.2.2.2.1 E.1.1 (wtR E.1.2.2.2.1 (rsE (EL E l) T 0)) a ∧ 0 ≤ upF E.1.2.2.2.1 E.1.1 (wtR E.1.2.2.2.1 (rsE (EL E l) T 0)) a ∧ upF E.1.2.2.2.1 E.1.1 (wtR E.1.2.2.2.1 (rsE (EL E l) T 0)) a ≤ 40) ∧ acR a (upF Rf E.1.1 (rsE (EL E l) T 0) a)
    by_cases c : a = E.1.1
    · rw [c, upF_n, upF_n, n264, n258, SZ]
      exact ⟨ncx, ⟨o2.1, Int.le_refl _⟩, ⟨wtR_cg (N := E.1.1) (fun b y => upF_o (by omega)) ar, wtr.1, wtr.2⟩, ar⟩
    · rw [upF_o c, upF_o c]
      obtain ⟨p1, p2, p3, p4⟩ := o3 a a0 (by omega)
      have SQ := sz_pos (Rf a)
      have e : h' 264 (a - 26) = h 264 (a - 26) := f 264 _ (by omega) (by omega) (by omega) (by omega) (by omega) (by omega)
      rw [e, n258]
      refine ⟨cX_fr (lo := 0) (hi := h 258 0) (fun b s y0 y1 y2 y3 => f b s (by omega) (by omega) (by omega) (by omega) (by omega) (by omega)) (fun s y0 y1 => f 263 s (by omega) (by omega) (by omega) (by omega) (by omega) (by omega)) p1 (Int.le_refl _) p2.1 (by omega) (by omega) (by omega), ⟨p2.1, by omega⟩, ⟨(wtR_cg (N := a) (fun b y => upF_o (by omega)) p4).trans p3.1, p3.2⟩, p4⟩

