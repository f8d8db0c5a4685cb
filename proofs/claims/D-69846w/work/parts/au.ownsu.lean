/-! the grown acts, whole -/
theorem ewO_of {E : EV} (b : ∀ a, 26 ≤ a → a < E.1.1 → 0 ≤ E.1.2.2.2.1 a ∧ E.1.2.2.2.1 a ≤ 40) (W : ∀ a, 26 ≤ a → 0 ≤ E.1.2.2.2.1 a) (n : E.1.1 ≤ 36) : ewO E := ⟨fun w => by
  unfold eW
  by_cases c : eRs E w < 26
  · rw [if_pos c]; omega
  · rw [if_neg c]
    rcases eRs_r (E := E) w with z | z | z
    · omega
    · omega
    · exact b _ (by omega) z.2, W, n⟩
theorem ew_U {E : EV} {w kr wt : Int} {l : List Int} (W : ∀ a, 26 ≤ a → 0 ≤ E.1.2.2.2.1 a) (w0 : 0 ≤ wt) : ∀ a, 26 ≤ a → 0 ≤ (evU E w l kr wt).1.2.2.2.1 a := fun a a0 => by
  show 0 ≤ upF E.1.2.2.2.1 E.1.1 wt a
  by_cases c : a = E.1.1
  · rw [c, upF_n]; exact w0
  · rw [upF_o c]; exact W a a0
theorem owT_G {E : EV} {Rf : Int → TR} {w kr wt : Int} {l : List Int} {T : TR} (o : owT E Rf) (N0 : 26 ≤ E.1.1) (g : owGd E l kr T) : owT (evU E w l kr wt) (upF Rf E.1.1 (rsE (EL E l) T 0)) := by
  obtain ⟨_, _, _, ⟨tm1, tm2, tm3, _⟩, _⟩ := g
  exact owT_U o N0 tm3 tm1 tm2
theorem acE_G {E : EV} {w kr wt : Int} {l : List Int} {T : TR} (a : acE E) (g : owGd E l kr T) : acE (evU E w l kr wt) := by
  obtain ⟨ll, lk, e35, _, krr, _⟩ := g
  exact acE_U a e35 ll lk krr
theorem ownsM_U {h h' : AH} {E : EV} {Rf : Int → TR} {w kr : Int} {l : List Int} {T : TR} (om : ownsM h E Rf) (oq : ownQ h E Rf) (g : owGd E l kr T) (n : nwM E w kr l T h') (f : frMn E.1.1 (sz T) h h') : ownsM h' (evU E w l kr (wtR E.1.2.2.2.1 (rsE (EL E l) T 0))) (upF Rf E.1.1 (rsE (EL E l) T 0)) ∧ ownQ h' (evU E w l kr (wtR E.1.2.2.2.1 (rsE (EL E l) T 0))) (upF Rf E.1.1 (rsE (EL E l) T 0)) := by
  have ac := om.2.1
  have wt := g.2.2.2.2.2.1
  have e35 := g.2.2.1
  have OQ := ownQ_U ac.1 oq g n f
  have N36 : (evU E w l kr (wtR E.1.2.2.2.1 (rsE (EL E l) T 0))).1.1 ≤ 36 := by
    show E.1.1 + 1 ≤ 36
    omega
  exact ⟨⟨actM_U om.1 g n f, acE_G ac g, ownM_Q OQ N36, owT_G om.2.2.2.1 ac.1 g, ewO_of (fun a a0 a1 => ⟨(OQ a a0 a1).1, (OQ a a0 a1).2.1⟩) (ew_U om.2.2.2.2.2.1 wt.1) N36⟩, OQ⟩
theorem stX_U {h h' : AH} {E : EV} {Rf : Int → TR} {w kr : Int} {l : List Int} {T : TR} (s : stX h E Rf (Wf Rf)) (oc : ownC h E Rf) (ow : owT E Rf) (hp : 1078 ≤ h 0 0) (l5 : 0 ≤ h 434 5) (nb : ∀ a, 0 ≤ a → a < E.1.1 → nmR h a < h 0 0 ∧ h (nmR h a) 0 < h 0 0) (g : owGd E l kr T) (n : nwX E w kr l T h h') (f : frXn E.1.1 h h') : stX h' (evU E w l kr (wtR E.1.2.2.2.1 (rsE (EL E l) T 0))) (upF Rf E.1.1 (rsE (EL E l) T 0)) (Wf (upF Rf E.1.1 (rsE (EL E l) T 0))) ∧ ownC h' (evU E w l kr (wtR E.1.2.2.2.1 (rsE (EL E l) T 0))) (upF Rf E.1.1 (rsE (EL E l) T 0)) := by
  obtain ⟨⟨ax, ac, wo, ox, l0, ew⟩, oc2, h11, ls, od⟩ := s
  have c0 := oc.2.1.1
  have a26 := ac.1
  have wt := g.2.2.2.2.2.1
  have AC : acE (evU E w l kr (wtR E.1.2.2.2.1 (rsE (EL E l) T 0))) := acE_G ac g
  have OT : owT (evU E w l kr (wtR E.1.2.2.2.1 (rsE (EL E l) T 0))) (upF Rf E.1.1 (rsE (EL E l) T 0)) := owT_G ow ac.1 g
  have OC := ownC_U ac.1 oc g n (frXv_n hp f)
  have EW := ew_U (E := E) (w := w) (kr := kr) (l := l) ew wt.1
  have F : ∀ s, s ≠ 7 → s ≠ 55 → s ≠ 56 → h' 200 s = h 200 s := fun s y1 y2 y3 => f 200 s (by omega) (by omega) (by omega) (by omega) (by omega) (by omega) (by omega) (by omega) (by omega) (by omega) (by omega) (by omega) (by omega) (by omega) (by omega)
  refine ⟨⟨⟨actX_U ax hp nb g n (frXu_n f), AC, W_ex AC OT, ownX_C OC AC OT EW, l0, EW⟩, ⟨fun c y0 y1 => ?_, ?_⟩, ?_, fun a y0 y1 => ?_, Od_fr od (fun a i y0 y1 => ?_)⟩, OC⟩
  · rw [f 270 c (by omega) (by omega) (by omega) (by omega) (by omega) (by omega) (by omega) (by omega) (by omega) (by omega) (by omega) (by omega) (by omega) (by omega) (by omega)]
    exact oc2.1 c y0 y1
  · rw [F 10 (by omega) (by omega) (by omega)]; exact oc2.2
  · rw [F 11 (by omega) (by omega) (by omega)]; exact h11
  · rw [f a (-2) (by omega) (by omega) (by omega) (by omega) (by omega) (by omega) (by omega) (by omega) (by omega) (by omega) (by omega) (by omega) (by omega) (by omega) (by omega), f a (-1) (by omega) (by omega) (by omega) (by omega) (by omega) (by omega) (by omega) (by omega) (by omega) (by omega) (by omega) (by omega) (by omega) (by omega) (by omega)]
    exact ls a y0 y1
  · exact f a i (by omega) (by omega) (by omega) (by omega) (by omega) (by omega) (by omega) (by omega) (by omega) (by omega) (by omega) (by omega) (by omega) (by omega) (by omega)

