/-! m: the i-th term that meets becomes what is found -/
theorem ITM_D {E : EV} {Rf : Int → TR} {W : Int → Int → Int → VW} {K : AK} {tp : Int} {p : Nat} {T : TB} (tq : tqM E W K p p) : ∀ D : Nat, ITM E Rf W K tp p T (gX14_operandsD D) D
  | 0 => fun a1 a2 a3 a4 h w d ac mr ia pr _ _ _ => by have e : ((0 : Nat) : Int) = 0 := rfl; omega
  | D + 1 => fun a1 a2 a3 a4 h w d ac mr ia pr rx st ps => vX14_operands_ a1 a2 a3 a4 (ITM_D tq D) tq mr ia (by omega) rx st ps
theorem vX14_search (a1 a2 a3 : Int) {h : AH} {E : EV} {Rf : Int → TR} {W : Int → Int → Int → VW} {K : AK} {tp : Int} {p : Nat} {T : TB} {w : Int → Int} {d : Int} (mr : MR h E Rf W K tp p T ((p : Int) + 1)) (tq : tqM E W K p p) (q1 : 1 ≤ a1 ∧ a1 ≤ p) (rx : rowM h a2 w (LV E W (kP K) (kA K) p).1 ∧ wBd w ∧ a2 < 770 + d) (st : stMo h d (a1 - 1) a1) (tb : 0 ≤ a3 ∧ a3 < twC E W (kP K) (kA K) (LV E W (kP K) (kA K) p) w a1 ∧ twC E W (kP K) (kA K) (LV E W (kP K) (kA K) p) w a1 < 9223372036854775808) : OK (gX14_search a1 a2 a3 h) (fun r => jt2 r fun v h' => (∃ R f, itR E W (kP K) (kA K) (LV E W (kP K) (kA K) p) (ct E W (kP K) (kA K)) 41 a1 w a3 R f v ∧ poD R (pm h) (h' 454 49) (pm h') ∧ h' 454 50 = f) ∧ MR h' E Rf W K tp p T ((p : Int) + 1) ∧ fMo d h h' ∧ h' 454 43 = d) := vX14_search_ a1 a2 a3 (D := 40) (i := 0) (ITM_D tq 40) mr tq ⟨q1.1, q1.2, by have n12 := tq.1.1.1; omega⟩ rx st tb
theorem vTL2 (a1 : Int) {h : AH} {E : EV} {Rf : Int → TR} {W : Int → Int → Int → VW} {K : AK} {tp k : Int} {R : TR} (ak : akM h E Rf W K tp) (cA : ∀ a, 0 ≤ a → a < E.1.1 → 0 ≤ E.1.2.1 a ∧ E.1.2.1 a < 282429536481) (r : resQ h (rgN 8200 300) R a1 0) (O : okR E (kA K) k R) (z : sz R ≤ 12) : OK (gX14_tell a1 h) (fun h' => fdL h' E W K R ∧ fV h h' ∧ akM h' E Rf W K tp) := by
  have c := akM_0 ak
  have DS := dpT_sz R
  have DE := dpE_sz (wA40m c.1.2.1) O.2.1
  refine OK_mono (vX14_tell (k := k) (Q := rgN 8200 300) a1 ak cA (resQ_rw r) (fun x q => by unfold rgN at q; omega) O ⟨by omega, by omega, by omega⟩) (fun h' z => ?_)
  have z1 := z.1
  rw [← O.1.2] at z1
  exact ⟨z1, z.2.1, z.2.2⟩
/-- what the i-th leaves: told -/
def fTi (h h' : AH) : Prop := ∀ a s, ¬ (a = 454 ∧ (s = 17 ∨ (19 ≤ s ∧ s ≤ 22) ∨ s = 40 ∨ s = 43 ∨ s = 44 ∨ (49 ≤ s ∧ s ≤ 51) ∨ s = 56 ∨ s = 58 ∨ s = 60 ∨ s = 62)) → ¬ (460 ≤ a ∧ a ≤ 469 ∧ a ≠ 464 ∧ 7600 ≤ s ∧ s < 8800) → ¬ (a = 464 ∧ 22800 ≤ s ∧ s < 26400) → ¬ (a = 471 ∧ 0 ≤ s) → ¬ (476 ≤ a ∧ a ≤ 754 ∧ 0 ≤ s) → ¬ (756 ≤ a ∧ a ≤ 789 ∧ 0 ≤ s) → ¬ (791 ≤ a ∧ a ≤ 793 ∧ 0 ≤ s) → h' a s = h a s
theorem fTi_mk {h h7 h11 h14 h16 : AH} (f7 : fOc h h7) (e11 : ∀ a s, ¬ (a = 454 ∧ (s = 17 ∨ s = 43)) → h11 a s = h7 a s) (f14 : fMo 1 h11 h14) (f16 : fV h14 h16) : fTi h h16 := fun a s y1 y2 y3 y4 y5 y6 y7 => by
  have e1 := f16 a s (fun q => y1 ⟨q.1, by have := q.2; clear y1 y2 y3 y4 y5 y6 y7; omega⟩) (fun q => y2 (by clear y1 y2 y3 y4 y5 y6 y7; omega)) (fun q => y3 (by clear y1 y2 y3 y4 y5 y6 y7; omega)) y4 (fun q => y5 (by clear y1 y2 y3 y4 y5 y6 y7; omega)) y7
  have e2 := f14 a s (fun q => y1 ⟨q.1, by have := q.2; clear y1 y2 y3 y4 y5 y6 y7; omega⟩) (fun q => y5 (by clear y1 y2 y3 y4 y5 y6 y7; omega)) (fun q => y6 (by clear y1 y2 y3 y4 y5 y6 y7; omega)) (fun q => y2 (by clear y1 y2 y3 y4 y5 y6 y7; omega)) (fun q => y3 (by clear y1 y2 y3 y4 y5 y6 y7; omega))
  have e3 := e11 a s (fun q => y1 ⟨q.1, by have := q.2; clear y1 y2 y3 y4 y5 y6 y7; omega⟩)
  have e4 := f7 a s (fun q => y1 ⟨q.1, by have := q.2; clear y1 y2 y3 y4 y5 y6 y7; omega⟩) (fun q => y2 (by clear y1 y2 y3 y4 y5 y6 y7; omega)) (fun q => y3 (by clear y1 y2 y3 y4 y5 y6 y7; omega)) y5 y6
  exact e1.trans (e2.trans (e3.trans e4))
theorem wM_bd {E : EV} {W : Int → Int → Int → VW} {K : AK} {p : Nat} : wBd (wMt E W K p) := fun f => ⟨wM_0 f, fun _ => by have := cif_le (P := f < (LV E W (kP K) (kA K) p).1 ∧ MKT E W K p f) (v := 1) (by decide); show cif _ (1 : Int) 0 < _; omega⟩
theorem mW_wM {E : EV} {W : Int → Int → Int → VW} {K : AK} {p : Nat} {f : Int} (l : f < (LV E W (kP K) (kA K) p).1) : mW E W K p f = wMt E W K p f := by
  unfold mW wMt
  by_cases y : MKT E W K p f
  · rw [cif_y y, cif_y ⟨l, y⟩]
  · rw [cif_n y, cif_n (fun z => y z.2)]
theorem vX14_weigh2 (a1 : Int) {h : AH} {E : EV} {Rf : Int → TR} {W : Int → Int → Int → VW} {K : AK} {tp : Int} {p : Nat} {T : TB} (ak : akM h E Rf W K tp) (xt : MT h E W K tp p T) (tq : tqM E W K p p) (ln : lnC h ∧ lnW h) (k : a1 = p) : OK (gX14_weigh a1 h) (fun r => jt2 r fun v h' => (v = w64 (mtC E W K p)) ∧ (∀ f, 0 ≤ f → f < (LV E W (kP K) (kA K) p).1 → h' 770 f = mW E W K p f) ∧ (MR h' E Rf W K tp p T ((p : Int) + 1)) ∧ (∀ a s, ¬ (a = 454 ∧ (s = 20 ∨ s = 21 ∨ s = 44)) → ¬ (a = 754 ∧ 0 ≤ s) → ¬ (756 ≤ a ∧ a ≤ 789 ∧ a ≠ 769 ∧ 0 ≤ s) → h' a s = h a s)) := by
  have p12 := tq.1.1.1
  unfold gX14_weigh
  refine OK_jb (vX14_reckon (E := E) (Rf := Rf) (W := W) (K := K) (tp := tp) (p := p) (T := T) _ (by exact ak) (by exact xt) (by exact tq) (by exact ln.1) (by exact k)) (fun h2 r1 => ?_)
  try dsimp only [Sum.elim_inl, Sum.elim_inr, jt2, jt3, jt4, jt5, jt6, jt7, jt8] at r1
  obtain ⟨mr1, fs1⟩ := r1
  try simp (disch := omega) only [jst_eq, jst_ne, jst_ni, jI_i, jcmp_lt, jcmp_gt, w32_id, jcpy_out, Sum.elim_inl, Sum.elim_inr, jt2, jt3, jt4, jt5, jt6, jt7, jt8] at mr1
  try simp (disch := omega) only [jst_eq, jst_ne, jst_ni, jI_i, jcmp_lt, jcmp_gt, w32_id, jcpy_out, Sum.elim_inl, Sum.elim_inr, jt2, jt3, jt4, jt5, jt6, jt7, jt8] at fs1
  refine OK_jb (vX14_weigh_l10 (E := E) (Rf := Rf) (W := W) (K := K) (tp := tp) (p := p) (T := T) _ _ _ (by exact mr1) (by exact p12) (by exact fun i a b => by (rw [fs1.1 _ _ (by omega) (by omega) (by omega) (by omega), fs1.1 _ _ (by omega) (by omega) (by omega) (by omega), fs1.1 _ _ (by omega) (by omega) (by omega) (by omega)]; exact ln.2 i a b)) (by exact k) (by exact ⟨rfl, rfl⟩)) (fun o3 r2 => ?_)
  obtain ⟨y5, h6⟩ := o3
  refine OK_jt2 ?_
  try dsimp only [Sum.elim_inl, Sum.elim_inr, jt2, jt3, jt4, jt5, jt6, jt7, jt8] at r2
  obtain ⟨mc2, ws2, mr2, fr2⟩ := r2
  try simp (disch := omega) only [jst_eq, jst_ne, jst_ni, jI_i, jcmp_lt, jcmp_gt, w32_id, jcpy_out, Sum.elim_inl, Sum.elim_inr, jt2, jt3, jt4, jt5, jt6, jt7, jt8] at mc2
  try simp (disch := omega) only [jst_eq, jst_ne, jst_ni, jI_i, jcmp_lt, jcmp_gt, w32_id, jcpy_out, Sum.elim_inl, Sum.elim_inr, jt2, jt3, jt4, jt5, jt6, jt7, jt8] at ws2
  try simp (disch := omega) only [jst_eq, jst_ne, jst_ni, jI_i, jcmp_lt, jcmp_gt, w32_id, jcpy_out, Sum.elim_inl, Sum.elim_inr, jt2, jt3, jt4, jt5, jt6, jt7, jt8] at mr2
  try simp (disch := omega) only [jst_eq, jst_ne, jst_ni, jI_i, jcmp_lt, jcmp_gt, w32_id, jcpy_out, Sum.elim_inl, Sum.elim_inr, jt2, jt3, jt4, jt5, jt6, jt7, jt8] at fr2
  refine OK_some ?_
  try dsimp only [Sum.elim_inl, Sum.elim_inr, jt2, jt3, jt4, jt5, jt6, jt7, jt8]
  try dsimp only [Sum.elim_inl, Sum.elim_inr, jt2, jt3, jt4, jt5, jt6, jt7, jt8]
  refine ⟨?_, ?_, ?_, ?_⟩
  · exact mc2 -- o11 e1.1
  · exact ws2 -- o12 e1.2
  · exact mr2 -- o13 e1.3
  · exact fun a s y1 y2 y3 => by (rw [fr2 a s (by omega) (by omega)]; exact fs1.1 a s (by omega) (by omega) (by omega) (by omega)) -- o14 e1.4
theorem vX14_ith (a1 : Int) (a2 : Int) {h : AH} {E : EV} {Rf : Int → TR} {W : Int → Int → Int → VW} {K : AK} {tp : Int} (hd : h 454 54 = 0 ∨ h 454 54 = 1) (cA : ∀ a, 0 ≤ a → a < E.1.1 → 0 ≤ E.1.2.1 a ∧ E.1.2.1 a < 282429536481) (ak : ¬ h 454 38 = 0 → asM h E Rf W K tp) (ln : lnC h ∧ lnW h) (i0 : a2 < 9223372036854775808) : OK (gX14_ith a1 a2 h) (fun r => jt2 r fun v h' => (∃ r, rfs (¬ h 454 54 = 0) a1 (¬ h 454 38 = 0) (lvK E W (kP K) (kA K) a1.toNat) r ∧ ((r ≠ 0 ∧ v = r ∧ fO h h') ∨ (r = 0 ∧ ¬ (0 ≤ a2 ∧ a2 < mtC E W K a1.toNat) ∧ v = -1 ∧ fOc h h') ∨ (r = 0 ∧ (0 ≤ a2 ∧ a2 < mtC E W K a1.toNat) ∧ ∃ R, itF E W K a1.toNat a2 R ∧ fdL h' E W K R ∧ v = (((txT E.1.2.1 (fun _ => 0) R).length : Nat) : Int) ∧ fTi h h'))) ∧ (¬ h 454 38 = 0 → asM h' E Rf W K tp)) := by
  unfold gX14_ith
  refine OK_jb2 (vX14_refusal (E := E) (Rf := Rf) (W := W) (K := K) (tp := tp) _ (by exact hd) (by exact ak)) (fun v2 h3 r1 => ?_)
  try dsimp only [Sum.elim_inl, Sum.elim_inr, jt2, jt3, jt4, jt5, jt6, jt7, jt8] at r1
  obtain ⟨rf1, st1⟩ := r1
  try simp (disch := omega) only [jst_eq, jst_ne, jst_ni, jI_i, jcmp_lt, jcmp_gt, w32_id, jcpy_out, Sum.elim_inl, Sum.elim_inr, jt2, jt3, jt4, jt5, jt6, jt7, jt8] at rf1
  try simp (disch := omega) only [jst_eq, jst_ne, jst_ni, jI_i, jcmp_lt, jcmp_gt, w32_id, jcpy_out, Sum.elim_inl, Sum.elim_inr, jt2, jt3, jt4, jt5, jt6, jt7, jt8] at st1
  obtain ⟨s1, s2, s3⟩ := st1
  refine OK_if (fun c1 => ?_) (fun c1 => ?_)
  · skip
    try simp (disch := omega) only [jst_eq, jst_ne, jst_ni, jI_i, jcmp_lt, jcmp_gt, w32_id, jcpy_out, Sum.elim_inl, Sum.elim_inr, jt2, jt3, jt4, jt5, jt6, jt7, jt8] at c1
    have v0 : v2 = 0 := by { unfold rfs at rf1; omega }
    obtain ⟨T, xt⟩ := s3 v0
    have rr : ¬ ¬ h 454 54 = 0 ∧ (1 ≤ a1 ∧ a1 ≤ 12) ∧ (¬ h 454 38 = 0) ∧ lvK E W (kP K) (kA K) a1.toNat := by { rcases rf1 with r | r | r | r | r; { omega }; { omega }; { omega }; { omega }; { exact ⟨r.1, r.2.1, r.2.2.1, r.2.2.2.1⟩ } }
    have AS := s2 rr.2.2.1
    have ep : ((a1.toNat : Nat) : Int) = a1 := by omega
    have TQ := tqM_of AS.1 xt rr.2.2.2 ⟨by omega, by omega⟩
    have LW3 : lnW h3 := fun i a b => by { rw [s1 _ _ (by omega) (by omega) (by omega) (by omega) (by omega), s1 _ _ (by omega) (by omega) (by omega) (by omega) (by omega), s1 _ _ (by omega) (by omega) (by omega) (by omega) (by omega)]; exact ln.2 i a b }
    refine OK_jb2 (vX14_weigh2 (E := E) (Rf := Rf) (W := W) (K := K) (tp := tp) (p := a1.toNat) (T := T) _ (by exact AS.1) (by exact xt) (by exact TQ) (by exact ⟨by (unfold lnC; rw [s1 _ _ (by omega) (by omega) (by omega) (by omega) (by omega), s1 _ _ (by omega) (by omega) (by omega) (by omega) (by omega), s1 _ _ (by omega) (by omega) (by omega) (by omega) (by omega), s1 _ _ (by omega) (by omega) (by omega) (by omega) (by omega)]; exact ln.1), LW3⟩) (by exact ep.symm)) (fun v6 h7 r2 => ?_)
    try dsimp only [Sum.elim_inl, Sum.elim_inr, jt2, jt3, jt4, jt5, jt6, jt7, jt8] at r2
    obtain ⟨mc2, ws2, mr2, fr2⟩ := r2
    try simp (disch := omega) only [jst_eq, jst_ne, jst_ni, jI_i, jcmp_lt, jcmp_gt, w32_id, jcpy_out, Sum.elim_inl, Sum.elim_inr, jt2, jt3, jt4, jt5, jt6, jt7, jt8] at mc2
    try simp (disch := omega) only [jst_eq, jst_ne, jst_ni, jI_i, jcmp_lt, jcmp_gt, w32_id, jcpy_out, Sum.elim_inl, Sum.elim_inr, jt2, jt3, jt4, jt5, jt6, jt7, jt8] at ws2
    try simp (disch := omega) only [jst_eq, jst_ne, jst_ni, jI_i, jcmp_lt, jcmp_gt, w32_id, jcpy_out, Sum.elim_inl, Sum.elim_inr, jt2, jt3, jt4, jt5, jt6, jt7, jt8] at mr2
    try simp (disch := omega) only [jst_eq, jst_ne, jst_ni, jI_i, jcmp_lt, jcmp_gt, w32_id, jcpy_out, Sum.elim_inl, Sum.elim_inr, jt2, jt3, jt4, jt5, jt6, jt7, jt8] at fr2
    have mb := mtC_b (K := K) TQ.1.1
    have MC : v6 = mtC E W K a1.toNat := by { rw [← w64_id (x := mtC E W K a1.toNat) (by omega) (by omega)]; first | exact mc2 | assumption }
    have T7 : agT h3 h7 := fun a s y => by { unfold tA at y; exact fr2 a s (by omega) (by omega) (by omega) }
    have LW7 : lnW h7 := fun i a b => by { have q := mr2; rw [fr2 769 _ (by omega) (by omega) (by omega), fr2 (770 + i) (-2) (by omega) (by omega) (by omega), fr2 (770 + i) (-1) (by omega) (by omega) (by omega)]; exact LW3 i a b }
    have FC7 : fOc h h7 := fun a s y1 y2 y3 y4 y5 => by { rw [fr2 a s (by omega) (by omega) (by omega)]; exact s1 a s (by omega) y2 y3 (by omega) (by omega) }
    refine OK_if (fun c2 => ?_) (fun c2 => ?_)
    · skip
      try simp (disch := omega) only [jst_eq, jst_ne, jst_ni, jI_i, jcmp_lt, jcmp_gt, w32_id, jcpy_out, Sum.elim_inl, Sum.elim_inr, jt2, jt3, jt4, jt5, jt6, jt7, jt8] at c2
      have c2w : a2 < 0 := by first | exact c2 | exact jcmp_lt.1 c2
      refine OK_some ?_
      try dsimp only [Sum.elim_inl, Sum.elim_inr, jt2, jt3, jt4, jt5, jt6, jt7, jt8]
      try dsimp only [Sum.elim_inl, Sum.elim_inr, jt2, jt3, jt4, jt5, jt6, jt7, jt8]
      refine ⟨?_, ?_⟩
      · exact ⟨v2, rf1, Or.inr (Or.inl ⟨v0, by omega, rfl, FC7⟩)⟩ -- o8 e1.1
      · exact fun _ => asM_y AS T7 mr2.1 -- o9 e1.2
    · skip
      try simp (disch := omega) only [jst_eq, jst_ne, jst_ni, jI_i, jcmp_lt, jcmp_gt, w32_id, jcpy_out, Sum.elim_inl, Sum.elim_inr, jt2, jt3, jt4, jt5, jt6, jt7, jt8] at c2
      have c2w : ¬ a2 < 0 := by first | exact c2 | exact fun y => c2 (jcmp_lt.2 y)
      refine OK_if (fun c3 => ?_) (fun c3 => ?_)
      · skip
        try simp (disch := omega) only [jst_eq, jst_ne, jst_ni, jI_i, jcmp_lt, jcmp_gt, w32_id, jcpy_out, Sum.elim_inl, Sum.elim_inr, jt2, jt3, jt4, jt5, jt6, jt7, jt8] at c3
        have c3w : a2 < v6 := by first | exact c3 | exact jcmp_lt.1 c3
        refine OK_jl ?_
        have F10 : ∀ a s, ¬ (a = 454 ∧ s = 17) → jst h7 454 17 8200 a s = h7 a s := fun a s y => jst_o y
        have K10 : jst h7 454 17 8200 454 17 = 8200 := jst_eq
        generalize eg10 : jst h7 454 17 8200 = g10 at *
        refine OK_jl ?_
        have F11 : ∀ a s, ¬ (a = 454 ∧ s = 43) → jst g10 454 43 1 a s = g10 a s := fun a s y => jst_o y
        have K11 : jst g10 454 43 1 454 43 = 1 := jst_eq
        generalize eg11 : jst g10 454 43 1 = g11 at *
        have E11 : ∀ a s, ¬ (a = 454 ∧ (s = 17 ∨ s = 43)) → g11 a s = h7 a s := fun a s y => (F11 a s (by omega)).trans (F10 a s (by omega))
        have N11 : g11 454 17 = 8200 := (F11 _ _ (by omega)).trans K10
        have M11 := MR_n (d := 1) mr2 (by omega) (by decide) (fun a s y1 y2 y3 y4 => E11 a s (by omega))
        have L11 := lnW_o LW7 M11.2 (by decide)
        have z769 : g11 769 0 = 770 := (L11 0 (by decide) (by decide)).1
        have r770 := (L11 0 (by decide) (by decide)).2
        have R11 : rowM g11 770 (wMt E W K a1.toNat) (LV E W (kP K) (kA K) a1.toNat).1 := ⟨by decide, r770, fun f f0 f1 => by rw [E11 _ _ (by omega), ws2 f f0 f1]; exact mW_wM f1⟩
        have TW := tw_mt (E := E) (W := W) (K := K) (p := a1.toNat) (T := LV E W (kP K) (kA K) a1.toNat) (Int.le_refl _)
        rw [ep] at TW
        rw [z769]
        refine OK_jb2 (vX14_search (E := E) (Rf := Rf) (W := W) (K := K) (tp := tp) (p := a1.toNat) (T := T) (w := wMt E W K a1.toNat) (d := 1) _ _ _ (by exact M11.1) (by exact TQ) (by omega) (by exact ⟨R11, wM_bd, by decide⟩) (by exact ⟨⟨K11, by decide, by omega⟩, L11, by omega, by omega⟩) (by (rw [TW]; omega))) (fun v13 h14 r3 => ?_)
        try dsimp only [Sum.elim_inl, Sum.elim_inr, jt2, jt3, jt4, jt5, jt6, jt7, jt8] at r3
        obtain ⟨dd3, mr3, fs3, us3⟩ := r3
        try simp (disch := omega) only [jst_eq, jst_ne, jst_ni, jI_i, jcmp_lt, jcmp_gt, w32_id, jcpy_out, Sum.elim_inl, Sum.elim_inr, jt2, jt3, jt4, jt5, jt6, jt7, jt8] at dd3
        try simp (disch := omega) only [jst_eq, jst_ne, jst_ni, jI_i, jcmp_lt, jcmp_gt, w32_id, jcpy_out, Sum.elim_inl, Sum.elim_inr, jt2, jt3, jt4, jt5, jt6, jt7, jt8] at mr3
        try simp (disch := omega) only [jst_eq, jst_ne, jst_ni, jI_i, jcmp_lt, jcmp_gt, w32_id, jcpy_out, Sum.elim_inl, Sum.elim_inr, jt2, jt3, jt4, jt5, jt6, jt7, jt8] at fs3
        try simp (disch := omega) only [jst_eq, jst_ne, jst_ni, jI_i, jcmp_lt, jcmp_gt, w32_id, jcpy_out, Sum.elim_inl, Sum.elim_inr, jt2, jt3, jt4, jt5, jt6, jt7, jt8] at us3
        obtain ⟨R, f, z1, z2, z3⟩ := dd3
        have IG := itR_ok TQ.1 TQ.2.1 41 a1 _ _ R f v13 (by omega) (by omega) wM_0 (by omega) z1
        have SZ := IG.2.1
        have p17 : pm g11 454 17 = 8200 := (pm_i (Or.inr ⟨rfl, rfl⟩)).trans N11
        have RQ := pm_rQ z2.2.2.1
        rw [p17] at RQ
        have RQ2 := resQ_le (P := rgN 8200 300) (fun x q => by unfold rgN at q ⊢; omega) RQ
        refine OK_jb (vTL2 (E := E) (Rf := Rf) (W := W) (K := K) (tp := tp) (k := (LV E W (kP K) (kA K) a1.toNat).2.1 f) (R := R) _ (by exact mr3.1) (by exact cA) (by exact RQ2) (by exact IG.2.2) (by omega)) (fun h16 r4 => ?_)
        try dsimp only [Sum.elim_inl, Sum.elim_inr, jt2, jt3, jt4, jt5, jt6, jt7, jt8] at r4
        have tl4 := r4
        clear r4
        try simp (disch := omega) only [jst_eq, jst_ne, jst_ni, jI_i, jcmp_lt, jcmp_gt, w32_id, jcpy_out, Sum.elim_inl, Sum.elim_inr, jt2, jt3, jt4, jt5, jt6, jt7, jt8] at tl4
        have TL := tl4
        have T16 : agT h3 h16 := agT_t T7 (agT_t (fMo_A M11.2 (by decide)).2 (agT_t (fMo_A fs3 (by decide)).2 (fV_A TL.2.1).2))
        have FT : fTi h h16 := fTi_mk FC7 E11 fs3 TL.2.1
        refine OK_some ?_
        try dsimp only [Sum.elim_inl, Sum.elim_inr, jt2, jt3, jt4, jt5, jt6, jt7, jt8]
        try dsimp only [Sum.elim_inl, Sum.elim_inr, jt2, jt3, jt4, jt5, jt6, jt7, jt8]
        refine ⟨?_, ?_⟩
        · exact ⟨v2, rf1, Or.inr (Or.inr ⟨v0, by omega, R, ⟨f, v13, by rw [ep]; exact z1⟩, TL.1, TL.1.2.2.1.1, FT⟩)⟩ -- o21 e2.1
        · exact fun _ => asM_y AS T16 TL.2.2 -- o22 e2.2
      · skip
        try simp (disch := omega) only [jst_eq, jst_ne, jst_ni, jI_i, jcmp_lt, jcmp_gt, w32_id, jcpy_out, Sum.elim_inl, Sum.elim_inr, jt2, jt3, jt4, jt5, jt6, jt7, jt8] at c3
        have c3w : ¬ a2 < v6 := by first | exact c3 | exact fun y => c3 (jcmp_lt.2 y)
        refine OK_some ?_
        try dsimp only [Sum.elim_inl, Sum.elim_inr, jt2, jt3, jt4, jt5, jt6, jt7, jt8]
        try dsimp only [Sum.elim_inl, Sum.elim_inr, jt2, jt3, jt4, jt5, jt6, jt7, jt8]
        refine ⟨?_, ?_⟩
        · exact ⟨v2, rf1, Or.inr (Or.inl ⟨v0, by omega, rfl, FC7⟩)⟩ -- o23 e3.1
        · exact fun _ => asM_y AS T7 mr2.1 -- o24 e3.2
  · skip
    try simp (disch := omega) only [jst_eq, jst_ne, jst_ni, jI_i, jcmp_lt, jcmp_gt, w32_id, jcpy_out, Sum.elim_inl, Sum.elim_inr, jt2, jt3, jt4, jt5, jt6, jt7, jt8] at c1
    refine OK_some ?_
    try dsimp only [Sum.elim_inl, Sum.elim_inr, jt2, jt3, jt4, jt5, jt6, jt7, jt8]
    try dsimp only [Sum.elim_inl, Sum.elim_inr, jt2, jt3, jt4, jt5, jt6, jt7, jt8]
    refine ⟨?_, ?_⟩
    · exact ⟨v2, rf1, Or.inl ⟨by omega, rfl, s1⟩⟩ -- o25 e4.1
    · exact s2 -- o26 e4.2

