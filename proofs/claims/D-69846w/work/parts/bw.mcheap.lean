/-! m: a told term of the ask is read; what it answers -/
def epM (h : AH) (E : EV) (Rf : Int → TR) (W : Int → Int → Int → VW) (K : AK) (tp : Int) (EP : EV) : Prop := (h 454 38 = 0 ∧ EP = EPn E 0 (fun _ => 0)) ∨ (h 454 38 ≠ 0 ∧ akM h E Rf W K tp ∧ EP = EPn E (kA K).1 (kA K).2.1)
theorem vRM (a1 : Int) {h : AH} {B : Int → Int} {n : Int} {sk : Bool} {E EP : EV} {Rf : Int → TR} {W : Int → Int → Int → VW} {K : AK} {tp : Int} (hB : ∀ i, 0 ≤ i → i < n → 0 ≤ B i ∧ B i < 256) (t : TM B n h) (hs : a1 = if sk = true then 1 else 0) (om : ownsM h E Rf) (l0 : E.2.2.1 = 0) (ar : arN h) (ep : epM h E Rf W K tp EP) : OK (gX14_readTerm a1 1 h) (fun r => jt3 r fun t v h' => resR B n EP (bdT (beg B n) (pT B n sk 13)) t v h' ∧ frR h h') := by
  rcases ep with ⟨p1, p2⟩ | ⟨p1, p2, p3⟩
  · subst p2
    exact vX14_readTerm a1 1 (B := B) (n := n) (sk := sk) (E := EPn E 0 (fun _ => 0)) (Rf := Rf) hB t hs om.1 om.2.2.2.2 om.2.2.1 l0 (fun _ => rfl) (fun _ y => absurd p1 y)
  · subst p3
    have C := akM_0 p2
    have pk := C.2.1.1
    have kk := C.2.1.2.1
    have va := C.2.2.2.2.2.2.1
    have x : h 454 38 = 476 ∨ h 454 38 = 615 := pk.1
    have L := (ar.2 (h 454 38) x).1
    exact vX14_readTerm a1 1 (B := B) (n := n) (sk := sk) (E := EPn E (kA K).1 (kA K).2.1) (Rf := Rf) hB t hs om.1 om.2.2.2.2 om.2.2.1 l0 (fun y => absurd y (by omega)) (fun _ _ => ⟨pk.1, pk.2.1.symm, by have := pk.2.1; have := pk.2.2.1; omega, by have := pk.2.1; have := pk.2.2.2.1; omega, L.1, L.2, fun k k0 k1 => ⟨rfl, kk k k0 (by have := pk.2.1; omega), by have := va.1 k k0 (by have := pk.2.1; omega); show -1 ≤ (kA K).2.1 k; omega, by have := va.1 k k0 (by have := pk.2.1; omega); show (kA K).2.1 k ≤ 2; omega⟩⟩)
/-- m: a term's answers -/
theorem vFN (a1 : Int) {h : AH} {E : EV} {Rf : Int → TR} {W : Int → Int → Int → VW} {K : AK} {tp : Int} {R : TR} (ak : akM h E Rf W K tp) (t : resM h R a1 0) (ty : tyT E (kA K).1 (kA K).2.1 R 0) (nh : nhT R) (dk : dpE E.1.2.2.2.1 R ≤ 99) : OK (gX14_function a1 (-1) 0 h) (fun h' => (∀ k, 0 ≤ k → k < kP K → h' 754 k = evQ W K (fun _ => 0) R k) ∧ fr754 (kP K) h h' ∧ akM h' E Rf W K tp) := by
  have C := akM_0 ak
  have l : E.2.2.1 ≠ 1 := by rw [C.1.2.2.2]; decide
  refine OK_mono (vX14_function a1 (-1) 0 (E := E) (Rf := Rf) (W := W) (f := fun _ _ _ => 0) (n := (kA K).1) (pts := kP K) (kf := (kA K).2.1) (hl := fun _ => 0) (rw := fun _ => 0) (pv := (kA K).2.2.1) (Rk := fun _ => R) C.2.1.1 (seM_en (akM_s ak) _) (fun _ _ => rfl) (fun z => absurd rfl z) (fun k k0 k1 => ⟨resM_vw t nh (Int.le_refl 0), ty, tyT_ns l ty, dk⟩) (fun c c0 c1 => by decide) ak.2.2) (fun h' p => ⟨p.1, p.2.1, akM_n ak (fun a s y => by unfold mA at y; exact p.2.1 a s (by omega) (by omega)) ⟨p.2.2.1, p.2.2.2⟩⟩)
theorem akM_pp {h : AH} {E : EV} {Rf : Int → TR} {W : Int → Int → Int → VW} {K : AK} {tp : Int} (ak : akM h E Rf W K tp) : pp9 (kA K) := fun k k0 k1 => ((akM_0 ak).2.2.2.2.2.2.1.2.2 k k0 k1).1
/-- what looking and finding change: m -/
def fMf (h h' : AH) : Prop := ∀ a s, ¬ (a = 454 ∧ (s = 17 ∨ (19 ≤ s ∧ s ≤ 22) ∨ s = 40 ∨ s = 51 ∨ s = 56 ∨ s = 58 ∨ s = 60 ∨ s = 62)) → ¬ (460 ≤ a ∧ a ≤ 469 ∧ a ≠ 464 ∧ 7600 ≤ s ∧ s < 8800) → ¬ (a = 464 ∧ 22800 ≤ s ∧ s < 26400) → ¬ (a = 471 ∧ 0 ≤ s) → ¬ (476 ≤ a ∧ a ≤ 754 ∧ 0 ≤ s) → ¬ (791 ≤ a ∧ a ≤ 793 ∧ 0 ≤ s) → h' a s = h a s
theorem fMf_r (h : AH) : fMf h h := fun _ _ _ _ _ _ _ _ => rfl
theorem fMf_t {h h1 h2 : AH} (x : fMf h h1) (y : fMf h1 h2) : fMf h h2 := fun a s z1 z2 z3 z4 z5 z6 => (y a s z1 z2 z3 z4 z5 z6).trans (x a s z1 z2 z3 z4 z5 z6)
theorem fV_Mf {h h' : AH} (f : fV h h') : fMf h h' := fun a s y1 y2 y3 y4 y5 y6 => f a s (by omega) (by omega) (by omega) (by omega) (by omega) (by omega)
theorem fN_Mf {X : Int} {h h' : AH} (x : X = 476 ∨ X = 615) (f : fN X h h') : fMf h h' := fun a s y1 y2 y3 y4 y5 y6 => fN_O x f a s (by omega) (by omega) (by omega) (by omega) (by omega)
theorem f754_Mf {pts : Int} {h h' : AH} (f : fr754 pts h h') : fMf h h' := fun a s y1 y2 y3 y4 y5 y6 => f a s (by omega) (by omega)
/-- looking alone: what was found last stays -/
def fMl (h h' : AH) : Prop := ∀ a s, ¬ (a = 454 ∧ (s = 17 ∨ s = 20 ∨ s = 21 ∨ s = 22 ∨ s = 40 ∨ s = 51)) → ¬ (460 ≤ a ∧ a ≤ 469 ∧ a ≠ 464 ∧ 8500 ≤ s ∧ s < 8800) → ¬ (a = 464 ∧ 25500 ≤ s ∧ s < 26400) → ¬ (476 ≤ a ∧ a ≤ 754 ∧ 0 ≤ s) → h' a s = h a s
theorem fO_l {h h' : AH} (f : fO h h') : fMl h h' := fun a s y1 y2 y3 y4 => f a s y1 y2 y3 (by omega) (by omega)
theorem vX14_cheaper_j51 (a1 : Int) (t0 : Int) {h : AH} {E : EV} {Rf : Int → TR} {W : Int → Int → Int → VW} {K : AK} {tp : Int} {R : TR} (z : 0 ≤ t0) (rs : t0 ≠ 0 → asM h E Rf W K tp ∧ (∀ a, 0 ≤ a → a < E.1.1 → 0 ≤ E.1.2.1 a ∧ E.1.2.1 a < 282429536481) ∧ resQ h (rgN 4400 1100) R a1 0 ∧ tyT E (kA K).1 (kA K).2.1 R 0 ∧ nhT R ∧ dpE E.1.2.2.2.1 R ≤ 40 ∧ dpT R ≤ 39 ∧ t0 = cosT (kA K) R ∧ h 454 66 = kch (inf R).2.2.1) : OK (gX14_cheaper_j51 a1 t0 h) (fun r => jt2 r fun v h' => (t0 = 0 → v = -2 ∧ h' = h) ∧ (t0 ≠ 0 → ∃ y, chR E W K R v y ∧ (0 ≤ y → fdL h' E W K (chT E W K R)) ∧ (y < 0 → fMl h h') ∧ fMf h h' ∧ asM h' E Rf W K tp)) := by
  unfold gX14_cheaper_j51
  refine OK_if (fun c1 => ?_) (fun c1 => ?_)
  · skip
    try simp (disch := omega) only [jst_eq, jst_ne, jst_ni, jI_i, jcmp_lt, jcmp_gt, w32_id, jcpy_out, Sum.elim_inl, Sum.elim_inr, jt2, jt3, jt4, jt5, jt6, jt7, jt8] at c1
    refine OK_some ?_
    try dsimp only [Sum.elim_inl, Sum.elim_inr, jt2, jt3, jt4, jt5, jt6, jt7, jt8]
    try dsimp only [Sum.elim_inl, Sum.elim_inr, jt2, jt3, jt4, jt5, jt6, jt7, jt8]
    refine ⟨?_, ?_⟩
    · exact fun _ => ⟨rfl, rfl⟩ -- o1 e1.1
    · exact fun y => absurd c1 y -- o2 e1.2
  · skip
    try simp (disch := omega) only [jst_eq, jst_ne, jst_ni, jI_i, jcmp_lt, jcmp_gt, w32_id, jcpy_out, Sum.elim_inl, Sum.elim_inr, jt2, jt3, jt4, jt5, jt6, jt7, jt8] at c1
    obtain ⟨⟨AKh, d, f0, gs⟩, cA, RM, TY, NH, DE, DT, CO, K66⟩ := rs c1
    have C0 := akM_0 AKh
    have X0 : h 454 38 = 476 ∨ h 454 38 = 615 := C0.1.1
    have VK := C0.2.2.2.2.2.2.1
    have l0 : E.2.2.1 ≠ 1 := by { rw [C0.1.2.2.2]; decide }
    refine OK_if (fun c2 => ?_) (fun c2 => ?_)
    · skip
      try simp (disch := omega) only [jst_eq, jst_ne, jst_ni, jI_i, jcmp_lt, jcmp_gt, w32_id, jcpy_out, Sum.elim_inl, Sum.elim_inr, jt2, jt3, jt4, jt5, jt6, jt7, jt8] at c2
      refine OK_jb2 (vX14_reaches (E := E) (Rf := Rf) (W := W) (A := kA K) (pts := kP K) (tp := tp) (d := d) (fl := f0) _ (by exact akM_s AKh) (by exact VK) (by omega) (by exact gs)) (fun v29 h30 r1 => ?_)
      try dsimp only [Sum.elim_inl, Sum.elim_inr, jt2, jt3, jt4, jt5, jt6, jt7, jt8] at r1
      obtain ⟨gr1, fr1, sm1⟩ := r1
      try simp (disch := omega) only [jst_eq, jst_ne, jst_ni, jI_i, jcmp_lt, jcmp_gt, w32_id, jcpy_out, Sum.elim_inl, Sum.elim_inr, jt2, jt3, jt4, jt5, jt6, jt7, jt8] at gr1
      try simp (disch := omega) only [jst_eq, jst_ne, jst_ni, jI_i, jcmp_lt, jcmp_gt, w32_id, jcpy_out, Sum.elim_inl, Sum.elim_inr, jt2, jt3, jt4, jt5, jt6, jt7, jt8] at fr1
      try simp (disch := omega) only [jst_eq, jst_ne, jst_ni, jI_i, jcmp_lt, jcmp_gt, w32_id, jcpy_out, Sum.elim_inl, Sum.elim_inr, jt2, jt3, jt4, jt5, jt6, jt7, jt8] at sm1
      obtain ⟨e, f1, g1, g2, g3⟩ := gr1
      have AK30 := akM_n AKh (fN_A X0 fr1) sm1.2.1
      have ep : ((t0.toNat : Nat) : Int) = t0 := by omega
      rw [← ep] at g1
      have LV8 := rch_lv g2.1 g1
      have F30 := fN_Mf X0 fr1
      refine OK_if (fun c3 => ?_) (fun c3 => ?_)
      · skip
        try simp (disch := omega) only [jst_eq, jst_ne, jst_ni, jI_i, jcmp_lt, jcmp_gt, w32_id, jcpy_out, Sum.elim_inl, Sum.elim_inr, jt2, jt3, jt4, jt5, jt6, jt7, jt8] at c3
        refine OK_some ?_
        try dsimp only [Sum.elim_inl, Sum.elim_inr, jt2, jt3, jt4, jt5, jt6, jt7, jt8]
        try dsimp only [Sum.elim_inl, Sum.elim_inr, jt2, jt3, jt4, jt5, jt6, jt7, jt8]
        refine ⟨?_, ?_⟩
        · exact fun y => absurd y c1 -- o7 e2.1
        · (intro _; exact ⟨-1, .inr (.inl ⟨by omega, by (rw [← CO]; exact fun y => by have := LV8.2 y; omega), rfl, rfl⟩), fun w => by omega, fun _ => fO_l (fN_O X0 fr1), F30, AK30, e, f1, g2⟩) -- o8 e2.2
      · skip
        try simp (disch := omega) only [jst_eq, jst_ne, jst_ni, jI_i, jcmp_lt, jcmp_gt, w32_id, jcpy_out, Sum.elim_inl, Sum.elim_inr, jt2, jt3, jt4, jt5, jt6, jt7, jt8] at c3
        have LVp : lvK E W (kP K) (kA K) t0.toNat := LV8.1 (by omega)
        obtain ⟨T, mt⟩ := GSm_T (p := t0.toNat) (akM_0 AK30) g2 (by omega)
        have C30 := akM_0 AK30
        have X30 : h30 454 38 = 476 ∨ h30 454 38 = 615 := C30.1.1
        have RM30 : resM h30 R a1 0 := resQ_M (resQ_fr (fun a s a0 a1' a2 q => by unfold rgN at q; exact F30 a s (by omega) (by omega) (by omega) (by omega) (by omega) (by omega)) (fun s j q j0 j1 => by unfold rgN at q; exact F30 _ _ (by omega) (by omega) (by omega) (by omega) (by omega) (by omega)) RM)
        have HAS : hasT (kP K) (LV E W (kP K) (kA K) t0.toNat) (inf R).2.2.1 (evQ W K (fun _ => 0) R) := ch_has C0.1.2.1.2.1 VK C0.2.1.2.2.1.2.1 (fun m lm => GT_LV (ppA_V VK) (by have := C0.2.1.1.2.2.1; omega) C0.2.1.2.2.1.2.1 (eoA_V C0.1.2.1.2.1 VK) m (fun j lj => LVp j (by omega))) TY (ty_pl l0 TY NH) DT (by omega)
        refine OK_jb (vFN a1 AK30 RM30 TY NH (by omega)) (fun h33 r2 => ?_)
        obtain ⟨ev33, fr33, ak33⟩ := r2
        have C33 := akM_0 ak33
        have X33 : h33 454 38 = 476 ∨ h33 454 38 = 615 := C33.1.1
        have F33 : fMl h30 h33 := fun a s y1 y2 y3 y4 => fr33 a s (by omega) (by omega)
        have MT33 := MT_g mt C30.2.2.1.2 (fun a s y => by unfold tA at y; exact fr33 a s (by omega) (by omega))
        have IX := ixT_h HAS
        have K33 : h33 454 66 = kch (inf R).2.2.1 := by { rw [fr33 _ _ (by omega) (by omega), F30 _ _ (by omega) (by omega) (by omega) (by omega) (by omega) (by omega)]; exact K66 }
        have tk : 0 ≤ (inf R).2.2.1 ∧ (inf R).2.2.1 ≤ 2 := ⟨(tyT_nd TY).1, (tyT_nd TY).2.1⟩
        have N33 : h33 (h33 454 38) 20 = T.1 := MT33.2.1
        refine OK_jg (by (first | assumption | omega | ((try dsimp only [jt2, jt3, jt4]); first | omega | (simp (disch := omega) only [jst_eq, jst_ne, jst_ni, jst_o, jI_i, jcpy_out, w32_id, jdiv_nn, jshr_k, jand_255] <;> first | done | omega | assumption)) | (intros; simp (disch := omega) only [jst_eq, jst_ne, jst_ni, jst_o, jI_i, jcpy_out, w32_id, jdiv_nn, *] <;> first | done | omega) | (intros; simp (disch := omega) only [jst_eq, jst_ne, jst_ni, jst_o, jI_i, jcpy_out, w32_id, jdiv_nn] at * <;> first | done | omega | assumption) | (intros; first | rfl | (exfalso; omega) | ((repeat' apply And.intro) <;> first | assumption | rfl | omega | trivial)))) ?_ -- o9
        refine OK_jb (vIX (E := E) (Rf := Rf) (W := W) (K := K) (tp := tp) (k := (inf R).2.2.1) (p := t0.toNat) (T := T) (u := evQ W K (fun _ => 0) R) _ _ (by exact MT33) (by exact ev33) (by exact ⟨K33, N33, tk⟩) (by exact HAS)) (fun v35 r3 => ?_)
        try dsimp only [Sum.elim_inl, Sum.elim_inr, jt2, jt3, jt4, jt5, jt6, jt7, jt8] at r3
        have ix2 := r3
        clear r3
        try simp (disch := omega) only [jst_eq, jst_ne, jst_ni, jI_i, jcmp_lt, jcmp_gt, w32_id, jcpy_out, Sum.elim_inl, Sum.elim_inr, jt2, jt3, jt4, jt5, jt6, jt7, jt8] at ix2
        have AT := MT_at MT33 (a := v35) (by omega) (by omega)
        have n120 := MT33.2.2.2.2.1
        have nd35 := (MT33.1.2.1.2.2.2.2.2.2 v35 (by omega) AT.1).2.2.1
        have EC : cosT (kA K) R = t0 := CO.symm
        have IR : v35 = ixR E W K R := by { rw [ix2]; unfold ixR; rw [EC] }
        refine OK_jg (by (first | assumption | omega | ((try dsimp only [jt2, jt3, jt4]); first | omega | (simp (disch := omega) only [jst_eq, jst_ne, jst_ni, jst_o, jI_i, jcpy_out, w32_id, jdiv_nn, jshr_k, jand_255] <;> first | done | omega | assumption)) | (intros; simp (disch := omega) only [jst_eq, jst_ne, jst_ni, jst_o, jI_i, jcpy_out, w32_id, jdiv_nn, *] <;> first | done | omega) | (intros; simp (disch := omega) only [jst_eq, jst_ne, jst_ni, jst_o, jI_i, jcpy_out, w32_id, jdiv_nn] at * <;> first | done | omega | assumption) | (intros; first | rfl | (exfalso; omega) | ((repeat' apply And.intro) <;> first | assumption | rfl | omega | trivial)))) ?_ -- o14
        refine OK_jb (vTL _ (a := v35) (E := E) (Rf := Rf) (W := W) (K := K) (tp := tp) (p := t0.toNat) (T := T) ak33 MT33 (by omega) cA ⟨by omega, by omega⟩ nd35) (fun h37 r4 => ?_)
        obtain ⟨fd37, fr37, ak37⟩ := r4
        have C37 := akM_0 ak37
        have X37 : h37 454 38 = 476 ∨ h37 454 38 = 615 := C37.1.1
        have MT37 := MT_g MT33 C30.2.2.1.2 (fV_A fr37).2
        have w37 := (MT37.1.2.1.2.2.2.2.2.2 v35 (by omega) AT.1).2.1
        refine OK_jg (by (first | assumption | omega | ((try dsimp only [jt2, jt3, jt4]); first | omega | (simp (disch := omega) only [jst_eq, jst_ne, jst_ni, jst_o, jI_i, jcpy_out, w32_id, jdiv_nn, jshr_k, jand_255] <;> first | done | omega | assumption)) | (intros; simp (disch := omega) only [jst_eq, jst_ne, jst_ni, jst_o, jI_i, jcpy_out, w32_id, jdiv_nn, *] <;> first | done | omega) | (intros; simp (disch := omega) only [jst_eq, jst_ne, jst_ni, jst_o, jI_i, jcpy_out, w32_id, jdiv_nn] at * <;> first | done | omega | assumption) | (intros; first | rfl | (exfalso; omega) | ((repeat' apply And.intro) <;> first | assumption | rfl | omega | trivial)))) ?_ -- o15
        refine OK_some ?_
        try dsimp only [Sum.elim_inl, Sum.elim_inr, jt2, jt3, jt4, jt5, jt6, jt7, jt8]
        try dsimp only [Sum.elim_inl, Sum.elim_inr, jt2, jt3, jt4, jt5, jt6, jt7, jt8]
        refine ⟨?_, ?_⟩
        · exact fun y => absurd y c1 -- o16 e3.1
        · (intro _; refine ⟨v35, .inr (.inr ⟨by omega, by (rw [EC]; exact LVp), by omega, IR, by (rw [EC, ← AT.2.2.1]; exact w37)⟩), fun _ => ?_, fun w => by omega, fMf_t F30 (fMf_t (f754_Mf fr33) (fV_Mf fr37)), ak37, e, f1, ?_⟩; { unfold chT; rw [← IR, EC]; exact fd37 }; { exact GSm_g (GSm_g g2 C30.2.2.1.2 (fun a s y => by unfold tA at y; exact fr33 a s (by omega) (by omega))) C30.2.2.1.2 (fV_A fr37).2 }) -- o17 e3.2
    · skip
      try simp (disch := omega) only [jst_eq, jst_ne, jst_ni, jI_i, jcmp_lt, jcmp_gt, w32_id, jcpy_out, Sum.elim_inl, Sum.elim_inr, jt2, jt3, jt4, jt5, jt6, jt7, jt8] at c2
      refine OK_some ?_
      try dsimp only [Sum.elim_inl, Sum.elim_inr, jt2, jt3, jt4, jt5, jt6, jt7, jt8]
      try dsimp only [Sum.elim_inl, Sum.elim_inr, jt2, jt3, jt4, jt5, jt6, jt7, jt8]
      refine ⟨?_, ?_⟩
      · exact fun y => absurd y c1 -- o18 e4.1
      · (intro _; exact ⟨-1, .inl ⟨by omega, rfl, rfl⟩, fun w => by omega, fun _ => fun a s y1 y2 y3 y4 => rfl, fMf_r h, AKh, d, f0, gs⟩) -- o19 e4.2

