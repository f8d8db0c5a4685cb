/-! m: the i-th term of an act: operands one behind the other -/
def fdQ (E : EV) (W : Int → Int → Int → VW) (K : AK) (p D : Nat) (ac : Int) (w : Int → Int) (m : Nat) (k left : Int) (s : Int → Int) (g : Int → TR) (ik N top : Int) (hb h' : AH) (x9 x10 x11 x12 x13 u1 u2 u3 : Int) : Prop := ∃ r R1 f1 i1, (1 ≤ r ∧ r ≤ left) ∧ sumN (alW E W (kP K) (LV E W (kP K) (kA K) p) (ct E W (kP K) (kA K)) ac w m k left s) r.toNat ≤ ik ∧ ik < sumN (alW E W (kP K) (LV E W (kP K) (kA K) p) (ct E W (kP K) (kA K)) ac w m k left s) (r + 1).toNat ∧ (itR E W (kP K) (kA K) (LV E W (kP K) (kA K) p) (ct E W (kP K) (kA K)) (D + 1)) r (owW E W (kP K) (LV E W (kP K) (kA K) p) (ct E W (kP K) (kA K)) ac w m k left s r) (ik - sumN (alW E W (kP K) (LV E W (kP K) (kA K) p) (ct E W (kP K) (kA K)) ac w m k left s) r.toNat) R1 f1 i1 ∧ (x9 = left - r ∧ x10 = (if k = 0 then f1 else u1) ∧ x11 = (if k = 1 then f1 else u2) ∧ x12 = (if k = 2 then f1 else u3) ∧ x13 = i1) ∧ ivD N (ndT (eO E ac) (ndI E ac) (up1 g k R1)) (pm hb) (k + 1).toNat (pm h') ∧ h' 454 17 ≤ top + r
theorem vX14_operands_j332_129 {F : Int → Int → Int → Int → AH → Option (Int × AH)} (a1 : Int) (a3 : Int) (a6 : Int) (a7 : Int) (a8 : Int) (a9 : Int) (a11 : Int) (a12 : Int) (a13 : Int) (a15 : Int) (a16 : Int) (a18 : Int) (t0 : Int) {h : AH} (k : 0 ≤ a16 ∧ a16 ≤ 2 ∧ 0 ≤ a18 ∧ a18 ≤ a9 ∧ a9 ≤ 20) : OK (gX14_operands_j332_129 F a1 a3 a6 a7 a8 a9 a11 a12 a13 a15 a16 a18 t0 h) (Sum.elim (fun r => jt8 r fun y1 y2 y3 y4 y5 y6 y7 h' => (y1 = a9 - a18 ∧ y2 = t0 ∧ y3 = (if a16 = 1 then h 454 50 else a11) ∧ y4 = (if a16 = 2 then h 454 50 else a12) ∧ y5 = a13) ∧ y6 = 1 ∧ y7 = a18 + 1 ∧ h' = h) (fun r => jt6 r fun x1 x2 x3 x4 x5 h' => (0 : Int) = 1)) := by
  have w1 : w32 (a9 - a18) = a9 - a18 := w32_id (by omega) (by omega)
  have w2 : w32 (a18 + 1) = a18 + 1 := w32_id (by omega) (by omega)
  unfold gX14_operands_j332_129
  refine OK_if (fun c1 => ?_) (fun c1 => ?_)
  · skip
    try simp (disch := omega) only [jst_eq, jst_ne, jst_ni, jI_i, jcmp_lt, jcmp_gt, w32_id, jcpy_out, Sum.elim_inl, Sum.elim_inr, jt2, jt3, jt4, jt5, jt6, jt7, jt8] at c1
    unfold gX14_operands_j349_129
    refine OK_if (fun c2 => ?_) (fun c2 => ?_)
    · skip
      try simp (disch := omega) only [jst_eq, jst_ne, jst_ni, jI_i, jcmp_lt, jcmp_gt, w32_id, jcpy_out, Sum.elim_inl, Sum.elim_inr, jt2, jt3, jt4, jt5, jt6, jt7, jt8] at c2
      exfalso
      omega
    · skip
      try simp (disch := omega) only [jst_eq, jst_ne, jst_ni, jI_i, jcmp_lt, jcmp_gt, w32_id, jcpy_out, Sum.elim_inl, Sum.elim_inr, jt2, jt3, jt4, jt5, jt6, jt7, jt8] at c2
      unfold gX14_operands_j366_129
      refine OK_jlx (fun x51 ex51 => ?_)
      try simp (disch := omega) only [jst_eq, jst_ne, jst_ni, jI_i, jcmp_lt, jcmp_gt, w32_id, jcpy_out, Sum.elim_inl, Sum.elim_inr, jt2, jt3, jt4, jt5, jt6, jt7, jt8] at ex51
      unfold gX14_operands_j378_129
      refine OK_jlx (fun x52 ex52 => ?_)
      try simp (disch := omega) only [jst_eq, jst_ne, jst_ni, jI_i, jcmp_lt, jcmp_gt, w32_id, jcpy_out, Sum.elim_inl, Sum.elim_inr, jt2, jt3, jt4, jt5, jt6, jt7, jt8] at ex52
      refine OK_some ?_
      try dsimp only [Sum.elim_inl, Sum.elim_inr, jt2, jt3, jt4, jt5, jt6, jt7, jt8]
      exact ⟨⟨by omega, rfl, (if_pos c1).symm, (if_neg (by omega)).symm, rfl⟩, rfl, by omega, rfl⟩ -- o1 e1
  · skip
    try simp (disch := omega) only [jst_eq, jst_ne, jst_ni, jI_i, jcmp_lt, jcmp_gt, w32_id, jcpy_out, Sum.elim_inl, Sum.elim_inr, jt2, jt3, jt4, jt5, jt6, jt7, jt8] at c1
    unfold gX14_operands_j349_129
    refine OK_if (fun c3 => ?_) (fun c3 => ?_)
    · skip
      try simp (disch := omega) only [jst_eq, jst_ne, jst_ni, jI_i, jcmp_lt, jcmp_gt, w32_id, jcpy_out, Sum.elim_inl, Sum.elim_inr, jt2, jt3, jt4, jt5, jt6, jt7, jt8] at c3
      unfold gX14_operands_j366_129
      refine OK_jlx (fun x51 ex51 => ?_)
      try simp (disch := omega) only [jst_eq, jst_ne, jst_ni, jI_i, jcmp_lt, jcmp_gt, w32_id, jcpy_out, Sum.elim_inl, Sum.elim_inr, jt2, jt3, jt4, jt5, jt6, jt7, jt8] at ex51
      unfold gX14_operands_j378_129
      refine OK_jlx (fun x52 ex52 => ?_)
      try simp (disch := omega) only [jst_eq, jst_ne, jst_ni, jI_i, jcmp_lt, jcmp_gt, w32_id, jcpy_out, Sum.elim_inl, Sum.elim_inr, jt2, jt3, jt4, jt5, jt6, jt7, jt8] at ex52
      refine OK_some ?_
      try dsimp only [Sum.elim_inl, Sum.elim_inr, jt2, jt3, jt4, jt5, jt6, jt7, jt8]
      exact ⟨⟨by omega, rfl, (if_neg c1).symm, (if_pos c3).symm, rfl⟩, rfl, by omega, rfl⟩ -- o2 e2
    · skip
      try simp (disch := omega) only [jst_eq, jst_ne, jst_ni, jI_i, jcmp_lt, jcmp_gt, w32_id, jcpy_out, Sum.elim_inl, Sum.elim_inr, jt2, jt3, jt4, jt5, jt6, jt7, jt8] at c3
      unfold gX14_operands_j366_129
      refine OK_jlx (fun x51 ex51 => ?_)
      try simp (disch := omega) only [jst_eq, jst_ne, jst_ni, jI_i, jcmp_lt, jcmp_gt, w32_id, jcpy_out, Sum.elim_inl, Sum.elim_inr, jt2, jt3, jt4, jt5, jt6, jt7, jt8] at ex51
      unfold gX14_operands_j378_129
      refine OK_jlx (fun x52 ex52 => ?_)
      try simp (disch := omega) only [jst_eq, jst_ne, jst_ni, jI_i, jcmp_lt, jcmp_gt, w32_id, jcpy_out, Sum.elim_inl, Sum.elim_inr, jt2, jt3, jt4, jt5, jt6, jt7, jt8] at ex52
      refine OK_some ?_
      try dsimp only [Sum.elim_inl, Sum.elim_inr, jt2, jt3, jt4, jt5, jt6, jt7, jt8]
      exact ⟨⟨by omega, rfl, (if_neg c1).symm, (if_neg c3).symm, rfl⟩, rfl, by omega, rfl⟩ -- o3 e3
theorem vX14_operands_l129 {F : Int → Int → Int → Int → AH → Option (Int × AH)} (i1 : Int) (i3 : Int) (i6 : Int) (i7 : Int) (i8 : Int) (i15 : Int) (i16 : Int) (a90 : Int) (a100 : Int) (a110 : Int) (a120 : Int) (a130 : Int) (a170 : Int) (a180 : Int) {h0 : AH} {E : EV} {Rf : Int → TR} {W : Int → Int → Int → VW} {K : AK} {tp : Int} {p m D : Nat} {T : TB} {w sg : Int → Int} {g : Int → TR} {used ik d N : Int} {hb : AH} (hF : ITM E Rf W K tp p T F D) (mr : MR h0 E Rf W K tp p T ((p : Int) + 1)) (tq : tqM E W K p p) (ia : (0 ≤ i1 ∧ i1 < (kA K).2.2.2.1) ∧ (kA K).2.2.2.2.1 i1 = i6 ∧ 0 ≤ i6 ∧ i6 < E.1.1) (io : i7 = eO E i6 ∧ 0 ≤ i16 ∧ (m : Int) = i7 - i16 - 1 ∧ i7 ≤ 3) (op : opS E W (kP K) (kA K) p i6 i16 used sg ∧ sg 0 = a100 ∧ sg 1 = a110 ∧ sg 2 = a120) (pr : (kA K).2.2.2.2.2.2.2 i1 + used + a90 ≤ p ∧ 0 ≤ used ∧ 1 ≤ a90 ∧ a90 ≤ D + 1) (rx : rowM h0 i3 w (LV E W (kP K) (kA K) p).1 ∧ wBd w ∧ i3 < 770 + d ∧ i15 = 770 + d ∧ 1 ≤ d ∧ d + a90 ≤ 16) (st : h0 454 43 = d + 1 ∧ lnW h0 ∧ i8 = N ∧ ivD N (ndT (eO E i6) (ndI E i6) g) (pm hb) i16.toNat (pm h0) ∧ (8200 ≤ N ∧ N < h0 454 17 ∧ h0 454 17 ≤ N + 1 + used ∧ N + 1 + used + a90 ≤ 8500)) (ps : a130 = ik ∧ 0 ≤ ik ∧ ik < (rsW E W (kP K) (LV E W (kP K) (kA K) p) (ct E W (kP K) (kA K)) i6 w (m + 1) i16 a90 sg) ∧ (rsW E W (kP K) (LV E W (kP K) (kA K) p) (ct E W (kP K) (kA K)) i6 w (m + 1) i16 a90 sg) < 9223372036854775808) (z : a170 = 0 ∧ ((m ≠ 0 ∧ a180 = 1) ∨ (m = 0 ∧ a180 = a90))) : OK (gX14_operands_l129 F i1 i3 i6 i7 i8 i15 i16 a90 a100 a110 a120 a130 a170 a180 h0) (fun r => jt6 r fun y9 y10 y11 y12 y13 h' => (fdQ E W K p D i6 w m i16 a90 sg g ik N (N + 1 + used) hb h' y9 y10 y11 y12 y13 a100 a110 a120) ∧ (MR h' E Rf W K tp p T ((p : Int) + 1)) ∧ (fMo d h0 h' ∧ h' 454 43 = d + 1)) := by
  unfold gX14_operands_l129
  refine OK_jit (I := (fun (s : Int × Int × Int × Int × Int × Int × Int × AH) => jt8 s fun a9 a10 a11 a12 a13 a17 a18 h => (1 ≤ a18) ∧ (lnO a17 ((a9 = a90 ∧ a10 = a100 ∧ a11 = a110 ∧ a12 = a120) ∧ a18 ≤ a90 + 1 ∧ sumN (alW E W (kP K) (LV E W (kP K) (kA K) p) (ct E W (kP K) (kA K)) i6 w m i16 a90 sg) a18.toNat ≤ ik ∧ a13 = ik - sumN (alW E W (kP K) (LV E W (kP K) (kA K) p) (ct E W (kP K) (kA K)) i6 w m i16 a90 sg) a18.toNat ∧ pm h = pm h0) (fdQ E W K p D i6 w m i16 a90 sg g ik N (N + 1 + used) hb h a9 a10 a11 a12 a13 a100 a110 a120)) ∧ (MR h E Rf W K tp p T ((p : Int) + 1)) ∧ (fMo d h0 h ∧ h 454 43 = d + 1))) (m := (fun (s : Int × Int × Int × Int × Int × Int × Int × AH) => jt8 s fun a9 a10 a11 a12 a13 a17 a18 h => (a90 + 1 - a18).toNat)) ?_ ?_
  · intro s hs
    obtain ⟨a9, a10, a11, a12, a13, a17, a18, h⟩ := s
    dsimp only [Sum.elim_inl, Sum.elim_inr, jt2, jt3, jt4, jt5, jt6, jt7, jt8] at hs
    obtain ⟨q0, iv, ms, fr⟩ := hs
    unfold gX14_operands_b129
    refine OK_jt8 ?_
    have n12 := tq.1.1.1
    have pp := (tq.1.1.2.2.2.1.2.2 i1 ia.1.1 ia.1.2).1
    have w0 : ∀ f, 0 ≤ w f := fun f => (rx.2.1 f).1
    have LW := lnW_o st.2.1 fr.1 (by omega)
    have RX := rowM_o rx.1 fr.1 rx.2.2.1
    refine OK_if (fun c1 => ?_) (fun c1 => ?_)
    · skip
      try simp (disch := omega) only [jst_eq, jst_ne, jst_ni, jI_i, jcmp_lt, jcmp_gt, w32_id, jcpy_out, Sum.elim_inl, Sum.elim_inr, jt2, jt3, jt4, jt5, jt6, jt7, jt8] at c1
      refine OK_ir ?_
      try dsimp only [Sum.elim_inl, Sum.elim_inr, jt2, jt3, jt4, jt5, jt6, jt7, jt8]
      refine ⟨?_, ?_, ?_⟩
      · (rcases iv with y | y; { exfalso; have y1 := y.2.1.1; have y2 := y.2.2.1; have e := al_sum (E := E) (W := W) (pts := kP K) (A := kA K) (T := (LV E W (kP K) (kA K) p)) (ac := i6) (w := w) (m := m) (k := i16) (left := a90) (r := a18) (s := sg) (by omega) y2 (fun j j0 j1 => by omega); have y3 := y.2.2.2.1; rw [e] at y3; omega }; { exact y.2 }) -- o1 e1.1
      · exact ms -- o2 e1.2
      · exact fr -- o3 e1.3
    · skip
      try simp (disch := omega) only [jst_eq, jst_ne, jst_ni, jI_i, jcmp_lt, jcmp_gt, w32_id, jcpy_out, Sum.elim_inl, Sum.elim_inr, jt2, jt3, jt4, jt5, jt6, jt7, jt8] at c1
      refine OK_if (fun c2 => ?_) (fun c2 => ?_)
      · skip
        try simp (disch := omega) only [jst_eq, jst_ne, jst_ni, jI_i, jcmp_lt, jcmp_gt, w32_id, jcpy_out, Sum.elim_inl, Sum.elim_inr, jt2, jt3, jt4, jt5, jt6, jt7, jt8] at c2
        have Y := (Or.resolve_right iv (fun y => by (have := y.1; omega))).2
        obtain ⟨⟨f9, f10, f11, f12⟩, Y1, Y2, Y3, Y5⟩ := Y
        try rw [f9]
        try rw [f10]
        try rw [f11]
        try rw [f12]
        have AB := al_rs (E := E) (W := W) (pts := kP K) (A := kA K) (T := (LV E W (kP K) (kA K) p)) (ac := i6) (m := m) (k := i16) (left := a90) (r := a18) (s := sg) w0 (by omega)
        have A0 := alT_0 (E := E) (W := W) (pts := kP K) (L := (LV E W (kP K) (kA K) p)) (ac := i6) (m := m) (k := i16) (left := a90) (r := a18) (s := sg) (c := (ct E W (kP K) (kA K))) ct_0 w0
        have S0 : 0 ≤ sumN (alW E W (kP K) (LV E W (kP K) (kA K) p) (ct E W (kP K) (kA K)) i6 w m i16 a90 sg) a18.toNat := sumN_n (fun j _ => alT_0 ct_0 w0) _
        have SS := sumN_s (g := (alW E W (kP K) (LV E W (kP K) (kA K) p) (ct E W (kP K) (kA K)) i6 w m i16 a90 sg)) (a := a18) (by omega)
        refine OK_jb (vX14_operands_l147 (E := E) (Rf := Rf) (W := W) (K := K) (tp := tp) (p := p) (T := T) (m := m) (w := w) (sg := sg) (used := used) (d := d) _ _ _ _ _ _ _ _ _ _ _ _ _ _ _ _ (by exact ms) (by exact tq) (by exact ia) (by exact io) (by exact op) (by omega) (by exact ⟨RX, rx.2.1, rx.2.2.1, rx.2.2.2.1, rx.2.2.2.2.1, by omega⟩) (by exact LW) (by omega) (by exact ⟨rfl, rfl⟩)) (fun o37 r1 => ?_)
        obtain ⟨y39, h40⟩ := o37
        refine OK_jt2 ?_
        try dsimp only [Sum.elim_inl, Sum.elim_inr, jt2, jt3, jt4, jt5, jt6, jt7, jt8] at r1
        obtain ⟨vv1, sr1, mr1, fs1⟩ := r1
        try simp (disch := omega) only [jst_eq, jst_ne, jst_ni, jI_i, jcmp_lt, jcmp_gt, w32_id, jcpy_out, Sum.elim_inl, Sum.elim_inr, jt2, jt3, jt4, jt5, jt6, jt7, jt8] at vv1
        try simp (disch := omega) only [jst_eq, jst_ne, jst_ni, jI_i, jcmp_lt, jcmp_gt, w32_id, jcpy_out, Sum.elim_inl, Sum.elim_inr, jt2, jt3, jt4, jt5, jt6, jt7, jt8] at sr1
        try simp (disch := omega) only [jst_eq, jst_ne, jst_ni, jI_i, jcmp_lt, jcmp_gt, w32_id, jcpy_out, Sum.elim_inl, Sum.elim_inr, jt2, jt3, jt4, jt5, jt6, jt7, jt8] at mr1
        try simp (disch := omega) only [jst_eq, jst_ne, jst_ni, jI_i, jcmp_lt, jcmp_gt, w32_id, jcpy_out, Sum.elim_inl, Sum.elim_inr, jt2, jt3, jt4, jt5, jt6, jt7, jt8] at fs1
        have Y39 : y39 = (alW E W (kP K) (LV E W (kP K) (kA K) p) (ct E W (kP K) (kA K)) i6 w m i16 a90 sg) a18 := (show y39 = _ from vv1).trans (w64_id (by omega) (by omega))
        have FO40 := fRw_o fs1 (by omega)
        have PM40 : pm h40 = pm h0 := (fRw_pm fs1 (by omega)).trans Y5
        have L40 := lnW_o LW FO40 (by omega)
        have rl40 := L40 d (by omega) (by omega)
        have U40 : h40 454 43 = d + 1 := (fs1 _ _ (by omega) (by omega) (by omega) (by omega)).trans fr.2
        have N40 : h40 454 17 = h0 454 17 := by { have e : pm h40 454 17 = pm h0 454 17 := (by rw [PM40]); rw [pm_i (Or.inr ⟨rfl, rfl⟩), pm_i (Or.inr ⟨rfl, rfl⟩)] at e; exact e }
        have R40 : rowM h40 i15 (owW E W (kP K) (LV E W (kP K) (kA K) p) (ct E W (kP K) (kA K)) i6 w m i16 a90 sg a18) (LV E W (kP K) (kA K) p).1 := ⟨by omega, by (rw [rx.2.2.2.1]; exact rl40.2), sr1⟩
        have WB40 : wBd (owW E W (kP K) (LV E W (kP K) (kA K) p) (ct E W (kP K) (kA K)) i6 w m i16 a90 sg a18) := fun f => ⟨owT_0 ct_0 w0, fun f0 => by (by_cases y : f < (LV E W (kP K) (kA K) p).1; { have q := ow_le (E := E) (W := W) (pts := kP K) (ac := i6) (k := i16) (left := a90) (s := sg) (m := m) (r := a18) (c := (ct E W (kP K) (kA K))) (T := (LV E W (kP K) (kA K) p)) (f := f) ct_0 w0 ⟨f0, y⟩; omega }; { have z := ct_zT tq.1 (i := a18) (x := f) f0 (by omega) (Or.inl (by omega)); have q : owW E W (kP K) (LV E W (kP K) (kA K) p) (ct E W (kP K) (kA K)) i6 w m i16 a90 sg a18 f = 0 := cif_n (fun u => u.2 z); rw [q]; decide })⟩
        rw [Y39, Y3]
        refine OK_if (fun c3 => ?_) (fun c3 => ?_)
        · skip
          try simp (disch := omega) only [jst_eq, jst_ne, jst_ni, jI_i, jcmp_lt, jcmp_gt, w32_id, jcpy_out, Sum.elim_inl, Sum.elim_inr, jt2, jt3, jt4, jt5, jt6, jt7, jt8] at c3
          have c3w : ik - sumN (alW E W (kP K) (LV E W (kP K) (kA K) p) (ct E W (kP K) (kA K)) i6 w m i16 a90 sg) a18.toNat < (alW E W (kP K) (LV E W (kP K) (kA K) p) (ct E W (kP K) (kA K)) i6 w m i16 a90 sg) a18 := by first | exact c3 | exact jcmp_lt.1 c3
          refine OK_jb2 (vX14_search_ (E := E) (Rf := Rf) (W := W) (K := K) (tp := tp) (p := p) (T := T) (D := D) (w := owW E W (kP K) (LV E W (kP K) (kA K) p) (ct E W (kP K) (kA K)) i6 w m i16 a90 sg a18) (d := d + 1) (i := 0) _ _ _ (by exact hF) (by exact mr1) (by exact tq) (by omega) (by exact ⟨R40, WB40, by omega⟩) (by exact ⟨⟨U40, by omega, by omega⟩, L40, by omega, by omega⟩) (by exact ⟨by omega, c3w, (show (alW E W (kP K) (LV E W (kP K) (kA K) p) (ct E W (kP K) (kA K)) i6 w m i16 a90 sg) a18 < 9223372036854775808 by omega)⟩)) (fun v43 h44 r2 => ?_)
          try dsimp only [Sum.elim_inl, Sum.elim_inr, jt2, jt3, jt4, jt5, jt6, jt7, jt8] at r2
          obtain ⟨dd2, mr2, fs2, us2⟩ := r2
          try simp (disch := omega) only [jst_eq, jst_ne, jst_ni, jI_i, jcmp_lt, jcmp_gt, w32_id, jcpy_out, Sum.elim_inl, Sum.elim_inr, jt2, jt3, jt4, jt5, jt6, jt7, jt8] at dd2
          try simp (disch := omega) only [jst_eq, jst_ne, jst_ni, jI_i, jcmp_lt, jcmp_gt, w32_id, jcpy_out, Sum.elim_inl, Sum.elim_inr, jt2, jt3, jt4, jt5, jt6, jt7, jt8] at mr2
          try simp (disch := omega) only [jst_eq, jst_ne, jst_ni, jI_i, jcmp_lt, jcmp_gt, w32_id, jcpy_out, Sum.elim_inl, Sum.elim_inr, jt2, jt3, jt4, jt5, jt6, jt7, jt8] at fs2
          try simp (disch := omega) only [jst_eq, jst_ne, jst_ni, jI_i, jcmp_lt, jcmp_gt, w32_id, jcpy_out, Sum.elim_inl, Sum.elim_inr, jt2, jt3, jt4, jt5, jt6, jt7, jt8] at us2
          obtain ⟨R1, f1, z1, z2, z3⟩ := dd2
          have IG := itR_ok tq.1 tq.2.1 (D + 1) a18 _ _ R1 f1 v43 (by omega) (by omega) (fun f => (WB40 f).1) (by omega) z1
          have IG2 := IG.2.1
          have sp := sz_pos R1
          have T44 : h44 454 17 = h40 454 17 + sz R1 := by { have e := z2.2.1; rw [pm_i (Or.inr ⟨rfl, rfl⟩), pm_i (Or.inr ⟨rfl, rfl⟩)] at e; exact e }
          have V44 : h44 454 49 = h40 454 17 := by { have e := z2.1; rw [pm_i (Or.inr ⟨rfl, rfl⟩)] at e; exact e }
          have IV0 : ivD N (ndT (eO E i6) (ndI E i6) g) (pm hb) i16.toNat (pm h40) := by { rw [PM40]; exact st.2.2.2.1 }
          have C40 : h40 465 N = i16 := by { have e := IV0.2.2.1.2.2.1; rw [pm_i (Or.inl (by decide))] at e; omega }
          have C44 : h44 465 N = i16 := by { have e := z2.2.2.2 465 N (by omega) (by rw [pm_i (Or.inr ⟨rfl, rfl⟩)]; omega) (by omega); rw [pm_i (Or.inl (by decide)), pm_i (Or.inl (by decide))] at e; omega }
          have e8 : i8 = N := st.2.2.1
          rw [e8]
          refine OK_jb (vX14_addKid _ _ (by omega)) (fun h46 r3 => ?_)
          try dsimp only [Sum.elim_inl, Sum.elim_inr, jt2, jt3, jt4, jt5, jt6, jt7, jt8] at r3
          obtain ⟨n3, k3, x3, fr3⟩ := r3
          try simp (disch := omega) only [jst_eq, jst_ne, jst_ni, jI_i, jcmp_lt, jcmp_gt, w32_id, jcpy_out, Sum.elim_inl, Sum.elim_inr, jt2, jt3, jt4, jt5, jt6, jt7, jt8] at n3
          try simp (disch := omega) only [jst_eq, jst_ne, jst_ni, jI_i, jcmp_lt, jcmp_gt, w32_id, jcpy_out, Sum.elim_inl, Sum.elim_inr, jt2, jt3, jt4, jt5, jt6, jt7, jt8] at k3
          try simp (disch := omega) only [jst_eq, jst_ne, jst_ni, jI_i, jcmp_lt, jcmp_gt, w32_id, jcpy_out, Sum.elim_inl, Sum.elim_inr, jt2, jt3, jt4, jt5, jt6, jt7, jt8] at x3
          try simp (disch := omega) only [jst_eq, jst_ne, jst_ni, jI_i, jcmp_lt, jcmp_gt, w32_id, jcpy_out, Sum.elim_inl, Sum.elim_inr, jt2, jt3, jt4, jt5, jt6, jt7, jt8] at fr3
          have k31 := (k3 (by omega)).1
          rw [C44] at k31
          have j2e : ∀ a s, ¬ (a = 465 ∧ s = N) → ¬ (a = 464 ∧ s = 3 * N + i16) → h46 a s = h44 a s := fun a s y1 y2 => fr3 a s y1 (by omega) (by omega) (by rw [C44]; omega)
          have IV := md_st (n := eO E i6) (k := i16) (N := N) (i := ndI E i6) (g := g) (by omega) (by omega) IV0 z2 n3 k31 j2e
          have M46 := MR_n (d := d) mr2 (by omega) (by omega) (fun a s y1 y2 y3 y4 => j2e a s (by omega) (by omega))
          have f50 : h46 454 50 = f1 := (j2e _ _ (by omega) (by omega)).trans z3
          have U46 : h46 454 43 = d + 1 := (j2e _ _ (by omega) (by omega)).trans us2
          have T46 : h46 454 17 = h44 454 17 := j2e _ _ (by omega) (by omega)
          have FO46 : fMo d h0 h46 := fMo_t fr.1 (fMo_t FO40 (fMo_t (fMo_le fs2 (by omega)) M46.2))
          refine OK_if (fun c4 => ?_) (fun c4 => ?_)
          · skip
            try simp (disch := omega) only [jst_eq, jst_ne, jst_ni, jI_i, jcmp_lt, jcmp_gt, w32_id, jcpy_out, Sum.elim_inl, Sum.elim_inr, jt2, jt3, jt4, jt5, jt6, jt7, jt8] at c4
            refine OK_mono (vX14_operands_j332_129 _ _ _ _ _ _ _ _ _ _ _ _ _ (by omega)) (fun r r4 => ?_)
            rcases r with r | r
            · skip
              have r5 := r4; clear r4; dsimp only [Sum.elim_inl, Sum.elim_inr] at r5
              obtain ⟨y1, y2, y3, y4, y5, y6, y7, y8⟩ := r
              try dsimp only [Sum.elim_inl, Sum.elim_inr, jt2, jt3, jt4, jt5, jt6, jt7, jt8] at r5
              have ys4 := r5
              clear r5
              try simp (disch := omega) only [jst_eq, jst_ne, jst_ni, jI_i, jcmp_lt, jcmp_gt, w32_id, jcpy_out, Sum.elim_inl, Sum.elim_inr, jt2, jt3, jt4, jt5, jt6, jt7, jt8] at ys4
              try dsimp only [Sum.elim_inl, Sum.elim_inr, jt2, jt3, jt4, jt5, jt6, jt7, jt8]
              refine ⟨?_, ?_⟩
              · try dsimp only [Sum.elim_inl, Sum.elim_inr, jt2, jt3, jt4, jt5, jt6, jt7, jt8]
                refine ⟨?_, ?_, ?_, ?_⟩
                · (rw [ys4.2.2.1]; omega) -- o23 e2i.1
                · (refine Or.inr ⟨ys4.2.1, a18, R1, f1, v43, ⟨q0, by omega⟩, Y2, by (rw [SS]; omega), z1, ⟨ys4.1.1, by (rw [if_pos (by omega), ys4.1.2.1]; exact f50), by (rw [ys4.1.2.2.1, f50]), by (rw [ys4.1.2.2.2.1, f50]), ys4.1.2.2.2.2⟩, by (rw [ys4.2.2.2]; exact IV), by (rw [ys4.2.2.2]; omega)⟩) -- o24 e2i.2
                · (rw [ys4.2.2.2]; exact M46.1) -- o25 e2i.3
                · (rw [ys4.2.2.2]; exact ⟨FO46, U46⟩) -- o26 e2i.4
              · (rw [ys4.2.2.1]; omega) -- o27 e2m
            · skip
              have r6 := r4; clear r4; dsimp only [Sum.elim_inl, Sum.elim_inr] at r6
              obtain ⟨y9, y10, y11, y12, y13, y14⟩ := r
              try dsimp only [Sum.elim_inl, Sum.elim_inr, jt2, jt3, jt4, jt5, jt6, jt7, jt8] at r6
              have no5 := r6
              clear r6
              try simp (disch := omega) only [jst_eq, jst_ne, jst_ni, jI_i, jcmp_lt, jcmp_gt, w32_id, jcpy_out, Sum.elim_inl, Sum.elim_inr, jt2, jt3, jt4, jt5, jt6, jt7, jt8] at no5
              try dsimp only [Sum.elim_inl, Sum.elim_inr, jt2, jt3, jt4, jt5, jt6, jt7, jt8]
              try dsimp only [Sum.elim_inl, Sum.elim_inr, jt2, jt3, jt4, jt5, jt6, jt7, jt8]
              refine ⟨?_, ?_, ?_⟩
              · (first | assumption | omega | ((try dsimp only [jt2, jt3, jt4]); first | omega | (simp (disch := omega) only [jst_eq, jst_ne, jst_ni, jst_o, jI_i, jcpy_out, w32_id, jdiv_nn, jshr_k, jand_255] <;> first | done | omega | assumption)) | (intros; simp (disch := omega) only [jst_eq, jst_ne, jst_ni, jst_o, jI_i, jcpy_out, w32_id, jdiv_nn, *] <;> first | done | omega) | (intros; simp (disch := omega) only [jst_eq, jst_ne, jst_ni, jst_o, jI_i, jcpy_out, w32_id, jdiv_nn] at * <;> first | done | omega | assumption) | (intros; first | rfl | (exfalso; omega) | ((repeat' apply And.intro) <;> first | assumption | rfl | omega | trivial))) -- o28 e3.1
              · (first | assumption | omega | ((try dsimp only [jt2, jt3, jt4]); first | omega | (simp (disch := omega) only [jst_eq, jst_ne, jst_ni, jst_o, jI_i, jcpy_out, w32_id, jdiv_nn, jshr_k, jand_255] <;> first | done | omega | assumption)) | (intros; simp (disch := omega) only [jst_eq, jst_ne, jst_ni, jst_o, jI_i, jcpy_out, w32_id, jdiv_nn, *] <;> first | done | omega) | (intros; simp (disch := omega) only [jst_eq, jst_ne, jst_ni, jst_o, jI_i, jcpy_out, w32_id, jdiv_nn] at * <;> first | done | omega | assumption) | (intros; first | rfl | (exfalso; omega) | ((repeat' apply And.intro) <;> first | assumption | rfl | omega | trivial))) -- o29 e3.2
              · (first | assumption | omega | ((try dsimp only [jt2, jt3, jt4]); first | omega | (simp (disch := omega) only [jst_eq, jst_ne, jst_ni, jst_o, jI_i, jcpy_out, w32_id, jdiv_nn, jshr_k, jand_255] <;> first | done | omega | assumption)) | (intros; simp (disch := omega) only [jst_eq, jst_ne, jst_ni, jst_o, jI_i, jcpy_out, w32_id, jdiv_nn, *] <;> first | done | omega) | (intros; simp (disch := omega) only [jst_eq, jst_ne, jst_ni, jst_o, jI_i, jcpy_out, w32_id, jdiv_nn] at * <;> first | done | omega | assumption) | (intros; first | rfl | (exfalso; omega) | ((repeat' apply And.intro) <;> first | assumption | rfl | omega | trivial))) -- o30 e3.3
          · skip
            try simp (disch := omega) only [jst_eq, jst_ne, jst_ni, jI_i, jcmp_lt, jcmp_gt, w32_id, jcpy_out, Sum.elim_inl, Sum.elim_inr, jt2, jt3, jt4, jt5, jt6, jt7, jt8] at c4
            refine OK_mono (vX14_operands_j332_129 _ _ _ _ _ _ _ _ _ _ _ _ _ (by omega)) (fun r r7 => ?_)
            rcases r with r | r
            · skip
              have r8 := r7; clear r7; dsimp only [Sum.elim_inl, Sum.elim_inr] at r8
              obtain ⟨y15, y16, y17, y18, y19, y20, y21, y22⟩ := r
              try dsimp only [Sum.elim_inl, Sum.elim_inr, jt2, jt3, jt4, jt5, jt6, jt7, jt8] at r8
              have ys6 := r8
              clear r8
              try simp (disch := omega) only [jst_eq, jst_ne, jst_ni, jI_i, jcmp_lt, jcmp_gt, w32_id, jcpy_out, Sum.elim_inl, Sum.elim_inr, jt2, jt3, jt4, jt5, jt6, jt7, jt8] at ys6
              try dsimp only [Sum.elim_inl, Sum.elim_inr, jt2, jt3, jt4, jt5, jt6, jt7, jt8]
              refine ⟨?_, ?_⟩
              · try dsimp only [Sum.elim_inl, Sum.elim_inr, jt2, jt3, jt4, jt5, jt6, jt7, jt8]
                refine ⟨?_, ?_, ?_, ?_⟩
                · (rw [ys6.2.2.1]; omega) -- o32 e4i.1
                · (refine Or.inr ⟨ys6.2.1, a18, R1, f1, v43, ⟨q0, by omega⟩, Y2, by (rw [SS]; omega), z1, ⟨ys6.1.1, by (rw [if_neg (by omega)]; exact ys6.1.2.1), by (rw [ys6.1.2.2.1, f50]), by (rw [ys6.1.2.2.2.1, f50]), ys6.1.2.2.2.2⟩, by (rw [ys6.2.2.2]; exact IV), by (rw [ys6.2.2.2]; omega)⟩) -- o33 e4i.2
                · (rw [ys6.2.2.2]; exact M46.1) -- o34 e4i.3
                · (rw [ys6.2.2.2]; exact ⟨FO46, U46⟩) -- o35 e4i.4
              · (rw [ys6.2.2.1]; omega) -- o36 e4m
            · skip
              have r9 := r7; clear r7; dsimp only [Sum.elim_inl, Sum.elim_inr] at r9
              obtain ⟨y23, y24, y25, y26, y27, y28⟩ := r
              try dsimp only [Sum.elim_inl, Sum.elim_inr, jt2, jt3, jt4, jt5, jt6, jt7, jt8] at r9
              have no7 := r9
              clear r9
              try simp (disch := omega) only [jst_eq, jst_ne, jst_ni, jI_i, jcmp_lt, jcmp_gt, w32_id, jcpy_out, Sum.elim_inl, Sum.elim_inr, jt2, jt3, jt4, jt5, jt6, jt7, jt8] at no7
              try dsimp only [Sum.elim_inl, Sum.elim_inr, jt2, jt3, jt4, jt5, jt6, jt7, jt8]
              try dsimp only [Sum.elim_inl, Sum.elim_inr, jt2, jt3, jt4, jt5, jt6, jt7, jt8]
              refine ⟨?_, ?_, ?_⟩
              · (first | assumption | omega | ((try dsimp only [jt2, jt3, jt4]); first | omega | (simp (disch := omega) only [jst_eq, jst_ne, jst_ni, jst_o, jI_i, jcpy_out, w32_id, jdiv_nn, jshr_k, jand_255] <;> first | done | omega | assumption)) | (intros; simp (disch := omega) only [jst_eq, jst_ne, jst_ni, jst_o, jI_i, jcpy_out, w32_id, jdiv_nn, *] <;> first | done | omega) | (intros; simp (disch := omega) only [jst_eq, jst_ne, jst_ni, jst_o, jI_i, jcpy_out, w32_id, jdiv_nn] at * <;> first | done | omega | assumption) | (intros; first | rfl | (exfalso; omega) | ((repeat' apply And.intro) <;> first | assumption | rfl | omega | trivial))) -- o37 e5.1
              · (first | assumption | omega | ((try dsimp only [jt2, jt3, jt4]); first | omega | (simp (disch := omega) only [jst_eq, jst_ne, jst_ni, jst_o, jI_i, jcpy_out, w32_id, jdiv_nn, jshr_k, jand_255] <;> first | done | omega | assumption)) | (intros; simp (disch := omega) only [jst_eq, jst_ne, jst_ni, jst_o, jI_i, jcpy_out, w32_id, jdiv_nn, *] <;> first | done | omega) | (intros; simp (disch := omega) only [jst_eq, jst_ne, jst_ni, jst_o, jI_i, jcpy_out, w32_id, jdiv_nn] at * <;> first | done | omega | assumption) | (intros; first | rfl | (exfalso; omega) | ((repeat' apply And.intro) <;> first | assumption | rfl | omega | trivial))) -- o38 e5.2
              · (first | assumption | omega | ((try dsimp only [jt2, jt3, jt4]); first | omega | (simp (disch := omega) only [jst_eq, jst_ne, jst_ni, jst_o, jI_i, jcpy_out, w32_id, jdiv_nn, jshr_k, jand_255] <;> first | done | omega | assumption)) | (intros; simp (disch := omega) only [jst_eq, jst_ne, jst_ni, jst_o, jI_i, jcpy_out, w32_id, jdiv_nn, *] <;> first | done | omega) | (intros; simp (disch := omega) only [jst_eq, jst_ne, jst_ni, jst_o, jI_i, jcpy_out, w32_id, jdiv_nn] at * <;> first | done | omega | assumption) | (intros; first | rfl | (exfalso; omega) | ((repeat' apply And.intro) <;> first | assumption | rfl | omega | trivial))) -- o39 e5.3
        · skip
          try simp (disch := omega) only [jst_eq, jst_ne, jst_ni, jI_i, jcmp_lt, jcmp_gt, w32_id, jcpy_out, Sum.elim_inl, Sum.elim_inr, jt2, jt3, jt4, jt5, jt6, jt7, jt8] at c3
          have c3w : ¬ ik - sumN (alW E W (kP K) (LV E W (kP K) (kA K) p) (ct E W (kP K) (kA K)) i6 w m i16 a90 sg) a18.toNat < (alW E W (kP K) (LV E W (kP K) (kA K) p) (ct E W (kP K) (kA K)) i6 w m i16 a90 sg) a18 := by first | exact c3 | exact fun y => c3 (jcmp_lt.2 y)
          have w52 : w32 (a18 + 1) = a18 + 1 := w32_id (by omega) (by omega)
          refine OK_jlx (fun x48 ex48 => ?_)
          try simp (disch := omega) only [jst_eq, jst_ne, jst_ni, jI_i, jcmp_lt, jcmp_gt, w32_id, jcpy_out, Sum.elim_inl, Sum.elim_inr, jt2, jt3, jt4, jt5, jt6, jt7, jt8] at ex48
          unfold gX14_operands_j378_129
          refine OK_jlx (fun x52 ex52 => ?_)
          try simp (disch := omega) only [jst_eq, jst_ne, jst_ni, jI_i, jcmp_lt, jcmp_gt, w32_id, jcpy_out, Sum.elim_inl, Sum.elim_inr, jt2, jt3, jt4, jt5, jt6, jt7, jt8] at ex52
          refine OK_il ?_ ?_
          · try dsimp only [Sum.elim_inl, Sum.elim_inr, jt2, jt3, jt4, jt5, jt6, jt7, jt8]
            refine ⟨?_, ?_, ?_, ?_⟩
            · omega -- o40 e6i.1
            · (refine Or.inl ⟨c2, ⟨by first | rfl | assumption, by first | rfl | assumption, by first | rfl | assumption, by first | rfl | assumption⟩, by omega, by (rw [show x52 = a18 + 1 by omega, SS]; omega), ?_, PM40⟩; rw [show x52 = a18 + 1 by omega, SS]; first | omega | (rw [ex48, w64_id (by omega) (by omega)]; omega)) -- o41 e6i.2
            · exact mr1 -- o42 e6i.3
            · exact ⟨fMo_t fr.1 FO40, U40⟩ -- o43 e6i.4
          · (dsimp only [jt8]; omega) -- o44 e6m
      · skip
        try simp (disch := omega) only [jst_eq, jst_ne, jst_ni, jI_i, jcmp_lt, jcmp_gt, w32_id, jcpy_out, Sum.elim_inl, Sum.elim_inr, jt2, jt3, jt4, jt5, jt6, jt7, jt8] at c2
        refine OK_ir ?_
        try dsimp only [Sum.elim_inl, Sum.elim_inr, jt2, jt3, jt4, jt5, jt6, jt7, jt8]
        refine ⟨?_, ?_, ?_⟩
        · (rcases iv with y | y; { exact absurd y.1 c2 }; { exact y.2 }) -- o45 e7.1
        · exact ms -- o46 e7.2
        · exact fr -- o47 e7.3
  · try dsimp only [Sum.elim_inl, Sum.elim_inr, jt2, jt3, jt4, jt5, jt6, jt7, jt8]
    refine ⟨?_, ?_, ?_, ?_⟩
    · omega -- o48 init.1
    · (have Z0 : sumN (alW E W (kP K) (LV E W (kP K) (kA K) p) (ct E W (kP K) (kA K)) i6 w m i16 a90 sg) a180.toNat = 0 := (by rcases z.2 with u | u; { have e := sumN_s (g := (alW E W (kP K) (LV E W (kP K) (kA K) p) (ct E W (kP K) (kA K)) i6 w m i16 a90 sg)) (a := 0) (Int.le_refl 0); rw [al_z ⟨Int.le_refl _, by omega⟩ (Or.inr (Or.inr rfl))] at e; rw [u.2]; exact e }; { refine sumN_0 (fun j j0 j1 => ?_); exact al_z ⟨j0, by omega⟩ (Or.inr (Or.inl ⟨u.1, by omega⟩)) }); exact Or.inl ⟨z.1, ⟨rfl, rfl, rfl, rfl⟩, by omega, by (rw [Z0]; exact ps.2.1), by (rw [Z0, Int.sub_zero]; exact ps.1), rfl⟩) -- o49 init.2
    · exact mr -- o50 init.3
    · exact ⟨fMo_r _, st.1⟩ -- o51 init.4

