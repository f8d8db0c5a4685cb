/-! m: the i-th term of an act -/
def opQ (E : EV) (W : Int → Int → Int → VW) (K : AK) (p D : Nat) (ac : Int) (w : Int → Int) (l0 i N : Int) (hb : AH) (u1 u2 u3 left pos k : Int) (h : AH) : Prop := ∃ (s : Int → Int) (g : Int → TR) (used : Int), opS E W (kP K) (kA K) p ac k used s ∧ (s 0 = u1 ∧ s 1 = u2 ∧ s 2 = u3) ∧ (used + left = l0 ∧ 0 ≤ used ∧ 0 ≤ left) ∧ (0 ≤ pos ∧ pos < rsW E W (kP K) (LV E W (kP K) (kA K) p) (ct E W (kP K) (kA K)) ac w (eO E ac - k).toNat k left s ∧ rsW E W (kP K) (LV E W (kP K) (kA K) p) (ct E W (kP K) (kA K)) ac w (eO E ac - k).toNat k left s < 9223372036854775808) ∧ (∀ R f r, opRd E W (kP K) (LV E W (kP K) (kA K) p) (ct E W (kP K) (kA K)) (itR E W (kP K) (kA K) (LV E W (kP K) (kA K) p) (ct E W (kP K) (kA K)) (D + 1)) ac w (eO E ac - k).toNat k left s g pos R f r → opRd E W (kP K) (LV E W (kP K) (kA K) p) (ct E W (kP K) (kA K)) (itR E W (kP K) (kA K) (LV E W (kP K) (kA K) p) (ct E W (kP K) (kA K)) (D + 1)) ac w (eO E ac).toNat 0 l0 s0T (fun _ => .leaf (0, 0, 0, 0)) i R f r) ∧ ivD N (ndT (eO E ac) (ndI E ac) g) (pm hb) k.toNat (pm h) ∧ (N < h 454 17 ∧ h 454 17 ≤ N + 1 + used)
theorem opQ_st {E : EV} {W : Int → Int → Int → VW} {K : AK} {p D m : Nat} {ac : Int} {w : Int → Int} {l0 i N : Int} {hb h' : AH} {u1 u2 u3 left k x9 x10 x11 x12 x13 j used ik : Int} {s : Int → Int} {g : Int → TR} (tq : tqM E W K p p) (w0 : ∀ f, 0 ≤ w f) (pr : 1 ≤ (kA K).2.2.2.2.2.2.2 j ∧ (kA K).2.2.2.2.2.2.2 j + l0 ≤ p) (e3 : 1 ≤ eO E ac ∧ eO E ac ≤ 3) (k0 : 0 ≤ k) (mk : (m : Int) = eO E ac - k - 1) (N0 : 0 ≤ N) (o : opS E W (kP K) (kA K) p ac k used s) (ss : s 0 = u1 ∧ s 1 = u2 ∧ s 2 = u3) (ul : used + left = l0 ∧ 0 ≤ used ∧ 0 ≤ left) (ik0 : 0 ≤ ik) (bd : rsW E W (kP K) (LV E W (kP K) (kA K) p) (ct E W (kP K) (kA K)) ac w (m + 1) k left s < 9223372036854775808) (co : ∀ R f r, opRd E W (kP K) (LV E W (kP K) (kA K) p) (ct E W (kP K) (kA K)) (itR E W (kP K) (kA K) (LV E W (kP K) (kA K) p) (ct E W (kP K) (kA K)) (D + 1)) ac w (m + 1) k left s g ik R f r → opRd E W (kP K) (LV E W (kP K) (kA K) p) (ct E W (kP K) (kA K)) (itR E W (kP K) (kA K) (LV E W (kP K) (kA K) p) (ct E W (kP K) (kA K)) (D + 1)) ac w (eO E ac).toNat 0 l0 s0T (fun _ => .leaf (0, 0, 0, 0)) i R f r) (fd : fdQ E W K p D ac w m k left s g ik N (N + 1 + used) hb h' x9 x10 x11 x12 x13 u1 u2 u3) : opQ E W K p D ac w l0 i N hb x10 x11 x12 x9 x13 (k + 1) h' := by
  obtain ⟨r, R1, f1, i1', r0, q1, q2, it, xs, iv, tp⟩ := fd
  have A1 := al_1 (by omega) q1 q2
  have IG := itR_ok tq.1 tq.2.1 (D + 1) r _ _ R1 f1 i1' (by omega) (by omega) (fun f => owT_0 ct_0 w0) (by omega) it
  have OO := ow_op tq.1 o (by omega) (by omega) IG.1.1.1 IG.1.2.1 IG.1.2.2
  have OE := ow_eq IG.1.2.1 IG.1.2.2
  have OL := ow_le (E := E) (W := W) (pts := kP K) (ac := ac) (k := k) (left := left) (s := s) (m := m) (r := r) (f := f1) (T := (LV E W (kP K) (kA K) p)) (c := (ct E W (kP K) (kA K))) ct_0 w0 ⟨IG.1.1.1, by omega⟩
  have AR := al_rs (E := E) (W := W) (pts := kP K) (A := kA K) (T := (LV E W (kP K) (kA K) p)) (ac := ac) (m := m) (k := k) (left := left) (r := r) (s := s) w0 (by omega)
  have me : (eO E ac - (k + 1)).toNat = m := by omega
  have kz := kss_0 sz_0 (ndT (eO E ac) (ndI E ac) (up1 g k R1)) (k + 1).toNat
  have iv1 := iv.1
  rw [pm_i (Or.inr ⟨rfl, rfl⟩)] at iv1
  refine ⟨up1 s k f1, up1 g k R1, used + r, OO.2.2.1, ⟨?_, ?_, ?_⟩, by omega, ⟨?_, ?_, ?_⟩, fun R f r' op => ?_, iv, ⟨by omega, by omega⟩⟩
  · rw [xs.2.1]
    by_cases y : k = 0
    · rw [if_pos y]; exact up1_p y.symm
    · rw [if_neg y, up1_o (by omega)]; exact ss.1
  · rw [xs.2.2.1]
    by_cases y : k = 1
    · rw [if_pos y]; exact up1_p y.symm
    · rw [if_neg y, up1_o (by omega)]; exact ss.2.1
  · rw [xs.2.2.2.1]
    by_cases y : k = 2
    · rw [if_pos y]; exact up1_p y.symm
    · rw [if_neg y, up1_o (by omega)]; exact ss.2.2
  · rw [xs.2.2.2.2]
    exact IG.1.2.1
  · rw [me, xs.1, xs.2.2.2.2]
    exact OO.2.2.2
  · rw [me, xs.1, ← OE]
    omega
  · rw [me, xs.1, xs.2.2.2.2] at op
    exact co R f r' ⟨r, R1, f1, i1', by omega, r0.2, q1, q2, it, op⟩
/-- a node is made, without operands so far -/
theorem md_02 {h h' : AH} {n N : Int} {i : NI} {g : Int → TR} (n1 : 1 ≤ n ∧ n ≤ 3) (hv : h' 454 17 = N + 1) (l : lfM h' N 0 i) (fr : ∀ a s, 460 ≤ a → a ≤ 469 → ¬ (a ≠ 464 ∧ s = N) → h' a s = h a s) : ivD N (ndT n i g) (pm h) (0 : Int).toNat (pm h') := by
  have e : kss sz (ndT n i g) 0 = 0 := rfl
  show ivD N (ndT n i g) (pm h) 0 (pm h')
  refine ⟨by rw [e, pm_i (Or.inr ⟨rfl, rfl⟩), hv]; omega, fun m m1 _ => absurd m1 (Nat.not_lt_zero m), ?_, fun a s y1 y2 y3 => ?_⟩
  · rw [nd_inf n1]
    exact lfM_pm l
  · rw [e] at y2
    by_cases z : 460 ≤ a ∧ a ≤ 469
    · rw [pm_i (Or.inl z), pm_i (Or.inl z)]
      exact fr a s z.1 z.2 (fun q => y2 (by omega))
    · unfold pm
      rw [if_neg (by omega), if_neg (by omega)]
theorem vX14_operands_l102 {F : Int → Int → Int → Int → AH → Option (Int × AH)} (i1 : Int) (i3 : Int) (i6 : Int) (i7 : Int) (i8 : Int) (i15 : Int) (a90 : Int) (a100 : Int) (a110 : Int) (a120 : Int) (a130 : Int) (a160 : Int) {h0 : AH} {E : EV} {Rf : Int → TR} {W : Int → Int → Int → VW} {K : AK} {tp : Int} {p D : Nat} {T : TB} {w : Int → Int} {l0 i d N : Int} {hb : AH} (hF : ITM E Rf W K tp p T F D) (mr : MR h0 E Rf W K tp p T ((p : Int) + 1)) (tq : tqM E W K p p) (ia : (0 ≤ i1 ∧ i1 < (kA K).2.2.2.1) ∧ (kA K).2.2.2.2.1 i1 = i6 ∧ 0 ≤ i6 ∧ i6 < E.1.1) (io : i7 = eO E i6 ∧ 1 ≤ i7 ∧ i7 ≤ 3) (pr : (kA K).2.2.2.2.2.2.2 i1 + l0 ≤ p ∧ l0 ≤ D + 1) (rx : rowM h0 i3 w (LV E W (kP K) (kA K) p).1 ∧ wBd w ∧ i3 < 770 + d ∧ i15 = 770 + d ∧ 1 ≤ d ∧ d + l0 ≤ 16) (st : h0 454 43 = d + 1 ∧ lnW h0 ∧ i8 = N ∧ 8200 ≤ N ∧ N + 1 + l0 ≤ 8500) (iz : opQ E W K p D i6 w l0 i N hb a100 a110 a120 a90 a130 0 h0) (z : a160 = 0) : OK (gX14_operands_l102 F i1 i3 i6 i7 i8 i15 a90 a100 a110 a120 a130 a160 h0) (fun r => jt5 r fun y13 y14 y15 y16 h' => (∃ left, opQ E W K p D i6 w l0 i N hb y13 y14 y15 left y16 (eO E i6) h') ∧ (MR h' E Rf W K tp p T ((p : Int) + 1)) ∧ (fMo d h0 h' ∧ h' 454 43 = d + 1)) := by
  unfold gX14_operands_l102
  refine OK_jit (I := (fun (s : Int × Int × Int × Int × Int × Int × AH) => jt7 s fun a9 a10 a11 a12 a13 a16 h => (0 ≤ a16 ∧ a16 ≤ i7) ∧ (opQ E W K p D i6 w l0 i N hb a10 a11 a12 a9 a13 a16 h) ∧ (MR h E Rf W K tp p T ((p : Int) + 1)) ∧ (fMo d h0 h ∧ h 454 43 = d + 1))) (m := (fun (s : Int × Int × Int × Int × Int × Int × AH) => jt7 s fun a9 a10 a11 a12 a13 a16 h => (i7 - a16).toNat)) ?_ ?_
  · intro s hs
    obtain ⟨a9, a10, a11, a12, a13, a16, h⟩ := s
    dsimp only [Sum.elim_inl, Sum.elim_inr, jt2, jt3, jt4, jt5, jt6, jt7, jt8] at hs
    obtain ⟨q0, iv, ms, fr⟩ := hs
    unfold gX14_operands_b102
    refine OK_jt7 ?_
    have n12 := tq.1.1.1
    have pp := (tq.1.1.2.2.2.1.2.2 i1 ia.1.1 ia.1.2).1
    have w0 : ∀ f, 0 ≤ w f := fun f => (rx.2.1 f).1
    have wi : w32 (i7 - 1) = i7 - 1 := w32_id (by omega) (by omega)
    have wx : w32 (a16 + 1) = a16 + 1 := w32_id (by omega) (by omega)
    refine OK_if (fun c1 => ?_) (fun c1 => ?_)
    · skip
      try simp (disch := omega) only [jst_eq, jst_ne, jst_ni, jI_i, jcmp_lt, jcmp_gt, w32_id, jcpy_out, Sum.elim_inl, Sum.elim_inr, jt2, jt3, jt4, jt5, jt6, jt7, jt8] at c1
      refine OK_ir ?_
      try dsimp only [Sum.elim_inl, Sum.elim_inr, jt2, jt3, jt4, jt5, jt6, jt7, jt8]
      refine ⟨?_, ?_, ?_⟩
      · (rw [show a16 = eO E i6 by omega] at iv; exact ⟨a9, iv⟩) -- o1 e1.1
      · exact ms -- o2 e1.2
      · exact fr -- o3 e1.3
    · skip
      try simp (disch := omega) only [jst_eq, jst_ne, jst_ni, jI_i, jcmp_lt, jcmp_gt, w32_id, jcpy_out, Sum.elim_inl, Sum.elim_inr, jt2, jt3, jt4, jt5, jt6, jt7, jt8] at c1
      obtain ⟨sg, g, used, o1, o2, o3, o4, o5, o6, o7⟩ := iv
      have ME : (eO E i6 - a16).toNat = (i7 - a16 - 1).toNat + 1 := by omega
      rw [ME] at o4 o5
      have LF1 : 1 ≤ a9 := Classical.byContradiction fun y => by { have e := rs_z (E := E) (W := W) (pts := kP K) (A := kA K) (T := (LV E W (kP K) (kA K) p)) (ac := i6) (w := w) ((i7 - a16 - 1).toNat + 1) a16 a9 sg (by omega) o3.2.2; rw [e] at o4; omega }
      refine OK_if (fun c2 => ?_) (fun c2 => ?_)
      · skip
        try simp (disch := omega) only [jst_eq, jst_ne, jst_ni, jI_i, jcmp_lt, jcmp_gt, w32_id, jcpy_out, Sum.elim_inl, Sum.elim_inr, jt2, jt3, jt4, jt5, jt6, jt7, jt8] at c2
        have c2w : a16 = i7 - 1 := by omega
        unfold gX14_operands_j127_102
        refine OK_jb (vX14_operands_l129 (E := E) (Rf := Rf) (W := W) (K := K) (tp := tp) (p := p) (T := T) (m := (i7 - a16 - 1).toNat) (D := D) (w := w) (sg := sg) (g := g) (used := used) (ik := a13) (d := d) (N := N) (hb := hb) _ _ _ _ _ _ _ _ _ _ _ _ _ _ (by exact hF) (by exact ms) (by exact tq) (by exact ia) (by exact ⟨io.1, q0.1, by omega, io.2.2⟩) (by exact ⟨o1, o2⟩) (by omega) (by exact ⟨rowM_o rx.1 fr.1 rx.2.2.1, rx.2.1, rx.2.2.1, rx.2.2.2.1, rx.2.2.2.2.1, by omega⟩) (by exact ⟨fr.2, lnW_o st.2.1 fr.1 (by omega), st.2.2.1, o6, by omega⟩) (by exact ⟨rfl, o4⟩) (by exact ⟨rfl, Or.inr ⟨by omega, rfl⟩⟩)) (fun o26 r1 => ?_)
        obtain ⟨y28, y29, y30, y31, y32, h33⟩ := o26
        refine OK_jt6 ?_
        try dsimp only [Sum.elim_inl, Sum.elim_inr, jt2, jt3, jt4, jt5, jt6, jt7, jt8] at r1
        obtain ⟨fd1, mr1, fs1⟩ := r1
        try simp (disch := omega) only [jst_eq, jst_ne, jst_ni, jI_i, jcmp_lt, jcmp_gt, w32_id, jcpy_out, Sum.elim_inl, Sum.elim_inr, jt2, jt3, jt4, jt5, jt6, jt7, jt8] at fd1
        try simp (disch := omega) only [jst_eq, jst_ne, jst_ni, jI_i, jcmp_lt, jcmp_gt, w32_id, jcpy_out, Sum.elim_inl, Sum.elim_inr, jt2, jt3, jt4, jt5, jt6, jt7, jt8] at mr1
        try simp (disch := omega) only [jst_eq, jst_ne, jst_ni, jI_i, jcmp_lt, jcmp_gt, w32_id, jcpy_out, Sum.elim_inl, Sum.elim_inr, jt2, jt3, jt4, jt5, jt6, jt7, jt8] at fs1
        unfold gX14_operands_j384_102
        refine OK_jlx (fun x34 ex34 => ?_)
        try simp (disch := omega) only [jst_eq, jst_ne, jst_ni, jI_i, jcmp_lt, jcmp_gt, w32_id, jcpy_out, Sum.elim_inl, Sum.elim_inr, jt2, jt3, jt4, jt5, jt6, jt7, jt8] at ex34
        refine OK_il ?_ ?_
        · try dsimp only [Sum.elim_inl, Sum.elim_inr, jt2, jt3, jt4, jt5, jt6, jt7, jt8]
          refine ⟨?_, ?_, ?_, ?_⟩
          · omega -- o15 e2i.1
          · (rw [show x34 = a16 + 1 by omega]; exact opQ_st (j := i1) tq w0 ⟨pp.1, pr.1⟩ (by omega) q0.1 (by omega) (by omega) o1 o2 o3 o4.1 o4.2.2 o5 fd1) -- o16 e2i.2
          · exact mr1 -- o17 e2i.3
          · exact ⟨fMo_t fr.1 fs1.1, fs1.2⟩ -- o18 e2i.4
        · (dsimp only [jt7]; omega) -- o19 e2m
      · skip
        try simp (disch := omega) only [jst_eq, jst_ne, jst_ni, jI_i, jcmp_lt, jcmp_gt, w32_id, jcpy_out, Sum.elim_inl, Sum.elim_inr, jt2, jt3, jt4, jt5, jt6, jt7, jt8] at c2
        have c2w : ¬ a16 = i7 - 1 := by omega
        unfold gX14_operands_j127_102
        refine OK_jb (vX14_operands_l129 (E := E) (Rf := Rf) (W := W) (K := K) (tp := tp) (p := p) (T := T) (m := (i7 - a16 - 1).toNat) (D := D) (w := w) (sg := sg) (g := g) (used := used) (ik := a13) (d := d) (N := N) (hb := hb) _ _ _ _ _ _ _ _ _ _ _ _ _ _ (by exact hF) (by exact ms) (by exact tq) (by exact ia) (by exact ⟨io.1, q0.1, by omega, io.2.2⟩) (by exact ⟨o1, o2⟩) (by omega) (by exact ⟨rowM_o rx.1 fr.1 rx.2.2.1, rx.2.1, rx.2.2.1, rx.2.2.2.1, rx.2.2.2.2.1, by omega⟩) (by exact ⟨fr.2, lnW_o st.2.1 fr.1 (by omega), st.2.2.1, o6, by omega⟩) (by exact ⟨rfl, o4⟩) (by exact ⟨rfl, Or.inl ⟨by omega, rfl⟩⟩)) (fun o26 r2 => ?_)
        obtain ⟨y28, y29, y30, y31, y32, h33⟩ := o26
        refine OK_jt6 ?_
        try dsimp only [Sum.elim_inl, Sum.elim_inr, jt2, jt3, jt4, jt5, jt6, jt7, jt8] at r2
        obtain ⟨fd2, mr2, fs2⟩ := r2
        try simp (disch := omega) only [jst_eq, jst_ne, jst_ni, jI_i, jcmp_lt, jcmp_gt, w32_id, jcpy_out, Sum.elim_inl, Sum.elim_inr, jt2, jt3, jt4, jt5, jt6, jt7, jt8] at fd2
        try simp (disch := omega) only [jst_eq, jst_ne, jst_ni, jI_i, jcmp_lt, jcmp_gt, w32_id, jcpy_out, Sum.elim_inl, Sum.elim_inr, jt2, jt3, jt4, jt5, jt6, jt7, jt8] at mr2
        try simp (disch := omega) only [jst_eq, jst_ne, jst_ni, jI_i, jcmp_lt, jcmp_gt, w32_id, jcpy_out, Sum.elim_inl, Sum.elim_inr, jt2, jt3, jt4, jt5, jt6, jt7, jt8] at fs2
        unfold gX14_operands_j384_102
        refine OK_jlx (fun x34 ex34 => ?_)
        try simp (disch := omega) only [jst_eq, jst_ne, jst_ni, jI_i, jcmp_lt, jcmp_gt, w32_id, jcpy_out, Sum.elim_inl, Sum.elim_inr, jt2, jt3, jt4, jt5, jt6, jt7, jt8] at ex34
        refine OK_il ?_ ?_
        · try dsimp only [Sum.elim_inl, Sum.elim_inr, jt2, jt3, jt4, jt5, jt6, jt7, jt8]
          refine ⟨?_, ?_, ?_, ?_⟩
          · omega -- o31 e3i.1
          · (rw [show x34 = a16 + 1 by omega]; exact opQ_st (j := i1) tq w0 ⟨pp.1, pr.1⟩ (by omega) q0.1 (by omega) (by omega) o1 o2 o3 o4.1 o4.2.2 o5 fd2) -- o32 e3i.2
          · exact mr2 -- o33 e3i.3
          · exact ⟨fMo_t fr.1 fs2.1, fs2.2⟩ -- o34 e3i.4
        · (dsimp only [jt7]; omega) -- o35 e3m
  · try dsimp only [Sum.elim_inl, Sum.elim_inr, jt2, jt3, jt4, jt5, jt6, jt7, jt8]
    refine ⟨?_, ?_, ?_, ?_⟩
    · omega -- o36 init.1
    · (rw [z]; exact iz) -- o37 init.2
    · exact mr -- o38 init.3
    · exact ⟨fMo_r _, st.1⟩ -- o39 init.4
theorem vX14_operands_ {F : Int → Int → Int → Int → AH → Option (Int × AH)} (a1 : Int) (a2 : Int) (a3 : Int) (a4 : Int) {h : AH} {E : EV} {Rf : Int → TR} {W : Int → Int → Int → VW} {K : AK} {tp : Int} {p D : Nat} {T : TB} {w : Int → Int} {d ac : Int} (hF : ITM E Rf W K tp p T F D) (tq : tqM E W K p p) (mr : MR h E Rf W K tp p T ((p : Int) + 1)) (ia : (0 ≤ a1 ∧ a1 < (kA K).2.2.2.1) ∧ (kA K).2.2.2.2.1 a1 = ac ∧ 0 ≤ ac ∧ ac < E.1.1) (pr : 1 ≤ a2 - (kA K).2.2.2.2.2.2.2 a1 ∧ a2 - (kA K).2.2.2.2.2.2.2 a1 ≤ D + 1 ∧ a2 ≤ p) (rx : rowM h a3 w (LV E W (kP K) (kA K) p).1 ∧ wBd w ∧ a3 < 770 + d) (st : stMo h d (a2 - (kA K).2.2.2.2.2.2.2 a1) (a2 - (kA K).2.2.2.2.2.2.2 a1 + 1)) (ps : 0 ≤ a4 ∧ a4 < rsW E W (kP K) (LV E W (kP K) (kA K) p) (ct E W (kP K) (kA K)) ac w (eO E ac).toNat 0 (a2 - (kA K).2.2.2.2.2.2.2 a1) s0T ∧ rsW E W (kP K) (LV E W (kP K) (kA K) p) (ct E W (kP K) (kA K)) ac w (eO E ac).toNat 0 (a2 - (kA K).2.2.2.2.2.2.2 a1) s0T < 9223372036854775808) : OK (gX14_operands_ F a1 a2 a3 a4 h) (fun r => jt2 r fun v h' => (∃ R f, opRd E W (kP K) (LV E W (kP K) (kA K) p) (ct E W (kP K) (kA K)) (itR E W (kP K) (kA K) (LV E W (kP K) (kA K) p) (ct E W (kP K) (kA K)) (D + 1)) ac w (eO E ac).toNat 0 (a2 - (kA K).2.2.2.2.2.2.2 a1) s0T (fun _ => .leaf (0, 0, 0, 0)) a4 R f v ∧ poD R (pm h) (h' 454 49) (pm h') ∧ h' 454 50 = f) ∧ (MR h' E Rf W K tp p T ((p : Int) + 1)) ∧ (fMo d h h') ∧ (h' 454 43 = d)) := by
  have a0 := akM_0 mr.1
  have pc := a0.2.1.2.2.1
  have np12 := pc.2.2.1
  have PC := pc.2.2.2 a1 ia.1.1 ia.1.2
  have PC2 := PC.2.1
  have am := a0.1.2.1.1
  have am36 := am.2.2.1
  have AM := am.2.2.2 ac ia.2.2.1 ia.2.2.2
  have x16 := a0.1.1
  have oo := a0.1.2.1.2.1.2.2.1 _ ia.2.2.1 ia.2.2.2
  have n12 := tq.1.1.1
  have pp := (tq.1.1.2.2.2.1.2.2 a1 ia.1.1 ia.1.2).1
  have st1 := st.1
  have st3 := st.2.2
  unfold gX14_operands_
  refine OK_jg (by (first | (exact x167) | (first | assumption | omega | ((try dsimp only [jt2, jt3, jt4]); first | omega | (simp (disch := omega) only [jst_eq, jst_ne, jst_ni, jst_o, jI_i, jcpy_out, w32_id, jdiv_nn, jshr_k, jand_255] <;> first | done | omega | assumption)) | (intros; simp (disch := omega) only [jst_eq, jst_ne, jst_ni, jst_o, jI_i, jcpy_out, w32_id, jdiv_nn, *] <;> first | done | omega) | (intros; simp (disch := omega) only [jst_eq, jst_ne, jst_ni, jst_o, jI_i, jcpy_out, w32_id, jdiv_nn] at * <;> first | done | omega | assumption) | (intros; first | rfl | (exfalso; omega) | ((repeat' apply And.intro) <;> first | assumption | rfl | omega | trivial))))) ?_ -- o1
  refine OK_jg (by (first | (exact x167) | (first | assumption | omega | ((try dsimp only [jt2, jt3, jt4]); first | omega | (simp (disch := omega) only [jst_eq, jst_ne, jst_ni, jst_o, jI_i, jcpy_out, w32_id, jdiv_nn, jshr_k, jand_255] <;> first | done | omega | assumption)) | (intros; simp (disch := omega) only [jst_eq, jst_ne, jst_ni, jst_o, jI_i, jcpy_out, w32_id, jdiv_nn, *] <;> first | done | omega) | (intros; simp (disch := omega) only [jst_eq, jst_ne, jst_ni, jst_o, jI_i, jcpy_out, w32_id, jdiv_nn] at * <;> first | done | omega | assumption) | (intros; first | rfl | (exfalso; omega) | ((repeat' apply And.intro) <;> first | assumption | rfl | omega | trivial))))) ?_ -- o2
  refine OK_jlx (fun x1 ex1 => ?_)
  try simp (disch := omega) only [jst_eq, jst_ne, jst_ni, jI_i, jcmp_lt, jcmp_gt, w32_id, jcpy_out, Sum.elim_inl, Sum.elim_inr, jt2, jt3, jt4, jt5, jt6, jt7, jt8] at ex1
  have x1e : x1 = ac := by { first | omega | exact (ex1.trans PC.1).trans ia.2.1 }
  subst x1e
  refine OK_jg (by (first | (exact x167) | (first | assumption | omega | ((try dsimp only [jt2, jt3, jt4]); first | omega | (simp (disch := omega) only [jst_eq, jst_ne, jst_ni, jst_o, jI_i, jcpy_out, w32_id, jdiv_nn, jshr_k, jand_255] <;> first | done | omega | assumption)) | (intros; simp (disch := omega) only [jst_eq, jst_ne, jst_ni, jst_o, jI_i, jcpy_out, w32_id, jdiv_nn, *] <;> first | done | omega) | (intros; simp (disch := omega) only [jst_eq, jst_ne, jst_ni, jst_o, jI_i, jcpy_out, w32_id, jdiv_nn] at * <;> first | done | omega | assumption) | (intros; first | rfl | (exfalso; omega) | ((repeat' apply And.intro) <;> first | assumption | rfl | omega | trivial))))) ?_ -- o3
  refine OK_jlx (fun x2 ex2 => ?_)
  try simp (disch := omega) only [jst_eq, jst_ne, jst_ni, jI_i, jcmp_lt, jcmp_gt, w32_id, jcpy_out, Sum.elim_inl, Sum.elim_inr, jt2, jt3, jt4, jt5, jt6, jt7, jt8] at ex2
  have x2e : x2 = eO E x1 := by { rw [← oper_eq ia.2.2.1, ← AM.2.1]; first | exact ex2 | (rw [ex2]) }
  refine OK_jb2 (vX14_node _ _ _ (by omega)) (fun v4 h5 r1 => ?_)
  try dsimp only [Sum.elim_inl, Sum.elim_inr, jt2, jt3, jt4, jt5, jt6, jt7, jt8] at r1
  obtain ⟨nv1, na1, fr1⟩ := r1
  try simp (disch := omega) only [jst_eq, jst_ne, jst_ni, jI_i, jcmp_lt, jcmp_gt, w32_id, jcpy_out, Sum.elim_inl, Sum.elim_inr, jt2, jt3, jt4, jt5, jt6, jt7, jt8] at nv1
  try simp (disch := omega) only [jst_eq, jst_ne, jst_ni, jI_i, jcmp_lt, jcmp_gt, w32_id, jcpy_out, Sum.elim_inl, Sum.elim_inr, jt2, jt3, jt4, jt5, jt6, jt7, jt8] at na1
  try simp (disch := omega) only [jst_eq, jst_ne, jst_ni, jI_i, jcmp_lt, jcmp_gt, w32_id, jcpy_out, Sum.elim_inl, Sum.elim_inr, jt2, jt3, jt4, jt5, jt6, jt7, jt8] at fr1
  have v4e : v4 = h 454 17 := nv1.1
  have h5n := nv1.2
  refine OK_jg (by (first | (exact x167) | (first | assumption | omega | ((try dsimp only [jt2, jt3, jt4]); first | omega | (simp (disch := omega) only [jst_eq, jst_ne, jst_ni, jst_o, jI_i, jcpy_out, w32_id, jdiv_nn, jshr_k, jand_255] <;> first | done | omega | assumption)) | (intros; simp (disch := omega) only [jst_eq, jst_ne, jst_ni, jst_o, jI_i, jcpy_out, w32_id, jdiv_nn, *] <;> first | done | omega) | (intros; simp (disch := omega) only [jst_eq, jst_ne, jst_ni, jst_o, jI_i, jcpy_out, w32_id, jdiv_nn] at * <;> first | done | omega | assumption) | (intros; first | rfl | (exfalso; omega) | ((repeat' apply And.intro) <;> first | assumption | rfl | omega | trivial))))) ?_ -- o5
  refine OK_jl ?_
  have F6 : ∀ a s, ¬ (a = 463 ∧ s = v4) → jst h5 463 v4 x1 a s = h5 a s := fun a s y => jst_o y
  have K6 : jst h5 463 v4 x1 463 v4 = x1 := jst_eq
  generalize eg6 : jst h5 463 v4 x1 = g6 at *
  refine OK_jl ?_
  have F7 : ∀ a s, ¬ (a = 469 ∧ s = v4) → jst g6 469 v4 a2 a s = g6 a s := fun a s y => jst_o y
  generalize eg7 : jst g6 469 v4 a2 = g7 at *
  have E5 : ∀ a s, ¬ (a = 463 ∧ s = v4) → ¬ (a = 469 ∧ s = v4) → g7 a s = h5 a s := fun a s y1 y2 => (F7 a s y2).trans (F6 a s y1)
  have FE7 : ∀ a s, ¬ (a = 454 ∧ s = 17) → ¬ (460 ≤ a ∧ a ≤ 469 ∧ a ≠ 464 ∧ s = v4) → g7 a s = h a s := fun a s y1 y2 => by { rw [E5 a s (by omega) (by omega)]; exact fr1 a s y1 (by rw [← v4e]; exact y2) }
  have e38 : g7 454 38 = h 454 38 := FE7 _ _ (by omega) (by omega)
  have x167 : isX16 (g7 454 38) := by { rw [e38]; exact x16 }
  have x38 : h 454 38 = 476 ∨ h 454 38 = 615 := x16
  have E4 : g7 (g7 454 38 + 4) a1 = (kA K).2.2.2.2.2.2.2 a1 := by { rw [e38, FE7 _ _ (by omega) (by omega)]; exact PC2 }
  have U7 : g7 454 43 = d := (FE7 _ _ (by omega) (by omega)).trans st1.1
  refine OK_jg (by (first | (exact x167) | (first | assumption | omega | ((try dsimp only [jt2, jt3, jt4]); first | omega | (simp (disch := omega) only [jst_eq, jst_ne, jst_ni, jst_o, jI_i, jcpy_out, w32_id, jdiv_nn, jshr_k, jand_255] <;> first | done | omega | assumption)) | (intros; simp (disch := omega) only [jst_eq, jst_ne, jst_ni, jst_o, jI_i, jcpy_out, w32_id, jdiv_nn, *] <;> first | done | omega) | (intros; simp (disch := omega) only [jst_eq, jst_ne, jst_ni, jst_o, jI_i, jcpy_out, w32_id, jdiv_nn] at * <;> first | done | omega | assumption) | (intros; first | rfl | (exfalso; omega) | ((repeat' apply And.intro) <;> first | assumption | rfl | omega | trivial))))) ?_ -- o6
  refine OK_jlx (fun x8 ex8 => ?_)
  try simp (disch := omega) only [jst_eq, jst_ne, jst_ni, jI_i, jcmp_lt, jcmp_gt, w32_id, jcpy_out, Sum.elim_inl, Sum.elim_inr, jt2, jt3, jt4, jt5, jt6, jt7, jt8] at ex8
  have X8 : x8 = a2 - (kA K).2.2.2.2.2.2.2 a1 := by { first | omega | (rw [ex8, w32_id (by omega) (by omega)]; omega) }
  refine OK_jg (by (first | (exact x167) | (first | assumption | omega | ((try dsimp only [jt2, jt3, jt4]); first | omega | (simp (disch := omega) only [jst_eq, jst_ne, jst_ni, jst_o, jI_i, jcpy_out, w32_id, jdiv_nn, jshr_k, jand_255] <;> first | done | omega | assumption)) | (intros; simp (disch := omega) only [jst_eq, jst_ne, jst_ni, jst_o, jI_i, jcpy_out, w32_id, jdiv_nn, *] <;> first | done | omega) | (intros; simp (disch := omega) only [jst_eq, jst_ne, jst_ni, jst_o, jI_i, jcpy_out, w32_id, jdiv_nn] at * <;> first | done | omega | assumption) | (intros; first | rfl | (exfalso; omega) | ((repeat' apply And.intro) <;> first | assumption | rfl | omega | trivial))))) ?_ -- o7
  refine OK_jlx (fun x9 ex9 => ?_)
  try simp (disch := omega) only [jst_eq, jst_ne, jst_ni, jI_i, jcmp_lt, jcmp_gt, w32_id, jcpy_out, Sum.elim_inl, Sum.elim_inr, jt2, jt3, jt4, jt5, jt6, jt7, jt8] at ex9
  refine OK_jl ?_
  have w43 : w32 (g7 454 43 + 1) = d + 1 := by { rw [U7]; exact w32_id (by omega) (by omega) }
  have F10 : ∀ a s, ¬ (a = 454 ∧ s = 43) → jst g7 454 43 (w32 (g7 454 43 + 1)) a s = g7 a s := fun a s y => jst_o y
  have K10 : jst g7 454 43 (w32 (g7 454 43 + 1)) 454 43 = d + 1 := jst_eq.trans w43
  generalize eg10 : jst g7 454 43 (w32 (g7 454 43 + 1)) = g10 at *
  have FE10 : ∀ a s, ¬ (a = 454 ∧ (s = 17 ∨ s = 43)) → ¬ (460 ≤ a ∧ a ≤ 469 ∧ a ≠ 464 ∧ s = v4) → g10 a s = h a s := fun a s y1 y2 => by { rw [F10 _ _ (by omega)]; exact FE7 a s (by omega) y2 }
  have M10 := MR_n (d := d) mr (by omega) (by omega) (fun a s y1 y2 y3 y4 => FE10 a s (by omega) (by omega))
  have N10 : g10 454 17 = h 454 17 + 1 := by { rw [F10 _ _ (by omega), E5 _ _ (by omega) (by omega)]; exact h5n }
  have KC : h 458 x1 = kch (eK E x1 (eO E x1)) := by { rw [AM.2.2.2.2.2.1, kind_eq ia.2.2.1, oper_eq ia.2.2.1] }
  have LM : lfM g10 (h 454 17) 0 (ndI E x1) := by { rw [← v4e]; exact ⟨by omega, by omega, by rw [F10 _ _ (by omega), E5 _ _ (by omega) (by omega)]; exact na1.2.2.2.1, by rw [F10 _ _ (by omega), E5 _ _ (by omega) (by omega)]; exact na1.2.2.2.2, by rw [F10 _ _ (by omega), E5 _ _ (by omega) (by omega), na1.2.1]; exact KC, fun z => by have : (2 : Int) = 0 := z; omega, fun z => by have : (2 : Int) = 1 := z; omega, fun _ => ⟨by rw [F10 _ _ (by omega), E5 _ _ (by omega) (by omega)]; exact na1.1, by rw [F10 _ _ (by omega), F7 _ _ (by omega)]; exact K6⟩, fun z => by have : (2 : Int) = 4 := z; omega, fun z => by have : (2 : Int) = 3 := z; omega, by show (0 : Int) ≤ 2; decide, by show (2 : Int) ≤ 4; decide⟩ }
  refine OK_jb (vX14_operands_l102 (E := E) (Rf := Rf) (W := W) (K := K) (tp := tp) (p := p) (T := T) (D := D) (w := w) (l0 := a2 - (kA K).2.2.2.2.2.2.2 a1) (i := a4) (d := d) (N := h 454 17) (hb := h) _ _ _ _ _ _ _ _ _ _ _ _ (by exact hF) (by exact M10.1) (by exact tq) (by exact ia) (by exact ⟨x2e, by omega, by omega⟩) (by omega) (by exact ⟨rowM_o rx.1 M10.2 rx.2.2, rx.2.1, rx.2.2, by omega, by omega, by omega⟩) (by exact ⟨K10, lnW_o st.2.1 M10.2 (by omega), v4e, by omega, by omega⟩) (by (rw [X8]; exact ⟨s0T, fun _ => .leaf (0, 0, 0, 0), 0, opS_0 _, ⟨rfl, rfl, rfl⟩, ⟨by omega, Int.le_refl _, by omega⟩, ⟨ps.1, by (rw [Int.sub_zero]; exact ps.2.1), by (rw [Int.sub_zero]; exact ps.2.2)⟩, fun R f r op => by (rw [Int.sub_zero] at op; exact op), md_02 (by omega) N10 LM (fun a s a0 a1 y => FE10 a s (by omega) (by omega)), by omega⟩)) (by rfl)) (fun o11 r2 => ?_)
  obtain ⟨y13, y14, y15, y16, h17⟩ := o11
  refine OK_jt5 ?_
  try dsimp only [Sum.elim_inl, Sum.elim_inr, jt2, jt3, jt4, jt5, jt6, jt7, jt8] at r2
  obtain ⟨fd2, mr2, fs2⟩ := r2
  try simp (disch := omega) only [jst_eq, jst_ne, jst_ni, jI_i, jcmp_lt, jcmp_gt, w32_id, jcpy_out, Sum.elim_inl, Sum.elim_inr, jt2, jt3, jt4, jt5, jt6, jt7, jt8] at fd2
  try simp (disch := omega) only [jst_eq, jst_ne, jst_ni, jI_i, jcmp_lt, jcmp_gt, w32_id, jcpy_out, Sum.elim_inl, Sum.elim_inr, jt2, jt3, jt4, jt5, jt6, jt7, jt8] at mr2
  try simp (disch := omega) only [jst_eq, jst_ne, jst_ni, jI_i, jcmp_lt, jcmp_gt, w32_id, jcpy_out, Sum.elim_inl, Sum.elim_inr, jt2, jt3, jt4, jt5, jt6, jt7, jt8] at fs2
  obtain ⟨left, sg, g, used, o1, o2, o3, o4, o5, o6, o7⟩ := fd2
  have OT := opS_T tq.1 tq.2.1 ia o1 rfl (by omega) (by omega)
  have IXE : ixS E W (kP K) (LV E W (kP K) (kA K) p) x1 sg = ixC E W (kP K) (LV E W (kP K) (kA K) p) x1 y13 y14 y15 := by { show ixC E W (kP K) (LV E W (kP K) (kA K) p) x1 (sg 0) (sg 1) (sg 2) = _; rw [o2.1, o2.2.1, o2.2.2] }
  rw [o2.1, o2.2.1, o2.2.2] at OT
  have U17 := fs2.2
  refine OK_jl ?_
  have w44 : w32 (h17 454 43 - 1) = d := by { rw [U17, w32_id (by omega) (by omega)]; omega }
  have F18 : ∀ a s, ¬ (a = 454 ∧ s = 43) → jst h17 454 43 (w32 (h17 454 43 - 1)) a s = h17 a s := fun a s y => jst_o y
  have K18 : jst h17 454 43 (w32 (h17 454 43 - 1)) 454 43 = d := jst_eq.trans w44
  generalize eg18 : jst h17 454 43 (w32 (h17 454 43 - 1)) = g18 at *
  refine OK_jl ?_
  have F19 : ∀ a s, ¬ (a = 454 ∧ s = 49) → jst g18 454 49 v4 a s = g18 a s := fun a s y => jst_o y
  have K19 : jst g18 454 49 v4 454 49 = v4 := jst_eq
  generalize eg19 : jst g18 454 49 v4 = g19 at *
  have FE19 : ∀ a s, ¬ (a = 454 ∧ (s = 43 ∨ s = 49)) → g19 a s = h17 a s := fun a s y => (F19 a s (by omega)).trans (F18 a s (by omega))
  have M19 := MR_n (d := d) mr2 (by omega) (by omega) (fun a s y1 y2 y3 y4 => FE19 a s (by omega))
  refine OK_jb2 (vX14_result (E := E) (Rf := Rf) (W := W) (K := K) (tp := tp) (p := p) (T := T) _ _ _ _ (by exact ⟨M19.1.1, M19.1.2.1, M19.1.2.2.1, ia.2.2, OT.1, OT.2.1⟩)) (fun v21 h22 r3 => ?_)
  try dsimp only [Sum.elim_inl, Sum.elim_inr, jt2, jt3, jt4, jt5, jt6, jt7, jt8] at r3
  obtain ⟨rs3, cm3, fs3⟩ := r3
  try simp (disch := omega) only [jst_eq, jst_ne, jst_ni, jI_i, jcmp_lt, jcmp_gt, w32_id, jcpy_out, Sum.elim_inl, Sum.elim_inr, jt2, jt3, jt4, jt5, jt6, jt7, jt8] at rs3
  try simp (disch := omega) only [jst_eq, jst_ne, jst_ni, jI_i, jcmp_lt, jcmp_gt, w32_id, jcpy_out, Sum.elim_inl, Sum.elim_inr, jt2, jt3, jt4, jt5, jt6, jt7, jt8] at cm3
  try simp (disch := omega) only [jst_eq, jst_ne, jst_ni, jI_i, jcmp_lt, jcmp_gt, w32_id, jcpy_out, Sum.elim_inl, Sum.elim_inr, jt2, jt3, jt4, jt5, jt6, jt7, jt8] at fs3
  have M22 := MR_R M19.1 (by omega) fs3.1 cm3 fs3.2
  refine OK_jl ?_
  have F23 : ∀ a s, ¬ (a = 454 ∧ s = 50) → jst h22 454 50 v21 a s = h22 a s := fun a s y => jst_o y
  have K23 : jst h22 454 50 v21 454 50 = v21 := jst_eq
  generalize eg23 : jst h22 454 50 v21 = g23 at *
  have M23 := MR_n (d := d) M22 (by omega) (by omega) (fun a s y1 y2 y3 y4 => F23 a s (by omega))
  have PM23 : pm g23 = pm h17 := pm_f (fun a s y => by rw [F23 _ _ (by omega), fs3.1 _ _ (by omega) (by omega) (by omega)]; exact FE19 a s (by omega))
  have V23 : g23 454 49 = h 454 17 := by { rw [F23 _ _ (by omega), fs3.1 _ _ (by omega) (by omega) (by omega), K19]; exact v4e }
  have m0 : (eO E x1 - eO E x1).toNat = 0 := by omega
  rw [m0] at o5
  refine OK_some ?_
  try dsimp only [Sum.elim_inl, Sum.elim_inr, jt2, jt3, jt4, jt5, jt6, jt7, jt8]
  try dsimp only [Sum.elim_inl, Sum.elim_inr, jt2, jt3, jt4, jt5, jt6, jt7, jt8]
  refine ⟨?_, ?_, ?_, ?_⟩
  · exact ⟨ndT (eO E x1) (ndI E x1) g, ixS E W (kP K) (LV E W (kP K) (kA K) p) x1 sg, o5 _ _ _ ⟨rfl, rfl, rfl⟩, by (rw [V23, PM23]; exact md_end (by omega) rfl o6), by (rw [K23, IXE]; first | exact rs3 | assumption)⟩ -- o19 e1.1
  · exact M23.1 -- o20 e1.2
  · exact fMo_t M10.2 (fMo_t fs2.1 (fMo_t M19.2 (fMo_t (fR_o fs3.1 (by omega)) M23.2))) -- o21 e1.3
  · (rw [F23 _ _ (by omega), fs3.1 _ _ (by omega) (by omega) (by omega), F19 _ _ (by omega)]; exact K18) -- o22 e1.4

