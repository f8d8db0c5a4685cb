/-! x: a level's offers of an act -/
def tyV (pts : Int) (T : TB) : Prop := ∀ a p, 0 ≤ a → a < T.1 → 0 ≤ p → p < pts → okV (T.2.1 a) (T.2.2.2.2.2 a p)
def eQ (T0 : TB) (q : Int) (T : TB) : Prop := extT T0 T ∧ ∀ a, T0.1 ≤ a → a < T.1 → T.2.2.1 a = q
def PG (E : EV) (W : Int → Int → Int → VW) (A : AD) (pts : Int) (T0 : TB) (q : Int) : Prop := VA E A pts ∧ GT E W pts A (q - 1) T0 ∧ T0.1 ≤ 120 ∧ tyV pts T0 ∧ 1 ≤ q ∧ q ≤ 12
theorem rF_s {st : Int → TB → TB} {T : TB} {a : Int} (h : 0 ≤ a) : rF st (a + 1).toNat T = st a (rF st a.toNat T) := by
  rw [show (a + 1).toNat = a.toNat + 1 by omega]
  show st ((a.toNat : Nat) : Int) (rF st a.toNat T) = _
  rw [show ((a.toNat : Nat) : Int) = a by omega]
theorem eQ_r (T : TB) (q : Int) : eQ T q T := ⟨extT_r T, fun a a0 a1 => by omega⟩
section EQS
variable {E : EV} {W : Int → Int → Int → VW} {pts : Int} {A : AD} {T0 : TB} {q k ac left x y z : Int} {T : TB}
theorem eQ_s {kk d : Int} {o u : Int → Int} (e : eQ T0 q T) : eQ T0 q (stepT pts T kk q d o u) := by
  by_cases h : hasT pts T kk u
  · rw [stepT_h h]; exact e
  · rw [stepT_n h]
    have l := e.1.1
    refine ⟨extT_t e.1 (extT_add _ _ _ _ _ _), fun a a0 a1 => ?_⟩
    have a2 : a < T.1 + 1 := a1
    show up1 T.2.2.1 T.1 q a = q
    by_cases y : a = T.1
    · rw [y, up1_e]
    · rw [up1_o y]; exact e.2 a a0 (by omega)
theorem eQ_m1 (e : eQ T0 q T) : eQ T0 q (m1 E W pts A T0 q k ac left x T) := by
  by_cases h : k1 E T0 ac left x
  · rw [m1_y h]; exact eQ_s e
  · rw [m1_n h]; exact e
theorem eQ_m2 (e : eQ T0 q T) : eQ T0 q (m2 E W pts A T0 q k ac left x y T) := by
  by_cases h : k2 E T0 ac left x y
  · rw [m2_y h]; exact eQ_s e
  · rw [m2_n h]; exact e
theorem eQ_m3 (e : eQ T0 q T) : eQ T0 q (m3 E W pts A T0 q k ac left x y z T) := by
  by_cases h : k3 E T0 ac left x y z
  · rw [m3_y h]; exact eQ_s e
  · rw [m3_n h]; exact e
theorem eQ_F {st : Int → TB → TB} (hs : ∀ k T, eQ T0 q T → eQ T0 q (st k T)) (e : eQ T0 q T) : ∀ n : Nat, eQ T0 q (rF st n T)
  | 0 => e
  | n + 1 => hs _ _ (eQ_F hs e n)
theorem eQ_s3y (e : eQ T0 q T) : eQ T0 q (s3y E W pts A T0 q k ac left x y T) := eQ_F (fun _ _ g => eQ_m3 g) e _
/-- of the second operand -/
noncomputable def sY (E : EV) (W : Int → Int → Int → VW) (pts : Int) (A : AD) (T0 : TB) (q k ac left x y : Int) (T : TB) : TB := if eO E ac = 2 then m2 E W pts A T0 q k ac left x y T else s3y E W pts A T0 q k ac left x y T
theorem eQ_sY (e : eQ T0 q T) : eQ T0 q (sY E W pts A T0 q k ac left x y T) := by
  unfold sY
  by_cases h : eO E ac = 2
  · rw [if_pos h]; exact eQ_m2 e
  · rw [if_neg h]; exact eQ_s3y e
theorem ext_sY : extT T (sY E W pts A T0 q k ac left x y T) := by
  unfold sY
  by_cases h : eO E ac = 2
  · rw [if_pos h]; exact ext_m2
  · rw [if_neg h]; exact ext_s3y
theorem sX_2 (h : eO E ac ≠ 1) : sX E W pts A T0 q k ac left x T = rF (fun y => sY E W pts A T0 q k ac left x y) T0.1.toNat T := by
  unfold sX
  rw [if_neg h]
  by_cases h2 : eO E ac = 2
  · rw [if_pos h2]
    unfold s2
    congr 1
    funext y T
    unfold sY
    rw [if_pos h2]
  · rw [if_neg h2]
    unfold s3
    congr 1
    funext y T
    unfold sY
    rw [if_neg h2]
theorem eQ_sX (e : eQ T0 q T) : eQ T0 q (sX E W pts A T0 q k ac left x T) := by
  by_cases h : eO E ac = 1
  · unfold sX; rw [if_pos h]; exact eQ_m1 e
  · rw [sX_2 h]; exact eQ_F (fun _ _ g => eQ_sY g) e _
theorem eQ_ac (e : eQ T0 q T) : eQ T0 q (acT E W pts A T0 q k ac left T) := eQ_F (fun _ _ g => eQ_sX g) e _
theorem sY_skip (hp : ∀ a, 0 ≤ a → a < T0.1 → 1 ≤ T0.2.2.1 a) (n2 : eO E ac ≠ 2 → eO E ac = 3) (h : T0.2.1 y ≠ eK E ac 1 ∨ (eO E ac = 2 ∧ T0.2.2.1 x + T0.2.2.1 y ≠ left) ∨ (eO E ac = 3 ∧ left < T0.2.2.1 x + T0.2.2.1 y + 1)) : sY E W pts A T0 q k ac left x y T = T := by
  unfold sY
  by_cases c : eO E ac = 2
  · rw [if_pos c]
    refine m2_n (fun e => ?_)
    rcases h with h | h | h
    · exact h e.2.1
    · exact h.2 e.2.2
    · omega
  · rw [if_neg c]
    refine s3y_skip (fun z z0 z1 _ e => ?_)
    have := hp z z0 z1
    rcases h with h | h | h
    · exact h e.2.1
    · omega
    · omega
theorem sX_skip (hp : ∀ a, 0 ≤ a → a < T0.1 → 1 ≤ T0.2.2.1 a) (n2 : 1 ≤ eO E ac ∧ eO E ac ≤ 3) (h : T0.2.1 x ≠ eK E ac 0 ∨ (eO E ac = 1 ∧ T0.2.2.1 x ≠ left) ∨ left < T0.2.2.1 x + eO E ac - 1) : sX E W pts A T0 q k ac left x T = T := by
  by_cases c : eO E ac = 1
  · unfold sX
    rw [if_pos c]
    refine m1_n (fun e => ?_)
    rcases h with h | h | h
    · exact h e.1
    · exact h.2 e.2
    · have := e.2; omega
  · rw [sX_2 c]
    refine rF_id _ (fun y T' y0 y1 => ?_)
    by_cases c2 : eO E ac = 2
    · unfold sY
      rw [if_pos c2]
      refine m2_n (fun e => ?_)
      have := hp y y0 (by omega)
      have := e.2.2
      rcases h with h | h | h
      · exact h e.1
      · omega
      · omega
    · unfold sY
      rw [if_neg c2]
      refine s3y_skip (fun z z0 z1 _ e => ?_)
      have := hp y y0 (by omega)
      have := hp z z0 z1
      rcases h with h | h | h
      · exact h e.1
      · omega
      · omega
end EQS
theorem GVP_of {E : EV} {pts : Int} {T0 T : TB} {ac x y z p : Int} (o : tyV pts T0) (ex : extT T0 T) (an : 0 ≤ ac ∧ ac < E.1.1) (ar : arT E T0 T0.1 ac x y z) (p0 : 0 ≤ p) (p1 : p < pts) : GVP E ac (vlO T.2.2.2.2.2 x p) (vlO T.2.2.2.2.2 y p) (vlO T.2.2.2.2.2 z p) := by
  have b := arT_b ar
  have c : ∀ v k, (0 ≤ v ∧ v < T0.1 ∧ T0.2.1 v = k) → okV k (vlO T.2.2.2.2.2 v p) := fun v k h => by
    rw [vlO_e ex h.2.1]
    unfold vlO
    rw [if_pos h.1, ← h.2.2]
    exact o v p h.1 h.2.1 p0 p1
  refine ⟨an.1, an.2, fun _ _ => ⟨c _ _ ar.1, fun e => ?_, fun e => ?_⟩⟩
  · rcases ar.2 with r | r | r
    · omega
    · exact c _ _ r.2.1
    · omega
  · rcases ar.2 with r | r | r
    · rw [r.2.1]; rfl
    · omega
    · omega
theorem GT_le {E : EV} {W : Int → Int → Int → VW} {pts : Int} {A : AD} {q : Int} {T : TB} (g : GT E W pts A q T) {a b : Int} (a0 : 0 ≤ a) (l : a ≤ b) (b1 : b < T.1) : T.2.2.1 a ≤ T.2.2.1 b := by
  by_cases e : a = b
  · rw [e]; exact Int.le_refl _
  · rcases g.2.2.1 a b a0 (by omega) b1 with h | h
    · omega
    · omega
/-- the part of an ask that a loop over an act's operands needs -/
def iA (E : EV) (A : AD) (T0 : TB) (q k d left ac n : Int) : Prop := (0 ≤ k ∧ k < A.2.2.2.1) ∧ A.2.2.2.2.1 k = ac ∧ (0 ≤ ac ∧ ac < E.1.1) ∧ eO E ac = n ∧ d = A.1 + k ∧ left = q - A.2.2.2.2.2.2.2 k
def b10 (h : AH) : Prop := -2147483648 ≤ h 200 10 ∧ h 200 10 < 2147483648
/-- the search found no room -/
def flX (h h' : AH) (E : EV) (W : Int → Int → Int → VW) (A : AD) (pts : Int) (M : Int → (Int → Int) → Prop) (T0 : TB) (q : Int) (TE : TB) : Prop := 120 < TE.1 ∧ (∃ T, eQ T0 q T ∧ XI h' E W A pts M T) ∧ fG h h' ∧ b10 h'
def okX (h h' : AH) (E : EV) (W : Int → Int → Int → VW) (A : AD) (pts : Int) (M : Int → (Int → Int) → Prop) (TE : TB) : Prop := XI h' E W A pts M TE ∧ fG h h' ∧ b10 h'
theorem XI_h {h : AH} {E : EV} {W : Int → Int → Int → VW} {A : AD} {pts : Int} {M : Int → (Int → Int) → Prop} {T : TB} (xi : XI h E W A pts M T) : h 307 0 = T.1 ∧ 0 ≤ T.1 ∧ T.1 ≤ 120 ∧ ∀ a, 0 ≤ a → a < T.1 → h 308 a = T.2.1 a ∧ h 309 a = T.2.2.1 a := by
  obtain ⟨t1, t2, t3, t4, t5, t6, t7, t8⟩ := xi.2.1
  exact ⟨t5, t6, t7, fun a a0 a1 => ⟨(t8 a a0 a1).1, (t8 a a0 a1).2.1⟩⟩
theorem kind_eq {E : EV} {ac k : Int} (a : 0 ≤ ac) : E.1.2.2.2.2 ac k = eK E ac k := by unfold eK; rw [if_neg (by omega)]
theorem oper_eq {E : EV} {ac : Int} (a : 0 ≤ ac) : E.1.2.2.1 ac = eO E ac := by unfold eO; rw [if_neg (by omega), if_neg (by omega)]
theorem vX5_growAct_l227 (i1 : Int) (i2 : Int) (i3 : Int) (i4 : Int) (i5 : Int) (i6 : Int) (i7 : Int) (i8 : Int) (i9 : Int) (a100 : Int) {h0 : AH} {E : EV} {Rf : Int → TR} {W : Int → Int → Int → VW} {f : Int → Int → Int → Int} {A : AD} {pts wh : Int} {rv : Int → Int} {M : Int → (Int → Int) → Prop} {T0 T1 : TB} (g : seX h0 E Rf W f A pts wh rv) (xi : XI h0 E W A pts M T1) (pg : PG E W A pts T0 i1) (eq : eQ T0 i1 T1) (ia : iA E A T0 i1 i2 i3 i4 i5 3) (ix : (0 ≤ i7 ∧ i7 < T0.1 ∧ T0.2.1 i7 = eK E i5 0) ∧ i8 = i4 - T0.2.2.1 i7 ∧ (0 ≤ i9 ∧ i9 < T0.1 ∧ T0.2.1 i9 = eK E i5 1)) (z : a100 = 0) : OK (gX5_growAct_l227 i1 i2 i3 i4 i5 i6 i7 i8 i9 a100 h0) (Sum.elim (fun h' => flX h0 h' E W A pts M T0 i1 (s3y E W pts A T0 i1 i2 i5 i4 i7 i9 T1)) (fun h' => okX h0 h' E W A pts M (s3y E W pts A T0 i1 i2 i5 i4 i7 i9 T1))) := by
  unfold gX5_growAct_l227
  refine OK_jit (I := (fun (s : Int × AH) => jt2 s fun a10 h => (0 ≤ a10 ∧ a10 ≤ T0.1) ∧ (XI h E W A pts M (rF (fun z => m3 E W pts A T0 i1 i2 i5 i4 i7 i9 z) a10.toNat T1)) ∧ (fG h0 h) ∧ (b10 h))) (m := (fun (s : Int × AH) => jt2 s fun a10 h => (T0.1 - a10).toNat)) ?_ ?_
  · intro s hs
    obtain ⟨a10, h⟩ := s
    dsimp only [Sum.elim_inl, Sum.elim_inr, jt2, jt3, jt4, jt5, jt6, jt7, jt8] at hs
    obtain ⟨q0, q1, fr, bb⟩ := hs
    unfold gX5_growAct_b227
    refine OK_jt2 ?_
    have G := seX_G g fr bb
    have EQ := eQ_F (fun z T e => eQ_m3 (E := E) (W := W) (pts := pts) (A := A) (k := i2) (ac := i5) (left := i4) (x := i7) (y := i9) (z := z) e) eq a10.toNat
    generalize eT : rF (fun z => m3 E W pts A T0 i1 i2 i5 i4 i7 i9 z) a10.toNat T1 = T at *
    obtain ⟨H1, H2, H3, H4⟩ := XI_h q1
    have L := EQ.1.1
    have en := G.1.2.1
    have g1 := pg.2.1
    have wx := g1.2.1 i7 ix.1.1 ix.1.2.1
    have wy := g1.2.1 i9 ix.2.2.1 ix.2.2.2.1
    have py := (EQ.1.2 i9 ix.2.2.1 ix.2.2.2.1).2.1
    have hy := (H4 i9 ix.2.2.1 (by omega)).2
    have pp := (pg.1.2.2 i2 ia.1.1 ia.1.2).1
    have il := ia.2.2.2.2.2
    have pq := pg.2.2.2.2
    have w8 : w32 (i8 - h 309 i9) = i8 - h 309 i9 := w32_id (by omega) (by omega)
    refine OK_if (fun c1 => ?_) (fun c1 => ?_)
    · skip
      try simp (disch := omega) only [jst_eq, jst_ne, jst_ni, jI_i, jcmp_lt, jcmp_gt, w32_id, jcpy_out, Sum.elim_inl, Sum.elim_inr, jt2, jt3, jt4, jt5, jt6, jt7, jt8] at c1
      refine OK_ir ?_
      (refine ⟨?_, fr, bb⟩; have e : a10 = T0.1 := (by omega); unfold s3y; rw [← e, eT]; exact q1) -- o1 e1
    · skip
      try simp (disch := omega) only [jst_eq, jst_ne, jst_ni, jI_i, jcmp_lt, jcmp_gt, w32_id, jcpy_out, Sum.elim_inl, Sum.elim_inr, jt2, jt3, jt4, jt5, jt6, jt7, jt8] at c1
      refine OK_jg (by (first | assumption | omega | ((try dsimp only [jt2, jt3, jt4]); first | omega | (simp (disch := omega) only [jst_eq, jst_ne, jst_ni, jst_o, jI_i, jcpy_out, w32_id, jdiv_nn, jshr_k, jand_255] <;> first | done | omega | assumption)) | (intros; simp (disch := omega) only [jst_eq, jst_ne, jst_ni, jst_o, jI_i, jcpy_out, w32_id, jdiv_nn, *] <;> first | done | omega) | (intros; simp (disch := omega) only [jst_eq, jst_ne, jst_ni, jst_o, jI_i, jcpy_out, w32_id, jdiv_nn] at * <;> first | done | omega | assumption) | (intros; first | rfl | (exfalso; omega) | ((repeat' apply And.intro) <;> first | assumption | rfl | omega | trivial)))) ?_ -- o2
      refine OK_jg (by (first | assumption | omega | ((try dsimp only [jt2, jt3, jt4]); first | omega | (simp (disch := omega) only [jst_eq, jst_ne, jst_ni, jst_o, jI_i, jcpy_out, w32_id, jdiv_nn, jshr_k, jand_255] <;> first | done | omega | assumption)) | (intros; simp (disch := omega) only [jst_eq, jst_ne, jst_ni, jst_o, jI_i, jcpy_out, w32_id, jdiv_nn, *] <;> first | done | omega) | (intros; simp (disch := omega) only [jst_eq, jst_ne, jst_ni, jst_o, jI_i, jcpy_out, w32_id, jdiv_nn] at * <;> first | done | omega | assumption) | (intros; first | rfl | (exfalso; omega) | ((repeat' apply And.intro) <;> first | assumption | rfl | omega | trivial)))) ?_ -- o3
      refine OK_if (fun c2 => ?_) (fun c2 => ?_)
      · skip
        try simp (disch := omega) only [jst_eq, jst_ne, jst_ni, jI_i, jcmp_lt, jcmp_gt, w32_id, jcpy_out, Sum.elim_inl, Sum.elim_inr, jt2, jt3, jt4, jt5, jt6, jt7, jt8] at c2
        refine OK_ir ?_
        (refine ⟨?_, fr, bb⟩; unfold s3y; rw [rF_to (m := a10.toNat) _ (fun z T' z0 z1 => m3_n (fun y => by (have := GT_le g1 (a := a10) (b := z) (by omega) (by omega) (by omega); have e10 := (EQ.1.2 a10 q0.1 (by omega)).2.1; have h10 := (H4 a10 q0.1 (by omega)).2; have := y.2.2.2; omega))) (by omega), eT]; exact q1) -- o4 e2
      · skip
        try simp (disch := omega) only [jst_eq, jst_ne, jst_ni, jI_i, jcmp_lt, jcmp_gt, w32_id, jcpy_out, Sum.elim_inl, Sum.elim_inr, jt2, jt3, jt4, jt5, jt6, jt7, jt8] at c2
        have h10 := (H4 a10 q0.1 (by omega))
        have n10 : a10 < T0.1 := by { by_cases y : a10 < T0.1; { exact y }; { have := EQ.2 a10 (by omega) (by omega); omega } }
        have e10 := (EQ.1.2 a10 q0.1 n10)
        have RS := rF_s (st := fun z => m3 E W pts A T0 i1 i2 i5 i4 i7 i9 z) (T := T1) q0.1
        refine OK_jb (vX1_kindOf (nA := E.1.1) (cA := E.1.2.1) (oA := E.1.2.2.1) (wA := E.1.2.2.2.1) (kA := E.1.2.2.2.2) _ _ (by exact en.1) (by exact ⟨ia.2.2.1.1, ia.2.2.1.2, by decide, by (rw [oper_eq ia.2.2.1.1, ia.2.2.2.1]; decide)⟩)) (fun v52 r1 => ?_)
        try dsimp only [Sum.elim_inl, Sum.elim_inr, jt2, jt3, jt4, jt5, jt6, jt7, jt8] at r1
        have v1 := r1
        clear r1
        try simp (disch := omega) only [jst_eq, jst_ne, jst_ni, jI_i, jcmp_lt, jcmp_gt, w32_id, jcpy_out, Sum.elim_inl, Sum.elim_inr, jt2, jt3, jt4, jt5, jt6, jt7, jt8] at v1
        have e52 : v52 = eK E i5 2 := by { rw [← kind_eq ia.2.2.1.1]; first | exact kd1 | assumption }
        refine OK_if (fun c3 => ?_) (fun c3 => ?_)
        · skip
          try simp (disch := omega) only [jst_eq, jst_ne, jst_ni, jI_i, jcmp_lt, jcmp_gt, w32_id, jcpy_out, Sum.elim_inl, Sum.elim_inr, jt2, jt3, jt4, jt5, jt6, jt7, jt8] at c3
          have AR : 0 ≤ a10 → T0.2.2.1 i7 + T0.2.2.1 i9 + T0.2.2.1 a10 = i4 → arT E T0 T0.1 i5 i7 i9 a10 := fun _ _ => ⟨ix.1, Or.inr (Or.inr ⟨ia.2.2.2.1, ix.2.2, q0.1, n10, by rw [← e10.1, ← h10.1]; omega⟩)⟩
          refine OK_if (fun c4 => ?_) (fun c4 => ?_)
          · skip
            try simp (disch := omega) only [jst_eq, jst_ne, jst_ni, jI_i, jcmp_lt, jcmp_gt, w32_id, jcpy_out, Sum.elim_inl, Sum.elim_inr, jt2, jt3, jt4, jt5, jt6, jt7, jt8] at c4
            have SM : T0.2.2.1 i7 + T0.2.2.1 i9 + T0.2.2.1 a10 = i4 := by omega
            have AR := AR q0.1 SM
            have K3 : k3 E T0 i5 i4 i7 i9 a10 := ⟨ix.1.2.2, ix.2.2.2.2, by rw [← e10.1, ← h10.1]; omega, SM⟩
            refine OK_jb2 (vX5_makes (E := E) (Rf := Rf) (W := W) (f := f) (N := T.1) (pts := pts) (kd := T.2.1) (wt := T.2.2.1) (hd := T.2.2.2.1) (op := T.2.2.2.2.1) (vl := T.2.2.2.2.2) (ac := i5) _ _ _ _ _ _ (by exact q1.2.1) (by exact en) (by exact G.1.2.2.1) (by exact G.1.2.2.2) (by exact ⟨ia.1.1, by (have := G.2.2.2.1.2.2.1; have := ia.1.2; omega), by (rw [(G.2.2.2.1.2.2.2 i2 ia.1.1 ia.1.2).1]; exact ia.2.1), ia.2.2.1.1, ia.2.2.1.2⟩) (by exact ⟨ix.1.1, by omega, by omega, by omega, by omega, by omega, fun _ => ix.2.2.1⟩) (by exact fun p p0 p1 => GVP_of pg.2.2.2.1 EQ.1 ia.2.2.1 AR p0 p1)) (fun v56 h57 r2 => ?_)
            try dsimp only [Sum.elim_inl, Sum.elim_inr, jt2, jt3, jt4, jt5, jt6, jt7, jt8] at r2
            have ex2 := r2
            clear r2
            try simp (disch := omega) only [jst_eq, jst_ne, jst_ni, jI_i, jcmp_lt, jcmp_gt, w32_id, jcpy_out, Sum.elim_inl, Sum.elim_inr, jt2, jt3, jt4, jt5, jt6, jt7, jt8] at ex2
            have MS := mk_step (T0 := T0) (M := M) (q := i1) (k := i2) (x := i7) (y := i9) (z := a10) ia.2.2.2.2.1 q1 en.2.1 EQ.1 ⟨ia.1.1, by (have := G.2.2.2.1.2.2.1; have := ia.1.2; omega)⟩ ia.2.1 ia.2.2.1 AR (by first | exact ex2 | exact ex1)
            have RM : rF (fun z => m3 E W pts A T0 i1 i2 i5 i4 i7 i9 z) (a10 + 1).toNat T1 = mkT E W pts A T0 i1 i2 i5 i7 i9 a10 T := by { rw [RS, eT]; exact m3_y K3 }
            refine OK_if (fun c5 => ?_) (fun c5 => ?_)
            · skip
              try simp (disch := omega) only [jst_eq, jst_ne, jst_ni, jI_i, jcmp_lt, jcmp_gt, w32_id, jcpy_out, Sum.elim_inl, Sum.elim_inr, jt2, jt3, jt4, jt5, jt6, jt7, jt8] at c5
              refine OK_ir ?_
              (refine ⟨?_, ?_, fG_t fr MS.1, MS.2.1⟩; { rcases MS.2.2 with r | r; { have := r.2.1; rw [← RM] at this; have := (extT_FF (st := fun z => m3 E W pts A T0 i1 i2 i5 i4 i7 i9 z) (T := T1) (n := T0.1.toNat) (fun _ _ _ _ => ext_m3) (m := (a10 + 1).toNat) T0.1.toNat (by omega) (Nat.le_refl _)).1; unfold s3y; omega }; { exact absurd c5 r.1 } }; { exact ⟨T, EQ, by (rcases MS.2.2 with r | r; { exact r.2.2 }; { exact absurd c5 r.1 })⟩ }) -- o14 e3
            · skip
              try simp (disch := omega) only [jst_eq, jst_ne, jst_ni, jI_i, jcmp_lt, jcmp_gt, w32_id, jcpy_out, Sum.elim_inl, Sum.elim_inr, jt2, jt3, jt4, jt5, jt6, jt7, jt8] at c5
              have XN : XI h57 E W A pts M (rF (fun z => m3 E W pts A T0 i1 i2 i5 i4 i7 i9 z) (a10 + 1).toNat T1) := by { rw [RM]; rcases MS.2.2 with r | r; { exact absurd r.1 c5 }; { exact r.2 } }
              have w10 : w32 (a10 + 1) = a10 + 1 := w32_id (by omega) (by omega)
              unfold gX5_growAct_j315_227
              refine OK_jlx (fun x59 ex59 => ?_)
              try simp (disch := omega) only [jst_eq, jst_ne, jst_ni, jI_i, jcmp_lt, jcmp_gt, w32_id, jcpy_out, Sum.elim_inl, Sum.elim_inr, jt2, jt3, jt4, jt5, jt6, jt7, jt8] at ex59
              refine OK_il ?_ ?_
              · try dsimp only [Sum.elim_inl, Sum.elim_inr, jt2, jt3, jt4, jt5, jt6, jt7, jt8]
                refine ⟨?_, ?_, ?_, ?_⟩
                · (first | assumption | omega | ((try dsimp only [jt2, jt3, jt4]); first | omega | (simp (disch := omega) only [jst_eq, jst_ne, jst_ni, jst_o, jI_i, jcpy_out, w32_id, jdiv_nn, jshr_k, jand_255] <;> first | done | omega | assumption)) | (intros; simp (disch := omega) only [jst_eq, jst_ne, jst_ni, jst_o, jI_i, jcpy_out, w32_id, jdiv_nn, *] <;> first | done | omega) | (intros; simp (disch := omega) only [jst_eq, jst_ne, jst_ni, jst_o, jI_i, jcpy_out, w32_id, jdiv_nn] at * <;> first | done | omega | assumption) | (intros; first | rfl | (exfalso; omega) | ((repeat' apply And.intro) <;> first | assumption | rfl | omega | trivial))) -- o15 e4i.1
                · (try rw [w10]); first | exact XN | (rw [show x59 = a10 + 1 by omega]; exact XN) -- o16 e4i.2
                · exact fG_t fr MS.1 -- o17 e4i.3
                · exact MS.2.1 -- o18 e4i.4
              · (first | assumption | omega | ((try dsimp only [jt2, jt3, jt4]); first | omega | (simp (disch := omega) only [jst_eq, jst_ne, jst_ni, jst_o, jI_i, jcpy_out, w32_id, jdiv_nn, jshr_k, jand_255] <;> first | done | omega | assumption)) | (intros; simp (disch := omega) only [jst_eq, jst_ne, jst_ni, jst_o, jI_i, jcpy_out, w32_id, jdiv_nn, *] <;> first | done | omega) | (intros; simp (disch := omega) only [jst_eq, jst_ne, jst_ni, jst_o, jI_i, jcpy_out, w32_id, jdiv_nn] at * <;> first | done | omega | assumption) | (intros; first | rfl | (exfalso; omega) | ((repeat' apply And.intro) <;> first | assumption | rfl | omega | trivial))) -- o19 e4m
          · skip
            try simp (disch := omega) only [jst_eq, jst_ne, jst_ni, jI_i, jcmp_lt, jcmp_gt, w32_id, jcpy_out, Sum.elim_inl, Sum.elim_inr, jt2, jt3, jt4, jt5, jt6, jt7, jt8] at c4
            have XN : XI h E W A pts M (rF (fun z => m3 E W pts A T0 i1 i2 i5 i4 i7 i9 z) (a10 + 1).toNat T1) := by { rw [RS, eT, m3_n (fun y => by have := y.2.2.2; omega)]; exact q1 }
            unfold gX5_growAct_j315_227
            refine OK_jlx (fun x59 ex59 => ?_)
            try simp (disch := omega) only [jst_eq, jst_ne, jst_ni, jI_i, jcmp_lt, jcmp_gt, w32_id, jcpy_out, Sum.elim_inl, Sum.elim_inr, jt2, jt3, jt4, jt5, jt6, jt7, jt8] at ex59
            refine OK_il ?_ ?_
            · try dsimp only [Sum.elim_inl, Sum.elim_inr, jt2, jt3, jt4, jt5, jt6, jt7, jt8]
              refine ⟨?_, ?_, ?_, ?_⟩
              · (first | assumption | omega | ((try dsimp only [jt2, jt3, jt4]); first | omega | (simp (disch := omega) only [jst_eq, jst_ne, jst_ni, jst_o, jI_i, jcpy_out, w32_id, jdiv_nn, jshr_k, jand_255] <;> first | done | omega | assumption)) | (intros; simp (disch := omega) only [jst_eq, jst_ne, jst_ni, jst_o, jI_i, jcpy_out, w32_id, jdiv_nn, *] <;> first | done | omega) | (intros; simp (disch := omega) only [jst_eq, jst_ne, jst_ni, jst_o, jI_i, jcpy_out, w32_id, jdiv_nn] at * <;> first | done | omega | assumption) | (intros; first | rfl | (exfalso; omega) | ((repeat' apply And.intro) <;> first | assumption | rfl | omega | trivial))) -- o20 e5i.1
              · (first | exact XN | (rw [show x59 = a10 + 1 by omega]; exact XN)) -- o21 e5i.2
              · (first | assumption | omega | ((try dsimp only [jt2, jt3, jt4]); first | omega | (simp (disch := omega) only [jst_eq, jst_ne, jst_ni, jst_o, jI_i, jcpy_out, w32_id, jdiv_nn, jshr_k, jand_255] <;> first | done | omega | assumption)) | (intros; simp (disch := omega) only [jst_eq, jst_ne, jst_ni, jst_o, jI_i, jcpy_out, w32_id, jdiv_nn, *] <;> first | done | omega) | (intros; simp (disch := omega) only [jst_eq, jst_ne, jst_ni, jst_o, jI_i, jcpy_out, w32_id, jdiv_nn] at * <;> first | done | omega | assumption) | (intros; first | rfl | (exfalso; omega) | ((repeat' apply And.intro) <;> first | assumption | rfl | omega | trivial))) -- o22 e5i.3
              · (first | assumption | omega | ((try dsimp only [jt2, jt3, jt4]); first | omega | (simp (disch := omega) only [jst_eq, jst_ne, jst_ni, jst_o, jI_i, jcpy_out, w32_id, jdiv_nn, jshr_k, jand_255] <;> first | done | omega | assumption)) | (intros; simp (disch := omega) only [jst_eq, jst_ne, jst_ni, jst_o, jI_i, jcpy_out, w32_id, jdiv_nn, *] <;> first | done | omega) | (intros; simp (disch := omega) only [jst_eq, jst_ne, jst_ni, jst_o, jI_i, jcpy_out, w32_id, jdiv_nn] at * <;> first | done | omega | assumption) | (intros; first | rfl | (exfalso; omega) | ((repeat' apply And.intro) <;> first | assumption | rfl | omega | trivial))) -- o23 e5i.4
            · (first | assumption | omega | ((try dsimp only [jt2, jt3, jt4]); first | omega | (simp (disch := omega) only [jst_eq, jst_ne, jst_ni, jst_o, jI_i, jcpy_out, w32_id, jdiv_nn, jshr_k, jand_255] <;> first | done | omega | assumption)) | (intros; simp (disch := omega) only [jst_eq, jst_ne, jst_ni, jst_o, jI_i, jcpy_out, w32_id, jdiv_nn, *] <;> first | done | omega) | (intros; simp (disch := omega) only [jst_eq, jst_ne, jst_ni, jst_o, jI_i, jcpy_out, w32_id, jdiv_nn] at * <;> first | done | omega | assumption) | (intros; first | rfl | (exfalso; omega) | ((repeat' apply And.intro) <;> first | assumption | rfl | omega | trivial))) -- o24 e5m
        · skip
          try simp (disch := omega) only [jst_eq, jst_ne, jst_ni, jI_i, jcmp_lt, jcmp_gt, w32_id, jcpy_out, Sum.elim_inl, Sum.elim_inr, jt2, jt3, jt4, jt5, jt6, jt7, jt8] at c3
          have XN : XI h E W A pts M (rF (fun z => m3 E W pts A T0 i1 i2 i5 i4 i7 i9 z) (a10 + 1).toNat T1) := by { rw [RS, eT, m3_n (fun y => by have := y.2.2.1; omega)]; exact q1 }
          unfold gX5_growAct_j315_227
          refine OK_jlx (fun x59 ex59 => ?_)
          try simp (disch := omega) only [jst_eq, jst_ne, jst_ni, jI_i, jcmp_lt, jcmp_gt, w32_id, jcpy_out, Sum.elim_inl, Sum.elim_inr, jt2, jt3, jt4, jt5, jt6, jt7, jt8] at ex59
          refine OK_il ?_ ?_
          · try dsimp only [Sum.elim_inl, Sum.elim_inr, jt2, jt3, jt4, jt5, jt6, jt7, jt8]
            refine ⟨?_, ?_, ?_, ?_⟩
            · (first | assumption | omega | ((try dsimp only [jt2, jt3, jt4]); first | omega | (simp (disch := omega) only [jst_eq, jst_ne, jst_ni, jst_o, jI_i, jcpy_out, w32_id, jdiv_nn, jshr_k, jand_255] <;> first | done | omega | assumption)) | (intros; simp (disch := omega) only [jst_eq, jst_ne, jst_ni, jst_o, jI_i, jcpy_out, w32_id, jdiv_nn, *] <;> first | done | omega) | (intros; simp (disch := omega) only [jst_eq, jst_ne, jst_ni, jst_o, jI_i, jcpy_out, w32_id, jdiv_nn] at * <;> first | done | omega | assumption) | (intros; first | rfl | (exfalso; omega) | ((repeat' apply And.intro) <;> first | assumption | rfl | omega | trivial))) -- o25 e6i.1
            · (first | exact XN | (rw [show x59 = a10 + 1 by omega]; exact XN)) -- o26 e6i.2
            · (first | assumption | omega | ((try dsimp only [jt2, jt3, jt4]); first | omega | (simp (disch := omega) only [jst_eq, jst_ne, jst_ni, jst_o, jI_i, jcpy_out, w32_id, jdiv_nn, jshr_k, jand_255] <;> first | done | omega | assumption)) | (intros; simp (disch := omega) only [jst_eq, jst_ne, jst_ni, jst_o, jI_i, jcpy_out, w32_id, jdiv_nn, *] <;> first | done | omega) | (intros; simp (disch := omega) only [jst_eq, jst_ne, jst_ni, jst_o, jI_i, jcpy_out, w32_id, jdiv_nn] at * <;> first | done | omega | assumption) | (intros; first | rfl | (exfalso; omega) | ((repeat' apply And.intro) <;> first | assumption | rfl | omega | trivial))) -- o27 e6i.3
            · (first | assumption | omega | ((try dsimp only [jt2, jt3, jt4]); first | omega | (simp (disch := omega) only [jst_eq, jst_ne, jst_ni, jst_o, jI_i, jcpy_out, w32_id, jdiv_nn, jshr_k, jand_255] <;> first | done | omega | assumption)) | (intros; simp (disch := omega) only [jst_eq, jst_ne, jst_ni, jst_o, jI_i, jcpy_out, w32_id, jdiv_nn, *] <;> first | done | omega) | (intros; simp (disch := omega) only [jst_eq, jst_ne, jst_ni, jst_o, jI_i, jcpy_out, w32_id, jdiv_nn] at * <;> first | done | omega | assumption) | (intros; first | rfl | (exfalso; omega) | ((repeat' apply And.intro) <;> first | assumption | rfl | omega | trivial))) -- o28 e6i.4
          · (first | assumption | omega | ((try dsimp only [jt2, jt3, jt4]); first | omega | (simp (disch := omega) only [jst_eq, jst_ne, jst_ni, jst_o, jI_i, jcpy_out, w32_id, jdiv_nn, jshr_k, jand_255] <;> first | done | omega | assumption)) | (intros; simp (disch := omega) only [jst_eq, jst_ne, jst_ni, jst_o, jI_i, jcpy_out, w32_id, jdiv_nn, *] <;> first | done | omega) | (intros; simp (disch := omega) only [jst_eq, jst_ne, jst_ni, jst_o, jI_i, jcpy_out, w32_id, jdiv_nn] at * <;> first | done | omega | assumption) | (intros; first | rfl | (exfalso; omega) | ((repeat' apply And.intro) <;> first | assumption | rfl | omega | trivial))) -- o29 e6m
  · try dsimp only [Sum.elim_inl, Sum.elim_inr, jt2, jt3, jt4, jt5, jt6, jt7, jt8]
    refine ⟨?_, ?_, ?_, ?_⟩
    · (have := pg.2.1.1; omega) -- o30 init.1
    · (rw [z]; exact xi) -- o31 init.2
    · exact fG_r _ -- o32 init.3
    · exact g.1.2.2.2.2 -- o33 init.4

