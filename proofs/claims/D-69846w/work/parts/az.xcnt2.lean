/-! x: the counts of a price, an act's -/
def fC (h h' : AH) : Prop := ∀ a s, ¬ (a = 200 ∧ (s = 9 ∨ s = 10)) → ¬ (a = 269 ∧ 0 ≤ s) → ¬ (a = 307 ∧ s = 0) → ¬ (308 ≤ a ∧ a ≤ 321 ∧ a ≠ 314 ∧ a ≠ 318 ∧ a ≠ 319 ∧ 0 ≤ s) → h' a s = h a s
theorem fC_r (h : AH) : fC h h := fun _ _ _ _ _ _ => rfl
theorem fC_t {h h1 h2 : AH} (a : fC h h1) (b : fC h1 h2) : fC h h2 := fun x s y1 y2 y3 y4 => (b x s y1 y2 y3 y4).trans (a x s y1 y2 y3 y4)
theorem fG_C {h h' : AH} (f : fG h h') : fC h h' := fun a s y1 y2 y3 y4 => f a s y1 y2 y3 (by omega)
theorem fC_S {h h' : AH} (f : fC h h') : fS h h' := fun a s y1 y2 y3 y4 => f a s y1 y2 (by omega) (by omega)
def cnQ (h : AH) (c : Int → Int → Int) (q : Int) (row : Int → Int) : Prop := ∀ i f, 0 ≤ i → i ≤ 12 → 0 ≤ f → f < 120 → h 321 (120 * i + f) = if i < q then c i f else if i = q then w64 (row f) else 0
theorem cnQ_f {h h' : AH} {c : Int → Int → Int} {q : Int} {row : Int → Int} (cn : cnQ h c q row) (f : ∀ s, 0 ≤ s → h' 321 s = h 321 s) : cnQ h' c q row := fun i g a b d e => by rw [f _ (by omega)]; exact cn i g a b d e
theorem cnQ_c {h : AH} {c : Int → Int → Int} {q : Int} {row row' : Int → Int} (cn : cnQ h c q row) (e : ∀ f, 0 ≤ f → f < 120 → row f = row' f) : cnQ h c q row' := fun i g a b d l => by rw [cn i g a b d l, e g d l]
theorem cnQ_s {h : AH} {c : Int → Int → Int} {q v w : Int} {row g : Int → Int} (cn : cnQ h c q row) (q0 : 0 ≤ q ∧ q ≤ 12) (v0 : 0 ≤ v ∧ v < 120) (hg : ∀ f, 0 ≤ f → f < 120 → g f = if f = v then w else 0) : cnQ (jst h 321 (120 * q + v) (w64 (h 321 (120 * q + v) + w))) c q (fun f => row f + g f) := by
  intro i f a b d e
  by_cases y : i = q ∧ f = v
  · rw [y.1, y.2, jst_eq, cn q v (by omega) (by omega) v0.1 v0.2, if_neg (by omega), if_pos rfl, if_neg (by omega), if_pos rfl]
    show w64 (w64 (row v) + w) = w64 (row v + g v)
    rw [hg v v0.1 v0.2, if_pos rfl, w64_al]
  · rw [jst_o (by omega), cn i f a b d e]
    by_cases z : i = q
    · have nf : ¬ f = v := fun u => y ⟨z, u⟩
      show (if i < q then c i f else if i = q then w64 (row f) else 0) = if i < q then c i f else if i = q then w64 (row f + g f) else 0
      rw [hg f d e, if_neg nf, Int.add_zero]
    · rw [if_neg z, if_neg z]
/-- x while the terms of a price are counted -/
def CS (h : AH) (E : EV) (Rf : Int → TR) (W : Int → Int → Int → VW) (A : AD) (pts wh : Int) (rv : Int → Int) (M : Int → (Int → Int) → Prop) (T : TB) (n : Nat) (row : Int → Int) : Prop := seX h E Rf W (fun _ _ _ => 0) A pts wh rv ∧ XI h E W A pts M T ∧ cnQ h (ct E W pts A) n row
/-- the table that x has: the levels up to a price, weights -/
def TQ (E : EV) (W : Int → Int → Int → VW) (pts : Int) (A : AD) (n : Nat) (T : TB) : Prop := CQ E W pts A n ∧ extT (LV E W pts A n) T ∧ tyV pts (LV E W pts A n) ∧ ∀ a, 0 ≤ a → a < T.1 → 1 ≤ T.2.2.1 a ∧ T.2.2.1 a ≤ 12
section CSS
variable {h h' h2 : AH} {E : EV} {Rf : Int → TR} {W : Int → Int → Int → VW} {A : AD} {pts wh : Int} {rv : Int → Int} {M : Int → (Int → Int) → Prop} {T : TB} {n : Nat} {row row' : Int → Int}
theorem CS_c (cs : CS h E Rf W A pts wh rv M T n row) (e : ∀ f, 0 ≤ f → f < 120 → row f = row' f) : CS h E Rf W A pts wh rv M T n row' := ⟨cs.1, cs.2.1, cnQ_c cs.2.2 e⟩
theorem CS_G (cs : CS h E Rf W A pts wh rv M T n row) (f : fG h h') (xi : XI h' E W A pts M T) (b : b10 h') : CS h' E Rf W A pts wh rv M T n row := ⟨seX_G cs.1 f b, xi, cnQ_f cs.2.2 (fun s _ => f 321 s (by omega) (by omega) (by omega) (by omega))⟩
theorem CS_s {v w : Int} {g : Int → Int} (cs : CS h E Rf W A pts wh rv M T n row) (f : fG h h2) (xi : XI h2 E W A pts M T) (b : b10 h2) (n12 : n ≤ 12) (v0 : 0 ≤ v ∧ v < 120) (hg : ∀ f, 0 ≤ f → f < 120 → g f = if f = v then w else 0) : CS (jst h2 321 (120 * n + v) (w64 (h2 321 (120 * n + v) + w))) E Rf W A pts wh rv M T n (fun f => row f + g f) ∧ fC h (jst h2 321 (120 * n + v) (w64 (h2 321 (120 * n + v) + w))) ∧ b10 (jst h2 321 (120 * n + v) (w64 (h2 321 (120 * n + v) + w))) := by
  have c2 := CS_G cs f xi b
  have F : fC h2 (jst h2 321 (120 * n + v) (w64 (h2 321 (120 * n + v) + w))) := fun a s y1 y2 y3 y4 => jst_o (by omega)
  have B : b10 (jst h2 321 (120 * n + v) (w64 (h2 321 (120 * n + v) + w))) := by
    unfold b10
    rw [jst_o (by omega)]
    exact b
  exact ⟨⟨seX_S c2.1 (fC_S F) B, XI_f (fun a s y1 y2 => jst_o (by omega)) xi, cnQ_s c2.2.2 (by omega) v0 hg⟩, fC_t (fG_C f) F, B⟩
/-! what is skipped counts nothing -/
theorem ct_zT (tq : TQ E W pts A n T) {i x : Int} (x0 : 0 ≤ x) (l : i ≤ n) (k : (LV E W pts A n).1 ≤ x ∨ i < T.2.2.1 x) : ct E W pts A i x = 0 := by
  by_cases u : ct E W pts A i x = 0
  · exact u
  · have s := ct_sup tq.1 x0 l u
    have a := (tq.2.1.2 x x0 s.2.1).2.1
    omega
theorem w2_zT (tq : TQ E W pts A n T) {left x y : Int} (x0 : 0 ≤ x) (y0 : 0 ≤ y) (l : left ≤ n) (k : (LV E W pts A n).1 ≤ x ∨ (LV E W pts A n).1 ≤ y ∨ left < T.2.2.1 x + T.2.2.1 y) : w2C (ct E W pts A) left x y = 0 := by
  by_cases u : w2C (ct E W pts A) left x y = 0
  · exact u
  · have s := w2_sup tq.1 x0 y0 l u
    have a := (tq.2.1.2 x x0 s.1).2.1
    have b := (tq.2.1.2 y y0 s.2.1).2.1
    omega
theorem w3_zT (tq : TQ E W pts A n T) {left x y z : Int} (x0 : 0 ≤ x) (y0 : 0 ≤ y) (z0 : 0 ≤ z) (l : left ≤ n) (k : (LV E W pts A n).1 ≤ x ∨ (LV E W pts A n).1 ≤ y ∨ (LV E W pts A n).1 ≤ z ∨ left < T.2.2.1 x + T.2.2.1 y + T.2.2.1 z) : w3C (ct E W pts A) left x y z = 0 := by
  by_cases u : w3C (ct E W pts A) left x y z = 0
  · exact u
  · have s := w3_sup tq.1 x0 y0 z0 l u
    have a := (tq.2.1.2 x x0 s.1).2.1
    have b := (tq.2.1.2 y y0 s.2.1).2.1
    have c := (tq.2.1.2 z z0 s.2.2.1).2.1
    omega
theorem srt_T (tq : TQ E W pts A n T) {a b : Int} (a0 : 0 ≤ a) (l : a ≤ b) (b1 : b < (LV E W pts A n).1) : T.2.2.1 a ≤ T.2.2.1 b := by
  rw [(tq.2.1.2 a a0 (by omega)).2.1, (tq.2.1.2 b (by omega) b1).2.1]
  exact GT_le (tq.1.2.1 n (Nat.le_refl _)) a0 l b1
theorem cz_0 {c : Int → Int → Int} {ac left x y z f : Int} {T' : TB} (u : w3C c left x y z = 0) : czC E W pts T' c ac left x y f z = 0 := by
  unfold czC
  rw [u]
  exact cif_00
theorem cy_0 {c : Int → Int → Int} {ac left x y f : Int} {T' : TB} (u : w2C c left x y = 0) (k : ∀ z, 0 ≤ z → w3C c left x y z = 0) : cyC E W pts T' c ac left x f y = 0 := by
  unfold cyC
  by_cases e : eO E ac = 2
  · rw [if_pos e, u]; exact cif_00
  · rw [if_neg e, sumN_0 (fun z z0 _ => cz_0 (k z z0))]; exact cif_00
theorem cx_0 {c : Int → Int → Int} {ac left x f : Int} {T' : TB} (u : c left x = 0) (k : ∀ y, 0 ≤ y → w2C c left x y = 0) (k3 : ∀ y z, 0 ≤ y → 0 ≤ z → w3C c left x y z = 0) : cxC E W pts T' c ac left f x = 0 := by
  unfold cxC
  by_cases e : eO E ac = 1
  · rw [if_pos e, u]; exact cif_00
  · rw [if_neg e, sumN_0 (fun y y0 _ => cy_0 (k y y0) (fun z z0 => k3 y z y0 z0))]; exact cif_00
theorem cy_z2 (tq : TQ E W pts A n T) {ac left x y f m : Int} (eo : eO E ac = m) (x0 : 0 ≤ x) (y0 : 0 ≤ y) (l : left ≤ n) (m2 : 2 ≤ m) (m3 : m ≤ 3) (k : (LV E W pts A n).1 ≤ y ∨ left - m + 2 < T.2.2.1 x + T.2.2.1 y) : cyC E W pts (LV E W pts A n) (ct E W pts A) ac left x f y = 0 := by
  unfold cyC
  by_cases e : eO E ac = 2
  · rw [if_pos e, w2_zT tq x0 y0 l (by omega)]; exact cif_00
  · rw [if_neg e, sumN_0 (fun z z0 z1 => cz_0 (by
      by_cases u : w3C (ct E W pts A) left x y z = 0
      · exact u
      · have s := w3_sup tq.1 x0 y0 z0 l u
        have a := (tq.2.1.2 x x0 s.1).2.1
        have b := (tq.2.1.2 y y0 s.2.1).2.1
        omega))]
    exact cif_00
theorem cx_z2 (tq : TQ E W pts A n T) {ac left x f m : Int} (eo : eO E ac = m) (x0 : 0 ≤ x) (l : left ≤ n) (m3 : 1 ≤ m ∧ m ≤ 3) (k : (LV E W pts A n).1 ≤ x ∨ left - m + 1 < T.2.2.1 x) : cxC E W pts (LV E W pts A n) (ct E W pts A) ac left f x = 0 := by
  unfold cxC
  by_cases e : eO E ac = 1
  · rw [if_pos e, ct_zT tq x0 l (by omega)]; exact cif_00
  · rw [if_neg e, sumN_0 (fun y y0 _ => by
      by_cases e2 : eO E ac = 2
      · unfold cyC
        rw [if_pos e2]
        by_cases u : w2C (ct E W pts A) left x y = 0
        · rw [u]; exact cif_00
        · have s := w2_sup tq.1 x0 y0 l u
          have a := (tq.2.1.2 x x0 s.1).2.1
          omega
      · unfold cyC
        rw [if_neg e2, sumN_0 (fun z z0 _ => cz_0 (by
          by_cases u : w3C (ct E W pts A) left x y z = 0
          · exact u
          · have s := w3_sup tq.1 x0 y0 z0 l u
            have a := (tq.2.1.2 x x0 s.1).2.1
            omega))]
        exact cif_00)]
    exact cif_00
/-- what an act makes stands in x's table, at the place that is counted -/
theorem hs_T (tq : TQ E W pts A n T) (d : dsT pts T) {k ac x y z : Int} (k0 : 0 ≤ k ∧ k < A.2.2.2.1) (ka : A.2.2.2.2.1 k = ac) (an : 0 ≤ ac ∧ ac < E.1.1) (ar : arT E (LV E W pts A n) (LV E W pts A n).1 ac x y z) (s : A.2.2.2.2.2.2.2 k + (LV E W pts A n).2.2.1 x + wO (LV E W pts A n) y + wO (LV E W pts A n) z ≤ n) : arT E T T.1 ac x y z ∧ hasT pts T (eK E ac (eO E ac)) (mkV E W T.2.2.2.2.2 ac x y z) ∧ ixC E W pts T ac x y z = ixC E W pts (LV E W pts A n) ac x y z ∧ (0 ≤ ixC E W pts (LV E W pts A n) ac x y z ∧ ixC E W pts (LV E W pts A n) ac x y z < (LV E W pts A n).1) ∧ ∀ p, 0 ≤ p → p < pts → GVP E ac (vlO T.2.2.2.2.2 x p) (vlO T.2.2.2.2.2 y p) (vlO T.2.2.2.2.2 z p) := by
  have hh := ac_has tq.1 k0 ka (by omega) ar s
  have b := arT_b ar
  have bb : x < (LV E W pts A n).1 ∧ y < (LV E W pts A n).1 ∧ z < (LV E W pts A n).1 := ⟨by omega, by omega, by omega⟩
  have e : mkV E W T.2.2.2.2.2 ac x y z = mkV E W (LV E W pts A n).2.2.2.2.2 ac x y z := funext fun p => mkV_e tq.2.1 bb
  have i := ixT_h hh
  refine ⟨arT_e tq.2.1 (Int.le_refl _) tq.2.1.1 ar, ?_, ixC_e tq.1 tq.2.1 d bb hh, ⟨i.1, i.2.1⟩, fun p p0 p1 => GVP_of tq.2.2.1 tq.2.1 an ar p0 p1⟩
  rw [e]
  exact hasT_e tq.2.1 hh
end CSS
theorem vX5_countAct_l240 (i1 : Int) (i2 : Int) (i3 : Int) (i4 : Int) (i5 : Int) (i6 : Int) (i7 : Int) (a80 : Int) {h0 : AH} {E : EV} {Rf : Int → TR} {W : Int → Int → Int → VW} {A : AD} {pts wh : Int} {rv : Int → Int} {M : Int → (Int → Int) → Prop} {T : TB} {n : Nat} {r0 : Int → Int} (cs : CS h0 E Rf W A pts wh rv M T n r0) (tq : TQ E W pts A n T) (ia : i1 = n ∧ (0 ≤ i2 ∧ i2 < A.2.2.2.1) ∧ A.2.2.2.2.1 i2 = i4 ∧ (0 ≤ i4 ∧ i4 < E.1.1) ∧ eO E i4 = 3 ∧ i3 = i1 - A.2.2.2.2.2.2.2 i2 ∧ 0 < i3) (ix : (0 ≤ i6 ∧ i6 < T.1 ∧ T.2.1 i6 = eK E i4 0) ∧ (0 ≤ i7 ∧ i7 < T.1 ∧ T.2.1 i7 = eK E i4 1)) (z : a80 = 0) : OK (gX5_countAct_l240 i1 i2 i3 i4 i5 i6 i7 a80 h0) (fun h' => (CS h' E Rf W A pts wh rv M T n (fun f => r0 f + sumN (czC E W pts (LV E W pts A n) (ct E W pts A) i4 i3 i6 i7 f) (LV E W pts A n).1.toNat)) ∧ (fC h0 h' ∧ b10 h')) := by
  unfold gX5_countAct_l240
  refine OK_jit (I := (fun (s : Int × AH) => jt2 s fun a8 h => (0 ≤ a8 ∧ a8 ≤ T.1) ∧ (CS h E Rf W A pts wh rv M T n (fun f => r0 f + sumN (czC E W pts (LV E W pts A n) (ct E W pts A) i4 i3 i6 i7 f) a8.toNat)) ∧ (fC h0 h ∧ b10 h))) (m := (fun (s : Int × AH) => jt2 s fun a8 h => (T.1 - a8).toNat)) ?_ ?_
  · intro s hs
    obtain ⟨a8, h⟩ := s
    dsimp only [Sum.elim_inl, Sum.elim_inr, jt2, jt3, jt4, jt5, jt6, jt7, jt8] at hs
    obtain ⟨q0, q1, fr⟩ := hs
    unfold gX5_countAct_b240
    refine OK_jt2 ?_
    have Q1 := q1
    obtain ⟨SE, XX, CN⟩ := q1
    obtain ⟨H1, H2, H3, H4⟩ := XI_h XX
    have n12 := tq.1.1
    have en := SE.1.2.1
    have hx := (H4 i6 ix.1.1 ix.1.2.1).2
    have hy := (H4 i7 ix.2.1 ix.2.2.1).2
    have tx := tq.2.2.2 i6 ix.1.1 ix.1.2.1
    have ty := tq.2.2.2 i7 ix.2.1 ix.2.2.1
    have pr := (tq.1.2.2.2.1.2.2 i2 ia.2.1.1 ia.2.1.2).1
    have i3n : i3 ≤ n ∧ i3 < n := by omega
    have ex0 := tq.2.1.1
    have l0 := LV_0 (E := E) (W := W) (pts := pts) (A := A) n
    have w1 : w32 (h 309 i6 + h 309 i7) = h 309 i6 + h 309 i7 := w32_id (by omega) (by omega)
    refine OK_if (fun c1 => ?_) (fun c1 => ?_)
    · skip
      try simp (disch := omega) only [jst_eq, jst_ne, jst_ni, jI_i, jcmp_lt, jcmp_gt, w32_id, jcpy_out, Sum.elim_inl, Sum.elim_inr, jt2, jt3, jt4, jt5, jt6, jt7, jt8] at c1
      refine OK_ir ?_
      try dsimp only [Sum.elim_inl, Sum.elim_inr, jt2, jt3, jt4, jt5, jt6, jt7, jt8]
      refine ⟨?_, ?_⟩
      · (refine CS_c Q1 (fun f f0 f1 => ?_); rw [sumN_ex (g := czC E W pts (LV E W pts A n) (ct E W pts A) i4 i3 i6 i7 f) (m := a8.toNat) (n := (LV E W pts A n).1.toNat) (fun j a b => by omega) (fun j a b => cz_0 (w3_zT tq ix.1.1 ix.2.1 (by omega) i3n.1 (Or.inr (Or.inr (Or.inl (by omega))))))]) -- o1 e1.1
      · exact fr -- o2 e1.2
    · skip
      try simp (disch := omega) only [jst_eq, jst_ne, jst_ni, jI_i, jcmp_lt, jcmp_gt, w32_id, jcpy_out, Sum.elim_inl, Sum.elim_inr, jt2, jt3, jt4, jt5, jt6, jt7, jt8] at c1
      have h8 := H4 a8 q0.1 (by omega)
      have t8 := tq.2.2.2 a8 q0.1 (by omega)
      have w2 : w32 (h 309 i6 + h 309 i7 + h 309 a8) = h 309 i6 + h 309 i7 + h 309 a8 := w32_id (by omega) (by omega)
      have w52 : w32 (a8 + 1) = a8 + 1 := w32_id (by omega) (by omega)
      refine OK_jg (by (first | assumption | omega | ((try dsimp only [jt2, jt3, jt4]); first | omega | (simp (disch := omega) only [jst_eq, jst_ne, jst_ni, jst_o, jI_i, jcpy_out, w32_id, jdiv_nn, jshr_k, jand_255] <;> first | done | omega | assumption)) | (intros; simp (disch := omega) only [jst_eq, jst_ne, jst_ni, jst_o, jI_i, jcpy_out, w32_id, jdiv_nn, *] <;> first | done | omega) | (intros; simp (disch := omega) only [jst_eq, jst_ne, jst_ni, jst_o, jI_i, jcpy_out, w32_id, jdiv_nn] at * <;> first | done | omega | assumption) | (intros; first | rfl | (exfalso; omega) | ((repeat' apply And.intro) <;> first | assumption | rfl | omega | trivial)))) ?_ -- o3
      refine OK_jg (by (first | assumption | omega | ((try dsimp only [jt2, jt3, jt4]); first | omega | (simp (disch := omega) only [jst_eq, jst_ne, jst_ni, jst_o, jI_i, jcpy_out, w32_id, jdiv_nn, jshr_k, jand_255] <;> first | done | omega | assumption)) | (intros; simp (disch := omega) only [jst_eq, jst_ne, jst_ni, jst_o, jI_i, jcpy_out, w32_id, jdiv_nn, *] <;> first | done | omega) | (intros; simp (disch := omega) only [jst_eq, jst_ne, jst_ni, jst_o, jI_i, jcpy_out, w32_id, jdiv_nn] at * <;> first | done | omega | assumption) | (intros; first | rfl | (exfalso; omega) | ((repeat' apply And.intro) <;> first | assumption | rfl | omega | trivial)))) ?_ -- o4
      refine OK_jg (by (first | assumption | omega | ((try dsimp only [jt2, jt3, jt4]); first | omega | (simp (disch := omega) only [jst_eq, jst_ne, jst_ni, jst_o, jI_i, jcpy_out, w32_id, jdiv_nn, jshr_k, jand_255] <;> first | done | omega | assumption)) | (intros; simp (disch := omega) only [jst_eq, jst_ne, jst_ni, jst_o, jI_i, jcpy_out, w32_id, jdiv_nn, *] <;> first | done | omega) | (intros; simp (disch := omega) only [jst_eq, jst_ne, jst_ni, jst_o, jI_i, jcpy_out, w32_id, jdiv_nn] at * <;> first | done | omega | assumption) | (intros; first | rfl | (exfalso; omega) | ((repeat' apply And.intro) <;> first | assumption | rfl | omega | trivial)))) ?_ -- o5
      refine OK_if (fun c2 => ?_) (fun c2 => ?_)
      · skip
        try simp (disch := omega) only [jst_eq, jst_ne, jst_ni, jI_i, jcmp_lt, jcmp_gt, w32_id, jcpy_out, Sum.elim_inl, Sum.elim_inr, jt2, jt3, jt4, jt5, jt6, jt7, jt8] at c2
        refine OK_ir ?_
        try dsimp only [Sum.elim_inl, Sum.elim_inr, jt2, jt3, jt4, jt5, jt6, jt7, jt8]
        refine ⟨?_, ?_⟩
        · (refine CS_c Q1 (fun f f0 f1 => ?_); rw [sumN_ex (g := czC E W pts (LV E W pts A n) (ct E W pts A) i4 i3 i6 i7 f) (m := a8.toNat) (n := (LV E W pts A n).1.toNat) (fun j a b => cz_0 (w3_zT tq ix.1.1 ix.2.1 (by omega) i3n.1 (Or.inr (Or.inr (Or.inr (by have := srt_T tq (a := a8) (b := j) q0.1 (by omega) (by omega); omega)))))) (fun j a b => cz_0 (w3_zT tq ix.1.1 ix.2.1 (by omega) i3n.1 (Or.inr (Or.inr (Or.inl (by omega))))))]) -- o6 e2.1
        · exact fr -- o7 e2.2
      · skip
        try simp (disch := omega) only [jst_eq, jst_ne, jst_ni, jI_i, jcmp_lt, jcmp_gt, w32_id, jcpy_out, Sum.elim_inl, Sum.elim_inr, jt2, jt3, jt4, jt5, jt6, jt7, jt8] at c2
        refine OK_jb (vX1_kindOf (nA := E.1.1) (cA := E.1.2.1) (oA := E.1.2.2.1) (wA := E.1.2.2.2.1) (kA := E.1.2.2.2.2) _ _ (by exact en.1) (by exact ⟨ia.2.2.2.1.1, ia.2.2.2.1.2, by decide, by (rw [oper_eq ia.2.2.2.1.1]; omega)⟩)) (fun v43 r1 => ?_)
        try dsimp only [Sum.elim_inl, Sum.elim_inr, jt2, jt3, jt4, jt5, jt6, jt7, jt8] at r1
        have v1 := r1
        clear r1
        try simp (disch := omega) only [jst_eq, jst_ne, jst_ni, jI_i, jcmp_lt, jcmp_gt, w32_id, jcpy_out, Sum.elim_inl, Sum.elim_inr, jt2, jt3, jt4, jt5, jt6, jt7, jt8] at v1
        have e43 : v43 = eK E i4 2 := by { rw [← kind_eq ia.2.2.2.1.1]; first | exact kd1 | assumption }
        refine OK_if (fun c3 => ?_) (fun c3 => ?_)
        · skip
          try simp (disch := omega) only [jst_eq, jst_ne, jst_ni, jI_i, jcmp_lt, jcmp_gt, w32_id, jcpy_out, Sum.elim_inl, Sum.elim_inr, jt2, jt3, jt4, jt5, jt6, jt7, jt8] at c3
          refine OK_jb (vX5_three_2 (c := ct E W pts A) (wx := T.2.2.1 i6) (wy := T.2.2.1 i7) (wz := T.2.2.1 a8) _ _ _ _ (by exact ⟨ix.1.1, by omega, ix.2.1, by omega, q0.1, by omega, by omega, by omega⟩) (by exact ⟨⟨hx, hy, h8.2⟩, tx.1, tx.2, ty.1, ty.2, t8⟩) (by exact fun i f a b c d => by (rw [CN i f a (by omega) c d, if_pos (by omega)])) (by exact fun i a b => ct_zT tq ix.1.1 (by omega) (Or.inr b)) (by exact ⟨fun i a b => ct_zT tq ix.2.1 (by omega) (Or.inr b), fun i a b => ct_zT tq q0.1 (by omega) (Or.inr b), fun i a b => w2_zT tq ix.2.1 q0.1 (by omega) (Or.inr (Or.inr b))⟩) (by exact ct_0)) (fun v46 r2 => ?_)
          try dsimp only [Sum.elim_inl, Sum.elim_inr, jt2, jt3, jt4, jt5, jt6, jt7, jt8] at r2
          have th2 := r2
          clear r2
          try simp (disch := omega) only [jst_eq, jst_ne, jst_ni, jI_i, jcmp_lt, jcmp_gt, w32_id, jcpy_out, Sum.elim_inl, Sum.elim_inr, jt2, jt3, jt4, jt5, jt6, jt7, jt8] at th2
          have W0 := w3C_0 (c := ct E W pts A) ct_0 i3 i6 i7 a8
          have WB := w3_b tq.1 (left := i3) (x := i6) (y := i7) (z := a8) (by omega) ix.1.1 ix.2.1 q0.1
          have V46 : v46 = w3C (ct E W pts A) i3 i6 i7 a8 := by { rw [← w64_id (x := w3C (ct E W pts A) i3 i6 i7 a8) (by omega) (by omega)]; first | exact th2 | assumption }
          refine OK_if (fun c4 => ?_) (fun c4 => ?_)
          · skip
            try simp (disch := omega) only [jst_eq, jst_ne, jst_ni, jI_i, jcmp_lt, jcmp_gt, w32_id, jcpy_out, Sum.elim_inl, Sum.elim_inr, jt2, jt3, jt4, jt5, jt6, jt7, jt8] at c4
            have c4w := jcmp_le.1 c4
            unfold gX5_countAct_j345_240
            refine OK_jlx (fun x52 ex52 => ?_)
            try simp (disch := omega) only [jst_eq, jst_ne, jst_ni, jI_i, jcmp_lt, jcmp_gt, w32_id, jcpy_out, Sum.elim_inl, Sum.elim_inr, jt2, jt3, jt4, jt5, jt6, jt7, jt8] at ex52
            refine OK_il ?_ ?_
            · try dsimp only [Sum.elim_inl, Sum.elim_inr, jt2, jt3, jt4, jt5, jt6, jt7, jt8]
              refine ⟨?_, ?_, ?_⟩
              · (first | assumption | omega | ((try dsimp only [jt2, jt3, jt4]); first | omega | (simp (disch := omega) only [jst_eq, jst_ne, jst_ni, jst_o, jI_i, jcpy_out, w32_id, jdiv_nn, jshr_k, jand_255] <;> first | done | omega | assumption)) | (intros; simp (disch := omega) only [jst_eq, jst_ne, jst_ni, jst_o, jI_i, jcpy_out, w32_id, jdiv_nn, *] <;> first | done | omega) | (intros; simp (disch := omega) only [jst_eq, jst_ne, jst_ni, jst_o, jI_i, jcpy_out, w32_id, jdiv_nn] at * <;> first | done | omega | assumption) | (intros; first | rfl | (exfalso; omega) | ((repeat' apply And.intro) <;> first | assumption | rfl | omega | trivial))) -- o16 e3i.1
              · (refine CS_c Q1 (fun f f0 f1 => ?_); rw [show x52 = a8 + 1 by omega, sumN_s q0.1, cz_0 (by omega), Int.add_zero]) -- o17 e3i.2
              · (first | assumption | omega | ((try dsimp only [jt2, jt3, jt4]); first | omega | (simp (disch := omega) only [jst_eq, jst_ne, jst_ni, jst_o, jI_i, jcpy_out, w32_id, jdiv_nn, jshr_k, jand_255] <;> first | done | omega | assumption)) | (intros; simp (disch := omega) only [jst_eq, jst_ne, jst_ni, jst_o, jI_i, jcpy_out, w32_id, jdiv_nn, *] <;> first | done | omega) | (intros; simp (disch := omega) only [jst_eq, jst_ne, jst_ni, jst_o, jI_i, jcpy_out, w32_id, jdiv_nn] at * <;> first | done | omega | assumption) | (intros; first | rfl | (exfalso; omega) | ((repeat' apply And.intro) <;> first | assumption | rfl | omega | trivial))) -- o18 e3i.3
            · (first | assumption | omega | ((try dsimp only [jt2, jt3, jt4]); first | omega | (simp (disch := omega) only [jst_eq, jst_ne, jst_ni, jst_o, jI_i, jcpy_out, w32_id, jdiv_nn, jshr_k, jand_255] <;> first | done | omega | assumption)) | (intros; simp (disch := omega) only [jst_eq, jst_ne, jst_ni, jst_o, jI_i, jcpy_out, w32_id, jdiv_nn, *] <;> first | done | omega) | (intros; simp (disch := omega) only [jst_eq, jst_ne, jst_ni, jst_o, jI_i, jcpy_out, w32_id, jdiv_nn] at * <;> first | done | omega | assumption) | (intros; first | rfl | (exfalso; omega) | ((repeat' apply And.intro) <;> first | assumption | rfl | omega | trivial))) -- o19 e3m
          · skip
            try simp (disch := omega) only [jst_eq, jst_ne, jst_ni, jI_i, jcmp_lt, jcmp_gt, w32_id, jcpy_out, Sum.elim_inl, Sum.elim_inr, jt2, jt3, jt4, jt5, jt6, jt7, jt8] at c4
            have c4w : ¬ v46 ≤ 0 := fun y => c4 (jcmp_le.2 y)
            have SU := w3_sup tq.1 (left := i3) (x := i6) (y := i7) (z := a8) ix.1.1 ix.2.1 q0.1 i3n.1 (by omega)
            have qx := tq.2.1.2 i6 ix.1.1 SU.1
            have qy := tq.2.1.2 i7 ix.2.1 SU.2.1
            have qz := tq.2.1.2 a8 q0.1 SU.2.2.1
            have kz : (LV E W pts A n).2.1 a8 = eK E i4 2 := by { rw [← qz.1, ← h8.1]; omega }
            have AR : arT E (LV E W pts A n) (LV E W pts A n).1 i4 i6 i7 a8 := ⟨⟨ix.1.1, SU.1, by rw [← qx.1]; exact ix.1.2.2⟩, Or.inr (Or.inr ⟨ia.2.2.2.2.1, ⟨ix.2.1, SU.2.1, by rw [← qy.1]; exact ix.2.2.2⟩, ⟨q0.1, SU.2.2.1, kz⟩⟩)⟩
            have HT := hs_T tq XX.2.2.2.2 ia.2.1 ia.2.2.1 ia.2.2.2.1 AR (by rw [wO_0 ix.2.1, wO_0 q0.1]; omega)
            refine OK_jb2 (vX5_resultOfThree (E := E) (Rf := Rf) (W := W) (f := fun _ _ _ => 0) (A := A) (pts := pts) (wh := wh) (rv := rv) (M := M) (T := T) (ac := i4) _ _ _ _ (by exact SE) (by exact XX) (by exact HT.2.2.2.2) (by exact ⟨ia.2.1, ia.2.2.1, ia.2.2.2.1⟩) (by exact ⟨HT.1, ia.2.2.2.2.1⟩) (by exact HT.2.1)) (fun v49 h50 r3 => ?_)
            try dsimp only [Sum.elim_inl, Sum.elim_inr, jt2, jt3, jt4, jt5, jt6, jt7, jt8] at r3
            obtain ⟨rs3, xs3, fs3⟩ := r3
            try simp (disch := omega) only [jst_eq, jst_ne, jst_ni, jI_i, jcmp_lt, jcmp_gt, w32_id, jcpy_out, Sum.elim_inl, Sum.elim_inr, jt2, jt3, jt4, jt5, jt6, jt7, jt8] at rs3
            try simp (disch := omega) only [jst_eq, jst_ne, jst_ni, jI_i, jcmp_lt, jcmp_gt, w32_id, jcpy_out, Sum.elim_inl, Sum.elim_inr, jt2, jt3, jt4, jt5, jt6, jt7, jt8] at xs3
            try simp (disch := omega) only [jst_eq, jst_ne, jst_ni, jI_i, jcmp_lt, jcmp_gt, w32_id, jcpy_out, Sum.elim_inl, Sum.elim_inr, jt2, jt3, jt4, jt5, jt6, jt7, jt8] at fs3
            have V49 : v49 = ixC E W pts (LV E W pts A n) i4 i6 i7 a8 := by { rw [← HT.2.2.1]; first | exact rs3 | assumption }
            have N120 := tq.1.2.2.1 n (Nat.le_refl _)
            have w49 : w32 (w32 (i1 * 120) + v49) = 120 * n + v49 := by { rw [w32_id (x := i1 * 120) (by omega) (by omega), w32_id (by omega) (by omega)]; omega }
            rw [w49]
            refine OK_jg (by (first | assumption | omega | ((try dsimp only [jt2, jt3, jt4]); first | omega | (simp (disch := omega) only [jst_eq, jst_ne, jst_ni, jst_o, jI_i, jcpy_out, w32_id, jdiv_nn, jshr_k, jand_255] <;> first | done | omega | assumption)) | (intros; simp (disch := omega) only [jst_eq, jst_ne, jst_ni, jst_o, jI_i, jcpy_out, w32_id, jdiv_nn, *] <;> first | done | omega) | (intros; simp (disch := omega) only [jst_eq, jst_ne, jst_ni, jst_o, jI_i, jcpy_out, w32_id, jdiv_nn] at * <;> first | done | omega | assumption) | (intros; first | rfl | (exfalso; omega) | ((repeat' apply And.intro) <;> first | assumption | rfl | omega | trivial)))) ?_ -- o26
            refine OK_jl ?_
            have UP := CS_s (v := v49) (w := v46) (g := fun f => czC E W pts (LV E W pts A n) (ct E W pts A) i4 i3 i6 i7 f a8) Q1 fs3.1 xs3 fs3.2 n12.2 (by omega) (fun f f0 f1 => by (show cif _ _ _ = _; by_cases y : f = v49; { rw [if_pos y, cif_y ⟨kz, by rw [y]; exact V49.symm⟩, V46] }; { rw [if_neg y, cif_n (fun u => y (u.2.symm.trans V49.symm))] }))
            unfold gX5_countAct_j345_240
            refine OK_jlx (fun x52 ex52 => ?_)
            try simp (disch := omega) only [jst_eq, jst_ne, jst_ni, jI_i, jcmp_lt, jcmp_gt, w32_id, jcpy_out, Sum.elim_inl, Sum.elim_inr, jt2, jt3, jt4, jt5, jt6, jt7, jt8] at ex52
            refine OK_il ?_ ?_
            · try dsimp only [Sum.elim_inl, Sum.elim_inr, jt2, jt3, jt4, jt5, jt6, jt7, jt8]
              refine ⟨?_, ?_, ?_⟩
              · (first | assumption | omega | ((try dsimp only [jt2, jt3, jt4]); first | omega | (simp (disch := omega) only [jst_eq, jst_ne, jst_ni, jst_o, jI_i, jcpy_out, w32_id, jdiv_nn, jshr_k, jand_255] <;> first | done | omega | assumption)) | (intros; simp (disch := omega) only [jst_eq, jst_ne, jst_ni, jst_o, jI_i, jcpy_out, w32_id, jdiv_nn, *] <;> first | done | omega) | (intros; simp (disch := omega) only [jst_eq, jst_ne, jst_ni, jst_o, jI_i, jcpy_out, w32_id, jdiv_nn] at * <;> first | done | omega | assumption) | (intros; first | rfl | (exfalso; omega) | ((repeat' apply And.intro) <;> first | assumption | rfl | omega | trivial))) -- o27 e4i.1
              · (refine CS_c UP.1 (fun f f0 f1 => ?_); rw [show x52 = a8 + 1 by omega, sumN_s q0.1, Int.add_assoc]) -- o28 e4i.2
              · exact ⟨fC_t fr.1 UP.2.1, UP.2.2⟩ -- o29 e4i.3
            · (first | assumption | omega | ((try dsimp only [jt2, jt3, jt4]); first | omega | (simp (disch := omega) only [jst_eq, jst_ne, jst_ni, jst_o, jI_i, jcpy_out, w32_id, jdiv_nn, jshr_k, jand_255] <;> first | done | omega | assumption)) | (intros; simp (disch := omega) only [jst_eq, jst_ne, jst_ni, jst_o, jI_i, jcpy_out, w32_id, jdiv_nn, *] <;> first | done | omega) | (intros; simp (disch := omega) only [jst_eq, jst_ne, jst_ni, jst_o, jI_i, jcpy_out, w32_id, jdiv_nn] at * <;> first | done | omega | assumption) | (intros; first | rfl | (exfalso; omega) | ((repeat' apply And.intro) <;> first | assumption | rfl | omega | trivial))) -- o30 e4m
        · skip
          try simp (disch := omega) only [jst_eq, jst_ne, jst_ni, jI_i, jcmp_lt, jcmp_gt, w32_id, jcpy_out, Sum.elim_inl, Sum.elim_inr, jt2, jt3, jt4, jt5, jt6, jt7, jt8] at c3
          unfold gX5_countAct_j345_240
          refine OK_jlx (fun x52 ex52 => ?_)
          try simp (disch := omega) only [jst_eq, jst_ne, jst_ni, jI_i, jcmp_lt, jcmp_gt, w32_id, jcpy_out, Sum.elim_inl, Sum.elim_inr, jt2, jt3, jt4, jt5, jt6, jt7, jt8] at ex52
          refine OK_il ?_ ?_
          · try dsimp only [Sum.elim_inl, Sum.elim_inr, jt2, jt3, jt4, jt5, jt6, jt7, jt8]
            refine ⟨?_, ?_, ?_⟩
            · (first | assumption | omega | ((try dsimp only [jt2, jt3, jt4]); first | omega | (simp (disch := omega) only [jst_eq, jst_ne, jst_ni, jst_o, jI_i, jcpy_out, w32_id, jdiv_nn, jshr_k, jand_255] <;> first | done | omega | assumption)) | (intros; simp (disch := omega) only [jst_eq, jst_ne, jst_ni, jst_o, jI_i, jcpy_out, w32_id, jdiv_nn, *] <;> first | done | omega) | (intros; simp (disch := omega) only [jst_eq, jst_ne, jst_ni, jst_o, jI_i, jcpy_out, w32_id, jdiv_nn] at * <;> first | done | omega | assumption) | (intros; first | rfl | (exfalso; omega) | ((repeat' apply And.intro) <;> first | assumption | rfl | omega | trivial))) -- o31 e5i.1
            · (refine CS_c Q1 (fun f f0 f1 => ?_); rw [show x52 = a8 + 1 by omega, sumN_s q0.1]; have cz : czC E W pts (LV E W pts A n) (ct E W pts A) i4 i3 i6 i7 f a8 = 0 := (by by_cases u : w3C (ct E W pts A) i3 i6 i7 a8 = 0; { exact cz_0 u }; { have SU := w3_sup tq.1 (left := i3) (x := i6) (y := i7) (z := a8) ix.1.1 ix.2.1 q0.1 i3n.1 u; have qz := tq.2.1.2 a8 q0.1 SU.2.2.1; exact cif_n (fun y => by (have := y.1; rw [← qz.1, ← h8.1] at this; omega)) }); rw [cz, Int.add_zero]) -- o32 e5i.2
            · (first | assumption | omega | ((try dsimp only [jt2, jt3, jt4]); first | omega | (simp (disch := omega) only [jst_eq, jst_ne, jst_ni, jst_o, jI_i, jcpy_out, w32_id, jdiv_nn, jshr_k, jand_255] <;> first | done | omega | assumption)) | (intros; simp (disch := omega) only [jst_eq, jst_ne, jst_ni, jst_o, jI_i, jcpy_out, w32_id, jdiv_nn, *] <;> first | done | omega) | (intros; simp (disch := omega) only [jst_eq, jst_ne, jst_ni, jst_o, jI_i, jcpy_out, w32_id, jdiv_nn] at * <;> first | done | omega | assumption) | (intros; first | rfl | (exfalso; omega) | ((repeat' apply And.intro) <;> first | assumption | rfl | omega | trivial))) -- o33 e5i.3
          · (first | assumption | omega | ((try dsimp only [jt2, jt3, jt4]); first | omega | (simp (disch := omega) only [jst_eq, jst_ne, jst_ni, jst_o, jI_i, jcpy_out, w32_id, jdiv_nn, jshr_k, jand_255] <;> first | done | omega | assumption)) | (intros; simp (disch := omega) only [jst_eq, jst_ne, jst_ni, jst_o, jI_i, jcpy_out, w32_id, jdiv_nn, *] <;> first | done | omega) | (intros; simp (disch := omega) only [jst_eq, jst_ne, jst_ni, jst_o, jI_i, jcpy_out, w32_id, jdiv_nn] at * <;> first | done | omega | assumption) | (intros; first | rfl | (exfalso; omega) | ((repeat' apply And.intro) <;> first | assumption | rfl | omega | trivial))) -- o34 e5m
  · try dsimp only [Sum.elim_inl, Sum.elim_inr, jt2, jt3, jt4, jt5, jt6, jt7, jt8]
    refine ⟨?_, ?_, ?_⟩
    · (first | assumption | omega | ((try dsimp only [jt2, jt3, jt4]); first | omega | (simp (disch := omega) only [jst_eq, jst_ne, jst_ni, jst_o, jI_i, jcpy_out, w32_id, jdiv_nn, jshr_k, jand_255] <;> first | done | omega | assumption)) | (intros; simp (disch := omega) only [jst_eq, jst_ne, jst_ni, jst_o, jI_i, jcpy_out, w32_id, jdiv_nn, *] <;> first | done | omega) | (intros; simp (disch := omega) only [jst_eq, jst_ne, jst_ni, jst_o, jI_i, jcpy_out, w32_id, jdiv_nn] at * <;> first | done | omega | assumption) | (intros; first | rfl | (exfalso; omega) | ((repeat' apply And.intro) <;> first | assumption | rfl | omega | trivial))) -- o35 init.1
    · (refine CS_c cs (fun f f0 f1 => ?_); rw [z]; show r0 f = r0 f + 0; omega) -- o36 init.2
    · exact ⟨fC_r _, cs.1.1.2.2.2.2⟩ -- o37 init.3
theorem vX5_countAct_l129 (i1 : Int) (i2 : Int) (i3 : Int) (i4 : Int) (i5 : Int) (i6 : Int) (a70 : Int) {h0 : AH} {E : EV} {Rf : Int → TR} {W : Int → Int → Int → VW} {A : AD} {pts wh : Int} {rv : Int → Int} {M : Int → (Int → Int) → Prop} {T : TB} {n : Nat} {r0 : Int → Int} (cs : CS h0 E Rf W A pts wh rv M T n r0) (tq : TQ E W pts A n T) (ia : i1 = n ∧ (0 ≤ i2 ∧ i2 < A.2.2.2.1) ∧ A.2.2.2.2.1 i2 = i4 ∧ (0 ≤ i4 ∧ i4 < E.1.1) ∧ (eO E i4 = i5 ∧ 2 ≤ i5 ∧ i5 ≤ 3) ∧ i3 = i1 - A.2.2.2.2.2.2.2 i2 ∧ 0 < i3) (ix : 0 ≤ i6 ∧ i6 < T.1 ∧ T.2.1 i6 = eK E i4 0) (z : a70 = 0) : OK (gX5_countAct_l129 i1 i2 i3 i4 i5 i6 a70 h0) (fun h' => (CS h' E Rf W A pts wh rv M T n (fun f => r0 f + sumN (cyC E W pts (LV E W pts A n) (ct E W pts A) i4 i3 i6 f) (LV E W pts A n).1.toNat)) ∧ (fC h0 h' ∧ b10 h')) := by
  unfold gX5_countAct_l129
  refine OK_jit (I := (fun (s : Int × AH) => jt2 s fun a7 h => (0 ≤ a7 ∧ a7 ≤ T.1) ∧ (CS h E Rf W A pts wh rv M T n (fun f => r0 f + sumN (cyC E W pts (LV E W pts A n) (ct E W pts A) i4 i3 i6 f) a7.toNat)) ∧ (fC h0 h ∧ b10 h))) (m := (fun (s : Int × AH) => jt2 s fun a7 h => (T.1 - a7).toNat)) ?_ ?_
  · intro s hs
    obtain ⟨a7, h⟩ := s
    dsimp only [Sum.elim_inl, Sum.elim_inr, jt2, jt3, jt4, jt5, jt6, jt7, jt8] at hs
    obtain ⟨q0, q1, fr⟩ := hs
    unfold gX5_countAct_b129
    refine OK_jt2 ?_
    have Q1 := q1
    obtain ⟨SE, XX, CN⟩ := q1
    obtain ⟨H1, H2, H3, H4⟩ := XI_h XX
    have n12 := tq.1.1
    have en := SE.1.2.1
    have hx := (H4 i6 ix.1 ix.2.1).2
    have tx := tq.2.2.2 i6 ix.1 ix.2.1
    have pr := (tq.1.2.2.2.1.2.2 i2 ia.2.1.1 ia.2.1.2).1
    have i3n : i3 ≤ n ∧ i3 < n := by omega
    have ex0 := tq.2.1.1
    have l0 := LV_0 (E := E) (W := W) (pts := pts) (A := A) n
    have w5 : w32 (i3 - i5) = i3 - i5 := w32_id (by omega) (by omega)
    have w6 : w32 (i3 - i5 + 2) = i3 - i5 + 2 := w32_id (by omega) (by omega)
    have YZ : ∀ j f, 0 ≤ j → ((LV E W pts A n).1 ≤ j ∨ i3 - i5 + 2 < T.2.2.1 i6 + T.2.2.1 j) → cyC E W pts (LV E W pts A n) (ct E W pts A) i4 i3 i6 f j = 0 := fun j f j0 k => by
      exact cy_z2 tq ia.2.2.2.2.1.1 ix.1 j0 i3n.1 (by omega) (by omega) k
    refine OK_if (fun c1 => ?_) (fun c1 => ?_)
    · skip
      try simp (disch := omega) only [jst_eq, jst_ne, jst_ni, jI_i, jcmp_lt, jcmp_gt, w32_id, jcpy_out, Sum.elim_inl, Sum.elim_inr, jt2, jt3, jt4, jt5, jt6, jt7, jt8] at c1
      refine OK_ir ?_
      try dsimp only [Sum.elim_inl, Sum.elim_inr, jt2, jt3, jt4, jt5, jt6, jt7, jt8]
      refine ⟨?_, ?_⟩
      · (refine CS_c Q1 (fun f f0 f1 => ?_); rw [sumN_ex (g := cyC E W pts (LV E W pts A n) (ct E W pts A) i4 i3 i6 f) (m := a7.toNat) (n := (LV E W pts A n).1.toNat) (fun j a b => by omega) (fun j a b => YZ j f (by omega) (Or.inl (by omega)))]) -- o1 e1.1
      · exact fr -- o2 e1.2
    · skip
      try simp (disch := omega) only [jst_eq, jst_ne, jst_ni, jI_i, jcmp_lt, jcmp_gt, w32_id, jcpy_out, Sum.elim_inl, Sum.elim_inr, jt2, jt3, jt4, jt5, jt6, jt7, jt8] at c1
      have h7 := H4 a7 q0.1 (by omega)
      have t7 := tq.2.2.2 a7 q0.1 (by omega)
      have w2 : w32 (h 309 i6 + h 309 a7) = h 309 i6 + h 309 a7 := w32_id (by omega) (by omega)
      have w39 : w32 (a7 + 1) = a7 + 1 := w32_id (by omega) (by omega)
      refine OK_jg (by (first | assumption | omega | ((try dsimp only [jt2, jt3, jt4]); first | omega | (simp (disch := omega) only [jst_eq, jst_ne, jst_ni, jst_o, jI_i, jcpy_out, w32_id, jdiv_nn, jshr_k, jand_255] <;> first | done | omega | assumption)) | (intros; simp (disch := omega) only [jst_eq, jst_ne, jst_ni, jst_o, jI_i, jcpy_out, w32_id, jdiv_nn, *] <;> first | done | omega) | (intros; simp (disch := omega) only [jst_eq, jst_ne, jst_ni, jst_o, jI_i, jcpy_out, w32_id, jdiv_nn] at * <;> first | done | omega | assumption) | (intros; first | rfl | (exfalso; omega) | ((repeat' apply And.intro) <;> first | assumption | rfl | omega | trivial)))) ?_ -- o3
      refine OK_jg (by (first | assumption | omega | ((try dsimp only [jt2, jt3, jt4]); first | omega | (simp (disch := omega) only [jst_eq, jst_ne, jst_ni, jst_o, jI_i, jcpy_out, w32_id, jdiv_nn, jshr_k, jand_255] <;> first | done | omega | assumption)) | (intros; simp (disch := omega) only [jst_eq, jst_ne, jst_ni, jst_o, jI_i, jcpy_out, w32_id, jdiv_nn, *] <;> first | done | omega) | (intros; simp (disch := omega) only [jst_eq, jst_ne, jst_ni, jst_o, jI_i, jcpy_out, w32_id, jdiv_nn] at * <;> first | done | omega | assumption) | (intros; first | rfl | (exfalso; omega) | ((repeat' apply And.intro) <;> first | assumption | rfl | omega | trivial)))) ?_ -- o4
      refine OK_if (fun c2 => ?_) (fun c2 => ?_)
      · skip
        try simp (disch := omega) only [jst_eq, jst_ne, jst_ni, jI_i, jcmp_lt, jcmp_gt, w32_id, jcpy_out, Sum.elim_inl, Sum.elim_inr, jt2, jt3, jt4, jt5, jt6, jt7, jt8] at c2
        refine OK_ir ?_
        try dsimp only [Sum.elim_inl, Sum.elim_inr, jt2, jt3, jt4, jt5, jt6, jt7, jt8]
        refine ⟨?_, ?_⟩
        · (refine CS_c Q1 (fun f f0 f1 => ?_); rw [sumN_ex (g := cyC E W pts (LV E W pts A n) (ct E W pts A) i4 i3 i6 f) (m := a7.toNat) (n := (LV E W pts A n).1.toNat) (fun j a b => YZ j f (by omega) (Or.inr (by have := srt_T tq (a := a7) (b := j) q0.1 (by omega) (by omega); omega))) (fun j a b => YZ j f (by omega) (Or.inl (by omega)))]) -- o5 e2.1
        · exact fr -- o6 e2.2
      · skip
        try simp (disch := omega) only [jst_eq, jst_ne, jst_ni, jI_i, jcmp_lt, jcmp_gt, w32_id, jcpy_out, Sum.elim_inl, Sum.elim_inr, jt2, jt3, jt4, jt5, jt6, jt7, jt8] at c2
        refine OK_jb (vX1_kindOf (nA := E.1.1) (cA := E.1.2.1) (oA := E.1.2.2.1) (wA := E.1.2.2.2.1) (kA := E.1.2.2.2.2) _ _ (by exact en.1) (by exact ⟨ia.2.2.2.1.1, ia.2.2.2.1.2, by decide, by (rw [oper_eq ia.2.2.2.1.1]; omega)⟩)) (fun v27 r1 => ?_)
        try dsimp only [Sum.elim_inl, Sum.elim_inr, jt2, jt3, jt4, jt5, jt6, jt7, jt8] at r1
        have v1 := r1
        clear r1
        try simp (disch := omega) only [jst_eq, jst_ne, jst_ni, jI_i, jcmp_lt, jcmp_gt, w32_id, jcpy_out, Sum.elim_inl, Sum.elim_inr, jt2, jt3, jt4, jt5, jt6, jt7, jt8] at v1
        have e27 : v27 = eK E i4 1 := by { rw [← kind_eq ia.2.2.2.1.1]; first | exact kd1 | assumption }
        refine OK_if (fun c3 => ?_) (fun c3 => ?_)
        · skip
          try simp (disch := omega) only [jst_eq, jst_ne, jst_ni, jI_i, jcmp_lt, jcmp_gt, w32_id, jcpy_out, Sum.elim_inl, Sum.elim_inr, jt2, jt3, jt4, jt5, jt6, jt7, jt8] at c3
          have ky : T.2.1 a7 = eK E i4 1 := by { rw [← h7.1]; omega }
          refine OK_if (fun c4 => ?_) (fun c4 => ?_)
          · skip
            try simp (disch := omega) only [jst_eq, jst_ne, jst_ni, jI_i, jcmp_lt, jcmp_gt, w32_id, jcpy_out, Sum.elim_inl, Sum.elim_inr, jt2, jt3, jt4, jt5, jt6, jt7, jt8] at c4
            refine OK_jb (vX5_both (c := ct E W pts A) (wx := T.2.2.1 i6) (wy := T.2.2.1 a7) _ _ _ (by exact ⟨ix.1, by omega, q0.1, by omega, by omega, by omega⟩) (by exact ⟨⟨hx, h7.2⟩, tx.1, tx.2, t7⟩) (by exact fun i f a b c d => by (rw [CN i f a (by omega) c d, if_pos (by omega)])) (by exact fun i a b => ct_zT tq ix.1 (by omega) (Or.inr b)) (by exact fun i a b => ct_zT tq q0.1 (by omega) (Or.inr b))) (fun v31 r2 => ?_)
            try dsimp only [Sum.elim_inl, Sum.elim_inr, jt2, jt3, jt4, jt5, jt6, jt7, jt8] at r2
            have bo2 := r2
            clear r2
            try simp (disch := omega) only [jst_eq, jst_ne, jst_ni, jI_i, jcmp_lt, jcmp_gt, w32_id, jcpy_out, Sum.elim_inl, Sum.elim_inr, jt2, jt3, jt4, jt5, jt6, jt7, jt8] at bo2
            have W0 := w2C_0 (c := ct E W pts A) ct_0 i3 i6 a7
            have WB := w2_b tq.1 (left := i3) (x := i6) (y := a7) (by omega) ix.1 q0.1
            have V31 : v31 = w2C (ct E W pts A) i3 i6 a7 := by { rw [← w64_id (x := w2C (ct E W pts A) i3 i6 a7) (by omega) (by omega)]; first | exact bo2 | assumption }
            have eo2 : eO E i4 = 2 := by omega
            refine OK_if (fun c5 => ?_) (fun c5 => ?_)
            · skip
              try simp (disch := omega) only [jst_eq, jst_ne, jst_ni, jI_i, jcmp_lt, jcmp_gt, w32_id, jcpy_out, Sum.elim_inl, Sum.elim_inr, jt2, jt3, jt4, jt5, jt6, jt7, jt8] at c5
              have c5w := jcmp_le.1 c5
              unfold gX5_countAct_j351_129
              refine OK_jlx (fun x39 ex39 => ?_)
              try simp (disch := omega) only [jst_eq, jst_ne, jst_ni, jI_i, jcmp_lt, jcmp_gt, w32_id, jcpy_out, Sum.elim_inl, Sum.elim_inr, jt2, jt3, jt4, jt5, jt6, jt7, jt8] at ex39
              refine OK_il ?_ ?_
              · try dsimp only [Sum.elim_inl, Sum.elim_inr, jt2, jt3, jt4, jt5, jt6, jt7, jt8]
                refine ⟨?_, ?_, ?_⟩
                · (first | assumption | omega | ((try dsimp only [jt2, jt3, jt4]); first | omega | (simp (disch := omega) only [jst_eq, jst_ne, jst_ni, jst_o, jI_i, jcpy_out, w32_id, jdiv_nn, jshr_k, jand_255] <;> first | done | omega | assumption)) | (intros; simp (disch := omega) only [jst_eq, jst_ne, jst_ni, jst_o, jI_i, jcpy_out, w32_id, jdiv_nn, *] <;> first | done | omega) | (intros; simp (disch := omega) only [jst_eq, jst_ne, jst_ni, jst_o, jI_i, jcpy_out, w32_id, jdiv_nn] at * <;> first | done | omega | assumption) | (intros; first | rfl | (exfalso; omega) | ((repeat' apply And.intro) <;> first | assumption | rfl | omega | trivial))) -- o14 e3i.1
                · (refine CS_c Q1 (fun f f0 f1 => ?_); rw [show x39 = a7 + 1 by omega, sumN_s q0.1]; have cz : cyC E W pts (LV E W pts A n) (ct E W pts A) i4 i3 i6 f a7 = 0 := (by unfold cyC; rw [if_pos eo2, show w2C (ct E W pts A) i3 i6 a7 = 0 by omega]; exact cif_00); rw [cz, Int.add_zero]) -- o15 e3i.2
                · (first | assumption | omega | ((try dsimp only [jt2, jt3, jt4]); first | omega | (simp (disch := omega) only [jst_eq, jst_ne, jst_ni, jst_o, jI_i, jcpy_out, w32_id, jdiv_nn, jshr_k, jand_255] <;> first | done | omega | assumption)) | (intros; simp (disch := omega) only [jst_eq, jst_ne, jst_ni, jst_o, jI_i, jcpy_out, w32_id, jdiv_nn, *] <;> first | done | omega) | (intros; simp (disch := omega) only [jst_eq, jst_ne, jst_ni, jst_o, jI_i, jcpy_out, w32_id, jdiv_nn] at * <;> first | done | omega | assumption) | (intros; first | rfl | (exfalso; omega) | ((repeat' apply And.intro) <;> first | assumption | rfl | omega | trivial))) -- o16 e3i.3
              · (first | assumption | omega | ((try dsimp only [jt2, jt3, jt4]); first | omega | (simp (disch := omega) only [jst_eq, jst_ne, jst_ni, jst_o, jI_i, jcpy_out, w32_id, jdiv_nn, jshr_k, jand_255] <;> first | done | omega | assumption)) | (intros; simp (disch := omega) only [jst_eq, jst_ne, jst_ni, jst_o, jI_i, jcpy_out, w32_id, jdiv_nn, *] <;> first | done | omega) | (intros; simp (disch := omega) only [jst_eq, jst_ne, jst_ni, jst_o, jI_i, jcpy_out, w32_id, jdiv_nn] at * <;> first | done | omega | assumption) | (intros; first | rfl | (exfalso; omega) | ((repeat' apply And.intro) <;> first | assumption | rfl | omega | trivial))) -- o17 e3m
            · skip
              try simp (disch := omega) only [jst_eq, jst_ne, jst_ni, jI_i, jcmp_lt, jcmp_gt, w32_id, jcpy_out, Sum.elim_inl, Sum.elim_inr, jt2, jt3, jt4, jt5, jt6, jt7, jt8] at c5
              have c5w : ¬ v31 ≤ 0 := fun y => c5 (jcmp_le.2 y)
              have SU := w2_sup tq.1 (left := i3) (x := i6) (y := a7) ix.1 q0.1 i3n.1 (by omega)
              have qx := tq.2.1.2 i6 ix.1 SU.1
              have qy := tq.2.1.2 a7 q0.1 SU.2.1
              have kz : (LV E W pts A n).2.1 a7 = eK E i4 1 := by { rw [← qy.1]; exact ky }
              have AR : arT E (LV E W pts A n) (LV E W pts A n).1 i4 i6 a7 (-1) := ⟨⟨ix.1, SU.1, by rw [← qx.1]; exact ix.2.2⟩, Or.inr (Or.inl ⟨eo2, ⟨q0.1, SU.2.1, kz⟩, rfl⟩)⟩
              have HT := hs_T tq XX.2.2.2.2 ia.2.1 ia.2.2.1 ia.2.2.2.1 AR (by rw [wO_0 q0.1, wO_n]; omega)
              refine OK_jb2 (vX5_result (E := E) (Rf := Rf) (W := W) (f := fun _ _ _ => 0) (A := A) (pts := pts) (wh := wh) (rv := rv) (M := M) (T := T) (ac := i4) _ _ _ _ (by exact SE) (by exact XX) (by exact HT.2.2.2.2) (by exact ⟨ia.2.1, ia.2.2.1, ia.2.2.2.1⟩) (by exact HT.1) (by exact HT.2.1)) (fun v34 h35 r3 => ?_)
              try dsimp only [Sum.elim_inl, Sum.elim_inr, jt2, jt3, jt4, jt5, jt6, jt7, jt8] at r3
              obtain ⟨rs3, xs3, fs3⟩ := r3
              try simp (disch := omega) only [jst_eq, jst_ne, jst_ni, jI_i, jcmp_lt, jcmp_gt, w32_id, jcpy_out, Sum.elim_inl, Sum.elim_inr, jt2, jt3, jt4, jt5, jt6, jt7, jt8] at rs3
              try simp (disch := omega) only [jst_eq, jst_ne, jst_ni, jI_i, jcmp_lt, jcmp_gt, w32_id, jcpy_out, Sum.elim_inl, Sum.elim_inr, jt2, jt3, jt4, jt5, jt6, jt7, jt8] at xs3
              try simp (disch := omega) only [jst_eq, jst_ne, jst_ni, jI_i, jcmp_lt, jcmp_gt, w32_id, jcpy_out, Sum.elim_inl, Sum.elim_inr, jt2, jt3, jt4, jt5, jt6, jt7, jt8] at fs3
              have V34 : v34 = ixC E W pts (LV E W pts A n) i4 i6 a7 (-1) := by { rw [← HT.2.2.1]; first | exact rs3 | assumption }
              have N120 := tq.1.2.2.1 n (Nat.le_refl _)
              have w49 : w32 (w32 (i1 * 120) + v34) = 120 * n + v34 := by { rw [w32_id (x := i1 * 120) (by omega) (by omega), w32_id (by omega) (by omega)]; omega }
              rw [w49]
              refine OK_jg (by (first | assumption | omega | ((try dsimp only [jt2, jt3, jt4]); first | omega | (simp (disch := omega) only [jst_eq, jst_ne, jst_ni, jst_o, jI_i, jcpy_out, w32_id, jdiv_nn, jshr_k, jand_255] <;> first | done | omega | assumption)) | (intros; simp (disch := omega) only [jst_eq, jst_ne, jst_ni, jst_o, jI_i, jcpy_out, w32_id, jdiv_nn, *] <;> first | done | omega) | (intros; simp (disch := omega) only [jst_eq, jst_ne, jst_ni, jst_o, jI_i, jcpy_out, w32_id, jdiv_nn] at * <;> first | done | omega | assumption) | (intros; first | rfl | (exfalso; omega) | ((repeat' apply And.intro) <;> first | assumption | rfl | omega | trivial)))) ?_ -- o24
              refine OK_jl ?_
              have UP := CS_s (v := v34) (w := v31) (g := fun f => cyC E W pts (LV E W pts A n) (ct E W pts A) i4 i3 i6 f a7) Q1 fs3.1 xs3 fs3.2 n12.2 (by omega) (fun f f0 f1 => by (show cyC _ _ _ _ _ _ _ _ _ _ = _; unfold cyC; rw [if_pos eo2]; by_cases y : f = v34; { rw [if_pos y, cif_y ⟨kz, by rw [y]; exact V34.symm⟩, V31] }; { rw [if_neg y, cif_n (fun u => y (u.2.symm.trans V34.symm))] }))
              unfold gX5_countAct_j351_129
              refine OK_jlx (fun x39 ex39 => ?_)
              try simp (disch := omega) only [jst_eq, jst_ne, jst_ni, jI_i, jcmp_lt, jcmp_gt, w32_id, jcpy_out, Sum.elim_inl, Sum.elim_inr, jt2, jt3, jt4, jt5, jt6, jt7, jt8] at ex39
              refine OK_il ?_ ?_
              · try dsimp only [Sum.elim_inl, Sum.elim_inr, jt2, jt3, jt4, jt5, jt6, jt7, jt8]
                refine ⟨?_, ?_, ?_⟩
                · (first | assumption | omega | ((try dsimp only [jt2, jt3, jt4]); first | omega | (simp (disch := omega) only [jst_eq, jst_ne, jst_ni, jst_o, jI_i, jcpy_out, w32_id, jdiv_nn, jshr_k, jand_255] <;> first | done | omega | assumption)) | (intros; simp (disch := omega) only [jst_eq, jst_ne, jst_ni, jst_o, jI_i, jcpy_out, w32_id, jdiv_nn, *] <;> first | done | omega) | (intros; simp (disch := omega) only [jst_eq, jst_ne, jst_ni, jst_o, jI_i, jcpy_out, w32_id, jdiv_nn] at * <;> first | done | omega | assumption) | (intros; first | rfl | (exfalso; omega) | ((repeat' apply And.intro) <;> first | assumption | rfl | omega | trivial))) -- o25 e4i.1
                · (refine CS_c UP.1 (fun f f0 f1 => ?_); rw [show x39 = a7 + 1 by omega, sumN_s q0.1, Int.add_assoc]) -- o26 e4i.2
                · exact ⟨fC_t fr.1 UP.2.1, UP.2.2⟩ -- o27 e4i.3
              · (first | assumption | omega | ((try dsimp only [jt2, jt3, jt4]); first | omega | (simp (disch := omega) only [jst_eq, jst_ne, jst_ni, jst_o, jI_i, jcpy_out, w32_id, jdiv_nn, jshr_k, jand_255] <;> first | done | omega | assumption)) | (intros; simp (disch := omega) only [jst_eq, jst_ne, jst_ni, jst_o, jI_i, jcpy_out, w32_id, jdiv_nn, *] <;> first | done | omega) | (intros; simp (disch := omega) only [jst_eq, jst_ne, jst_ni, jst_o, jI_i, jcpy_out, w32_id, jdiv_nn] at * <;> first | done | omega | assumption) | (intros; first | rfl | (exfalso; omega) | ((repeat' apply And.intro) <;> first | assumption | rfl | omega | trivial))) -- o28 e4m
          · skip
            try simp (disch := omega) only [jst_eq, jst_ne, jst_ni, jI_i, jcmp_lt, jcmp_gt, w32_id, jcpy_out, Sum.elim_inl, Sum.elim_inr, jt2, jt3, jt4, jt5, jt6, jt7, jt8] at c4
            refine OK_jb (vX5_countAct_l240 (E := E) (Rf := Rf) (W := W) (A := A) (pts := pts) (wh := wh) (rv := rv) (M := M) (T := T) (n := n) (r0 := fun f => r0 f + sumN (cyC E W pts (LV E W pts A n) (ct E W pts A) i4 i3 i6 f) a7.toNat) _ _ _ _ _ _ _ _ (by exact Q1) (by exact tq) (by exact ⟨ia.1, ia.2.1, ia.2.2.1, ia.2.2.2.1, by omega, ia.2.2.2.2.2.1, ia.2.2.2.2.2.2⟩) (by exact ⟨ix, q0.1, by omega, ky⟩) (by rfl)) (fun o37 r4 => ?_)
            try dsimp only [Sum.elim_inl, Sum.elim_inr, jt2, jt3, jt4, jt5, jt6, jt7, jt8] at r4
            obtain ⟨cs4, fs4⟩ := r4
            try simp (disch := omega) only [jst_eq, jst_ne, jst_ni, jI_i, jcmp_lt, jcmp_gt, w32_id, jcpy_out, Sum.elim_inl, Sum.elim_inr, jt2, jt3, jt4, jt5, jt6, jt7, jt8] at cs4
            try simp (disch := omega) only [jst_eq, jst_ne, jst_ni, jI_i, jcmp_lt, jcmp_gt, w32_id, jcpy_out, Sum.elim_inl, Sum.elim_inr, jt2, jt3, jt4, jt5, jt6, jt7, jt8] at fs4
            unfold gX5_countAct_j351_129
            refine OK_jlx (fun x39 ex39 => ?_)
            try simp (disch := omega) only [jst_eq, jst_ne, jst_ni, jI_i, jcmp_lt, jcmp_gt, w32_id, jcpy_out, Sum.elim_inl, Sum.elim_inr, jt2, jt3, jt4, jt5, jt6, jt7, jt8] at ex39
            refine OK_il ?_ ?_
            · try dsimp only [Sum.elim_inl, Sum.elim_inr, jt2, jt3, jt4, jt5, jt6, jt7, jt8]
              refine ⟨?_, ?_, ?_⟩
              · (first | assumption | omega | ((try dsimp only [jt2, jt3, jt4]); first | omega | (simp (disch := omega) only [jst_eq, jst_ne, jst_ni, jst_o, jI_i, jcpy_out, w32_id, jdiv_nn, jshr_k, jand_255] <;> first | done | omega | assumption)) | (intros; simp (disch := omega) only [jst_eq, jst_ne, jst_ni, jst_o, jI_i, jcpy_out, w32_id, jdiv_nn, *] <;> first | done | omega) | (intros; simp (disch := omega) only [jst_eq, jst_ne, jst_ni, jst_o, jI_i, jcpy_out, w32_id, jdiv_nn] at * <;> first | done | omega | assumption) | (intros; first | rfl | (exfalso; omega) | ((repeat' apply And.intro) <;> first | assumption | rfl | omega | trivial))) -- o34 e5i.1
              · (refine CS_c (by first | exact cs4 | exact cs5) (fun f f0 f1 => ?_); rw [show x39 = a7 + 1 by omega, sumN_s q0.1]; have cy : cyC E W pts (LV E W pts A n) (ct E W pts A) i4 i3 i6 f a7 = sumN (czC E W pts (LV E W pts A n) (ct E W pts A) i4 i3 i6 a7 f) (LV E W pts A n).1.toNat := (by by_cases u : a7 < (LV E W pts A n).1; { have qy := tq.2.1.2 a7 q0.1 u; unfold cyC; rw [if_neg (by omega)]; exact cif_y (by rw [← qy.1]; exact ky) }; { rw [YZ a7 f q0.1 (Or.inl (by omega)), sumN_0 (fun z z0 _ => cz_0 (w3_zT tq ix.1 q0.1 z0 i3n.1 (Or.inr (Or.inl (by omega)))))] }); rw [cy, Int.add_assoc]) -- o35 e5i.2
              · exact ⟨fC_t fr.1 (by first | exact fs4.1 | exact fs5.1), by first | exact fs4.2 | exact fs5.2⟩ -- o36 e5i.3
            · (first | assumption | omega | ((try dsimp only [jt2, jt3, jt4]); first | omega | (simp (disch := omega) only [jst_eq, jst_ne, jst_ni, jst_o, jI_i, jcpy_out, w32_id, jdiv_nn, jshr_k, jand_255] <;> first | done | omega | assumption)) | (intros; simp (disch := omega) only [jst_eq, jst_ne, jst_ni, jst_o, jI_i, jcpy_out, w32_id, jdiv_nn, *] <;> first | done | omega) | (intros; simp (disch := omega) only [jst_eq, jst_ne, jst_ni, jst_o, jI_i, jcpy_out, w32_id, jdiv_nn] at * <;> first | done | omega | assumption) | (intros; first | rfl | (exfalso; omega) | ((repeat' apply And.intro) <;> first | assumption | rfl | omega | trivial))) -- o37 e5m
        · skip
          try simp (disch := omega) only [jst_eq, jst_ne, jst_ni, jI_i, jcmp_lt, jcmp_gt, w32_id, jcpy_out, Sum.elim_inl, Sum.elim_inr, jt2, jt3, jt4, jt5, jt6, jt7, jt8] at c3
          unfold gX5_countAct_j351_129
          refine OK_jlx (fun x39 ex39 => ?_)
          try simp (disch := omega) only [jst_eq, jst_ne, jst_ni, jI_i, jcmp_lt, jcmp_gt, w32_id, jcpy_out, Sum.elim_inl, Sum.elim_inr, jt2, jt3, jt4, jt5, jt6, jt7, jt8] at ex39
          refine OK_il ?_ ?_
          · try dsimp only [Sum.elim_inl, Sum.elim_inr, jt2, jt3, jt4, jt5, jt6, jt7, jt8]
            refine ⟨?_, ?_, ?_⟩
            · (first | assumption | omega | ((try dsimp only [jt2, jt3, jt4]); first | omega | (simp (disch := omega) only [jst_eq, jst_ne, jst_ni, jst_o, jI_i, jcpy_out, w32_id, jdiv_nn, jshr_k, jand_255] <;> first | done | omega | assumption)) | (intros; simp (disch := omega) only [jst_eq, jst_ne, jst_ni, jst_o, jI_i, jcpy_out, w32_id, jdiv_nn, *] <;> first | done | omega) | (intros; simp (disch := omega) only [jst_eq, jst_ne, jst_ni, jst_o, jI_i, jcpy_out, w32_id, jdiv_nn] at * <;> first | done | omega | assumption) | (intros; first | rfl | (exfalso; omega) | ((repeat' apply And.intro) <;> first | assumption | rfl | omega | trivial))) -- o38 e6i.1
            · (refine CS_c Q1 (fun f f0 f1 => ?_); rw [show x39 = a7 + 1 by omega, sumN_s q0.1]; have cy : cyC E W pts (LV E W pts A n) (ct E W pts A) i4 i3 i6 f a7 = 0 := (by by_cases u : a7 < (LV E W pts A n).1; { have qy := tq.2.1.2 a7 q0.1 u; have nk : ¬ (LV E W pts A n).2.1 a7 = eK E i4 1 := (fun y => by (rw [← qy.1, ← h7.1] at y; omega)); unfold cyC; by_cases e : eO E i4 = 2; { rw [if_pos e]; exact cif_n (fun y => nk y.1) }; { rw [if_neg e]; exact cif_n nk } }; { exact YZ a7 f q0.1 (Or.inl (by omega)) }); rw [cy, Int.add_zero]) -- o39 e6i.2
            · (first | assumption | omega | ((try dsimp only [jt2, jt3, jt4]); first | omega | (simp (disch := omega) only [jst_eq, jst_ne, jst_ni, jst_o, jI_i, jcpy_out, w32_id, jdiv_nn, jshr_k, jand_255] <;> first | done | omega | assumption)) | (intros; simp (disch := omega) only [jst_eq, jst_ne, jst_ni, jst_o, jI_i, jcpy_out, w32_id, jdiv_nn, *] <;> first | done | omega) | (intros; simp (disch := omega) only [jst_eq, jst_ne, jst_ni, jst_o, jI_i, jcpy_out, w32_id, jdiv_nn] at * <;> first | done | omega | assumption) | (intros; first | rfl | (exfalso; omega) | ((repeat' apply And.intro) <;> first | assumption | rfl | omega | trivial))) -- o40 e6i.3
          · (first | assumption | omega | ((try dsimp only [jt2, jt3, jt4]); first | omega | (simp (disch := omega) only [jst_eq, jst_ne, jst_ni, jst_o, jI_i, jcpy_out, w32_id, jdiv_nn, jshr_k, jand_255] <;> first | done | omega | assumption)) | (intros; simp (disch := omega) only [jst_eq, jst_ne, jst_ni, jst_o, jI_i, jcpy_out, w32_id, jdiv_nn, *] <;> first | done | omega) | (intros; simp (disch := omega) only [jst_eq, jst_ne, jst_ni, jst_o, jI_i, jcpy_out, w32_id, jdiv_nn] at * <;> first | done | omega | assumption) | (intros; first | rfl | (exfalso; omega) | ((repeat' apply And.intro) <;> first | assumption | rfl | omega | trivial))) -- o41 e6m
  · try dsimp only [Sum.elim_inl, Sum.elim_inr, jt2, jt3, jt4, jt5, jt6, jt7, jt8]
    refine ⟨?_, ?_, ?_⟩
    · (first | assumption | omega | ((try dsimp only [jt2, jt3, jt4]); first | omega | (simp (disch := omega) only [jst_eq, jst_ne, jst_ni, jst_o, jI_i, jcpy_out, w32_id, jdiv_nn, jshr_k, jand_255] <;> first | done | omega | assumption)) | (intros; simp (disch := omega) only [jst_eq, jst_ne, jst_ni, jst_o, jI_i, jcpy_out, w32_id, jdiv_nn, *] <;> first | done | omega) | (intros; simp (disch := omega) only [jst_eq, jst_ne, jst_ni, jst_o, jI_i, jcpy_out, w32_id, jdiv_nn] at * <;> first | done | omega | assumption) | (intros; first | rfl | (exfalso; omega) | ((repeat' apply And.intro) <;> first | assumption | rfl | omega | trivial))) -- o42 init.1
    · (refine CS_c cs (fun f f0 f1 => ?_); rw [z]; show r0 f = r0 f + 0; omega) -- o43 init.2
    · exact ⟨fC_r _, cs.1.1.2.2.2.2⟩ -- o44 init.3
theorem vX5_countAct_l28 (i1 : Int) (i2 : Int) (i3 : Int) (i4 : Int) (i5 : Int) (a60 : Int) {h0 : AH} {E : EV} {Rf : Int → TR} {W : Int → Int → Int → VW} {A : AD} {pts wh : Int} {rv : Int → Int} {M : Int → (Int → Int) → Prop} {T : TB} {n : Nat} {r0 : Int → Int} (cs : CS h0 E Rf W A pts wh rv M T n r0) (tq : TQ E W pts A n T) (ia : i1 = n ∧ (0 ≤ i2 ∧ i2 < A.2.2.2.1) ∧ A.2.2.2.2.1 i2 = i4 ∧ (0 ≤ i4 ∧ i4 < E.1.1) ∧ (eO E i4 = i5 ∧ 1 ≤ i5 ∧ i5 ≤ 3) ∧ i3 = i1 - A.2.2.2.2.2.2.2 i2 ∧ 0 < i3) (z : a60 = 0) : OK (gX5_countAct_l28 i1 i2 i3 i4 i5 a60 h0) (fun h' => (CS h' E Rf W A pts wh rv M T n (fun f => r0 f + sumN (cxC E W pts (LV E W pts A n) (ct E W pts A) i4 i3 f) (LV E W pts A n).1.toNat)) ∧ (fC h0 h' ∧ b10 h')) := by
  unfold gX5_countAct_l28
  refine OK_jit (I := (fun (s : Int × AH) => jt2 s fun a6 h => (0 ≤ a6 ∧ a6 ≤ T.1) ∧ (CS h E Rf W A pts wh rv M T n (fun f => r0 f + sumN (cxC E W pts (LV E W pts A n) (ct E W pts A) i4 i3 f) a6.toNat)) ∧ (fC h0 h ∧ b10 h))) (m := (fun (s : Int × AH) => jt2 s fun a6 h => (T.1 - a6).toNat)) ?_ ?_
  · intro s hs
    obtain ⟨a6, h⟩ := s
    dsimp only [Sum.elim_inl, Sum.elim_inr, jt2, jt3, jt4, jt5, jt6, jt7, jt8] at hs
    obtain ⟨q0, q1, fr⟩ := hs
    unfold gX5_countAct_b28
    refine OK_jt2 ?_
    have Q1 := q1
    obtain ⟨SE, XX, CN⟩ := q1
    obtain ⟨H1, H2, H3, H4⟩ := XI_h XX
    have n12 := tq.1.1
    have en := SE.1.2.1
    have pr := (tq.1.2.2.2.1.2.2 i2 ia.2.1.1 ia.2.1.2).1
    have i3n : i3 ≤ n ∧ i3 < n := by omega
    have ex0 := tq.2.1.1
    have l0 := LV_0 (E := E) (W := W) (pts := pts) (A := A) n
    have w5 : w32 (i3 - i5) = i3 - i5 := w32_id (by omega) (by omega)
    have w6 : w32 (i3 - i5 + 1) = i3 - i5 + 1 := w32_id (by omega) (by omega)
    have XZ : ∀ j f, 0 ≤ j → ((LV E W pts A n).1 ≤ j ∨ i3 - i5 + 1 < T.2.2.1 j) → cxC E W pts (LV E W pts A n) (ct E W pts A) i4 i3 f j = 0 := fun j f j0 k => cx_z2 tq ia.2.2.2.2.1.1 j0 i3n.1 (by omega) k
    refine OK_if (fun c1 => ?_) (fun c1 => ?_)
    · skip
      try simp (disch := omega) only [jst_eq, jst_ne, jst_ni, jI_i, jcmp_lt, jcmp_gt, w32_id, jcpy_out, Sum.elim_inl, Sum.elim_inr, jt2, jt3, jt4, jt5, jt6, jt7, jt8] at c1
      refine OK_ir ?_
      try dsimp only [Sum.elim_inl, Sum.elim_inr, jt2, jt3, jt4, jt5, jt6, jt7, jt8]
      refine ⟨?_, ?_⟩
      · (refine CS_c Q1 (fun f f0 f1 => ?_); rw [sumN_ex (g := cxC E W pts (LV E W pts A n) (ct E W pts A) i4 i3 f) (m := a6.toNat) (n := (LV E W pts A n).1.toNat) (fun j a b => by omega) (fun j a b => XZ j f (by omega) (Or.inl (by omega)))]) -- o1 e1.1
      · exact fr -- o2 e1.2
    · skip
      try simp (disch := omega) only [jst_eq, jst_ne, jst_ni, jI_i, jcmp_lt, jcmp_gt, w32_id, jcpy_out, Sum.elim_inl, Sum.elim_inr, jt2, jt3, jt4, jt5, jt6, jt7, jt8] at c1
      have h6 := H4 a6 q0.1 (by omega)
      have t6 := tq.2.2.2 a6 q0.1 (by omega)
      have w23 : w32 (a6 + 1) = a6 + 1 := w32_id (by omega) (by omega)
      refine OK_jg (by (first | assumption | omega | ((try dsimp only [jt2, jt3, jt4]); first | omega | (simp (disch := omega) only [jst_eq, jst_ne, jst_ni, jst_o, jI_i, jcpy_out, w32_id, jdiv_nn, jshr_k, jand_255] <;> first | done | omega | assumption)) | (intros; simp (disch := omega) only [jst_eq, jst_ne, jst_ni, jst_o, jI_i, jcpy_out, w32_id, jdiv_nn, *] <;> first | done | omega) | (intros; simp (disch := omega) only [jst_eq, jst_ne, jst_ni, jst_o, jI_i, jcpy_out, w32_id, jdiv_nn] at * <;> first | done | omega | assumption) | (intros; first | rfl | (exfalso; omega) | ((repeat' apply And.intro) <;> first | assumption | rfl | omega | trivial)))) ?_ -- o3
      refine OK_if (fun c2 => ?_) (fun c2 => ?_)
      · skip
        try simp (disch := omega) only [jst_eq, jst_ne, jst_ni, jI_i, jcmp_lt, jcmp_gt, w32_id, jcpy_out, Sum.elim_inl, Sum.elim_inr, jt2, jt3, jt4, jt5, jt6, jt7, jt8] at c2
        refine OK_ir ?_
        try dsimp only [Sum.elim_inl, Sum.elim_inr, jt2, jt3, jt4, jt5, jt6, jt7, jt8]
        refine ⟨?_, ?_⟩
        · (refine CS_c Q1 (fun f f0 f1 => ?_); rw [sumN_ex (g := cxC E W pts (LV E W pts A n) (ct E W pts A) i4 i3 f) (m := a6.toNat) (n := (LV E W pts A n).1.toNat) (fun j a b => XZ j f (by omega) (Or.inr (by have := srt_T tq (a := a6) (b := j) q0.1 (by omega) (by omega); omega))) (fun j a b => XZ j f (by omega) (Or.inl (by omega)))]) -- o4 e2.1
        · exact fr -- o5 e2.2
      · skip
        try simp (disch := omega) only [jst_eq, jst_ne, jst_ni, jI_i, jcmp_lt, jcmp_gt, w32_id, jcpy_out, Sum.elim_inl, Sum.elim_inr, jt2, jt3, jt4, jt5, jt6, jt7, jt8] at c2
        refine OK_jb (vX1_kindOf (nA := E.1.1) (cA := E.1.2.1) (oA := E.1.2.2.1) (wA := E.1.2.2.2.1) (kA := E.1.2.2.2.2) _ _ (by exact en.1) (by exact ⟨ia.2.2.2.1.1, ia.2.2.2.1.2, by decide, by (rw [oper_eq ia.2.2.2.1.1]; omega)⟩)) (fun v9 r1 => ?_)
        try dsimp only [Sum.elim_inl, Sum.elim_inr, jt2, jt3, jt4, jt5, jt6, jt7, jt8] at r1
        have v1 := r1
        clear r1
        try simp (disch := omega) only [jst_eq, jst_ne, jst_ni, jI_i, jcmp_lt, jcmp_gt, w32_id, jcpy_out, Sum.elim_inl, Sum.elim_inr, jt2, jt3, jt4, jt5, jt6, jt7, jt8] at v1
        have e9 : v9 = eK E i4 0 := by { rw [← kind_eq ia.2.2.2.1.1]; first | exact kd1 | assumption }
        refine OK_if (fun c3 => ?_) (fun c3 => ?_)
        · skip
          try simp (disch := omega) only [jst_eq, jst_ne, jst_ni, jI_i, jcmp_lt, jcmp_gt, w32_id, jcpy_out, Sum.elim_inl, Sum.elim_inr, jt2, jt3, jt4, jt5, jt6, jt7, jt8] at c3
          have kx : T.2.1 a6 = eK E i4 0 := by { rw [← h6.1]; omega }
          refine OK_if (fun c4 => ?_) (fun c4 => ?_)
          · skip
            try simp (disch := omega) only [jst_eq, jst_ne, jst_ni, jI_i, jcmp_lt, jcmp_gt, w32_id, jcpy_out, Sum.elim_inl, Sum.elim_inr, jt2, jt3, jt4, jt5, jt6, jt7, jt8] at c4
            refine OK_jb (vX5_count_2 _ _ (by (first | assumption | omega | ((try dsimp only [jt2, jt3, jt4]); first | omega | (simp (disch := omega) only [jst_eq, jst_ne, jst_ni, jst_o, jI_i, jcpy_out, w32_id, jdiv_nn, jshr_k, jand_255] <;> first | done | omega | assumption)) | (intros; simp (disch := omega) only [jst_eq, jst_ne, jst_ni, jst_o, jI_i, jcpy_out, w32_id, jdiv_nn, *] <;> first | done | omega) | (intros; simp (disch := omega) only [jst_eq, jst_ne, jst_ni, jst_o, jI_i, jcpy_out, w32_id, jdiv_nn] at * <;> first | done | omega | assumption) | (intros; first | rfl | (exfalso; omega) | ((repeat' apply And.intro) <;> first | assumption | rfl | omega | trivial))))) (fun v13 r2 => ?_)
            try dsimp only [Sum.elim_inl, Sum.elim_inr, jt2, jt3, jt4, jt5, jt6, jt7, jt8] at r2
            have cv2 := r2
            clear r2
            try simp (disch := omega) only [jst_eq, jst_ne, jst_ni, jI_i, jcmp_lt, jcmp_gt, w32_id, jcpy_out, Sum.elim_inl, Sum.elim_inr, jt2, jt3, jt4, jt5, jt6, jt7, jt8] at cv2
            have W0 := ct_0 (E := E) (W := W) (pts := pts) (A := A) i3 a6
            have V13 : v13 = ct E W pts A i3 a6 := by { rw [show v13 = h 321 (120 * i3 + a6) by first | exact cv2 | assumption, CN i3 a6 (by omega) (by omega) q0.1 (by omega), if_pos (by omega)] }
            have eo1 : eO E i4 = 1 := by omega
            refine OK_if (fun c5 => ?_) (fun c5 => ?_)
            · skip
              try simp (disch := omega) only [jst_eq, jst_ne, jst_ni, jI_i, jcmp_lt, jcmp_gt, w32_id, jcpy_out, Sum.elim_inl, Sum.elim_inr, jt2, jt3, jt4, jt5, jt6, jt7, jt8] at c5
              have c5w := jcmp_le.1 c5
              unfold gX5_countAct_j357_28
              refine OK_jlx (fun x23 ex23 => ?_)
              try simp (disch := omega) only [jst_eq, jst_ne, jst_ni, jI_i, jcmp_lt, jcmp_gt, w32_id, jcpy_out, Sum.elim_inl, Sum.elim_inr, jt2, jt3, jt4, jt5, jt6, jt7, jt8] at ex23
              refine OK_il ?_ ?_
              · try dsimp only [Sum.elim_inl, Sum.elim_inr, jt2, jt3, jt4, jt5, jt6, jt7, jt8]
                refine ⟨?_, ?_, ?_⟩
                · (first | assumption | omega | ((try dsimp only [jt2, jt3, jt4]); first | omega | (simp (disch := omega) only [jst_eq, jst_ne, jst_ni, jst_o, jI_i, jcpy_out, w32_id, jdiv_nn, jshr_k, jand_255] <;> first | done | omega | assumption)) | (intros; simp (disch := omega) only [jst_eq, jst_ne, jst_ni, jst_o, jI_i, jcpy_out, w32_id, jdiv_nn, *] <;> first | done | omega) | (intros; simp (disch := omega) only [jst_eq, jst_ne, jst_ni, jst_o, jI_i, jcpy_out, w32_id, jdiv_nn] at * <;> first | done | omega | assumption) | (intros; first | rfl | (exfalso; omega) | ((repeat' apply And.intro) <;> first | assumption | rfl | omega | trivial))) -- o9 e3i.1
                · (refine CS_c Q1 (fun f f0 f1 => ?_); rw [show x23 = a6 + 1 by omega, sumN_s q0.1]; have cz : cxC E W pts (LV E W pts A n) (ct E W pts A) i4 i3 f a6 = 0 := (by unfold cxC; rw [if_pos eo1, show ct E W pts A i3 a6 = 0 by omega]; exact cif_00); rw [cz, Int.add_zero]) -- o10 e3i.2
                · (first | assumption | omega | ((try dsimp only [jt2, jt3, jt4]); first | omega | (simp (disch := omega) only [jst_eq, jst_ne, jst_ni, jst_o, jI_i, jcpy_out, w32_id, jdiv_nn, jshr_k, jand_255] <;> first | done | omega | assumption)) | (intros; simp (disch := omega) only [jst_eq, jst_ne, jst_ni, jst_o, jI_i, jcpy_out, w32_id, jdiv_nn, *] <;> first | done | omega) | (intros; simp (disch := omega) only [jst_eq, jst_ne, jst_ni, jst_o, jI_i, jcpy_out, w32_id, jdiv_nn] at * <;> first | done | omega | assumption) | (intros; first | rfl | (exfalso; omega) | ((repeat' apply And.intro) <;> first | assumption | rfl | omega | trivial))) -- o11 e3i.3
              · (first | assumption | omega | ((try dsimp only [jt2, jt3, jt4]); first | omega | (simp (disch := omega) only [jst_eq, jst_ne, jst_ni, jst_o, jI_i, jcpy_out, w32_id, jdiv_nn, jshr_k, jand_255] <;> first | done | omega | assumption)) | (intros; simp (disch := omega) only [jst_eq, jst_ne, jst_ni, jst_o, jI_i, jcpy_out, w32_id, jdiv_nn, *] <;> first | done | omega) | (intros; simp (disch := omega) only [jst_eq, jst_ne, jst_ni, jst_o, jI_i, jcpy_out, w32_id, jdiv_nn] at * <;> first | done | omega | assumption) | (intros; first | rfl | (exfalso; omega) | ((repeat' apply And.intro) <;> first | assumption | rfl | omega | trivial))) -- o12 e3m
            · skip
              try simp (disch := omega) only [jst_eq, jst_ne, jst_ni, jI_i, jcmp_lt, jcmp_gt, w32_id, jcpy_out, Sum.elim_inl, Sum.elim_inr, jt2, jt3, jt4, jt5, jt6, jt7, jt8] at c5
              have c5w : ¬ v13 ≤ 0 := fun y => c5 (jcmp_le.2 y)
              have SU := ct_sup tq.1 (i := i3) (f := a6) q0.1 i3n.1 (by omega)
              have qx := tq.2.1.2 a6 q0.1 SU.2.1
              have kz : (LV E W pts A n).2.1 a6 = eK E i4 0 := by { rw [← qx.1]; exact kx }
              have AR : arT E (LV E W pts A n) (LV E W pts A n).1 i4 a6 (-1) (-1) := ⟨⟨q0.1, SU.2.1, kz⟩, Or.inl ⟨eo1, rfl, rfl⟩⟩
              have HT := hs_T tq XX.2.2.2.2 ia.2.1 ia.2.2.1 ia.2.2.2.1 AR (by rw [wO_n]; omega)
              refine OK_jb2 (vX5_result (E := E) (Rf := Rf) (W := W) (f := fun _ _ _ => 0) (A := A) (pts := pts) (wh := wh) (rv := rv) (M := M) (T := T) (ac := i4) _ _ _ _ (by exact SE) (by exact XX) (by exact HT.2.2.2.2) (by exact ⟨ia.2.1, ia.2.2.1, ia.2.2.2.1⟩) (by exact HT.1) (by exact HT.2.1)) (fun v16 h17 r3 => ?_)
              try dsimp only [Sum.elim_inl, Sum.elim_inr, jt2, jt3, jt4, jt5, jt6, jt7, jt8] at r3
              obtain ⟨rs3, xs3, fs3⟩ := r3
              try simp (disch := omega) only [jst_eq, jst_ne, jst_ni, jI_i, jcmp_lt, jcmp_gt, w32_id, jcpy_out, Sum.elim_inl, Sum.elim_inr, jt2, jt3, jt4, jt5, jt6, jt7, jt8] at rs3
              try simp (disch := omega) only [jst_eq, jst_ne, jst_ni, jI_i, jcmp_lt, jcmp_gt, w32_id, jcpy_out, Sum.elim_inl, Sum.elim_inr, jt2, jt3, jt4, jt5, jt6, jt7, jt8] at xs3
              try simp (disch := omega) only [jst_eq, jst_ne, jst_ni, jI_i, jcmp_lt, jcmp_gt, w32_id, jcpy_out, Sum.elim_inl, Sum.elim_inr, jt2, jt3, jt4, jt5, jt6, jt7, jt8] at fs3
              have V16 : v16 = ixC E W pts (LV E W pts A n) i4 a6 (-1) (-1) := by { rw [← HT.2.2.1]; first | exact rs3 | assumption }
              have N120 := tq.1.2.2.1 n (Nat.le_refl _)
              have C17 : h17 321 (120 * i3 + a6) = h 321 (120 * i3 + a6) := fs3.1 _ _ (by omega) (by omega) (by omega) (by omega)
              have w49 : w32 (w32 (i1 * 120) + v16) = 120 * n + v16 := by { rw [w32_id (x := i1 * 120) (by omega) (by omega), w32_id (by omega) (by omega)]; omega }
              rw [w49]
              refine OK_jg (by (first | assumption | omega | ((try dsimp only [jt2, jt3, jt4]); first | omega | (simp (disch := omega) only [jst_eq, jst_ne, jst_ni, jst_o, jI_i, jcpy_out, w32_id, jdiv_nn, jshr_k, jand_255] <;> first | done | omega | assumption)) | (intros; simp (disch := omega) only [jst_eq, jst_ne, jst_ni, jst_o, jI_i, jcpy_out, w32_id, jdiv_nn, *] <;> first | done | omega) | (intros; simp (disch := omega) only [jst_eq, jst_ne, jst_ni, jst_o, jI_i, jcpy_out, w32_id, jdiv_nn] at * <;> first | done | omega | assumption) | (intros; first | rfl | (exfalso; omega) | ((repeat' apply And.intro) <;> first | assumption | rfl | omega | trivial)))) ?_ -- o19
              refine OK_jb (vX5_count_2 _ _ (by (first | assumption | omega | ((try dsimp only [jt2, jt3, jt4]); first | omega | (simp (disch := omega) only [jst_eq, jst_ne, jst_ni, jst_o, jI_i, jcpy_out, w32_id, jdiv_nn, jshr_k, jand_255] <;> first | done | omega | assumption)) | (intros; simp (disch := omega) only [jst_eq, jst_ne, jst_ni, jst_o, jI_i, jcpy_out, w32_id, jdiv_nn, *] <;> first | done | omega) | (intros; simp (disch := omega) only [jst_eq, jst_ne, jst_ni, jst_o, jI_i, jcpy_out, w32_id, jdiv_nn] at * <;> first | done | omega | assumption) | (intros; first | rfl | (exfalso; omega) | ((repeat' apply And.intro) <;> first | assumption | rfl | omega | trivial))))) (fun v19 r4 => ?_)
              try dsimp only [Sum.elim_inl, Sum.elim_inr, jt2, jt3, jt4, jt5, jt6, jt7, jt8] at r4
              have cv4 := r4
              clear r4
              try simp (disch := omega) only [jst_eq, jst_ne, jst_ni, jI_i, jcmp_lt, jcmp_gt, w32_id, jcpy_out, Sum.elim_inl, Sum.elim_inr, jt2, jt3, jt4, jt5, jt6, jt7, jt8] at cv4
              have V19 : v19 = v13 := by { rw [show v19 = h17 321 (120 * i3 + a6) by first | exact cv4 | assumption, C17]; first | exact cv2.symm | (symm; assumption) }
              refine OK_jl ?_
              have UP := CS_s (v := v16) (w := v19) (g := fun f => cxC E W pts (LV E W pts A n) (ct E W pts A) i4 i3 f a6) Q1 fs3.1 xs3 fs3.2 n12.2 (by omega) (fun f f0 f1 => by (show cxC _ _ _ _ _ _ _ _ _ = _; unfold cxC; rw [if_pos eo1]; by_cases y : f = v16; { rw [if_pos y, cif_y ⟨kz, by rw [y]; exact V16.symm⟩, V19, V13] }; { rw [if_neg y, cif_n (fun u => y (u.2.symm.trans V16.symm))] }))
              unfold gX5_countAct_j357_28
              refine OK_jlx (fun x23 ex23 => ?_)
              try simp (disch := omega) only [jst_eq, jst_ne, jst_ni, jI_i, jcmp_lt, jcmp_gt, w32_id, jcpy_out, Sum.elim_inl, Sum.elim_inr, jt2, jt3, jt4, jt5, jt6, jt7, jt8] at ex23
              refine OK_il ?_ ?_
              · try dsimp only [Sum.elim_inl, Sum.elim_inr, jt2, jt3, jt4, jt5, jt6, jt7, jt8]
                refine ⟨?_, ?_, ?_⟩
                · (first | assumption | omega | ((try dsimp only [jt2, jt3, jt4]); first | omega | (simp (disch := omega) only [jst_eq, jst_ne, jst_ni, jst_o, jI_i, jcpy_out, w32_id, jdiv_nn, jshr_k, jand_255] <;> first | done | omega | assumption)) | (intros; simp (disch := omega) only [jst_eq, jst_ne, jst_ni, jst_o, jI_i, jcpy_out, w32_id, jdiv_nn, *] <;> first | done | omega) | (intros; simp (disch := omega) only [jst_eq, jst_ne, jst_ni, jst_o, jI_i, jcpy_out, w32_id, jdiv_nn] at * <;> first | done | omega | assumption) | (intros; first | rfl | (exfalso; omega) | ((repeat' apply And.intro) <;> first | assumption | rfl | omega | trivial))) -- o21 e4i.1
                · (refine CS_c UP.1 (fun f f0 f1 => ?_); rw [show x23 = a6 + 1 by omega, sumN_s q0.1, Int.add_assoc]) -- o22 e4i.2
                · exact ⟨fC_t fr.1 UP.2.1, UP.2.2⟩ -- o23 e4i.3
              · (first | assumption | omega | ((try dsimp only [jt2, jt3, jt4]); first | omega | (simp (disch := omega) only [jst_eq, jst_ne, jst_ni, jst_o, jI_i, jcpy_out, w32_id, jdiv_nn, jshr_k, jand_255] <;> first | done | omega | assumption)) | (intros; simp (disch := omega) only [jst_eq, jst_ne, jst_ni, jst_o, jI_i, jcpy_out, w32_id, jdiv_nn, *] <;> first | done | omega) | (intros; simp (disch := omega) only [jst_eq, jst_ne, jst_ni, jst_o, jI_i, jcpy_out, w32_id, jdiv_nn] at * <;> first | done | omega | assumption) | (intros; first | rfl | (exfalso; omega) | ((repeat' apply And.intro) <;> first | assumption | rfl | omega | trivial))) -- o24 e4m
          · skip
            try simp (disch := omega) only [jst_eq, jst_ne, jst_ni, jI_i, jcmp_lt, jcmp_gt, w32_id, jcpy_out, Sum.elim_inl, Sum.elim_inr, jt2, jt3, jt4, jt5, jt6, jt7, jt8] at c4
            refine OK_jb (vX5_countAct_l129 (E := E) (Rf := Rf) (W := W) (A := A) (pts := pts) (wh := wh) (rv := rv) (M := M) (T := T) (n := n) (r0 := fun f => r0 f + sumN (cxC E W pts (LV E W pts A n) (ct E W pts A) i4 i3 f) a6.toNat) _ _ _ _ _ _ _ (by exact Q1) (by exact tq) (by exact ⟨ia.1, ia.2.1, ia.2.2.1, ia.2.2.2.1, ⟨ia.2.2.2.2.1.1, by omega, by omega⟩, ia.2.2.2.2.2.1, ia.2.2.2.2.2.2⟩) (by exact ⟨q0.1, by omega, kx⟩) (by rfl)) (fun o21 r5 => ?_)
            try dsimp only [Sum.elim_inl, Sum.elim_inr, jt2, jt3, jt4, jt5, jt6, jt7, jt8] at r5
            obtain ⟨cs5, fs5⟩ := r5
            try simp (disch := omega) only [jst_eq, jst_ne, jst_ni, jI_i, jcmp_lt, jcmp_gt, w32_id, jcpy_out, Sum.elim_inl, Sum.elim_inr, jt2, jt3, jt4, jt5, jt6, jt7, jt8] at cs5
            try simp (disch := omega) only [jst_eq, jst_ne, jst_ni, jI_i, jcmp_lt, jcmp_gt, w32_id, jcpy_out, Sum.elim_inl, Sum.elim_inr, jt2, jt3, jt4, jt5, jt6, jt7, jt8] at fs5
            unfold gX5_countAct_j357_28
            refine OK_jlx (fun x23 ex23 => ?_)
            try simp (disch := omega) only [jst_eq, jst_ne, jst_ni, jI_i, jcmp_lt, jcmp_gt, w32_id, jcpy_out, Sum.elim_inl, Sum.elim_inr, jt2, jt3, jt4, jt5, jt6, jt7, jt8] at ex23
            refine OK_il ?_ ?_
            · try dsimp only [Sum.elim_inl, Sum.elim_inr, jt2, jt3, jt4, jt5, jt6, jt7, jt8]
              refine ⟨?_, ?_, ?_⟩
              · (first | assumption | omega | ((try dsimp only [jt2, jt3, jt4]); first | omega | (simp (disch := omega) only [jst_eq, jst_ne, jst_ni, jst_o, jI_i, jcpy_out, w32_id, jdiv_nn, jshr_k, jand_255] <;> first | done | omega | assumption)) | (intros; simp (disch := omega) only [jst_eq, jst_ne, jst_ni, jst_o, jI_i, jcpy_out, w32_id, jdiv_nn, *] <;> first | done | omega) | (intros; simp (disch := omega) only [jst_eq, jst_ne, jst_ni, jst_o, jI_i, jcpy_out, w32_id, jdiv_nn] at * <;> first | done | omega | assumption) | (intros; first | rfl | (exfalso; omega) | ((repeat' apply And.intro) <;> first | assumption | rfl | omega | trivial))) -- o30 e5i.1
              · (refine CS_c (by first | exact cs5 | exact cs6) (fun f f0 f1 => ?_); rw [show x23 = a6 + 1 by omega, sumN_s q0.1]; have cy : cxC E W pts (LV E W pts A n) (ct E W pts A) i4 i3 f a6 = sumN (cyC E W pts (LV E W pts A n) (ct E W pts A) i4 i3 a6 f) (LV E W pts A n).1.toNat := (by by_cases u : a6 < (LV E W pts A n).1; { have qy := tq.2.1.2 a6 q0.1 u; unfold cxC; rw [if_neg (by omega)]; exact cif_y (by rw [← qy.1]; exact kx) }; { rw [XZ a6 f q0.1 (Or.inl (by omega)), sumN_0 (fun y y0 _ => cy_0 (w2_zT tq q0.1 y0 i3n.1 (Or.inl (by omega))) (fun z z0 => w3_zT tq q0.1 y0 z0 i3n.1 (Or.inl (by omega))))] }); rw [cy, Int.add_assoc]) -- o31 e5i.2
              · exact ⟨fC_t fr.1 (by first | exact fs5.1 | exact fs6.1), by first | exact fs5.2 | exact fs6.2⟩ -- o32 e5i.3
            · (first | assumption | omega | ((try dsimp only [jt2, jt3, jt4]); first | omega | (simp (disch := omega) only [jst_eq, jst_ne, jst_ni, jst_o, jI_i, jcpy_out, w32_id, jdiv_nn, jshr_k, jand_255] <;> first | done | omega | assumption)) | (intros; simp (disch := omega) only [jst_eq, jst_ne, jst_ni, jst_o, jI_i, jcpy_out, w32_id, jdiv_nn, *] <;> first | done | omega) | (intros; simp (disch := omega) only [jst_eq, jst_ne, jst_ni, jst_o, jI_i, jcpy_out, w32_id, jdiv_nn] at * <;> first | done | omega | assumption) | (intros; first | rfl | (exfalso; omega) | ((repeat' apply And.intro) <;> first | assumption | rfl | omega | trivial))) -- o33 e5m
        · skip
          try simp (disch := omega) only [jst_eq, jst_ne, jst_ni, jI_i, jcmp_lt, jcmp_gt, w32_id, jcpy_out, Sum.elim_inl, Sum.elim_inr, jt2, jt3, jt4, jt5, jt6, jt7, jt8] at c3
          unfold gX5_countAct_j357_28
          refine OK_jlx (fun x23 ex23 => ?_)
          try simp (disch := omega) only [jst_eq, jst_ne, jst_ni, jI_i, jcmp_lt, jcmp_gt, w32_id, jcpy_out, Sum.elim_inl, Sum.elim_inr, jt2, jt3, jt4, jt5, jt6, jt7, jt8] at ex23
          refine OK_il ?_ ?_
          · try dsimp only [Sum.elim_inl, Sum.elim_inr, jt2, jt3, jt4, jt5, jt6, jt7, jt8]
            refine ⟨?_, ?_, ?_⟩
            · (first | assumption | omega | ((try dsimp only [jt2, jt3, jt4]); first | omega | (simp (disch := omega) only [jst_eq, jst_ne, jst_ni, jst_o, jI_i, jcpy_out, w32_id, jdiv_nn, jshr_k, jand_255] <;> first | done | omega | assumption)) | (intros; simp (disch := omega) only [jst_eq, jst_ne, jst_ni, jst_o, jI_i, jcpy_out, w32_id, jdiv_nn, *] <;> first | done | omega) | (intros; simp (disch := omega) only [jst_eq, jst_ne, jst_ni, jst_o, jI_i, jcpy_out, w32_id, jdiv_nn] at * <;> first | done | omega | assumption) | (intros; first | rfl | (exfalso; omega) | ((repeat' apply And.intro) <;> first | assumption | rfl | omega | trivial))) -- o34 e6i.1
            · (refine CS_c Q1 (fun f f0 f1 => ?_); rw [show x23 = a6 + 1 by omega, sumN_s q0.1]; have cy : cxC E W pts (LV E W pts A n) (ct E W pts A) i4 i3 f a6 = 0 := (by by_cases u : a6 < (LV E W pts A n).1; { have qy := tq.2.1.2 a6 q0.1 u; have nk : ¬ (LV E W pts A n).2.1 a6 = eK E i4 0 := (fun y => by (rw [← qy.1, ← h6.1] at y; omega)); unfold cxC; by_cases e : eO E i4 = 1; { rw [if_pos e]; exact cif_n (fun y => nk y.1) }; { rw [if_neg e]; exact cif_n nk } }; { exact XZ a6 f q0.1 (Or.inl (by omega)) }); rw [cy, Int.add_zero]) -- o35 e6i.2
            · (first | assumption | omega | ((try dsimp only [jt2, jt3, jt4]); first | omega | (simp (disch := omega) only [jst_eq, jst_ne, jst_ni, jst_o, jI_i, jcpy_out, w32_id, jdiv_nn, jshr_k, jand_255] <;> first | done | omega | assumption)) | (intros; simp (disch := omega) only [jst_eq, jst_ne, jst_ni, jst_o, jI_i, jcpy_out, w32_id, jdiv_nn, *] <;> first | done | omega) | (intros; simp (disch := omega) only [jst_eq, jst_ne, jst_ni, jst_o, jI_i, jcpy_out, w32_id, jdiv_nn] at * <;> first | done | omega | assumption) | (intros; first | rfl | (exfalso; omega) | ((repeat' apply And.intro) <;> first | assumption | rfl | omega | trivial))) -- o36 e6i.3
          · (first | assumption | omega | ((try dsimp only [jt2, jt3, jt4]); first | omega | (simp (disch := omega) only [jst_eq, jst_ne, jst_ni, jst_o, jI_i, jcpy_out, w32_id, jdiv_nn, jshr_k, jand_255] <;> first | done | omega | assumption)) | (intros; simp (disch := omega) only [jst_eq, jst_ne, jst_ni, jst_o, jI_i, jcpy_out, w32_id, jdiv_nn, *] <;> first | done | omega) | (intros; simp (disch := omega) only [jst_eq, jst_ne, jst_ni, jst_o, jI_i, jcpy_out, w32_id, jdiv_nn] at * <;> first | done | omega | assumption) | (intros; first | rfl | (exfalso; omega) | ((repeat' apply And.intro) <;> first | assumption | rfl | omega | trivial))) -- o37 e6m
  · try dsimp only [Sum.elim_inl, Sum.elim_inr, jt2, jt3, jt4, jt5, jt6, jt7, jt8]
    refine ⟨?_, ?_, ?_⟩
    · (have l := (XI_h cs.2.1).2.1; omega) -- o38 init.1
    · (refine CS_c cs (fun f f0 f1 => ?_); rw [z]; show r0 f = r0 f + 0; omega) -- o39 init.2
    · exact ⟨fC_r _, cs.1.1.2.2.2.2⟩ -- o40 init.3
theorem vX5_countAct (a1 : Int) (a2 : Int) (a3 : Int) {h : AH} {E : EV} {Rf : Int → TR} {W : Int → Int → Int → VW} {A : AD} {pts wh : Int} {rv : Int → Int} {M : Int → (Int → Int) → Prop} {T : TB} {n : Nat} {r0 : Int → Int} (cs : CS h E Rf W A pts wh rv M T n r0) (tq : TQ E W pts A n T) (ia : a1 = n ∧ (0 ≤ a2 ∧ a2 < A.2.2.2.1) ∧ A.2.2.2.2.1 a2 ≠ -1 ∧ a3 = a1 - A.2.2.2.2.2.2.2 a2 ∧ 0 < a3) : OK (gX5_countAct a1 a2 a3 h) (fun h' => (CS h' E Rf W A pts wh rv M T n (fun f => r0 f + sumN (cxC E W pts (LV E W pts A n) (ct E W pts A) (A.2.2.2.2.1 a2) a3 f) (LV E W pts A n).1.toNat)) ∧ (fC h h' ∧ b10 h')) := by
  have SE := cs.1
  have NP := SE.2.2.2.1.2.2.1
  have en := SE.1.2.1
  have va : 0 ≤ A.2.2.2.2.1 a2 ∧ A.2.2.2.2.1 a2 < E.1.1 := by { rcases (tq.1.2.2.2.1.2.2 a2 ia.2.1.1 ia.2.1.2).2 with u | u; { exact absurd u.1 ia.2.2.1 }; { exact u } }
  have ca := (SE.2.2.2.1.2.2.2 a2 ia.2.1.1 ia.2.1.2).1
  have oo := en.2.1.2.2.1 _ va.1 va.2
  unfold gX5_countAct
  refine OK_jg (by (first | assumption | omega | ((try dsimp only [jt2, jt3, jt4]); first | omega | (simp (disch := omega) only [jst_eq, jst_ne, jst_ni, jst_o, jI_i, jcpy_out, w32_id, jdiv_nn, jshr_k, jand_255] <;> first | done | omega | assumption)) | (intros; simp (disch := omega) only [jst_eq, jst_ne, jst_ni, jst_o, jI_i, jcpy_out, w32_id, jdiv_nn, *] <;> first | done | omega) | (intros; simp (disch := omega) only [jst_eq, jst_ne, jst_ni, jst_o, jI_i, jcpy_out, w32_id, jdiv_nn] at * <;> first | done | omega | assumption) | (intros; first | rfl | (exfalso; omega) | ((repeat' apply And.intro) <;> first | assumption | rfl | omega | trivial)))) ?_ -- o1
  refine OK_jlx (fun x1 ex1 => ?_)
  try simp (disch := omega) only [jst_eq, jst_ne, jst_ni, jI_i, jcmp_lt, jcmp_gt, w32_id, jcpy_out, Sum.elim_inl, Sum.elim_inr, jt2, jt3, jt4, jt5, jt6, jt7, jt8] at ex1
  have x1e : x1 = A.2.2.2.2.1 a2 := by { first | omega | (rw [ex1]; exact ca) }
  subst x1e
  refine OK_jb (vX1_operandsOf (nA := E.1.1) (cA := E.1.2.1) (oA := E.1.2.2.1) (wA := E.1.2.2.2.1) (kA := E.1.2.2.2.2) _ (by exact en.1) (by exact va)) (fun v3 r1 => ?_)
  try dsimp only [Sum.elim_inl, Sum.elim_inr, jt2, jt3, jt4, jt5, jt6, jt7, jt8] at r1
  have v1 := r1
  clear r1
  try simp (disch := omega) only [jst_eq, jst_ne, jst_ni, jI_i, jcmp_lt, jcmp_gt, w32_id, jcpy_out, Sum.elim_inl, Sum.elim_inr, jt2, jt3, jt4, jt5, jt6, jt7, jt8] at v1
  have e3 : v3 = eO E (A.2.2.2.2.1 a2) := by { rw [← oper_eq va.1]; first | exact op1 | assumption }
  refine OK_jb (vX5_countAct_l28 (E := E) (Rf := Rf) (W := W) (A := A) (pts := pts) (wh := wh) (rv := rv) (M := M) (T := T) (n := n) (r0 := r0) _ _ _ _ _ _ (by exact cs) (by exact tq) (by exact ⟨ia.1, ia.2.1, rfl, va, ⟨e3.symm, by omega, by omega⟩, ia.2.2.2.1, ia.2.2.2.2⟩) (by rfl)) (fun o4 r2 => ?_)
  try dsimp only [Sum.elim_inl, Sum.elim_inr, jt2, jt3, jt4, jt5, jt6, jt7, jt8] at r2
  obtain ⟨cs2, fs2⟩ := r2
  try simp (disch := omega) only [jst_eq, jst_ne, jst_ni, jI_i, jcmp_lt, jcmp_gt, w32_id, jcpy_out, Sum.elim_inl, Sum.elim_inr, jt2, jt3, jt4, jt5, jt6, jt7, jt8] at cs2
  try simp (disch := omega) only [jst_eq, jst_ne, jst_ni, jI_i, jcmp_lt, jcmp_gt, w32_id, jcpy_out, Sum.elim_inl, Sum.elim_inr, jt2, jt3, jt4, jt5, jt6, jt7, jt8] at fs2
  refine OK_some ?_
  try dsimp only [Sum.elim_inl, Sum.elim_inr, jt2, jt3, jt4, jt5, jt6, jt7, jt8]
  try dsimp only [Sum.elim_inl, Sum.elim_inr, jt2, jt3, jt4, jt5, jt6, jt7, jt8]
  refine ⟨?_, ?_⟩
  · (first | assumption | omega | ((try dsimp only [jt2, jt3, jt4]); first | omega | (simp (disch := omega) only [jst_eq, jst_ne, jst_ni, jst_o, jI_i, jcpy_out, w32_id, jdiv_nn, jshr_k, jand_255] <;> first | done | omega | assumption)) | (intros; simp (disch := omega) only [jst_eq, jst_ne, jst_ni, jst_o, jI_i, jcpy_out, w32_id, jdiv_nn, *] <;> first | done | omega) | (intros; simp (disch := omega) only [jst_eq, jst_ne, jst_ni, jst_o, jI_i, jcpy_out, w32_id, jdiv_nn] at * <;> first | done | omega | assumption) | (intros; first | rfl | (exfalso; omega) | ((repeat' apply And.intro) <;> first | assumption | rfl | omega | trivial))) -- o8 e1.1
  · (first | assumption | omega | ((try dsimp only [jt2, jt3, jt4]); first | omega | (simp (disch := omega) only [jst_eq, jst_ne, jst_ni, jst_o, jI_i, jcpy_out, w32_id, jdiv_nn, jshr_k, jand_255] <;> first | done | omega | assumption)) | (intros; simp (disch := omega) only [jst_eq, jst_ne, jst_ni, jst_o, jI_i, jcpy_out, w32_id, jdiv_nn, *] <;> first | done | omega) | (intros; simp (disch := omega) only [jst_eq, jst_ne, jst_ni, jst_o, jI_i, jcpy_out, w32_id, jdiv_nn] at * <;> first | done | omega | assumption) | (intros; first | rfl | (exfalso; omega) | ((repeat' apply And.intro) <;> first | assumption | rfl | omega | trivial))) -- o9 e1.2

