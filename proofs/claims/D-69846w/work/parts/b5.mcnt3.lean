/-! m: the counts of a price -/
def fQ (h h' : AH) : Prop := ∀ a s, ¬ (a = 454 ∧ s = 20) → ¬ (a = 754 ∧ 0 ≤ s) → ¬ (756 ≤ a ∧ a ≤ 768 ∧ 0 ≤ s) → ¬ ((a = 786 ∨ a = 787) ∧ 0 ≤ s) → h' a s = h a s
theorem fQ_r (h : AH) : fQ h h := fun _ _ _ _ _ _ => rfl
theorem fQ_t {h h1 h2 : AH} (x : fQ h h1) (y : fQ h1 h2) : fQ h h2 := fun a s z1 z2 z3 z4 => (y a s z1 z2 z3 z4).trans (x a s z1 z2 z3 z4)
theorem fR_Q {h h' : AH} (f : fR h h') : fQ h h' := fun a s y1 y2 _ y4 => f a s y1 y2 y4
theorem fQ_A {h h' : AH} (f : fQ h h') : agN h h' ∧ agT h h' := ⟨fun a s y => by unfold mA at y; exact f a s (by omega) (by omega) (by omega) (by omega), fun a s y => by unfold tA at y; exact f a s (by omega) (by omega) (by omega) (by omega)⟩
/-- m while the terms of a price are counted -/
def mSt (h : AH) (E : EV) (Rf : Int → TR) (W : Int → Int → Int → VW) (K : AK) (tp : Int) (p : Nat) (T : TB) (n : Nat) (row : Int → Int) : Prop := akM h E Rf W K tp ∧ MT h E W K tp p T ∧ cM h E W (kP K) (LV E W (kP K) (kA K) p) ∧ (∀ i f, 1 ≤ i → i < (n : Int) → 0 ≤ f → f < (LV E W (kP K) (kA K) p).1 → h (756 + i) f = ct E W (kP K) (kA K) i f) ∧ ∀ f, 0 ≤ f → f < (LV E W (kP K) (kA K) p).1 → h (756 + n) f = w64 (row f)
section MSS
variable {h h' h2 : AH} {E : EV} {Rf : Int → TR} {W : Int → Int → Int → VW} {K : AK} {tp : Int} {p : Nat} {T : TB} {n : Nat} {row row' : Int → Int}
theorem MS_c (ms : mSt h E Rf W K tp p T n row) (e : ∀ f, 0 ≤ f → f < (LV E W (kP K) (kA K) p).1 → row f = row' f) : mSt h E Rf W K tp p T n row' := ⟨ms.1, ms.2.1, ms.2.2.1, ms.2.2.2.1, fun f a b => by rw [ms.2.2.2.2 f a b, e f a b]⟩
theorem MS_R (ms : mSt h E Rf W K tp p T n row) (f : fR h h') (c : cM h' E W (kP K) (LV E W (kP K) (kA K) p)) (b : b20 h') (n12 : n ≤ 12) : mSt h' E Rf W K tp p T n row := by
  have o := RPm_o ms.1 ms.2.1 f b
  exact ⟨o.1, o.2, c, fun i g a1 a2 a3 a4 => by rw [f _ _ (by omega) (by omega) (by omega)]; exact ms.2.2.2.1 i g a1 a2 a3 a4, fun g a1 a2 => by rw [f _ _ (by omega) (by omega) (by omega)]; exact ms.2.2.2.2 g a1 a2⟩
theorem MS_s {v w : Int} {g : Int → Int} (ms : mSt h E Rf W K tp p T n row) (n12 : 1 ≤ n ∧ n ≤ 12) (v0 : 0 ≤ v ∧ v < (LV E W (kP K) (kA K) p).1) (hg : ∀ f, 0 ≤ f → f < (LV E W (kP K) (kA K) p).1 → g f = if f = v then w else 0) : mSt (jst h (756 + n) v (w64 (h (756 + n) v + w))) E Rf W K tp p T n (fun f => row f + g f) ∧ fQ h (jst h (756 + n) v (w64 (h (756 + n) v + w))) := by
  have F : fQ h (jst h (756 + n) v (w64 (h (756 + n) v + w))) := fun a s y1 y2 y3 y4 => jst_o (by omega)
  have G := fQ_A F
  refine ⟨⟨akM_n ms.1 G.1 ⟨by rw [jst_o (by omega)]; exact ms.1.2.1, by unfold b20; rw [jst_o (by omega)]; exact ms.1.2.2⟩, MT_g ms.2.1 (akM_0 ms.1).2.2.1.2 G.2, cM_f ms.2.2.1 (fun a s y => jst_o (by omega)), fun i f a b c d => by rw [jst_o (by omega)]; exact ms.2.2.2.1 i f a b c d, fun f a b => ?_⟩, F⟩
  by_cases y : f = v
  · rw [y, jst_eq, ms.2.2.2.2 v v0.1 v0.2]; show w64 (w64 (row v) + w) = w64 (row v + g v); rw [hg v v0.1 v0.2, if_pos rfl, w64_al]
  · rw [jst_o (fun z => y z.2), ms.2.2.2.2 f a b]; show w64 (row f) = w64 (row f + g f); rw [hg f a b, if_neg y, Int.add_zero]
/-- one act's operands, taken one by one: what they count -/
noncomputable def sgC (E : EV) (W : Int → Int → Int → VW) (pts : Int) (L : TB) (c : Int → Int → Int) (ac left x y f : Int) : Int := if eO E ac = 1 then cif (ixC E W pts L ac x (-1) (-1) = f) (c left x) 0 else cif (ixC E W pts L ac x y (-1) = f) (w2C c left x y) 0
end MSS
/-- a row of operands of two or of one: its place, its ways -/
def okY (E : EV) (L : TB) (ac x y : Int) : Prop := (0 ≤ x ∧ x < L.1 ∧ L.2.1 x = eK E ac 0) ∧ ((eO E ac = 1 ∧ y = -1) ∨ (2 ≤ eO E ac ∧ 0 ≤ y ∧ y < L.1 ∧ L.2.1 y = eK E ac 1))
theorem okY_z {E : EV} {L : TB} {ac x y z : Int} (o : okY E L ac x y) (k : (eO E ac ≤ 2 ∧ z = -1) ∨ (eO E ac = 3 ∧ 0 ≤ z ∧ z < L.1 ∧ L.2.1 z = eK E ac 2)) : arT E L L.1 ac x y z := by
  refine ⟨o.1, ?_⟩
  rcases o.2 with a | a <;> rcases k with b | b
  · exact Or.inl ⟨a.1, a.2, b.2⟩
  · omega
  · exact Or.inr (Or.inl ⟨by omega, a.2, b.2⟩)
  · exact Or.inr (Or.inr ⟨b.1, a.2, b.2⟩)
def wyC (c : Int → Int → Int) (left x y z : Int) : Int := if 0 ≤ y then (if 0 ≤ z then w3C c left x y z else w2C c left x y) else c left x
theorem wyC_0 {c : Int → Int → Int} (c0 : ∀ i f, 0 ≤ c i f) (left x y z : Int) : 0 ≤ wyC c left x y z := by
  unfold wyC
  split
  · split
    · exact w3C_0 c0 _ _ _ _
    · exact w2C_0 c0 _ _ _
  · exact c0 _ _
section WYS
variable {E : EV} {W : Int → Int → Int → VW} {pts : Int} {A : AD} {n : Nat} {L : TB} {left x y z : Int}
theorem wyC_b (cq : CQ E W pts A n) (l : left < n) (x0 : 0 ≤ x) : wyC (ct E W pts A) left x y z ≤ 982944732549134175 := by
  unfold wyC
  by_cases a : 0 ≤ y
  · rw [if_pos a]
    by_cases b : 0 ≤ z
    · rw [if_pos b]; exact w3_b cq l x0 a b
    · rw [if_neg b]; exact w2_b cq l x0 a
  · rw [if_neg a]; exact ct_b cq (by omega) x0
/-- where there are ways, all is of the levels up to a price, and of no greater price -/
theorem wyC_s (tq : TQ E W pts A n L) (x0 : 0 ≤ x) (l : left ≤ n) (k : 0 ≤ z → 0 ≤ y) (h : wyC (ct E W pts A) left x y z ≠ 0) : (x < (LV E W pts A n).1 ∧ (0 ≤ y → y < (LV E W pts A n).1) ∧ (0 ≤ z → z < (LV E W pts A n).1)) ∧ (LV E W pts A n).2.2.1 x + wO (LV E W pts A n) y + wO (LV E W pts A n) z ≤ left := by
  unfold wyC at h
  by_cases a : 0 ≤ y
  · rw [if_pos a] at h
    by_cases b : 0 ≤ z
    · rw [if_pos b] at h
      have s := w3_sup tq.1 x0 a b l h
      rw [wO_0 a, wO_0 b]
      exact ⟨⟨s.1, fun _ => s.2.1, fun _ => s.2.2.1⟩, s.2.2.2.2.2.2⟩
    · rw [if_neg b] at h
      have s := w2_sup tq.1 x0 a l h
      have e : wO (LV E W pts A n) z = 0 := if_neg b
      rw [wO_0 a, e]
      exact ⟨⟨s.1, fun _ => s.2.1, fun u => absurd u b⟩, by omega⟩
  · rw [if_neg a] at h
    have s := ct_sup tq.1 x0 l h
    have nz : ¬ 0 ≤ z := fun u => a (k u)
    have e : wO (LV E W pts A n) z = 0 := if_neg nz
    have e2 : wO (LV E W pts A n) y = 0 := if_neg a
    rw [e, e2]
    exact ⟨⟨s.2.1, fun u => absurd u a, fun u => absurd u nz⟩, by omega⟩
end WYS
/-- one row of operands: counted, or nothing -/
noncomputable def oneC (E : EV) (W : Int → Int → Int → VW) (pts : Int) (L : TB) (c : Int → Int → Int) (ac left x y z f : Int) : Int := cif (ixC E W pts L ac x y z = f) (wyC c left x y z) 0
theorem oneC_z {E : EV} {W : Int → Int → Int → VW} {pts : Int} {L : TB} {c : Int → Int → Int} {ac left x y z f : Int} (h : wyC c left x y z = 0) : oneC E W pts L c ac left x y z f = 0 := by
  unfold oneC
  rw [h]
  exact cif_00
/-- what stands while operands are counted -/
def iaM (E : EV) (W : Int → Int → Int → VW) (K : AK) (p n : Nat) (q left ac : Int) : Prop := TQ E W (kP K) (kA K) n (LV E W (kP K) (kA K) p) ∧ dsT (kP K) (LV E W (kP K) (kA K) p) ∧ (LV E W (kP K) (kA K) p).1 ≤ 120 ∧ q = n ∧ (0 ≤ ac ∧ ac < E.1.1) ∧ (1 ≤ eO E ac ∧ eO E ac ≤ 3) ∧ ∃ k, (0 ≤ k ∧ k < (kA K).2.2.2.1) ∧ (kA K).2.2.2.2.1 k = ac ∧ left = n - (kA K).2.2.2.2.2.2.2 k ∧ 0 < left ∧ left < n
theorem vX14_reckonAll_j240_164 (a2 : Int) (a3 : Int) (a4 : Int) (a5 : Int) (a6 : Int) (a7 : Int) (a8 : Int) {h : AH} {E : EV} {Rf : Int → TR} {W : Int → Int → Int → VW} {K : AK} {tp : Int} {p : Nat} {T : TB} {n : Nat} {r0 : Int → Int} (ms : mSt h E Rf W K tp p T n r0) (ia : iaM E W K p n a2 a3 a4) (ar : arT E (LV E W (kP K) (kA K) p) (LV E W (kP K) (kA K) p).1 a4 a6 a7 a8) : OK (gX14_reckonAll_j240_164 a2 a3 a4 a5 a6 a7 a8 h) (Sum.elim (fun r => jt2 r fun x h' => (x = a8 + 1) ∧ (mSt h' E Rf W K tp p T n (fun f => r0 f + oneC E W (kP K) (LV E W (kP K) (kA K) n) (ct E W (kP K) (kA K)) a4 a3 a6 a7 a8 f)) ∧ (fQ h h' ∧ b20 h')) (fun h' => (0 : Int) = 1)) := by
  obtain ⟨tq, ds, L120, qn, ac, eo, k, k0, ka, kl, kp, kn⟩ := ia
  have n12 := tq.1.1
  have ab := arT_b ar
  have a60 := ar.1.1
  have zy : 0 ≤ a8 → 0 ≤ a7 := fun _ => by { rcases ar.2 with r | r | r <;> omega }
  have w40 : w32 (a8 + 1) = a8 + 1 := w32_id (by omega) (by omega)
  unfold gX14_reckonAll_j240_164
  refine OK_jb (vX14_ways (c := ct E W (kP K) (kA K)) (N := (LV E W (kP K) (kA K) p).1) _ _ _ _ (by exact ⟨⟨a60, by omega, L120⟩, by omega, by omega, by omega, by omega⟩) (by exact fun i f a b c d => ms.2.2.2.1 i f a (by omega) c d) (by exact fun f => ct_n (by decide))) (fun v34 r1 => ?_)
  try dsimp only [Sum.elim_inl, Sum.elim_inr, jt2, jt3, jt4, jt5, jt6, jt7, jt8] at r1
  have ww1 := r1
  clear r1
  try simp (disch := omega) only [jst_eq, jst_ne, jst_ni, jI_i, jcmp_lt, jcmp_gt, w32_id, jcpy_out, Sum.elim_inl, Sum.elim_inr, jt2, jt3, jt4, jt5, jt6, jt7, jt8] at ww1
  have WB := wyC_b (y := a7) (z := a8) tq.1 kn a60
  have W0 := wyC_0 (c := ct E W (kP K) (kA K)) ct_0 a3 a6 a7 a8
  have CB := ct_b tq.1 (q := a3) (f := a6) (by omega) a60
  have V34 : v34 = wyC (ct E W (kP K) (kA K)) a3 a6 a7 a8 := by
      have e : v34 = if 0 ≤ a7 then w64 (if 0 ≤ a8 then w3C (ct E W (kP K) (kA K)) a3 a6 a7 a8 else w2C (ct E W (kP K) (kA K)) a3 a6 a7) else ct E W (kP K) (kA K) a3 a6 := by first | exact ww1 | assumption
      rw [e]
      unfold wyC at WB W0 ⊢
      by_cases y : 0 ≤ a7
      · rw [if_pos y] at WB W0 ⊢
        rw [if_pos y]
        exact w64_id (by omega) (by omega)
      · rw [if_neg y, if_neg y]
  refine OK_if (fun c1 => ?_) (fun c1 => ?_)
  · skip
    try simp (disch := omega) only [jst_eq, jst_ne, jst_ni, jI_i, jcmp_lt, jcmp_gt, w32_id, jcpy_out, Sum.elim_inl, Sum.elim_inr, jt2, jt3, jt4, jt5, jt6, jt7, jt8] at c1
    have c1w := jcmp_le.1 c1
    unfold gX14_reckonAll_j284_164
    refine OK_jlx (fun x40 ex40 => ?_)
    try simp (disch := omega) only [jst_eq, jst_ne, jst_ni, jI_i, jcmp_lt, jcmp_gt, w32_id, jcpy_out, Sum.elim_inl, Sum.elim_inr, jt2, jt3, jt4, jt5, jt6, jt7, jt8] at ex40
    refine OK_some ?_
    try dsimp only [Sum.elim_inl, Sum.elim_inr, jt2, jt3, jt4, jt5, jt6, jt7, jt8]
    try dsimp only [Sum.elim_inl, Sum.elim_inr, jt2, jt3, jt4, jt5, jt6, jt7, jt8]
    refine ⟨?_, ?_, ?_⟩
    · omega -- o4 e1.1
    · exact MS_c ms (fun f f0 f1 => by (rw [oneC_z (by omega), Int.add_zero])) -- o5 e1.2
    · exact ⟨fQ_r _, ms.1.2.2⟩ -- o6 e1.3
  · skip
    try simp (disch := omega) only [jst_eq, jst_ne, jst_ni, jI_i, jcmp_lt, jcmp_gt, w32_id, jcpy_out, Sum.elim_inl, Sum.elim_inr, jt2, jt3, jt4, jt5, jt6, jt7, jt8] at c1
    have c1w : ¬ v34 ≤ 0 := fun y => c1 (jcmp_le.2 y)
    have SU := wyC_s (left := a3) (y := a7) (z := a8) tq a60 (by omega) zy (by omega)
    have ARn : arT E (LV E W (kP K) (kA K) n) (LV E W (kP K) (kA K) n).1 a4 a6 a7 a8 := by
      have cv : ∀ v k, v < (LV E W (kP K) (kA K) n).1 → (0 ≤ v ∧ v < (LV E W (kP K) (kA K) p).1 ∧ (LV E W (kP K) (kA K) p).2.1 v = k) → (0 ≤ v ∧ v < (LV E W (kP K) (kA K) n).1 ∧ (LV E W (kP K) (kA K) n).2.1 v = k) := fun v k l z => ⟨z.1, l, by rw [← (tq.2.1.2 v z.1 l).1]; exact z.2.2⟩
      refine ⟨cv _ _ SU.1.1 ar.1, ?_⟩
      rcases ar.2 with r | r | r
      · exact Or.inl r
      · exact Or.inr (Or.inl ⟨r.1, cv _ _ (SU.1.2.1 r.2.1.1) r.2.1, r.2.2⟩)
      · exact Or.inr (Or.inr ⟨r.1, cv _ _ (SU.1.2.1 r.2.1.1) r.2.1, cv _ _ (SU.1.2.2 r.2.2.1) r.2.2⟩)
    have HT := hs_T tq ds k0 ka ac ARn (by have := SU.2; omega)
    refine OK_jg (by (first | assumption | omega | ((try dsimp only [jt2, jt3, jt4]); first | omega | (simp (disch := omega) only [jst_eq, jst_ne, jst_ni, jst_o, jI_i, jcpy_out, w32_id, jdiv_nn, jshr_k, jand_255] <;> first | done | omega | assumption)) | (intros; simp (disch := omega) only [jst_eq, jst_ne, jst_ni, jst_o, jI_i, jcpy_out, w32_id, jdiv_nn, *] <;> first | done | omega) | (intros; simp (disch := omega) only [jst_eq, jst_ne, jst_ni, jst_o, jI_i, jcpy_out, w32_id, jdiv_nn] at * <;> first | done | omega | assumption) | (intros; first | rfl | (exfalso; omega) | ((repeat' apply And.intro) <;> first | assumption | rfl | omega | trivial)))) ?_ -- o7
    refine OK_jb2 (vX14_result (E := E) (Rf := Rf) (W := W) (K := K) (tp := tp) (p := p) (T := T) _ _ _ _ (by exact ⟨ms.1, ms.2.1, ms.2.2.1, ac, ar, HT.2.1⟩)) (fun v37 h38 r2 => ?_)
    try dsimp only [Sum.elim_inl, Sum.elim_inr, jt2, jt3, jt4, jt5, jt6, jt7, jt8] at r2
    obtain ⟨rs2, cm2, fs2⟩ := r2
    try simp (disch := omega) only [jst_eq, jst_ne, jst_ni, jI_i, jcmp_lt, jcmp_gt, w32_id, jcpy_out, Sum.elim_inl, Sum.elim_inr, jt2, jt3, jt4, jt5, jt6, jt7, jt8] at rs2
    try simp (disch := omega) only [jst_eq, jst_ne, jst_ni, jI_i, jcmp_lt, jcmp_gt, w32_id, jcpy_out, Sum.elim_inl, Sum.elim_inr, jt2, jt3, jt4, jt5, jt6, jt7, jt8] at cm2
    try simp (disch := omega) only [jst_eq, jst_ne, jst_ni, jI_i, jcmp_lt, jcmp_gt, w32_id, jcpy_out, Sum.elim_inl, Sum.elim_inr, jt2, jt3, jt4, jt5, jt6, jt7, jt8] at fs2
    have V37 : v37 = ixC E W (kP K) (LV E W (kP K) (kA K) n) a4 a6 a7 a8 := by { rw [← HT.2.2.1]; first | exact rs2 | assumption }
    have M38 := MS_R ms fs2.1 cm2 fs2.2 n12.2
    have ex0 := tq.2.1.1
    refine OK_jg (by (first | assumption | omega | ((try dsimp only [jt2, jt3, jt4]); first | omega | (simp (disch := omega) only [jst_eq, jst_ne, jst_ni, jst_o, jI_i, jcpy_out, w32_id, jdiv_nn, jshr_k, jand_255] <;> first | done | omega | assumption)) | (intros; simp (disch := omega) only [jst_eq, jst_ne, jst_ni, jst_o, jI_i, jcpy_out, w32_id, jdiv_nn, *] <;> first | done | omega) | (intros; simp (disch := omega) only [jst_eq, jst_ne, jst_ni, jst_o, jI_i, jcpy_out, w32_id, jdiv_nn] at * <;> first | done | omega | assumption) | (intros; first | rfl | (exfalso; omega) | ((repeat' apply And.intro) <;> first | assumption | rfl | omega | trivial)))) ?_ -- o9
    refine OK_jl ?_
    have UP := MS_s (v := v37) (w := v34) (g := oneC E W (kP K) (LV E W (kP K) (kA K) n) (ct E W (kP K) (kA K)) a4 a3 a6 a7 a8) M38 n12 (by omega) (fun f f0 f1 => by (unfold oneC; by_cases y : f = v37; { rw [if_pos y, cif_y (by rw [y]; exact V37.symm), V34] }; { rw [if_neg y, cif_n (fun u => y (u.symm.trans V37.symm))] }))
    unfold gX14_reckonAll_j284_164
    refine OK_jlx (fun x40 ex40 => ?_)
    try simp (disch := omega) only [jst_eq, jst_ne, jst_ni, jI_i, jcmp_lt, jcmp_gt, w32_id, jcpy_out, Sum.elim_inl, Sum.elim_inr, jt2, jt3, jt4, jt5, jt6, jt7, jt8] at ex40
    refine OK_some ?_
    try dsimp only [Sum.elim_inl, Sum.elim_inr, jt2, jt3, jt4, jt5, jt6, jt7, jt8]
    try dsimp only [Sum.elim_inl, Sum.elim_inr, jt2, jt3, jt4, jt5, jt6, jt7, jt8]
    refine ⟨?_, ?_, ?_⟩
    · omega -- o10 e2.1
    · (rw [qn]; exact UP.1) -- o11 e2.2
    · (rw [qn]; exact ⟨fQ_t (fR_Q fs2.1) UP.2, UP.1.1.2.2⟩) -- o12 e2.3
theorem oneC_c {E : EV} {W : Int → Int → Int → VW} {pts : Int} {L : TB} {c : Int → Int → Int} {ac left x y z f : Int} (y0 : 0 ≤ y) (z0 : 0 ≤ z) (k : L.2.1 z = eK E ac 2 ∨ w3C c left x y z = 0) : oneC E W pts L c ac left x y z f = czC E W pts L c ac left x y f z := by
  unfold oneC czC wyC
  rw [if_pos y0, if_pos z0]
  rcases k with k | k
  · by_cases e : ixC E W pts L ac x y z = f
    · rw [cif_y e, cif_y ⟨k, e⟩]
    · rw [cif_n e, cif_n (fun u => e u.2)]
  · rw [k, cif_00, cif_00]
/-- what a row of two operands, or of one, counts -/
noncomputable def twoC (E : EV) (W : Int → Int → Int → VW) (pts : Int) (L : TB) (c : Int → Int → Int) (ac left x y f : Int) : Int := if eO E ac = 3 then sumN (czC E W pts L c ac left x y f) L.1.toNat else oneC E W pts L c ac left x y (-1) f
def lnZ (E : EV) (ac N z : Int) : Prop := (eO E ac ≤ 2 ∧ (z = -1 ∨ z = 0)) ∨ (eO E ac = 3 ∧ 0 ≤ z ∧ z ≤ N)
noncomputable def paZ (E : EV) (W : Int → Int → Int → VW) (pts : Int) (L : TB) (c : Int → Int → Int) (ac left x y z f : Int) : Int := if eO E ac = 3 then sumN (czC E W pts L c ac left x y f) z.toNat else (if z = 0 then oneC E W pts L c ac left x y (-1) f else 0)
theorem isOf_k {E : EV} {ac k v : Int} (a : 0 ≤ ac) {X : Int → Int} {z : Int} (h : (v = 0 ∧ ¬ X z = E.1.2.2.2.2 ac k) ∨ (v = 1 ∧ X z = E.1.2.2.2.2 ac k)) : (v = 0 ∧ ¬ X z = eK E ac k) ∨ (v = 1 ∧ X z = eK E ac k) := by
  rw [kind_eq a] at h
  exact h
/-- a function's kind: m -/
theorem vIsOf (a1 a2 a3 : Int) {h : AH} {E : EV} {Rf : Int → TR} {W : Int → Int → Int → VW} {K : AK} {tp : Int} {p : Nat} {T : TB} (ak : akM h E Rf W K tp) (xt : MT h E W K tp p T) (z : 0 ≤ a1 ∧ a1 < (LV E W (kP K) (kA K) p).1) (ac : 0 ≤ a2 ∧ a2 < E.1.1) (k : 0 ≤ a3 ∧ a3 < eO E a2) : OK (gX14_isOf a1 a2 a3 h) (fun v => (v = 0 ∧ ¬ (LV E W (kP K) (kA K) p).2.1 a1 = eK E a2 a3) ∨ (v = 1 ∧ (LV E W (kP K) (kA K) p).2.1 a1 = eK E a2 a3)) := by
  have l := xt.2.2.1.1
  have q := (xt.2.2.1.2 a1 z.1 z.2).1
  have am := (akM_0 ak).1.2.1.1
  have kk := (am.2.2.2 a2 ac.1 ac.2).2.2.2.2.2.2
  refine OK_mono (vX14_isOf (E := E) (N := T.1) (pts := kP K) (kd := T.2.1) (wt := T.2.2.1) (nd := fun a => tp + a) (vl := T.2.2.2.2.2) a1 a2 a3 xt.1.2.1 am ⟨z.1, by omega, ac.1, ac.2, k.1, by rw [oper_eq ac.1]; exact k.2⟩ ⟨(xt.1.2.2.2 a1 z.1 (by omega)).1.1, (xt.1.2.2.2 a1 z.1 (by omega)).1.2, kk a3 k.1 (by rw [oper_eq ac.1]; omega)⟩) (fun v io => ?_)
  rw [kind_eq ac.1, q] at io
  exact io
theorem MT_w {h : AH} {E : EV} {W : Int → Int → Int → VW} {K : AK} {tp : Int} {p : Nat} {T : TB} (xt : MT h E W K tp p T) {a : Int} (a0 : 0 ≤ a) (a1 : a < (LV E W (kP K) (kA K) p).1) : h (h 454 38 + 14) a = (LV E W (kP K) (kA K) p).2.2.1 a := by
  have l := xt.2.2.1.1
  rw [(xt.1.2.1.2.2.2.2.2.2 a a0 (by omega)).2.1]
  exact (xt.2.2.1.2 a a0 a1).2.1
section PAZ
variable {E : EV} {W : Int → Int → Int → VW} {pts : Int} {L : TB} {c : Int → Int → Int} {ac left x y z f : Int}
theorem paZ_m (e : eO E ac ≤ 2) : paZ E W pts L c ac left x y (-1) f = 0 := (if_neg (by omega)).trans (if_neg (by decide))
theorem paZ_0 (e : eO E ac ≤ 2) : paZ E W pts L c ac left x y 0 f = oneC E W pts L c ac left x y (-1) f := (if_neg (by omega)).trans (if_pos rfl)
end PAZ
theorem kz_y {E : EV} {W : Int → Int → Int → VW} {pts : Int} {A : AD} {n : Nat} {L : TB} {left x a : Int} (tq : TQ E W pts A n L) (x0 : 0 ≤ x) (a0 : 0 ≤ a) (ln : left ≤ n) : (LV E W pts A n).2.1 a = L.2.1 a ∨ (w2C (ct E W pts A) left x a = 0 ∧ ∀ z, 0 ≤ z → w3C (ct E W pts A) left x a z = 0) := by
  by_cases u : a < (LV E W pts A n).1
  · exact Or.inl (tq.2.1.2 a a0 u).1.symm
  · exact Or.inr ⟨w2_zT tq x0 a0 ln (Or.inr (Or.inl (by omega))), fun z z0 => w3_zT tq x0 a0 z0 ln (Or.inr (Or.inl (by omega)))⟩
theorem kz_x {E : EV} {W : Int → Int → Int → VW} {pts : Int} {A : AD} {n : Nat} {L : TB} {left a : Int} (tq : TQ E W pts A n L) (a0 : 0 ≤ a) (ln : left ≤ n) : (LV E W pts A n).2.1 a = L.2.1 a ∨ (ct E W pts A left a = 0 ∧ (∀ y, 0 ≤ y → w2C (ct E W pts A) left a y = 0) ∧ ∀ y z, 0 ≤ y → 0 ≤ z → w3C (ct E W pts A) left a y z = 0) := by
  by_cases u : a < (LV E W pts A n).1
  · exact Or.inl (tq.2.1.2 a a0 u).1.symm
  · exact Or.inr ⟨ct_zT tq a0 ln (Or.inl (by omega)), fun y y0 => w2_zT tq a0 y0 ln (Or.inl (by omega)), fun y z y0 z0 => w3_zT tq a0 y0 z0 ln (Or.inl (by omega))⟩
theorem vX14_reckonAll_l164 (i2 : Int) (i3 : Int) (i4 : Int) (i5 : Int) (i6 : Int) (i7 : Int) (a80 : Int) {h0 : AH} {E : EV} {Rf : Int → TR} {W : Int → Int → Int → VW} {K : AK} {tp : Int} {p : Nat} {T : TB} {n : Nat} {r0 : Int → Int} (ms : mSt h0 E Rf W K tp p T n r0) (ia : iaM E W K p n i2 i3 i4 ∧ eO E i4 = i5) (oy : okY E (LV E W (kP K) (kA K) p) i4 i6 i7) (z : (i5 ≤ 2 ∧ a80 = -1) ∨ (i5 = 3 ∧ a80 = 0)) : OK (gX14_reckonAll_l164 i2 i3 i4 i5 i6 i7 a80 h0) (fun h' => (mSt h' E Rf W K tp p T n (fun f => r0 f + twoC E W (kP K) (LV E W (kP K) (kA K) n) (ct E W (kP K) (kA K)) i4 i3 i6 i7 f)) ∧ (fQ h0 h' ∧ b20 h')) := by
  unfold gX14_reckonAll_l164
  refine OK_jit (I := (fun (s : Int × AH) => jt2 s fun a8 h => (lnZ E i4 (LV E W (kP K) (kA K) p).1 a8) ∧ (mSt h E Rf W K tp p T n (fun f => r0 f + paZ E W (kP K) (LV E W (kP K) (kA K) n) (ct E W (kP K) (kA K)) i4 i3 i6 i7 a8 f)) ∧ (fQ h0 h ∧ b20 h))) (m := (fun (s : Int × AH) => jt2 s fun a8 h => ((LV E W (kP K) (kA K) p).1 + 1 - a8).toNat)) ?_ ?_
  · intro s hs
    obtain ⟨a8, h⟩ := s
    dsimp only [Sum.elim_inl, Sum.elim_inr, jt2, jt3, jt4, jt5, jt6, jt7, jt8] at hs
    obtain ⟨q0, q1, fr⟩ := hs
    unfold gX14_reckonAll_b164
    refine OK_jt2 ?_
    have oy1 := oy.1
    have IA := ia.1
    obtain ⟨tq, ds, L120, qn, ac, eo, k, k0, ka, kl, kp, kn⟩ := ia.1
    have eo5 := ia.2
    have n12 := tq.1.1
    have x16 := (akM_0 q1.1).1.1
    have e44 := q1.2.2.1.1
    have l0 := LV_0 (E := E) (W := W) (pts := kP K) (A := kA K) p
    have ex0 := tq.2.1.1
    have a60 := oy.1.1
    unfold lnZ at q0
    refine OK_if (fun c1 => ?_) (fun c1 => ?_)
    · skip
      try simp (disch := omega) only [jst_eq, jst_ne, jst_ni, jI_i, jcmp_lt, jcmp_gt, w32_id, jcpy_out, Sum.elim_inl, Sum.elim_inr, jt2, jt3, jt4, jt5, jt6, jt7, jt8] at c1
      unfold gX14_reckonAll_j180_164
      refine OK_if (fun c2 => ?_) (fun c2 => ?_)
      · skip
        try simp (disch := omega) only [jst_eq, jst_ne, jst_ni, jI_i, jcmp_lt, jcmp_gt, w32_id, jcpy_out, Sum.elim_inl, Sum.elim_inr, jt2, jt3, jt4, jt5, jt6, jt7, jt8] at c2
        refine OK_ir ?_
        try dsimp only [Sum.elim_inl, Sum.elim_inr, jt2, jt3, jt4, jt5, jt6, jt7, jt8]
        refine ⟨?_, ?_⟩
        · (refine MS_c q1 (fun f f0 f1 => ?_); unfold paZ twoC; rw [if_neg (by omega), if_pos (by omega), if_neg (by omega)]) -- o1 e1.1
        · exact fr -- o2 e1.2
      · skip
        try simp (disch := omega) only [jst_eq, jst_ne, jst_ni, jI_i, jcmp_lt, jcmp_gt, w32_id, jcpy_out, Sum.elim_inl, Sum.elim_inr, jt2, jt3, jt4, jt5, jt6, jt7, jt8] at c2
        refine OK_if (fun c3 => ?_) (fun c3 => ?_)
        · skip
          try simp (disch := omega) only [jst_eq, jst_ne, jst_ni, jI_i, jcmp_lt, jcmp_gt, w32_id, jcpy_out, Sum.elim_inl, Sum.elim_inr, jt2, jt3, jt4, jt5, jt6, jt7, jt8] at c3
          refine OK_mono (vX14_reckonAll_j240_164 (E := E) (Rf := Rf) (W := W) (K := K) (tp := tp) (p := p) (T := T) (n := n) (r0 := fun f => r0 f + paZ E W (kP K) (LV E W (kP K) (kA K) n) (ct E W (kP K) (kA K)) i4 i3 i6 i7 a8 f) _ _ _ _ _ _ _ (by exact q1) (by exact IA) (by exact okY_z oy (Or.inl ⟨by omega, by omega⟩))) (fun r r1 => ?_)
          rcases r with r | r
          · skip
            have r2 := r1; clear r1; dsimp only [Sum.elim_inl, Sum.elim_inr] at r2
            obtain ⟨y1, y2⟩ := r
            try dsimp only [Sum.elim_inl, Sum.elim_inr, jt2, jt3, jt4, jt5, jt6, jt7, jt8] at r2
            obtain ⟨nx1, ms1, fs1⟩ := r2
            try simp (disch := omega) only [jst_eq, jst_ne, jst_ni, jI_i, jcmp_lt, jcmp_gt, w32_id, jcpy_out, Sum.elim_inl, Sum.elim_inr, jt2, jt3, jt4, jt5, jt6, jt7, jt8] at nx1
            try simp (disch := omega) only [jst_eq, jst_ne, jst_ni, jI_i, jcmp_lt, jcmp_gt, w32_id, jcpy_out, Sum.elim_inl, Sum.elim_inr, jt2, jt3, jt4, jt5, jt6, jt7, jt8] at ms1
            try simp (disch := omega) only [jst_eq, jst_ne, jst_ni, jI_i, jcmp_lt, jcmp_gt, w32_id, jcpy_out, Sum.elim_inl, Sum.elim_inr, jt2, jt3, jt4, jt5, jt6, jt7, jt8] at fs1
            try dsimp only [Sum.elim_inl, Sum.elim_inr, jt2, jt3, jt4, jt5, jt6, jt7, jt8]
            refine ⟨?_, ?_⟩
            · try dsimp only [Sum.elim_inl, Sum.elim_inr, jt2, jt3, jt4, jt5, jt6, jt7, jt8]
              refine ⟨?_, ?_, ?_⟩
              · (unfold lnZ; omega) -- o6 e2i.1
              · (refine MS_c ms1 (fun f f0 f1 => ?_); have e8 : a8 = -1 := (by omega); rw [nx1, e8, paZ_m (by omega), show (-1 : Int) + 1 = 0 from rfl, paZ_0 (by omega)]; omega) -- o7 e2i.2
              · exact ⟨fQ_t fr.1 fs1.1, fs1.2⟩ -- o8 e2i.3
            · (first | (exact x16) | (first | assumption | omega | ((try dsimp only [jt2, jt3, jt4]); first | omega | (simp (disch := omega) only [jst_eq, jst_ne, jst_ni, jst_o, jI_i, jcpy_out, w32_id, jdiv_nn, jshr_k, jand_255] <;> first | done | omega | assumption)) | (intros; simp (disch := omega) only [jst_eq, jst_ne, jst_ni, jst_o, jI_i, jcpy_out, w32_id, jdiv_nn, *] <;> first | done | omega) | (intros; simp (disch := omega) only [jst_eq, jst_ne, jst_ni, jst_o, jI_i, jcpy_out, w32_id, jdiv_nn] at * <;> first | done | omega | assumption) | (intros; first | rfl | (exfalso; omega) | ((repeat' apply And.intro) <;> first | assumption | rfl | omega | trivial)))) -- o9 e2m
          · skip
            have r3 := r1; clear r1; dsimp only [Sum.elim_inl, Sum.elim_inr] at r3
            try dsimp only [Sum.elim_inl, Sum.elim_inr, jt2, jt3, jt4, jt5, jt6, jt7, jt8] at r3
            have no2 := r3
            clear r3
            try simp (disch := omega) only [jst_eq, jst_ne, jst_ni, jI_i, jcmp_lt, jcmp_gt, w32_id, jcpy_out, Sum.elim_inl, Sum.elim_inr, jt2, jt3, jt4, jt5, jt6, jt7, jt8] at no2
            try dsimp only [Sum.elim_inl, Sum.elim_inr, jt2, jt3, jt4, jt5, jt6, jt7, jt8]
            try dsimp only [Sum.elim_inl, Sum.elim_inr, jt2, jt3, jt4, jt5, jt6, jt7, jt8]
            refine ⟨?_, ?_⟩
            · (first | (exact x16) | (first | assumption | omega | ((try dsimp only [jt2, jt3, jt4]); first | omega | (simp (disch := omega) only [jst_eq, jst_ne, jst_ni, jst_o, jI_i, jcpy_out, w32_id, jdiv_nn, jshr_k, jand_255] <;> first | done | omega | assumption)) | (intros; simp (disch := omega) only [jst_eq, jst_ne, jst_ni, jst_o, jI_i, jcpy_out, w32_id, jdiv_nn, *] <;> first | done | omega) | (intros; simp (disch := omega) only [jst_eq, jst_ne, jst_ni, jst_o, jI_i, jcpy_out, w32_id, jdiv_nn] at * <;> first | done | omega | assumption) | (intros; first | rfl | (exfalso; omega) | ((repeat' apply And.intro) <;> first | assumption | rfl | omega | trivial)))) -- o10 e3.1
            · (first | (exact x16) | (first | assumption | omega | ((try dsimp only [jt2, jt3, jt4]); first | omega | (simp (disch := omega) only [jst_eq, jst_ne, jst_ni, jst_o, jI_i, jcpy_out, w32_id, jdiv_nn, jshr_k, jand_255] <;> first | done | omega | assumption)) | (intros; simp (disch := omega) only [jst_eq, jst_ne, jst_ni, jst_o, jI_i, jcpy_out, w32_id, jdiv_nn, *] <;> first | done | omega) | (intros; simp (disch := omega) only [jst_eq, jst_ne, jst_ni, jst_o, jI_i, jcpy_out, w32_id, jdiv_nn] at * <;> first | done | omega | assumption) | (intros; first | rfl | (exfalso; omega) | ((repeat' apply And.intro) <;> first | assumption | rfl | omega | trivial)))) -- o11 e3.2
        · skip
          try simp (disch := omega) only [jst_eq, jst_ne, jst_ni, jI_i, jcmp_lt, jcmp_gt, w32_id, jcpy_out, Sum.elim_inl, Sum.elim_inr, jt2, jt3, jt4, jt5, jt6, jt7, jt8] at c3
          exfalso
          omega
    · skip
      try simp (disch := omega) only [jst_eq, jst_ne, jst_ni, jI_i, jcmp_lt, jcmp_gt, w32_id, jcpy_out, Sum.elim_inl, Sum.elim_inr, jt2, jt3, jt4, jt5, jt6, jt7, jt8] at c1
      unfold gX14_reckonAll_j180_164
      refine OK_if (fun c4 => ?_) (fun c4 => ?_)
      · skip
        try simp (disch := omega) only [jst_eq, jst_ne, jst_ni, jI_i, jcmp_lt, jcmp_gt, w32_id, jcpy_out, Sum.elim_inl, Sum.elim_inr, jt2, jt3, jt4, jt5, jt6, jt7, jt8] at c4
        have oy2 : 0 ≤ i7 ∧ i7 < (LV E W (kP K) (kA K) p).1 := by { rcases oy.2 with r | r; { omega }; { exact ⟨r.2.1, r.2.2.1⟩ } }
        refine OK_ir ?_
        try dsimp only [Sum.elim_inl, Sum.elim_inr, jt2, jt3, jt4, jt5, jt6, jt7, jt8]
        refine ⟨?_, ?_⟩
        · (refine MS_c q1 (fun f f0 f1 => ?_); unfold paZ twoC; rw [if_pos (by omega), if_pos (by omega), sumN_ex (g := czC E W (kP K) (LV E W (kP K) (kA K) n) (ct E W (kP K) (kA K)) i4 i3 i6 i7 f) (m := a8.toNat) (n := (LV E W (kP K) (kA K) n).1.toNat) (fun j a b => by omega) (fun j a b => cz_0 (w3_zT tq oy.1.1 (by omega) (by omega) (by omega) (Or.inr (Or.inr (Or.inl (by omega))))))]) -- o12 e4.1
        · exact fr -- o13 e4.2
      · skip
        try simp (disch := omega) only [jst_eq, jst_ne, jst_ni, jI_i, jcmp_lt, jcmp_gt, w32_id, jcpy_out, Sum.elim_inl, Sum.elim_inr, jt2, jt3, jt4, jt5, jt6, jt7, jt8] at c4
        have oy2 : 0 ≤ i7 ∧ i7 < (LV E W (kP K) (kA K) p).1 := by { rcases oy.2 with r | r; { omega }; { exact ⟨r.2.1, r.2.2.1⟩ } }
        have W6 := MT_w q1.2.1 oy.1.1 oy.1.2.1
        have W7 := MT_w q1.2.1 oy2.1 oy2.2
        have T6 := tq.2.2.2 i6 oy.1.1 oy.1.2.1
        have T7 := tq.2.2.2 i7 oy2.1 oy2.2
        refine OK_if (fun c5 => ?_) (fun c5 => ?_)
        · skip
          try simp (disch := omega) only [jst_eq, jst_ne, jst_ni, jI_i, jcmp_lt, jcmp_gt, w32_id, jcpy_out, Sum.elim_inl, Sum.elim_inr, jt2, jt3, jt4, jt5, jt6, jt7, jt8] at c5
          exfalso
          omega
        · skip
          try simp (disch := omega) only [jst_eq, jst_ne, jst_ni, jI_i, jcmp_lt, jcmp_gt, w32_id, jcpy_out, Sum.elim_inl, Sum.elim_inr, jt2, jt3, jt4, jt5, jt6, jt7, jt8] at c5
          have W8 := MT_w q1.2.1 (a := a8) (by omega) (by omega)
          have T8 := tq.2.2.2 a8 (by omega) (by omega)
          have w1 : w32 (h (h 454 38 + 14) i6 + h (h 454 38 + 14) i7) = h (h 454 38 + 14) i6 + h (h 454 38 + 14) i7 := w32_id (by omega) (by omega)
          have w2 : w32 (h (h 454 38 + 14) i6 + h (h 454 38 + 14) i7 + h (h 454 38 + 14) a8) = h (h 454 38 + 14) i6 + h (h 454 38 + 14) i7 + h (h 454 38 + 14) a8 := w32_id (by omega) (by omega)
          have wx : w32 (a8 + 1) = a8 + 1 := w32_id (by omega) (by omega)
          have KN : w3C (ct E W (kP K) (kA K)) i3 i6 i7 a8 ≠ 0 → (LV E W (kP K) (kA K) n).2.1 a8 = (LV E W (kP K) (kA K) p).2.1 a8 := fun u => by (have s := w3_sup tq.1 oy.1.1 oy2.1 (z := a8) (by omega) (by omega) u; exact (tq.2.1.2 a8 (by omega) s.2.2.1).1.symm)
          refine OK_jb (vIsOf (E := E) (Rf := Rf) (W := W) (K := K) (tp := tp) (p := p) (T := T) _ _ _ (by exact q1.1) (by exact q1.2.1) (by exact ⟨by omega, by omega⟩) (by exact ac) (by omega)) (fun v30 r4 => ?_)
          try dsimp only [Sum.elim_inl, Sum.elim_inr, jt2, jt3, jt4, jt5, jt6, jt7, jt8] at r4
          have io3 := r4
          clear r4
          try simp (disch := omega) only [jst_eq, jst_ne, jst_ni, jI_i, jcmp_lt, jcmp_gt, w32_id, jcpy_out, Sum.elim_inl, Sum.elim_inr, jt2, jt3, jt4, jt5, jt6, jt7, jt8] at io3
          refine OK_if (fun c6 => ?_) (fun c6 => ?_)
          · skip
            try simp (disch := omega) only [jst_eq, jst_ne, jst_ni, jI_i, jcmp_lt, jcmp_gt, w32_id, jcpy_out, Sum.elim_inl, Sum.elim_inr, jt2, jt3, jt4, jt5, jt6, jt7, jt8] at c6
            unfold gX14_reckonAll_j284_164
            refine OK_jlx (fun x40 ex40 => ?_)
            try simp (disch := omega) only [jst_eq, jst_ne, jst_ni, jI_i, jcmp_lt, jcmp_gt, w32_id, jcpy_out, Sum.elim_inl, Sum.elim_inr, jt2, jt3, jt4, jt5, jt6, jt7, jt8] at ex40
            refine OK_il ?_ ?_
            · try dsimp only [Sum.elim_inl, Sum.elim_inr, jt2, jt3, jt4, jt5, jt6, jt7, jt8]
              refine ⟨?_, ?_, ?_⟩
              · (unfold lnZ; omega) -- o19 e5i.1
              · (refine MS_c q1 (fun f f0 f1 => ?_); have cz : czC E W (kP K) (LV E W (kP K) (kA K) n) (ct E W (kP K) (kA K)) i4 i3 i6 i7 f a8 = 0 := (by by_cases u : w3C (ct E W (kP K) (kA K)) i3 i6 i7 a8 = 0; { exact cz_0 u }; { exact cif_n (fun y => by (have y1 := y.1; rw [KN u] at y1; rcases io3 with v | v; { exact v.2 y1 }; { omega })) }); unfold paZ; rw [if_pos (by omega), if_pos (by omega), show x40 = a8 + 1 by omega, sumN_s (by omega), cz, Int.add_zero]) -- o20 e5i.2
              · exact fr -- o21 e5i.3
            · (first | (exact x16) | (first | assumption | omega | ((try dsimp only [jt2, jt3, jt4]); first | omega | (simp (disch := omega) only [jst_eq, jst_ne, jst_ni, jst_o, jI_i, jcpy_out, w32_id, jdiv_nn, jshr_k, jand_255] <;> first | done | omega | assumption)) | (intros; simp (disch := omega) only [jst_eq, jst_ne, jst_ni, jst_o, jI_i, jcpy_out, w32_id, jdiv_nn, *] <;> first | done | omega) | (intros; simp (disch := omega) only [jst_eq, jst_ne, jst_ni, jst_o, jI_i, jcpy_out, w32_id, jdiv_nn] at * <;> first | done | omega | assumption) | (intros; first | rfl | (exfalso; omega) | ((repeat' apply And.intro) <;> first | assumption | rfl | omega | trivial)))) -- o22 e5m
          · skip
            try simp (disch := omega) only [jst_eq, jst_ne, jst_ni, jI_i, jcmp_lt, jcmp_gt, w32_id, jcpy_out, Sum.elim_inl, Sum.elim_inr, jt2, jt3, jt4, jt5, jt6, jt7, jt8] at c6
            refine OK_jg (by (first | (exact x16) | (first | assumption | omega | ((try dsimp only [jt2, jt3, jt4]); first | omega | (simp (disch := omega) only [jst_eq, jst_ne, jst_ni, jst_o, jI_i, jcpy_out, w32_id, jdiv_nn, jshr_k, jand_255] <;> first | done | omega | assumption)) | (intros; simp (disch := omega) only [jst_eq, jst_ne, jst_ni, jst_o, jI_i, jcpy_out, w32_id, jdiv_nn, *] <;> first | done | omega) | (intros; simp (disch := omega) only [jst_eq, jst_ne, jst_ni, jst_o, jI_i, jcpy_out, w32_id, jdiv_nn] at * <;> first | done | omega | assumption) | (intros; first | rfl | (exfalso; omega) | ((repeat' apply And.intro) <;> first | assumption | rfl | omega | trivial))))) ?_ -- o23
            refine OK_jg (by (first | (exact x16) | (first | assumption | omega | ((try dsimp only [jt2, jt3, jt4]); first | omega | (simp (disch := omega) only [jst_eq, jst_ne, jst_ni, jst_o, jI_i, jcpy_out, w32_id, jdiv_nn, jshr_k, jand_255] <;> first | done | omega | assumption)) | (intros; simp (disch := omega) only [jst_eq, jst_ne, jst_ni, jst_o, jI_i, jcpy_out, w32_id, jdiv_nn, *] <;> first | done | omega) | (intros; simp (disch := omega) only [jst_eq, jst_ne, jst_ni, jst_o, jI_i, jcpy_out, w32_id, jdiv_nn] at * <;> first | done | omega | assumption) | (intros; first | rfl | (exfalso; omega) | ((repeat' apply And.intro) <;> first | assumption | rfl | omega | trivial))))) ?_ -- o24
            refine OK_jg (by (first | (exact x16) | (first | assumption | omega | ((try dsimp only [jt2, jt3, jt4]); first | omega | (simp (disch := omega) only [jst_eq, jst_ne, jst_ni, jst_o, jI_i, jcpy_out, w32_id, jdiv_nn, jshr_k, jand_255] <;> first | done | omega | assumption)) | (intros; simp (disch := omega) only [jst_eq, jst_ne, jst_ni, jst_o, jI_i, jcpy_out, w32_id, jdiv_nn, *] <;> first | done | omega) | (intros; simp (disch := omega) only [jst_eq, jst_ne, jst_ni, jst_o, jI_i, jcpy_out, w32_id, jdiv_nn] at * <;> first | done | omega | assumption) | (intros; first | rfl | (exfalso; omega) | ((repeat' apply And.intro) <;> first | assumption | rfl | omega | trivial))))) ?_ -- o25
            refine OK_jg (by (first | (exact x16) | (first | assumption | omega | ((try dsimp only [jt2, jt3, jt4]); first | omega | (simp (disch := omega) only [jst_eq, jst_ne, jst_ni, jst_o, jI_i, jcpy_out, w32_id, jdiv_nn, jshr_k, jand_255] <;> first | done | omega | assumption)) | (intros; simp (disch := omega) only [jst_eq, jst_ne, jst_ni, jst_o, jI_i, jcpy_out, w32_id, jdiv_nn, *] <;> first | done | omega) | (intros; simp (disch := omega) only [jst_eq, jst_ne, jst_ni, jst_o, jI_i, jcpy_out, w32_id, jdiv_nn] at * <;> first | done | omega | assumption) | (intros; first | rfl | (exfalso; omega) | ((repeat' apply And.intro) <;> first | assumption | rfl | omega | trivial))))) ?_ -- o26
            refine OK_if (fun c7 => ?_) (fun c7 => ?_)
            · skip
              try simp (disch := omega) only [jst_eq, jst_ne, jst_ni, jI_i, jcmp_lt, jcmp_gt, w32_id, jcpy_out, Sum.elim_inl, Sum.elim_inr, jt2, jt3, jt4, jt5, jt6, jt7, jt8] at c7
              refine OK_mono (vX14_reckonAll_j240_164 (E := E) (Rf := Rf) (W := W) (K := K) (tp := tp) (p := p) (T := T) (n := n) (r0 := fun f => r0 f + paZ E W (kP K) (LV E W (kP K) (kA K) n) (ct E W (kP K) (kA K)) i4 i3 i6 i7 a8 f) _ _ _ _ _ _ _ (by exact q1) (by exact IA) (by exact okY_z oy (Or.inr ⟨by omega, by omega, by omega, by (rcases io3 with u | u; { omega }; { exact u.2 })⟩))) (fun r r5 => ?_)
              rcases r with r | r
              · skip
                have r6 := r5; clear r5; dsimp only [Sum.elim_inl, Sum.elim_inr] at r6
                obtain ⟨y3, y4⟩ := r
                try dsimp only [Sum.elim_inl, Sum.elim_inr, jt2, jt3, jt4, jt5, jt6, jt7, jt8] at r6
                obtain ⟨nx4, ms4, fs4⟩ := r6
                try simp (disch := omega) only [jst_eq, jst_ne, jst_ni, jI_i, jcmp_lt, jcmp_gt, w32_id, jcpy_out, Sum.elim_inl, Sum.elim_inr, jt2, jt3, jt4, jt5, jt6, jt7, jt8] at nx4
                try simp (disch := omega) only [jst_eq, jst_ne, jst_ni, jI_i, jcmp_lt, jcmp_gt, w32_id, jcpy_out, Sum.elim_inl, Sum.elim_inr, jt2, jt3, jt4, jt5, jt6, jt7, jt8] at ms4
                try simp (disch := omega) only [jst_eq, jst_ne, jst_ni, jI_i, jcmp_lt, jcmp_gt, w32_id, jcpy_out, Sum.elim_inl, Sum.elim_inr, jt2, jt3, jt4, jt5, jt6, jt7, jt8] at fs4
                try dsimp only [Sum.elim_inl, Sum.elim_inr, jt2, jt3, jt4, jt5, jt6, jt7, jt8]
                refine ⟨?_, ?_⟩
                · try dsimp only [Sum.elim_inl, Sum.elim_inr, jt2, jt3, jt4, jt5, jt6, jt7, jt8]
                  refine ⟨?_, ?_, ?_⟩
                  · (unfold lnZ; omega) -- o30 e6i.1
                  · (refine MS_c ms4 (fun f f0 f1 => ?_); rw [oneC_c (by omega) (by omega) (by by_cases u : w3C (ct E W (kP K) (kA K)) i3 i6 i7 a8 = 0; { exact Or.inr u }; { exact Or.inl (by (rw [KN u]; rcases io3 with v | v; { omega }; { exact v.2 })) })]; unfold paZ; rw [if_pos (by omega), if_pos (by omega), show y3 = a8 + 1 by omega, sumN_s (by omega), Int.add_assoc]) -- o31 e6i.2
                  · exact ⟨fQ_t fr.1 fs4.1, fs4.2⟩ -- o32 e6i.3
                · (first | (exact x16) | (first | assumption | omega | ((try dsimp only [jt2, jt3, jt4]); first | omega | (simp (disch := omega) only [jst_eq, jst_ne, jst_ni, jst_o, jI_i, jcpy_out, w32_id, jdiv_nn, jshr_k, jand_255] <;> first | done | omega | assumption)) | (intros; simp (disch := omega) only [jst_eq, jst_ne, jst_ni, jst_o, jI_i, jcpy_out, w32_id, jdiv_nn, *] <;> first | done | omega) | (intros; simp (disch := omega) only [jst_eq, jst_ne, jst_ni, jst_o, jI_i, jcpy_out, w32_id, jdiv_nn] at * <;> first | done | omega | assumption) | (intros; first | rfl | (exfalso; omega) | ((repeat' apply And.intro) <;> first | assumption | rfl | omega | trivial)))) -- o33 e6m
              · skip
                have r7 := r5; clear r5; dsimp only [Sum.elim_inl, Sum.elim_inr] at r7
                try dsimp only [Sum.elim_inl, Sum.elim_inr, jt2, jt3, jt4, jt5, jt6, jt7, jt8] at r7
                have no5 := r7
                clear r7
                try simp (disch := omega) only [jst_eq, jst_ne, jst_ni, jI_i, jcmp_lt, jcmp_gt, w32_id, jcpy_out, Sum.elim_inl, Sum.elim_inr, jt2, jt3, jt4, jt5, jt6, jt7, jt8] at no5
                try dsimp only [Sum.elim_inl, Sum.elim_inr, jt2, jt3, jt4, jt5, jt6, jt7, jt8]
                try dsimp only [Sum.elim_inl, Sum.elim_inr, jt2, jt3, jt4, jt5, jt6, jt7, jt8]
                refine ⟨?_, ?_⟩
                · (first | (exact x16) | (first | assumption | omega | ((try dsimp only [jt2, jt3, jt4]); first | omega | (simp (disch := omega) only [jst_eq, jst_ne, jst_ni, jst_o, jI_i, jcpy_out, w32_id, jdiv_nn, jshr_k, jand_255] <;> first | done | omega | assumption)) | (intros; simp (disch := omega) only [jst_eq, jst_ne, jst_ni, jst_o, jI_i, jcpy_out, w32_id, jdiv_nn, *] <;> first | done | omega) | (intros; simp (disch := omega) only [jst_eq, jst_ne, jst_ni, jst_o, jI_i, jcpy_out, w32_id, jdiv_nn] at * <;> first | done | omega | assumption) | (intros; first | rfl | (exfalso; omega) | ((repeat' apply And.intro) <;> first | assumption | rfl | omega | trivial)))) -- o34 e7.1
                · (first | (exact x16) | (first | assumption | omega | ((try dsimp only [jt2, jt3, jt4]); first | omega | (simp (disch := omega) only [jst_eq, jst_ne, jst_ni, jst_o, jI_i, jcpy_out, w32_id, jdiv_nn, jshr_k, jand_255] <;> first | done | omega | assumption)) | (intros; simp (disch := omega) only [jst_eq, jst_ne, jst_ni, jst_o, jI_i, jcpy_out, w32_id, jdiv_nn, *] <;> first | done | omega) | (intros; simp (disch := omega) only [jst_eq, jst_ne, jst_ni, jst_o, jI_i, jcpy_out, w32_id, jdiv_nn] at * <;> first | done | omega | assumption) | (intros; first | rfl | (exfalso; omega) | ((repeat' apply And.intro) <;> first | assumption | rfl | omega | trivial)))) -- o35 e7.2
            · skip
              try simp (disch := omega) only [jst_eq, jst_ne, jst_ni, jI_i, jcmp_lt, jcmp_gt, w32_id, jcpy_out, Sum.elim_inl, Sum.elim_inr, jt2, jt3, jt4, jt5, jt6, jt7, jt8] at c7
              unfold gX14_reckonAll_j284_164
              refine OK_jlx (fun x40 ex40 => ?_)
              try simp (disch := omega) only [jst_eq, jst_ne, jst_ni, jI_i, jcmp_lt, jcmp_gt, w32_id, jcpy_out, Sum.elim_inl, Sum.elim_inr, jt2, jt3, jt4, jt5, jt6, jt7, jt8] at ex40
              refine OK_il ?_ ?_
              · try dsimp only [Sum.elim_inl, Sum.elim_inr, jt2, jt3, jt4, jt5, jt6, jt7, jt8]
                refine ⟨?_, ?_, ?_⟩
                · (unfold lnZ; omega) -- o36 e8i.1
                · (refine MS_c q1 (fun f f0 f1 => ?_); have cz : czC E W (kP K) (LV E W (kP K) (kA K) n) (ct E W (kP K) (kA K)) i4 i3 i6 i7 f a8 = 0 := (cz_0 (w3_zT tq oy.1.1 (by omega) (by omega) (by omega) (Or.inr (Or.inr (Or.inr (by omega)))))); unfold paZ; rw [if_pos (by omega), if_pos (by omega), show x40 = a8 + 1 by omega, sumN_s (by omega), cz, Int.add_zero]) -- o37 e8i.2
                · exact fr -- o38 e8i.3
              · (first | (exact x16) | (first | assumption | omega | ((try dsimp only [jt2, jt3, jt4]); first | omega | (simp (disch := omega) only [jst_eq, jst_ne, jst_ni, jst_o, jI_i, jcpy_out, w32_id, jdiv_nn, jshr_k, jand_255] <;> first | done | omega | assumption)) | (intros; simp (disch := omega) only [jst_eq, jst_ne, jst_ni, jst_o, jI_i, jcpy_out, w32_id, jdiv_nn, *] <;> first | done | omega) | (intros; simp (disch := omega) only [jst_eq, jst_ne, jst_ni, jst_o, jI_i, jcpy_out, w32_id, jdiv_nn] at * <;> first | done | omega | assumption) | (intros; first | rfl | (exfalso; omega) | ((repeat' apply And.intro) <;> first | assumption | rfl | omega | trivial)))) -- o39 e8m
  · try dsimp only [Sum.elim_inl, Sum.elim_inr, jt2, jt3, jt4, jt5, jt6, jt7, jt8]
    refine ⟨?_, ?_, ?_⟩
    · (have l := LV_0 (E := E) (W := W) (pts := kP K) (A := kA K) p; unfold lnZ; omega) -- o40 init.1
    · (refine MS_c ms (fun f f0 f1 => ?_); have pz : paZ E W (kP K) (LV E W (kP K) (kA K) n) (ct E W (kP K) (kA K)) i4 i3 i6 i7 a80 f = 0 := (by unfold paZ; rcases z with z | z; { rw [if_neg (by omega), if_neg (by omega)] }; { rw [if_pos (by omega), z.2]; rfl }); rw [pz, Int.add_zero]) -- o41 init.2
    · exact ⟨fQ_r _, ms.1.2.2⟩ -- o42 init.3
theorem oneC_y {E : EV} {W : Int → Int → Int → VW} {pts : Int} {L : TB} {c : Int → Int → Int} {ac left x y f : Int} (e2 : eO E ac ≠ 1) (y0 : 0 ≤ y) (k : L.2.1 y = eK E ac 1 ∨ (w2C c left x y = 0 ∧ ∀ z, 0 ≤ z → w3C c left x y z = 0)) (e3 : eO E ac = 2 ∨ eO E ac = 3) : twoC E W pts L c ac left x y f = cyC E W pts L c ac left x f y := by
  unfold twoC cyC
  rcases e3 with e | e
  · rw [if_neg (by omega), if_pos e]
    unfold oneC wyC
    rw [if_pos y0, if_neg (by decide)]
    rcases k with k | k
    · by_cases e : ixC E W pts L ac x y (-1) = f
      · rw [cif_y e, cif_y ⟨k, e⟩]
      · rw [cif_n e, cif_n (fun u => e u.2)]
    · rw [k.1, cif_00, cif_00]
  · rw [if_pos e, if_neg (by omega)]
    rcases k with k | k
    · rw [cif_y k]
    · rw [sumN_0 (fun z z0 _ => cz_0 (k.2 z z0)), cif_00]
def lnY (E : EV) (ac N y : Int) : Prop := (eO E ac = 1 ∧ (y = -1 ∨ y = 0)) ∨ (2 ≤ eO E ac ∧ 0 ≤ y ∧ y ≤ N)
noncomputable def paY (E : EV) (W : Int → Int → Int → VW) (pts : Int) (L : TB) (c : Int → Int → Int) (ac left x y f : Int) : Int := if eO E ac = 1 then (if y = 0 then twoC E W pts L c ac left x (-1) f else 0) else sumN (cyC E W pts L c ac left x f) y.toNat
noncomputable def threeC (E : EV) (W : Int → Int → Int → VW) (pts : Int) (L : TB) (c : Int → Int → Int) (ac left x f : Int) : Int := if eO E ac = 1 then twoC E W pts L c ac left x (-1) f else sumN (cyC E W pts L c ac left x f) L.1.toNat
section PAY
variable {E : EV} {W : Int → Int → Int → VW} {pts : Int} {L : TB} {c : Int → Int → Int} {ac left x y f : Int}
theorem paY_m (e : eO E ac = 1) : paY E W pts L c ac left x (-1) f = 0 := (if_pos e).trans (if_neg (by decide))
theorem paY_0 (e : eO E ac = 1) : paY E W pts L c ac left x 0 f = twoC E W pts L c ac left x (-1) f := (if_pos e).trans (if_pos rfl)
end PAY
theorem vX14_reckonAll_j162_86 (a2 : Int) (a3 : Int) (a4 : Int) (a5 : Int) (a6 : Int) (a7 : Int) (t0 : Int) {h : AH} {E : EV} {Rf : Int → TR} {W : Int → Int → Int → VW} {K : AK} {tp : Int} {p : Nat} {T : TB} {n : Nat} {r0 : Int → Int} (ms : mSt h E Rf W K tp p T n r0) (ia : iaM E W K p n a2 a3 a4 ∧ eO E a4 = a5) (oy : okY E (LV E W (kP K) (kA K) p) a4 a6 a7) (z : (a5 ≤ 2 ∧ t0 = -1) ∨ (a5 = 3 ∧ t0 = 0)) : OK (gX14_reckonAll_j162_86 a2 a3 a4 a5 a6 a7 t0 h) (Sum.elim (fun r => jt2 r fun x h' => (x = a7 + 1) ∧ (mSt h' E Rf W K tp p T n (fun f => r0 f + twoC E W (kP K) (LV E W (kP K) (kA K) n) (ct E W (kP K) (kA K)) a4 a3 a6 a7 f)) ∧ (fQ h h' ∧ b20 h')) (fun h' => (0 : Int) = 1)) := by
  have L120 := ia.1.2.2.1
  have o2 : a7 < 120 ∧ -1 ≤ a7 := by { rcases oy.2 with r | r <;> omega }
  unfold gX14_reckonAll_j162_86
  refine OK_jb (vX14_reckonAll_l164 (E := E) (Rf := Rf) (W := W) (K := K) (tp := tp) (p := p) (T := T) (n := n) (r0 := r0) _ _ _ _ _ _ _ (by exact ms) (by exact ia) (by exact oy) (by exact z)) (fun o23 r1 => ?_)
  try dsimp only [Sum.elim_inl, Sum.elim_inr, jt2, jt3, jt4, jt5, jt6, jt7, jt8] at r1
  obtain ⟨ms1, fs1⟩ := r1
  try simp (disch := omega) only [jst_eq, jst_ne, jst_ni, jI_i, jcmp_lt, jcmp_gt, w32_id, jcpy_out, Sum.elim_inl, Sum.elim_inr, jt2, jt3, jt4, jt5, jt6, jt7, jt8] at ms1
  try simp (disch := omega) only [jst_eq, jst_ne, jst_ni, jI_i, jcmp_lt, jcmp_gt, w32_id, jcpy_out, Sum.elim_inl, Sum.elim_inr, jt2, jt3, jt4, jt5, jt6, jt7, jt8] at fs1
  unfold gX14_reckonAll_j290_86
  refine OK_jlx (fun x25 ex25 => ?_)
  try simp (disch := omega) only [jst_eq, jst_ne, jst_ni, jI_i, jcmp_lt, jcmp_gt, w32_id, jcpy_out, Sum.elim_inl, Sum.elim_inr, jt2, jt3, jt4, jt5, jt6, jt7, jt8] at ex25
  refine OK_some ?_
  try dsimp only [Sum.elim_inl, Sum.elim_inr, jt2, jt3, jt4, jt5, jt6, jt7, jt8]
  try dsimp only [Sum.elim_inl, Sum.elim_inr, jt2, jt3, jt4, jt5, jt6, jt7, jt8]
  refine ⟨?_, ?_, ?_⟩
  · (first | exact ex25 | (rw [ex25]; exact w32_id (by omega) (by omega))) -- o5 e1.1
  · exact ms1 -- o6 e1.2
  · exact fs1 -- o7 e1.3
theorem vX14_reckonAll_j151_86 (a2 : Int) (a3 : Int) (a4 : Int) (a5 : Int) (a6 : Int) (a7 : Int) {h : AH} {E : EV} {Rf : Int → TR} {W : Int → Int → Int → VW} {K : AK} {tp : Int} {p : Nat} {T : TB} {n : Nat} {r0 : Int → Int} (ms : mSt h E Rf W K tp p T n r0) (ia : iaM E W K p n a2 a3 a4 ∧ eO E a4 = a5) (oy : okY E (LV E W (kP K) (kA K) p) a4 a6 a7) : OK (gX14_reckonAll_j151_86 a2 a3 a4 a5 a6 a7 h) (Sum.elim (fun r => jt2 r fun x h' => (x = a7 + 1) ∧ (mSt h' E Rf W K tp p T n (fun f => r0 f + twoC E W (kP K) (LV E W (kP K) (kA K) n) (ct E W (kP K) (kA K)) a4 a3 a6 a7 f)) ∧ (fQ h h' ∧ b20 h')) (fun h' => (0 : Int) = 1)) := by
  have eo := ia.1.2.2.2.2.2.1
  unfold gX14_reckonAll_j151_86
  refine OK_if (fun c1 => ?_) (fun c1 => ?_)
  · skip
    try simp (disch := omega) only [jst_eq, jst_ne, jst_ni, jI_i, jcmp_lt, jcmp_gt, w32_id, jcpy_out, Sum.elim_inl, Sum.elim_inr, jt2, jt3, jt4, jt5, jt6, jt7, jt8] at c1
    refine OK_mono (vX14_reckonAll_j162_86 (E := E) (Rf := Rf) (W := W) (K := K) (tp := tp) (p := p) (T := T) (n := n) (r0 := r0) _ _ _ _ _ _ _ (by (first | (exact ms) | (exact ia) | (exact oy) | (exact Or.inl ⟨by omega, rfl⟩) | (exact Or.inr ⟨by omega, rfl⟩) | (first | assumption | omega | ((try dsimp only [jt2, jt3, jt4]); first | omega | (simp (disch := omega) only [jst_eq, jst_ne, jst_ni, jst_o, jI_i, jcpy_out, w32_id, jdiv_nn, jshr_k, jand_255] <;> first | done | omega | assumption)) | (intros; simp (disch := omega) only [jst_eq, jst_ne, jst_ni, jst_o, jI_i, jcpy_out, w32_id, jdiv_nn, *] <;> first | done | omega) | (intros; simp (disch := omega) only [jst_eq, jst_ne, jst_ni, jst_o, jI_i, jcpy_out, w32_id, jdiv_nn] at * <;> first | done | omega | assumption) | (intros; first | rfl | (exfalso; omega) | ((repeat' apply And.intro) <;> first | assumption | rfl | omega | trivial))))) (by (first | (exact ms) | (exact ia) | (exact oy) | (exact Or.inl ⟨by omega, rfl⟩) | (exact Or.inr ⟨by omega, rfl⟩) | (first | assumption | omega | ((try dsimp only [jt2, jt3, jt4]); first | omega | (simp (disch := omega) only [jst_eq, jst_ne, jst_ni, jst_o, jI_i, jcpy_out, w32_id, jdiv_nn, jshr_k, jand_255] <;> first | done | omega | assumption)) | (intros; simp (disch := omega) only [jst_eq, jst_ne, jst_ni, jst_o, jI_i, jcpy_out, w32_id, jdiv_nn, *] <;> first | done | omega) | (intros; simp (disch := omega) only [jst_eq, jst_ne, jst_ni, jst_o, jI_i, jcpy_out, w32_id, jdiv_nn] at * <;> first | done | omega | assumption) | (intros; first | rfl | (exfalso; omega) | ((repeat' apply And.intro) <;> first | assumption | rfl | omega | trivial))))) (by (first | (exact ms) | (exact ia) | (exact oy) | (exact Or.inl ⟨by omega, rfl⟩) | (exact Or.inr ⟨by omega, rfl⟩) | (first | assumption | omega | ((try dsimp only [jt2, jt3, jt4]); first | omega | (simp (disch := omega) only [jst_eq, jst_ne, jst_ni, jst_o, jI_i, jcpy_out, w32_id, jdiv_nn, jshr_k, jand_255] <;> first | done | omega | assumption)) | (intros; simp (disch := omega) only [jst_eq, jst_ne, jst_ni, jst_o, jI_i, jcpy_out, w32_id, jdiv_nn, *] <;> first | done | omega) | (intros; simp (disch := omega) only [jst_eq, jst_ne, jst_ni, jst_o, jI_i, jcpy_out, w32_id, jdiv_nn] at * <;> first | done | omega | assumption) | (intros; first | rfl | (exfalso; omega) | ((repeat' apply And.intro) <;> first | assumption | rfl | omega | trivial))))) (by (first | (exact ms) | (exact ia) | (exact oy) | (exact Or.inl ⟨by omega, rfl⟩) | (exact Or.inr ⟨by omega, rfl⟩) | (first | assumption | omega | ((try dsimp only [jt2, jt3, jt4]); first | omega | (simp (disch := omega) only [jst_eq, jst_ne, jst_ni, jst_o, jI_i, jcpy_out, w32_id, jdiv_nn, jshr_k, jand_255] <;> first | done | omega | assumption)) | (intros; simp (disch := omega) only [jst_eq, jst_ne, jst_ni, jst_o, jI_i, jcpy_out, w32_id, jdiv_nn, *] <;> first | done | omega) | (intros; simp (disch := omega) only [jst_eq, jst_ne, jst_ni, jst_o, jI_i, jcpy_out, w32_id, jdiv_nn] at * <;> first | done | omega | assumption) | (intros; first | rfl | (exfalso; omega) | ((repeat' apply And.intro) <;> first | assumption | rfl | omega | trivial)))))) (fun r r1 => ?_)
    rcases r with r | r
    · skip
      have r2 := r1; clear r1; dsimp only [Sum.elim_inl, Sum.elim_inr] at r2
      obtain ⟨y1, y2⟩ := r
      try dsimp only [Sum.elim_inl, Sum.elim_inr, jt2, jt3, jt4, jt5, jt6, jt7, jt8] at r2
      obtain ⟨nx1, ms1, fs1⟩ := r2
      try simp (disch := omega) only [jst_eq, jst_ne, jst_ni, jI_i, jcmp_lt, jcmp_gt, w32_id, jcpy_out, Sum.elim_inl, Sum.elim_inr, jt2, jt3, jt4, jt5, jt6, jt7, jt8] at nx1
      try simp (disch := omega) only [jst_eq, jst_ne, jst_ni, jI_i, jcmp_lt, jcmp_gt, w32_id, jcpy_out, Sum.elim_inl, Sum.elim_inr, jt2, jt3, jt4, jt5, jt6, jt7, jt8] at ms1
      try simp (disch := omega) only [jst_eq, jst_ne, jst_ni, jI_i, jcmp_lt, jcmp_gt, w32_id, jcpy_out, Sum.elim_inl, Sum.elim_inr, jt2, jt3, jt4, jt5, jt6, jt7, jt8] at fs1
      try dsimp only [Sum.elim_inl, Sum.elim_inr, jt2, jt3, jt4, jt5, jt6, jt7, jt8]
      try dsimp only [Sum.elim_inl, Sum.elim_inr, jt2, jt3, jt4, jt5, jt6, jt7, jt8]
      refine ⟨?_, ?_, ?_⟩
      · (first | (exact ms) | (exact ia) | (exact oy) | (exact Or.inl ⟨by omega, rfl⟩) | (exact Or.inr ⟨by omega, rfl⟩) | (first | assumption | omega | ((try dsimp only [jt2, jt3, jt4]); first | omega | (simp (disch := omega) only [jst_eq, jst_ne, jst_ni, jst_o, jI_i, jcpy_out, w32_id, jdiv_nn, jshr_k, jand_255] <;> first | done | omega | assumption)) | (intros; simp (disch := omega) only [jst_eq, jst_ne, jst_ni, jst_o, jI_i, jcpy_out, w32_id, jdiv_nn, *] <;> first | done | omega) | (intros; simp (disch := omega) only [jst_eq, jst_ne, jst_ni, jst_o, jI_i, jcpy_out, w32_id, jdiv_nn] at * <;> first | done | omega | assumption) | (intros; first | rfl | (exfalso; omega) | ((repeat' apply And.intro) <;> first | assumption | rfl | omega | trivial)))) -- o5 e1.1
      · (first | (exact ms) | (exact ia) | (exact oy) | (exact Or.inl ⟨by omega, rfl⟩) | (exact Or.inr ⟨by omega, rfl⟩) | (first | assumption | omega | ((try dsimp only [jt2, jt3, jt4]); first | omega | (simp (disch := omega) only [jst_eq, jst_ne, jst_ni, jst_o, jI_i, jcpy_out, w32_id, jdiv_nn, jshr_k, jand_255] <;> first | done | omega | assumption)) | (intros; simp (disch := omega) only [jst_eq, jst_ne, jst_ni, jst_o, jI_i, jcpy_out, w32_id, jdiv_nn, *] <;> first | done | omega) | (intros; simp (disch := omega) only [jst_eq, jst_ne, jst_ni, jst_o, jI_i, jcpy_out, w32_id, jdiv_nn] at * <;> first | done | omega | assumption) | (intros; first | rfl | (exfalso; omega) | ((repeat' apply And.intro) <;> first | assumption | rfl | omega | trivial)))) -- o6 e1.2
      · (first | (exact ms) | (exact ia) | (exact oy) | (exact Or.inl ⟨by omega, rfl⟩) | (exact Or.inr ⟨by omega, rfl⟩) | (first | assumption | omega | ((try dsimp only [jt2, jt3, jt4]); first | omega | (simp (disch := omega) only [jst_eq, jst_ne, jst_ni, jst_o, jI_i, jcpy_out, w32_id, jdiv_nn, jshr_k, jand_255] <;> first | done | omega | assumption)) | (intros; simp (disch := omega) only [jst_eq, jst_ne, jst_ni, jst_o, jI_i, jcpy_out, w32_id, jdiv_nn, *] <;> first | done | omega) | (intros; simp (disch := omega) only [jst_eq, jst_ne, jst_ni, jst_o, jI_i, jcpy_out, w32_id, jdiv_nn] at * <;> first | done | omega | assumption) | (intros; first | rfl | (exfalso; omega) | ((repeat' apply And.intro) <;> first | assumption | rfl | omega | trivial)))) -- o7 e1.3
    · skip
      have r3 := r1; clear r1; dsimp only [Sum.elim_inl, Sum.elim_inr] at r3
      try dsimp only [Sum.elim_inl, Sum.elim_inr, jt2, jt3, jt4, jt5, jt6, jt7, jt8] at r3
      have no2 := r3
      clear r3
      try simp (disch := omega) only [jst_eq, jst_ne, jst_ni, jI_i, jcmp_lt, jcmp_gt, w32_id, jcpy_out, Sum.elim_inl, Sum.elim_inr, jt2, jt3, jt4, jt5, jt6, jt7, jt8] at no2
      try dsimp only [Sum.elim_inl, Sum.elim_inr, jt2, jt3, jt4, jt5, jt6, jt7, jt8]
      (first | (exact ms) | (exact ia) | (exact oy) | (exact Or.inl ⟨by omega, rfl⟩) | (exact Or.inr ⟨by omega, rfl⟩) | (first | assumption | omega | ((try dsimp only [jt2, jt3, jt4]); first | omega | (simp (disch := omega) only [jst_eq, jst_ne, jst_ni, jst_o, jI_i, jcpy_out, w32_id, jdiv_nn, jshr_k, jand_255] <;> first | done | omega | assumption)) | (intros; simp (disch := omega) only [jst_eq, jst_ne, jst_ni, jst_o, jI_i, jcpy_out, w32_id, jdiv_nn, *] <;> first | done | omega) | (intros; simp (disch := omega) only [jst_eq, jst_ne, jst_ni, jst_o, jI_i, jcpy_out, w32_id, jdiv_nn] at * <;> first | done | omega | assumption) | (intros; first | rfl | (exfalso; omega) | ((repeat' apply And.intro) <;> first | assumption | rfl | omega | trivial)))) -- o8 e2
  · skip
    try simp (disch := omega) only [jst_eq, jst_ne, jst_ni, jI_i, jcmp_lt, jcmp_gt, w32_id, jcpy_out, Sum.elim_inl, Sum.elim_inr, jt2, jt3, jt4, jt5, jt6, jt7, jt8] at c1
    refine OK_mono (vX14_reckonAll_j162_86 (E := E) (Rf := Rf) (W := W) (K := K) (tp := tp) (p := p) (T := T) (n := n) (r0 := r0) _ _ _ _ _ _ _ (by (first | (exact ms) | (exact ia) | (exact oy) | (exact Or.inl ⟨by omega, rfl⟩) | (exact Or.inr ⟨by omega, rfl⟩) | (first | assumption | omega | ((try dsimp only [jt2, jt3, jt4]); first | omega | (simp (disch := omega) only [jst_eq, jst_ne, jst_ni, jst_o, jI_i, jcpy_out, w32_id, jdiv_nn, jshr_k, jand_255] <;> first | done | omega | assumption)) | (intros; simp (disch := omega) only [jst_eq, jst_ne, jst_ni, jst_o, jI_i, jcpy_out, w32_id, jdiv_nn, *] <;> first | done | omega) | (intros; simp (disch := omega) only [jst_eq, jst_ne, jst_ni, jst_o, jI_i, jcpy_out, w32_id, jdiv_nn] at * <;> first | done | omega | assumption) | (intros; first | rfl | (exfalso; omega) | ((repeat' apply And.intro) <;> first | assumption | rfl | omega | trivial))))) (by (first | (exact ms) | (exact ia) | (exact oy) | (exact Or.inl ⟨by omega, rfl⟩) | (exact Or.inr ⟨by omega, rfl⟩) | (first | assumption | omega | ((try dsimp only [jt2, jt3, jt4]); first | omega | (simp (disch := omega) only [jst_eq, jst_ne, jst_ni, jst_o, jI_i, jcpy_out, w32_id, jdiv_nn, jshr_k, jand_255] <;> first | done | omega | assumption)) | (intros; simp (disch := omega) only [jst_eq, jst_ne, jst_ni, jst_o, jI_i, jcpy_out, w32_id, jdiv_nn, *] <;> first | done | omega) | (intros; simp (disch := omega) only [jst_eq, jst_ne, jst_ni, jst_o, jI_i, jcpy_out, w32_id, jdiv_nn] at * <;> first | done | omega | assumption) | (intros; first | rfl | (exfalso; omega) | ((repeat' apply And.intro) <;> first | assumption | rfl | omega | trivial))))) (by (first | (exact ms) | (exact ia) | (exact oy) | (exact Or.inl ⟨by omega, rfl⟩) | (exact Or.inr ⟨by omega, rfl⟩) | (first | assumption | omega | ((try dsimp only [jt2, jt3, jt4]); first | omega | (simp (disch := omega) only [jst_eq, jst_ne, jst_ni, jst_o, jI_i, jcpy_out, w32_id, jdiv_nn, jshr_k, jand_255] <;> first | done | omega | assumption)) | (intros; simp (disch := omega) only [jst_eq, jst_ne, jst_ni, jst_o, jI_i, jcpy_out, w32_id, jdiv_nn, *] <;> first | done | omega) | (intros; simp (disch := omega) only [jst_eq, jst_ne, jst_ni, jst_o, jI_i, jcpy_out, w32_id, jdiv_nn] at * <;> first | done | omega | assumption) | (intros; first | rfl | (exfalso; omega) | ((repeat' apply And.intro) <;> first | assumption | rfl | omega | trivial))))) (by (first | (exact ms) | (exact ia) | (exact oy) | (exact Or.inl ⟨by omega, rfl⟩) | (exact Or.inr ⟨by omega, rfl⟩) | (first | assumption | omega | ((try dsimp only [jt2, jt3, jt4]); first | omega | (simp (disch := omega) only [jst_eq, jst_ne, jst_ni, jst_o, jI_i, jcpy_out, w32_id, jdiv_nn, jshr_k, jand_255] <;> first | done | omega | assumption)) | (intros; simp (disch := omega) only [jst_eq, jst_ne, jst_ni, jst_o, jI_i, jcpy_out, w32_id, jdiv_nn, *] <;> first | done | omega) | (intros; simp (disch := omega) only [jst_eq, jst_ne, jst_ni, jst_o, jI_i, jcpy_out, w32_id, jdiv_nn] at * <;> first | done | omega | assumption) | (intros; first | rfl | (exfalso; omega) | ((repeat' apply And.intro) <;> first | assumption | rfl | omega | trivial)))))) (fun r r4 => ?_)
    rcases r with r | r
    · skip
      have r5 := r4; clear r4; dsimp only [Sum.elim_inl, Sum.elim_inr] at r5
      obtain ⟨y3, y4⟩ := r
      try dsimp only [Sum.elim_inl, Sum.elim_inr, jt2, jt3, jt4, jt5, jt6, jt7, jt8] at r5
      obtain ⟨nx3, ms3, fs3⟩ := r5
      try simp (disch := omega) only [jst_eq, jst_ne, jst_ni, jI_i, jcmp_lt, jcmp_gt, w32_id, jcpy_out, Sum.elim_inl, Sum.elim_inr, jt2, jt3, jt4, jt5, jt6, jt7, jt8] at nx3
      try simp (disch := omega) only [jst_eq, jst_ne, jst_ni, jI_i, jcmp_lt, jcmp_gt, w32_id, jcpy_out, Sum.elim_inl, Sum.elim_inr, jt2, jt3, jt4, jt5, jt6, jt7, jt8] at ms3
      try simp (disch := omega) only [jst_eq, jst_ne, jst_ni, jI_i, jcmp_lt, jcmp_gt, w32_id, jcpy_out, Sum.elim_inl, Sum.elim_inr, jt2, jt3, jt4, jt5, jt6, jt7, jt8] at fs3
      try dsimp only [Sum.elim_inl, Sum.elim_inr, jt2, jt3, jt4, jt5, jt6, jt7, jt8]
      try dsimp only [Sum.elim_inl, Sum.elim_inr, jt2, jt3, jt4, jt5, jt6, jt7, jt8]
      refine ⟨?_, ?_, ?_⟩
      · (first | (exact ms) | (exact ia) | (exact oy) | (exact Or.inl ⟨by omega, rfl⟩) | (exact Or.inr ⟨by omega, rfl⟩) | (first | assumption | omega | ((try dsimp only [jt2, jt3, jt4]); first | omega | (simp (disch := omega) only [jst_eq, jst_ne, jst_ni, jst_o, jI_i, jcpy_out, w32_id, jdiv_nn, jshr_k, jand_255] <;> first | done | omega | assumption)) | (intros; simp (disch := omega) only [jst_eq, jst_ne, jst_ni, jst_o, jI_i, jcpy_out, w32_id, jdiv_nn, *] <;> first | done | omega) | (intros; simp (disch := omega) only [jst_eq, jst_ne, jst_ni, jst_o, jI_i, jcpy_out, w32_id, jdiv_nn] at * <;> first | done | omega | assumption) | (intros; first | rfl | (exfalso; omega) | ((repeat' apply And.intro) <;> first | assumption | rfl | omega | trivial)))) -- o13 e3.1
      · (first | (exact ms) | (exact ia) | (exact oy) | (exact Or.inl ⟨by omega, rfl⟩) | (exact Or.inr ⟨by omega, rfl⟩) | (first | assumption | omega | ((try dsimp only [jt2, jt3, jt4]); first | omega | (simp (disch := omega) only [jst_eq, jst_ne, jst_ni, jst_o, jI_i, jcpy_out, w32_id, jdiv_nn, jshr_k, jand_255] <;> first | done | omega | assumption)) | (intros; simp (disch := omega) only [jst_eq, jst_ne, jst_ni, jst_o, jI_i, jcpy_out, w32_id, jdiv_nn, *] <;> first | done | omega) | (intros; simp (disch := omega) only [jst_eq, jst_ne, jst_ni, jst_o, jI_i, jcpy_out, w32_id, jdiv_nn] at * <;> first | done | omega | assumption) | (intros; first | rfl | (exfalso; omega) | ((repeat' apply And.intro) <;> first | assumption | rfl | omega | trivial)))) -- o14 e3.2
      · (first | (exact ms) | (exact ia) | (exact oy) | (exact Or.inl ⟨by omega, rfl⟩) | (exact Or.inr ⟨by omega, rfl⟩) | (first | assumption | omega | ((try dsimp only [jt2, jt3, jt4]); first | omega | (simp (disch := omega) only [jst_eq, jst_ne, jst_ni, jst_o, jI_i, jcpy_out, w32_id, jdiv_nn, jshr_k, jand_255] <;> first | done | omega | assumption)) | (intros; simp (disch := omega) only [jst_eq, jst_ne, jst_ni, jst_o, jI_i, jcpy_out, w32_id, jdiv_nn, *] <;> first | done | omega) | (intros; simp (disch := omega) only [jst_eq, jst_ne, jst_ni, jst_o, jI_i, jcpy_out, w32_id, jdiv_nn] at * <;> first | done | omega | assumption) | (intros; first | rfl | (exfalso; omega) | ((repeat' apply And.intro) <;> first | assumption | rfl | omega | trivial)))) -- o15 e3.3
    · skip
      have r6 := r4; clear r4; dsimp only [Sum.elim_inl, Sum.elim_inr] at r6
      try dsimp only [Sum.elim_inl, Sum.elim_inr, jt2, jt3, jt4, jt5, jt6, jt7, jt8] at r6
      have no4 := r6
      clear r6
      try simp (disch := omega) only [jst_eq, jst_ne, jst_ni, jI_i, jcmp_lt, jcmp_gt, w32_id, jcpy_out, Sum.elim_inl, Sum.elim_inr, jt2, jt3, jt4, jt5, jt6, jt7, jt8] at no4
      try dsimp only [Sum.elim_inl, Sum.elim_inr, jt2, jt3, jt4, jt5, jt6, jt7, jt8]
      (first | (exact ms) | (exact ia) | (exact oy) | (exact Or.inl ⟨by omega, rfl⟩) | (exact Or.inr ⟨by omega, rfl⟩) | (first | assumption | omega | ((try dsimp only [jt2, jt3, jt4]); first | omega | (simp (disch := omega) only [jst_eq, jst_ne, jst_ni, jst_o, jI_i, jcpy_out, w32_id, jdiv_nn, jshr_k, jand_255] <;> first | done | omega | assumption)) | (intros; simp (disch := omega) only [jst_eq, jst_ne, jst_ni, jst_o, jI_i, jcpy_out, w32_id, jdiv_nn, *] <;> first | done | omega) | (intros; simp (disch := omega) only [jst_eq, jst_ne, jst_ni, jst_o, jI_i, jcpy_out, w32_id, jdiv_nn] at * <;> first | done | omega | assumption) | (intros; first | rfl | (exfalso; omega) | ((repeat' apply And.intro) <;> first | assumption | rfl | omega | trivial)))) -- o16 e4
theorem vX14_reckonAll_l86 (i2 : Int) (i3 : Int) (i4 : Int) (i5 : Int) (i6 : Int) (a70 : Int) {h0 : AH} {E : EV} {Rf : Int → TR} {W : Int → Int → Int → VW} {K : AK} {tp : Int} {p : Nat} {T : TB} {n : Nat} {r0 : Int → Int} (ms : mSt h0 E Rf W K tp p T n r0) (ia : iaM E W K p n i2 i3 i4 ∧ eO E i4 = i5) (ox : 0 ≤ i6 ∧ i6 < (LV E W (kP K) (kA K) p).1 ∧ (LV E W (kP K) (kA K) p).2.1 i6 = eK E i4 0) (z : (i5 = 1 ∧ a70 = -1) ∨ (2 ≤ i5 ∧ a70 = 0)) : OK (gX14_reckonAll_l86 i2 i3 i4 i5 i6 a70 h0) (fun h' => (mSt h' E Rf W K tp p T n (fun f => r0 f + threeC E W (kP K) (LV E W (kP K) (kA K) n) (ct E W (kP K) (kA K)) i4 i3 i6 f)) ∧ (fQ h0 h' ∧ b20 h')) := by
  unfold gX14_reckonAll_l86
  refine OK_jit (I := (fun (s : Int × AH) => jt2 s fun a7 h => (lnY E i4 (LV E W (kP K) (kA K) p).1 a7) ∧ (mSt h E Rf W K tp p T n (fun f => r0 f + paY E W (kP K) (LV E W (kP K) (kA K) n) (ct E W (kP K) (kA K)) i4 i3 i6 a7 f)) ∧ (fQ h0 h ∧ b20 h))) (m := (fun (s : Int × AH) => jt2 s fun a7 h => ((LV E W (kP K) (kA K) p).1 + 1 - a7).toNat)) ?_ ?_
  · intro s hs
    obtain ⟨a7, h⟩ := s
    dsimp only [Sum.elim_inl, Sum.elim_inr, jt2, jt3, jt4, jt5, jt6, jt7, jt8] at hs
    obtain ⟨q0, q1, fr⟩ := hs
    unfold gX14_reckonAll_b86
    refine OK_jt2 ?_
    have IA := ia.1
    obtain ⟨tq, ds, L120, qn, ac, eo, k, k0, ka, kl, kp, kn⟩ := ia.1
    have eo5 := ia.2
    have n12 := tq.1.1
    have x16 := (akM_0 q1.1).1.1
    have e44 := q1.2.2.1.1
    have l0 := LV_0 (E := E) (W := W) (pts := kP K) (A := kA K) p
    have ex0 := tq.2.1.1
    unfold lnY at q0
    refine OK_if (fun c1 => ?_) (fun c1 => ?_)
    · skip
      try simp (disch := omega) only [jst_eq, jst_ne, jst_ni, jI_i, jcmp_lt, jcmp_gt, w32_id, jcpy_out, Sum.elim_inl, Sum.elim_inr, jt2, jt3, jt4, jt5, jt6, jt7, jt8] at c1
      unfold gX14_reckonAll_j102_86
      refine OK_if (fun c2 => ?_) (fun c2 => ?_)
      · skip
        try simp (disch := omega) only [jst_eq, jst_ne, jst_ni, jI_i, jcmp_lt, jcmp_gt, w32_id, jcpy_out, Sum.elim_inl, Sum.elim_inr, jt2, jt3, jt4, jt5, jt6, jt7, jt8] at c2
        refine OK_ir ?_
        try dsimp only [Sum.elim_inl, Sum.elim_inr, jt2, jt3, jt4, jt5, jt6, jt7, jt8]
        refine ⟨?_, ?_⟩
        · (refine MS_c q1 (fun f f0 f1 => ?_); unfold paY threeC; rw [if_pos (by omega), if_pos (by omega), if_pos (by omega)]) -- o1 e1.1
        · exact fr -- o2 e1.2
      · skip
        try simp (disch := omega) only [jst_eq, jst_ne, jst_ni, jI_i, jcmp_lt, jcmp_gt, w32_id, jcpy_out, Sum.elim_inl, Sum.elim_inr, jt2, jt3, jt4, jt5, jt6, jt7, jt8] at c2
        refine OK_if (fun c3 => ?_) (fun c3 => ?_)
        · skip
          try simp (disch := omega) only [jst_eq, jst_ne, jst_ni, jI_i, jcmp_lt, jcmp_gt, w32_id, jcpy_out, Sum.elim_inl, Sum.elim_inr, jt2, jt3, jt4, jt5, jt6, jt7, jt8] at c3
          refine OK_mono (vX14_reckonAll_j151_86 (E := E) (Rf := Rf) (W := W) (K := K) (tp := tp) (p := p) (T := T) (n := n) (r0 := fun f => r0 f + paY E W (kP K) (LV E W (kP K) (kA K) n) (ct E W (kP K) (kA K)) i4 i3 i6 a7 f) _ _ _ _ _ _ (by exact q1) (by exact ia) (by exact ⟨ox, Or.inl ⟨by omega, by omega⟩⟩)) (fun r r1 => ?_)
          rcases r with r | r
          · skip
            have r2 := r1; clear r1; dsimp only [Sum.elim_inl, Sum.elim_inr] at r2
            obtain ⟨y1, y2⟩ := r
            try dsimp only [Sum.elim_inl, Sum.elim_inr, jt2, jt3, jt4, jt5, jt6, jt7, jt8] at r2
            obtain ⟨nx1, ms1, fs1⟩ := r2
            try simp (disch := omega) only [jst_eq, jst_ne, jst_ni, jI_i, jcmp_lt, jcmp_gt, w32_id, jcpy_out, Sum.elim_inl, Sum.elim_inr, jt2, jt3, jt4, jt5, jt6, jt7, jt8] at nx1
            try simp (disch := omega) only [jst_eq, jst_ne, jst_ni, jI_i, jcmp_lt, jcmp_gt, w32_id, jcpy_out, Sum.elim_inl, Sum.elim_inr, jt2, jt3, jt4, jt5, jt6, jt7, jt8] at ms1
            try simp (disch := omega) only [jst_eq, jst_ne, jst_ni, jI_i, jcmp_lt, jcmp_gt, w32_id, jcpy_out, Sum.elim_inl, Sum.elim_inr, jt2, jt3, jt4, jt5, jt6, jt7, jt8] at fs1
            try dsimp only [Sum.elim_inl, Sum.elim_inr, jt2, jt3, jt4, jt5, jt6, jt7, jt8]
            refine ⟨?_, ?_⟩
            · try dsimp only [Sum.elim_inl, Sum.elim_inr, jt2, jt3, jt4, jt5, jt6, jt7, jt8]
              refine ⟨?_, ?_, ?_⟩
              · (unfold lnY; omega) -- o6 e2i.1
              · (refine MS_c ms1 (fun f f0 f1 => ?_); have e8 : a7 = -1 := (by omega); rw [nx1, e8, paY_m (by omega), show (-1 : Int) + 1 = 0 from rfl, paY_0 (by omega)]; omega) -- o7 e2i.2
              · exact ⟨fQ_t fr.1 fs1.1, fs1.2⟩ -- o8 e2i.3
            · (first | (exact x16) | (first | assumption | omega | ((try dsimp only [jt2, jt3, jt4]); first | omega | (simp (disch := omega) only [jst_eq, jst_ne, jst_ni, jst_o, jI_i, jcpy_out, w32_id, jdiv_nn, jshr_k, jand_255] <;> first | done | omega | assumption)) | (intros; simp (disch := omega) only [jst_eq, jst_ne, jst_ni, jst_o, jI_i, jcpy_out, w32_id, jdiv_nn, *] <;> first | done | omega) | (intros; simp (disch := omega) only [jst_eq, jst_ne, jst_ni, jst_o, jI_i, jcpy_out, w32_id, jdiv_nn] at * <;> first | done | omega | assumption) | (intros; first | rfl | (exfalso; omega) | ((repeat' apply And.intro) <;> first | assumption | rfl | omega | trivial)))) -- o9 e2m
          · skip
            have r3 := r1; clear r1; dsimp only [Sum.elim_inl, Sum.elim_inr] at r3
            try dsimp only [Sum.elim_inl, Sum.elim_inr, jt2, jt3, jt4, jt5, jt6, jt7, jt8] at r3
            have no2 := r3
            clear r3
            try simp (disch := omega) only [jst_eq, jst_ne, jst_ni, jI_i, jcmp_lt, jcmp_gt, w32_id, jcpy_out, Sum.elim_inl, Sum.elim_inr, jt2, jt3, jt4, jt5, jt6, jt7, jt8] at no2
            try dsimp only [Sum.elim_inl, Sum.elim_inr, jt2, jt3, jt4, jt5, jt6, jt7, jt8]
            try dsimp only [Sum.elim_inl, Sum.elim_inr, jt2, jt3, jt4, jt5, jt6, jt7, jt8]
            refine ⟨?_, ?_⟩
            · (first | (exact x16) | (first | assumption | omega | ((try dsimp only [jt2, jt3, jt4]); first | omega | (simp (disch := omega) only [jst_eq, jst_ne, jst_ni, jst_o, jI_i, jcpy_out, w32_id, jdiv_nn, jshr_k, jand_255] <;> first | done | omega | assumption)) | (intros; simp (disch := omega) only [jst_eq, jst_ne, jst_ni, jst_o, jI_i, jcpy_out, w32_id, jdiv_nn, *] <;> first | done | omega) | (intros; simp (disch := omega) only [jst_eq, jst_ne, jst_ni, jst_o, jI_i, jcpy_out, w32_id, jdiv_nn] at * <;> first | done | omega | assumption) | (intros; first | rfl | (exfalso; omega) | ((repeat' apply And.intro) <;> first | assumption | rfl | omega | trivial)))) -- o10 e3.1
            · (first | (exact x16) | (first | assumption | omega | ((try dsimp only [jt2, jt3, jt4]); first | omega | (simp (disch := omega) only [jst_eq, jst_ne, jst_ni, jst_o, jI_i, jcpy_out, w32_id, jdiv_nn, jshr_k, jand_255] <;> first | done | omega | assumption)) | (intros; simp (disch := omega) only [jst_eq, jst_ne, jst_ni, jst_o, jI_i, jcpy_out, w32_id, jdiv_nn, *] <;> first | done | omega) | (intros; simp (disch := omega) only [jst_eq, jst_ne, jst_ni, jst_o, jI_i, jcpy_out, w32_id, jdiv_nn] at * <;> first | done | omega | assumption) | (intros; first | rfl | (exfalso; omega) | ((repeat' apply And.intro) <;> first | assumption | rfl | omega | trivial)))) -- o11 e3.2
        · skip
          try simp (disch := omega) only [jst_eq, jst_ne, jst_ni, jI_i, jcmp_lt, jcmp_gt, w32_id, jcpy_out, Sum.elim_inl, Sum.elim_inr, jt2, jt3, jt4, jt5, jt6, jt7, jt8] at c3
          exfalso
          omega
    · skip
      try simp (disch := omega) only [jst_eq, jst_ne, jst_ni, jI_i, jcmp_lt, jcmp_gt, w32_id, jcpy_out, Sum.elim_inl, Sum.elim_inr, jt2, jt3, jt4, jt5, jt6, jt7, jt8] at c1
      unfold gX14_reckonAll_j102_86
      refine OK_if (fun c4 => ?_) (fun c4 => ?_)
      · skip
        try simp (disch := omega) only [jst_eq, jst_ne, jst_ni, jI_i, jcmp_lt, jcmp_gt, w32_id, jcpy_out, Sum.elim_inl, Sum.elim_inr, jt2, jt3, jt4, jt5, jt6, jt7, jt8] at c4
        refine OK_ir ?_
        try dsimp only [Sum.elim_inl, Sum.elim_inr, jt2, jt3, jt4, jt5, jt6, jt7, jt8]
        refine ⟨?_, ?_⟩
        · (refine MS_c q1 (fun f f0 f1 => ?_); unfold paY threeC; rw [if_neg (by omega), if_neg (by omega), sumN_ex (g := cyC E W (kP K) (LV E W (kP K) (kA K) n) (ct E W (kP K) (kA K)) i4 i3 i6 f) (m := a7.toNat) (n := (LV E W (kP K) (kA K) n).1.toNat) (fun j a b => by omega) (fun j a b => cy_0 (w2_zT tq ox.1 (by omega) (by omega) (Or.inr (Or.inl (by omega)))) (fun z z0 => w3_zT tq ox.1 (by omega) z0 (by omega) (Or.inr (Or.inl (by omega)))))]) -- o12 e4.1
        · exact fr -- o13 e4.2
      · skip
        try simp (disch := omega) only [jst_eq, jst_ne, jst_ni, jI_i, jcmp_lt, jcmp_gt, w32_id, jcpy_out, Sum.elim_inl, Sum.elim_inr, jt2, jt3, jt4, jt5, jt6, jt7, jt8] at c4
        have W6 := MT_w q1.2.1 ox.1 ox.2.1
        have T6 := tq.2.2.2 i6 ox.1 ox.2.1
        refine OK_if (fun c5 => ?_) (fun c5 => ?_)
        · skip
          try simp (disch := omega) only [jst_eq, jst_ne, jst_ni, jI_i, jcmp_lt, jcmp_gt, w32_id, jcpy_out, Sum.elim_inl, Sum.elim_inr, jt2, jt3, jt4, jt5, jt6, jt7, jt8] at c5
          exfalso
          omega
        · skip
          try simp (disch := omega) only [jst_eq, jst_ne, jst_ni, jI_i, jcmp_lt, jcmp_gt, w32_id, jcpy_out, Sum.elim_inl, Sum.elim_inr, jt2, jt3, jt4, jt5, jt6, jt7, jt8] at c5
          have W7 := MT_w q1.2.1 (a := a7) (by omega) (by omega)
          have T7 := tq.2.2.2 a7 (by omega) (by omega)
          have w1 : w32 (h (h 454 38 + 14) i6 + h (h 454 38 + 14) a7) = h (h 454 38 + 14) i6 + h (h 454 38 + 14) a7 := w32_id (by omega) (by omega)
          have wx : w32 (a7 + 1) = a7 + 1 := w32_id (by omega) (by omega)
          have KZ : (LV E W (kP K) (kA K) n).2.1 a7 = (LV E W (kP K) (kA K) p).2.1 a7 ∨ (w2C (ct E W (kP K) (kA K)) i3 i6 a7 = 0 ∧ ∀ z, 0 ≤ z → w3C (ct E W (kP K) (kA K)) i3 i6 a7 z = 0) := kz_y tq ox.1 (by omega) (by omega)
          refine OK_jb (vIsOf (E := E) (Rf := Rf) (W := W) (K := K) (tp := tp) (p := p) (T := T) _ _ _ (by exact q1.1) (by exact q1.2.1) (by exact ⟨by omega, by omega⟩) (by exact ac) (by omega)) (fun v19 r4 => ?_)
          try dsimp only [Sum.elim_inl, Sum.elim_inr, jt2, jt3, jt4, jt5, jt6, jt7, jt8] at r4
          have io3 := r4
          clear r4
          try simp (disch := omega) only [jst_eq, jst_ne, jst_ni, jI_i, jcmp_lt, jcmp_gt, w32_id, jcpy_out, Sum.elim_inl, Sum.elim_inr, jt2, jt3, jt4, jt5, jt6, jt7, jt8] at io3
          refine OK_if (fun c6 => ?_) (fun c6 => ?_)
          · skip
            try simp (disch := omega) only [jst_eq, jst_ne, jst_ni, jI_i, jcmp_lt, jcmp_gt, w32_id, jcpy_out, Sum.elim_inl, Sum.elim_inr, jt2, jt3, jt4, jt5, jt6, jt7, jt8] at c6
            unfold gX14_reckonAll_j290_86
            refine OK_jlx (fun x25 ex25 => ?_)
            try simp (disch := omega) only [jst_eq, jst_ne, jst_ni, jI_i, jcmp_lt, jcmp_gt, w32_id, jcpy_out, Sum.elim_inl, Sum.elim_inr, jt2, jt3, jt4, jt5, jt6, jt7, jt8] at ex25
            refine OK_il ?_ ?_
            · try dsimp only [Sum.elim_inl, Sum.elim_inr, jt2, jt3, jt4, jt5, jt6, jt7, jt8]
              refine ⟨?_, ?_, ?_⟩
              · (unfold lnY; omega) -- o19 e5i.1
              · (refine MS_c q1 (fun f f0 f1 => ?_); have cz : cyC E W (kP K) (LV E W (kP K) (kA K) n) (ct E W (kP K) (kA K)) i4 i3 i6 f a7 = 0 := (by rcases KZ with u | u; { have nk : ¬ (LV E W (kP K) (kA K) n).2.1 a7 = eK E i4 1 := (fun y => by (rw [u] at y; rcases io3 with v | v; { exact v.2 y }; { omega })); unfold cyC; by_cases e : eO E i4 = 2; { rw [if_pos e]; exact cif_n (fun y => nk y.1) }; { rw [if_neg e]; exact cif_n nk } }; { exact cy_0 u.1 u.2 }); unfold paY; rw [if_neg (by omega), if_neg (by omega), show x25 = a7 + 1 by omega, sumN_s (by omega), cz, Int.add_zero]) -- o20 e5i.2
              · exact fr -- o21 e5i.3
            · (first | (exact x16) | (first | assumption | omega | ((try dsimp only [jt2, jt3, jt4]); first | omega | (simp (disch := omega) only [jst_eq, jst_ne, jst_ni, jst_o, jI_i, jcpy_out, w32_id, jdiv_nn, jshr_k, jand_255] <;> first | done | omega | assumption)) | (intros; simp (disch := omega) only [jst_eq, jst_ne, jst_ni, jst_o, jI_i, jcpy_out, w32_id, jdiv_nn, *] <;> first | done | omega) | (intros; simp (disch := omega) only [jst_eq, jst_ne, jst_ni, jst_o, jI_i, jcpy_out, w32_id, jdiv_nn] at * <;> first | done | omega | assumption) | (intros; first | rfl | (exfalso; omega) | ((repeat' apply And.intro) <;> first | assumption | rfl | omega | trivial)))) -- o22 e5m
          · skip
            try simp (disch := omega) only [jst_eq, jst_ne, jst_ni, jI_i, jcmp_lt, jcmp_gt, w32_id, jcpy_out, Sum.elim_inl, Sum.elim_inr, jt2, jt3, jt4, jt5, jt6, jt7, jt8] at c6
            refine OK_jg (by (first | (exact x16) | (first | assumption | omega | ((try dsimp only [jt2, jt3, jt4]); first | omega | (simp (disch := omega) only [jst_eq, jst_ne, jst_ni, jst_o, jI_i, jcpy_out, w32_id, jdiv_nn, jshr_k, jand_255] <;> first | done | omega | assumption)) | (intros; simp (disch := omega) only [jst_eq, jst_ne, jst_ni, jst_o, jI_i, jcpy_out, w32_id, jdiv_nn, *] <;> first | done | omega) | (intros; simp (disch := omega) only [jst_eq, jst_ne, jst_ni, jst_o, jI_i, jcpy_out, w32_id, jdiv_nn] at * <;> first | done | omega | assumption) | (intros; first | rfl | (exfalso; omega) | ((repeat' apply And.intro) <;> first | assumption | rfl | omega | trivial))))) ?_ -- o23
            refine OK_jg (by (first | (exact x16) | (first | assumption | omega | ((try dsimp only [jt2, jt3, jt4]); first | omega | (simp (disch := omega) only [jst_eq, jst_ne, jst_ni, jst_o, jI_i, jcpy_out, w32_id, jdiv_nn, jshr_k, jand_255] <;> first | done | omega | assumption)) | (intros; simp (disch := omega) only [jst_eq, jst_ne, jst_ni, jst_o, jI_i, jcpy_out, w32_id, jdiv_nn, *] <;> first | done | omega) | (intros; simp (disch := omega) only [jst_eq, jst_ne, jst_ni, jst_o, jI_i, jcpy_out, w32_id, jdiv_nn] at * <;> first | done | omega | assumption) | (intros; first | rfl | (exfalso; omega) | ((repeat' apply And.intro) <;> first | assumption | rfl | omega | trivial))))) ?_ -- o24
            refine OK_jg (by (first | (exact x16) | (first | assumption | omega | ((try dsimp only [jt2, jt3, jt4]); first | omega | (simp (disch := omega) only [jst_eq, jst_ne, jst_ni, jst_o, jI_i, jcpy_out, w32_id, jdiv_nn, jshr_k, jand_255] <;> first | done | omega | assumption)) | (intros; simp (disch := omega) only [jst_eq, jst_ne, jst_ni, jst_o, jI_i, jcpy_out, w32_id, jdiv_nn, *] <;> first | done | omega) | (intros; simp (disch := omega) only [jst_eq, jst_ne, jst_ni, jst_o, jI_i, jcpy_out, w32_id, jdiv_nn] at * <;> first | done | omega | assumption) | (intros; first | rfl | (exfalso; omega) | ((repeat' apply And.intro) <;> first | assumption | rfl | omega | trivial))))) ?_ -- o25
            refine OK_if (fun c7 => ?_) (fun c7 => ?_)
            · skip
              try simp (disch := omega) only [jst_eq, jst_ne, jst_ni, jI_i, jcmp_lt, jcmp_gt, w32_id, jcpy_out, Sum.elim_inl, Sum.elim_inr, jt2, jt3, jt4, jt5, jt6, jt7, jt8] at c7
              refine OK_mono (vX14_reckonAll_j151_86 (E := E) (Rf := Rf) (W := W) (K := K) (tp := tp) (p := p) (T := T) (n := n) (r0 := fun f => r0 f + paY E W (kP K) (LV E W (kP K) (kA K) n) (ct E W (kP K) (kA K)) i4 i3 i6 a7 f) _ _ _ _ _ _ (by exact q1) (by exact ia) (by exact ⟨ox, Or.inr ⟨by omega, by omega, by omega, by (rcases io3 with u | u; { omega }; { exact u.2 })⟩⟩)) (fun r r5 => ?_)
              rcases r with r | r
              · skip
                have r6 := r5; clear r5; dsimp only [Sum.elim_inl, Sum.elim_inr] at r6
                obtain ⟨y3, y4⟩ := r
                try dsimp only [Sum.elim_inl, Sum.elim_inr, jt2, jt3, jt4, jt5, jt6, jt7, jt8] at r6
                obtain ⟨nx4, ms4, fs4⟩ := r6
                try simp (disch := omega) only [jst_eq, jst_ne, jst_ni, jI_i, jcmp_lt, jcmp_gt, w32_id, jcpy_out, Sum.elim_inl, Sum.elim_inr, jt2, jt3, jt4, jt5, jt6, jt7, jt8] at nx4
                try simp (disch := omega) only [jst_eq, jst_ne, jst_ni, jI_i, jcmp_lt, jcmp_gt, w32_id, jcpy_out, Sum.elim_inl, Sum.elim_inr, jt2, jt3, jt4, jt5, jt6, jt7, jt8] at ms4
                try simp (disch := omega) only [jst_eq, jst_ne, jst_ni, jI_i, jcmp_lt, jcmp_gt, w32_id, jcpy_out, Sum.elim_inl, Sum.elim_inr, jt2, jt3, jt4, jt5, jt6, jt7, jt8] at fs4
                try dsimp only [Sum.elim_inl, Sum.elim_inr, jt2, jt3, jt4, jt5, jt6, jt7, jt8]
                refine ⟨?_, ?_⟩
                · try dsimp only [Sum.elim_inl, Sum.elim_inr, jt2, jt3, jt4, jt5, jt6, jt7, jt8]
                  refine ⟨?_, ?_, ?_⟩
                  · (unfold lnY; omega) -- o29 e6i.1
                  · (refine MS_c ms4 (fun f f0 f1 => ?_); rw [oneC_y (by omega) (by omega) (by rcases KZ with u | u; { exact Or.inl (by (rw [u]; rcases io3 with v | v; { omega }; { exact v.2 })) }; { exact Or.inr u }) (by omega)]; unfold paY; rw [if_neg (by omega), if_neg (by omega), show y3 = a7 + 1 by omega, sumN_s (by omega), Int.add_assoc]) -- o30 e6i.2
                  · exact ⟨fQ_t fr.1 fs4.1, fs4.2⟩ -- o31 e6i.3
                · (first | (exact x16) | (first | assumption | omega | ((try dsimp only [jt2, jt3, jt4]); first | omega | (simp (disch := omega) only [jst_eq, jst_ne, jst_ni, jst_o, jI_i, jcpy_out, w32_id, jdiv_nn, jshr_k, jand_255] <;> first | done | omega | assumption)) | (intros; simp (disch := omega) only [jst_eq, jst_ne, jst_ni, jst_o, jI_i, jcpy_out, w32_id, jdiv_nn, *] <;> first | done | omega) | (intros; simp (disch := omega) only [jst_eq, jst_ne, jst_ni, jst_o, jI_i, jcpy_out, w32_id, jdiv_nn] at * <;> first | done | omega | assumption) | (intros; first | rfl | (exfalso; omega) | ((repeat' apply And.intro) <;> first | assumption | rfl | omega | trivial)))) -- o32 e6m
              · skip
                have r7 := r5; clear r5; dsimp only [Sum.elim_inl, Sum.elim_inr] at r7
                try dsimp only [Sum.elim_inl, Sum.elim_inr, jt2, jt3, jt4, jt5, jt6, jt7, jt8] at r7
                have no5 := r7
                clear r7
                try simp (disch := omega) only [jst_eq, jst_ne, jst_ni, jI_i, jcmp_lt, jcmp_gt, w32_id, jcpy_out, Sum.elim_inl, Sum.elim_inr, jt2, jt3, jt4, jt5, jt6, jt7, jt8] at no5
                try dsimp only [Sum.elim_inl, Sum.elim_inr, jt2, jt3, jt4, jt5, jt6, jt7, jt8]
                try dsimp only [Sum.elim_inl, Sum.elim_inr, jt2, jt3, jt4, jt5, jt6, jt7, jt8]
                refine ⟨?_, ?_⟩
                · (first | (exact x16) | (first | assumption | omega | ((try dsimp only [jt2, jt3, jt4]); first | omega | (simp (disch := omega) only [jst_eq, jst_ne, jst_ni, jst_o, jI_i, jcpy_out, w32_id, jdiv_nn, jshr_k, jand_255] <;> first | done | omega | assumption)) | (intros; simp (disch := omega) only [jst_eq, jst_ne, jst_ni, jst_o, jI_i, jcpy_out, w32_id, jdiv_nn, *] <;> first | done | omega) | (intros; simp (disch := omega) only [jst_eq, jst_ne, jst_ni, jst_o, jI_i, jcpy_out, w32_id, jdiv_nn] at * <;> first | done | omega | assumption) | (intros; first | rfl | (exfalso; omega) | ((repeat' apply And.intro) <;> first | assumption | rfl | omega | trivial)))) -- o33 e7.1
                · (first | (exact x16) | (first | assumption | omega | ((try dsimp only [jt2, jt3, jt4]); first | omega | (simp (disch := omega) only [jst_eq, jst_ne, jst_ni, jst_o, jI_i, jcpy_out, w32_id, jdiv_nn, jshr_k, jand_255] <;> first | done | omega | assumption)) | (intros; simp (disch := omega) only [jst_eq, jst_ne, jst_ni, jst_o, jI_i, jcpy_out, w32_id, jdiv_nn, *] <;> first | done | omega) | (intros; simp (disch := omega) only [jst_eq, jst_ne, jst_ni, jst_o, jI_i, jcpy_out, w32_id, jdiv_nn] at * <;> first | done | omega | assumption) | (intros; first | rfl | (exfalso; omega) | ((repeat' apply And.intro) <;> first | assumption | rfl | omega | trivial)))) -- o34 e7.2
            · skip
              try simp (disch := omega) only [jst_eq, jst_ne, jst_ni, jI_i, jcmp_lt, jcmp_gt, w32_id, jcpy_out, Sum.elim_inl, Sum.elim_inr, jt2, jt3, jt4, jt5, jt6, jt7, jt8] at c7
              unfold gX14_reckonAll_j290_86
              refine OK_jlx (fun x25 ex25 => ?_)
              try simp (disch := omega) only [jst_eq, jst_ne, jst_ni, jI_i, jcmp_lt, jcmp_gt, w32_id, jcpy_out, Sum.elim_inl, Sum.elim_inr, jt2, jt3, jt4, jt5, jt6, jt7, jt8] at ex25
              refine OK_il ?_ ?_
              · try dsimp only [Sum.elim_inl, Sum.elim_inr, jt2, jt3, jt4, jt5, jt6, jt7, jt8]
                refine ⟨?_, ?_, ?_⟩
                · (unfold lnY; omega) -- o35 e8i.1
                · (refine MS_c q1 (fun f f0 f1 => ?_); have cz : cyC E W (kP K) (LV E W (kP K) (kA K) n) (ct E W (kP K) (kA K)) i4 i3 i6 f a7 = 0 := (cy_0 (w2_zT tq ox.1 (by omega) (by omega) (Or.inr (Or.inr (by omega)))) (fun z z0 => by (by_cases u : w3C (ct E W (kP K) (kA K)) i3 i6 a7 z = 0; { exact u }; { have s := w3_sup tq.1 ox.1 (y := a7) (z := z) (by omega) z0 (by omega) u; have q6 := (tq.2.1.2 i6 ox.1 s.1).2.1; have q7 := (tq.2.1.2 a7 (by omega) s.2.1).2.1; omega }))); unfold paY; rw [if_neg (by omega), if_neg (by omega), show x25 = a7 + 1 by omega, sumN_s (by omega), cz, Int.add_zero]) -- o36 e8i.2
                · exact fr -- o37 e8i.3
              · (first | (exact x16) | (first | assumption | omega | ((try dsimp only [jt2, jt3, jt4]); first | omega | (simp (disch := omega) only [jst_eq, jst_ne, jst_ni, jst_o, jI_i, jcpy_out, w32_id, jdiv_nn, jshr_k, jand_255] <;> first | done | omega | assumption)) | (intros; simp (disch := omega) only [jst_eq, jst_ne, jst_ni, jst_o, jI_i, jcpy_out, w32_id, jdiv_nn, *] <;> first | done | omega) | (intros; simp (disch := omega) only [jst_eq, jst_ne, jst_ni, jst_o, jI_i, jcpy_out, w32_id, jdiv_nn] at * <;> first | done | omega | assumption) | (intros; first | rfl | (exfalso; omega) | ((repeat' apply And.intro) <;> first | assumption | rfl | omega | trivial)))) -- o38 e8m
  · try dsimp only [Sum.elim_inl, Sum.elim_inr, jt2, jt3, jt4, jt5, jt6, jt7, jt8]
    refine ⟨?_, ?_, ?_⟩
    · (have l := LV_0 (E := E) (W := W) (pts := kP K) (A := kA K) p; unfold lnY; omega) -- o39 init.1
    · (refine MS_c ms (fun f f0 f1 => ?_); have pz : paY E W (kP K) (LV E W (kP K) (kA K) n) (ct E W (kP K) (kA K)) i4 i3 i6 a70 f = 0 := (by unfold paY; rcases z with z | z; { rw [if_pos (by omega), if_neg (by omega)] }; { rw [if_neg (by omega), z.2]; rfl }); rw [pz, Int.add_zero]) -- o40 init.2
    · exact ⟨fQ_r _, ms.1.2.2⟩ -- o41 init.3
theorem three_x {E : EV} {W : Int → Int → Int → VW} {pts : Int} {L : TB} {c : Int → Int → Int} {ac left x f : Int} (k : L.2.1 x = eK E ac 0 ∨ (c left x = 0 ∧ (∀ y, 0 ≤ y → w2C c left x y = 0) ∧ ∀ y z, 0 ≤ y → 0 ≤ z → w3C c left x y z = 0)) : threeC E W pts L c ac left x f = cxC E W pts L c ac left f x := by
  unfold threeC cxC
  by_cases e : eO E ac = 1
  · rw [if_pos e, if_pos e]
    unfold twoC oneC wyC
    rw [if_neg (by omega), if_neg (by decide)]
    rcases k with k | k
    · by_cases e : ixC E W pts L ac x (-1) (-1) = f
      · rw [cif_y e, cif_y ⟨k, e⟩]
      · rw [cif_n e, cif_n (fun u => e u.2)]
    · rw [k.1, cif_00, cif_00]
  · rw [if_neg e, if_neg e]
    rcases k with k | k
    · rw [cif_y k]
    · rw [sumN_0 (fun y y0 _ => cy_0 (k.2.1 y y0) (fun z z0 => k.2.2 y z y0 z0)), cif_00]
theorem vX14_reckonAll_l35 (i2 : Int) (i3 : Int) (i4 : Int) (i5 : Int) (a60 : Int) {h0 : AH} {E : EV} {Rf : Int → TR} {W : Int → Int → Int → VW} {K : AK} {tp : Int} {p : Nat} {T : TB} {n : Nat} {r0 : Int → Int} (ms : mSt h0 E Rf W K tp p T n r0) (ia : iaM E W K p n i2 i3 i4 ∧ eO E i4 = i5) (z : a60 = 0) : OK (gX14_reckonAll_l35 i2 i3 i4 i5 a60 h0) (fun h' => (mSt h' E Rf W K tp p T n (fun f => r0 f + sumN (cxC E W (kP K) (LV E W (kP K) (kA K) n) (ct E W (kP K) (kA K)) i4 i3 f) (LV E W (kP K) (kA K) n).1.toNat)) ∧ (fQ h0 h' ∧ b20 h')) := by
  unfold gX14_reckonAll_l35
  refine OK_jit (I := (fun (s : Int × AH) => jt2 s fun a6 h => (0 ≤ a6 ∧ a6 ≤ (LV E W (kP K) (kA K) p).1) ∧ (mSt h E Rf W K tp p T n (fun f => r0 f + sumN (cxC E W (kP K) (LV E W (kP K) (kA K) n) (ct E W (kP K) (kA K)) i4 i3 f) a6.toNat)) ∧ (fQ h0 h ∧ b20 h))) (m := (fun (s : Int × AH) => jt2 s fun a6 h => ((LV E W (kP K) (kA K) p).1 - a6).toNat)) ?_ ?_
  · intro s hs
    obtain ⟨a6, h⟩ := s
    dsimp only [Sum.elim_inl, Sum.elim_inr, jt2, jt3, jt4, jt5, jt6, jt7, jt8] at hs
    obtain ⟨q0, q1, fr⟩ := hs
    unfold gX14_reckonAll_b35
    refine OK_jt2 ?_
    have IA := ia.1
    obtain ⟨tq, ds, L120, qn, ac, eo, k, k0, ka, kl, kp, kn⟩ := ia.1
    have eo5 := ia.2
    have n12 := tq.1.1
    have x16 := (akM_0 q1.1).1.1
    have e44 := q1.2.2.1.1
    have l0 := LV_0 (E := E) (W := W) (pts := kP K) (A := kA K) p
    have ex0 := tq.2.1.1
    refine OK_if (fun c1 => ?_) (fun c1 => ?_)
    · skip
      try simp (disch := omega) only [jst_eq, jst_ne, jst_ni, jI_i, jcmp_lt, jcmp_gt, w32_id, jcpy_out, Sum.elim_inl, Sum.elim_inr, jt2, jt3, jt4, jt5, jt6, jt7, jt8] at c1
      refine OK_ir ?_
      try dsimp only [Sum.elim_inl, Sum.elim_inr, jt2, jt3, jt4, jt5, jt6, jt7, jt8]
      refine ⟨?_, ?_⟩
      · (refine MS_c q1 (fun f f0 f1 => ?_); rw [sumN_ex (g := cxC E W (kP K) (LV E W (kP K) (kA K) n) (ct E W (kP K) (kA K)) i4 i3 f) (m := a6.toNat) (n := (LV E W (kP K) (kA K) n).1.toNat) (fun j a b => by omega) (fun j a b => cx_0 (ct_zT tq (by omega) (by omega) (Or.inl (by omega))) (fun y y0 => w2_zT tq (by omega) y0 (by omega) (Or.inl (by omega))) (fun y z y0 z0 => w3_zT tq (by omega) y0 z0 (by omega) (Or.inl (by omega))))]) -- o1 e1.1
      · (first | (exact q1) | (exact ia) | (exact ⟨q0.1, by omega, by (rcases io1 with u | u; { omega }; { exact u.2 })⟩) | (exact Or.inl ⟨by omega, rfl⟩) | (exact Or.inr ⟨by omega, rfl⟩) | (exact x16) | (exact fr) | ((refine MS_c q1 (fun f f0 f1 => ?_); have cz : cxC E W (kP K) (LV E W (kP K) (kA K) n) (ct E W (kP K) (kA K)) i4 i3 f a6 = 0 := (by rcases KZ with u | u; { have nk : ¬ (LV E W (kP K) (kA K) n).2.1 a6 = eK E i4 0 := (fun y => by (rw [u] at y; rcases io1 with v | v; { exact v.2 y }; { omega })); unfold cxC; by_cases e : eO E i4 = 1; { rw [if_pos e]; exact cif_n (fun y => nk y.1) }; { rw [if_neg e]; exact cif_n nk } }; { exact cx_0 u.1 u.2.1 u.2.2 }); rw [show x12 = a6 + 1 by omega, sumN_s (by omega), cz, Int.add_zero])) | ((refine MS_c (by first | exact ms2 | exact ms3) (fun f f0 f1 => ?_); rw [three_x (by rcases KZ with u | u; { exact Or.inl (by (rw [u]; rcases io1 with v | v; { omega }; { exact v.2 })) }; { exact Or.inr u }), show x12 = a6 + 1 by omega, sumN_s (by omega), Int.add_assoc])) | ((first | exact ⟨fQ_t fr.1 fs2.1, fs2.2⟩ | exact ⟨fQ_t fr.1 fs3.1, fs3.2⟩)) | (first | assumption | omega | ((try dsimp only [jt2, jt3, jt4]); first | omega | (simp (disch := omega) only [jst_eq, jst_ne, jst_ni, jst_o, jI_i, jcpy_out, w32_id, jdiv_nn, jshr_k, jand_255] <;> first | done | omega | assumption)) | (intros; simp (disch := omega) only [jst_eq, jst_ne, jst_ni, jst_o, jI_i, jcpy_out, w32_id, jdiv_nn, *] <;> first | done | omega) | (intros; simp (disch := omega) only [jst_eq, jst_ne, jst_ni, jst_o, jI_i, jcpy_out, w32_id, jdiv_nn] at * <;> first | done | omega | assumption) | (intros; first | rfl | (exfalso; omega) | ((repeat' apply And.intro) <;> first | assumption | rfl | omega | trivial)))) -- o2 e1.2
    · skip
      try simp (disch := omega) only [jst_eq, jst_ne, jst_ni, jI_i, jcmp_lt, jcmp_gt, w32_id, jcpy_out, Sum.elim_inl, Sum.elim_inr, jt2, jt3, jt4, jt5, jt6, jt7, jt8] at c1
      have W6 := MT_w q1.2.1 (a := a6) q0.1 (by omega)
      have T6 := tq.2.2.2 a6 q0.1 (by omega)
      have wx : w32 (a6 + 1) = a6 + 1 := w32_id (by omega) (by omega)
      have KZ : (LV E W (kP K) (kA K) n).2.1 a6 = (LV E W (kP K) (kA K) p).2.1 a6 ∨ (ct E W (kP K) (kA K) i3 a6 = 0 ∧ (∀ y, 0 ≤ y → w2C (ct E W (kP K) (kA K)) i3 a6 y = 0) ∧ ∀ y z, 0 ≤ y → 0 ≤ z → w3C (ct E W (kP K) (kA K)) i3 a6 y z = 0) := kz_x tq q0.1 (by omega)
      refine OK_jb (vIsOf (E := E) (Rf := Rf) (W := W) (K := K) (tp := tp) (p := p) (T := T) _ _ _ (by exact q1.1) (by exact q1.2.1) (by exact ⟨q0.1, by omega⟩) (by exact ac) (by omega)) (fun v8 r1 => ?_)
      try dsimp only [Sum.elim_inl, Sum.elim_inr, jt2, jt3, jt4, jt5, jt6, jt7, jt8] at r1
      have io1 := r1
      clear r1
      try simp (disch := omega) only [jst_eq, jst_ne, jst_ni, jI_i, jcmp_lt, jcmp_gt, w32_id, jcpy_out, Sum.elim_inl, Sum.elim_inr, jt2, jt3, jt4, jt5, jt6, jt7, jt8] at io1
      refine OK_if (fun c2 => ?_) (fun c2 => ?_)
      · skip
        try simp (disch := omega) only [jst_eq, jst_ne, jst_ni, jI_i, jcmp_lt, jcmp_gt, w32_id, jcpy_out, Sum.elim_inl, Sum.elim_inr, jt2, jt3, jt4, jt5, jt6, jt7, jt8] at c2
        unfold gX14_reckonAll_j296_35
        refine OK_jlx (fun x12 ex12 => ?_)
        try simp (disch := omega) only [jst_eq, jst_ne, jst_ni, jI_i, jcmp_lt, jcmp_gt, w32_id, jcpy_out, Sum.elim_inl, Sum.elim_inr, jt2, jt3, jt4, jt5, jt6, jt7, jt8] at ex12
        refine OK_il ?_ ?_
        · try dsimp only [Sum.elim_inl, Sum.elim_inr, jt2, jt3, jt4, jt5, jt6, jt7, jt8]
          refine ⟨?_, ?_, ?_⟩
          · (first | (exact q1) | (exact ia) | (exact ⟨q0.1, by omega, by (rcases io1 with u | u; { omega }; { exact u.2 })⟩) | (exact Or.inl ⟨by omega, rfl⟩) | (exact Or.inr ⟨by omega, rfl⟩) | (exact x16) | (exact fr) | ((refine MS_c q1 (fun f f0 f1 => ?_); have cz : cxC E W (kP K) (LV E W (kP K) (kA K) n) (ct E W (kP K) (kA K)) i4 i3 f a6 = 0 := (by rcases KZ with u | u; { have nk : ¬ (LV E W (kP K) (kA K) n).2.1 a6 = eK E i4 0 := (fun y => by (rw [u] at y; rcases io1 with v | v; { exact v.2 y }; { omega })); unfold cxC; by_cases e : eO E i4 = 1; { rw [if_pos e]; exact cif_n (fun y => nk y.1) }; { rw [if_neg e]; exact cif_n nk } }; { exact cx_0 u.1 u.2.1 u.2.2 }); rw [show x12 = a6 + 1 by omega, sumN_s (by omega), cz, Int.add_zero])) | ((refine MS_c (by first | exact ms2 | exact ms3) (fun f f0 f1 => ?_); rw [three_x (by rcases KZ with u | u; { exact Or.inl (by (rw [u]; rcases io1 with v | v; { omega }; { exact v.2 })) }; { exact Or.inr u }), show x12 = a6 + 1 by omega, sumN_s (by omega), Int.add_assoc])) | ((first | exact ⟨fQ_t fr.1 fs2.1, fs2.2⟩ | exact ⟨fQ_t fr.1 fs3.1, fs3.2⟩)) | (first | assumption | omega | ((try dsimp only [jt2, jt3, jt4]); first | omega | (simp (disch := omega) only [jst_eq, jst_ne, jst_ni, jst_o, jI_i, jcpy_out, w32_id, jdiv_nn, jshr_k, jand_255] <;> first | done | omega | assumption)) | (intros; simp (disch := omega) only [jst_eq, jst_ne, jst_ni, jst_o, jI_i, jcpy_out, w32_id, jdiv_nn, *] <;> first | done | omega) | (intros; simp (disch := omega) only [jst_eq, jst_ne, jst_ni, jst_o, jI_i, jcpy_out, w32_id, jdiv_nn] at * <;> first | done | omega | assumption) | (intros; first | rfl | (exfalso; omega) | ((repeat' apply And.intro) <;> first | assumption | rfl | omega | trivial)))) -- o8 e2i.1
          · (first | (exact q1) | (exact ia) | (exact ⟨q0.1, by omega, by (rcases io1 with u | u; { omega }; { exact u.2 })⟩) | (exact Or.inl ⟨by omega, rfl⟩) | (exact Or.inr ⟨by omega, rfl⟩) | (exact x16) | (exact fr) | ((refine MS_c q1 (fun f f0 f1 => ?_); have cz : cxC E W (kP K) (LV E W (kP K) (kA K) n) (ct E W (kP K) (kA K)) i4 i3 f a6 = 0 := (by rcases KZ with u | u; { have nk : ¬ (LV E W (kP K) (kA K) n).2.1 a6 = eK E i4 0 := (fun y => by (rw [u] at y; rcases io1 with v | v; { exact v.2 y }; { omega })); unfold cxC; by_cases e : eO E i4 = 1; { rw [if_pos e]; exact cif_n (fun y => nk y.1) }; { rw [if_neg e]; exact cif_n nk } }; { exact cx_0 u.1 u.2.1 u.2.2 }); rw [show x12 = a6 + 1 by omega, sumN_s (by omega), cz, Int.add_zero])) | ((refine MS_c (by first | exact ms2 | exact ms3) (fun f f0 f1 => ?_); rw [three_x (by rcases KZ with u | u; { exact Or.inl (by (rw [u]; rcases io1 with v | v; { omega }; { exact v.2 })) }; { exact Or.inr u }), show x12 = a6 + 1 by omega, sumN_s (by omega), Int.add_assoc])) | ((first | exact ⟨fQ_t fr.1 fs2.1, fs2.2⟩ | exact ⟨fQ_t fr.1 fs3.1, fs3.2⟩)) | (first | assumption | omega | ((try dsimp only [jt2, jt3, jt4]); first | omega | (simp (disch := omega) only [jst_eq, jst_ne, jst_ni, jst_o, jI_i, jcpy_out, w32_id, jdiv_nn, jshr_k, jand_255] <;> first | done | omega | assumption)) | (intros; simp (disch := omega) only [jst_eq, jst_ne, jst_ni, jst_o, jI_i, jcpy_out, w32_id, jdiv_nn, *] <;> first | done | omega) | (intros; simp (disch := omega) only [jst_eq, jst_ne, jst_ni, jst_o, jI_i, jcpy_out, w32_id, jdiv_nn] at * <;> first | done | omega | assumption) | (intros; first | rfl | (exfalso; omega) | ((repeat' apply And.intro) <;> first | assumption | rfl | omega | trivial)))) -- o9 e2i.2
          · (first | (exact q1) | (exact ia) | (exact ⟨q0.1, by omega, by (rcases io1 with u | u; { omega }; { exact u.2 })⟩) | (exact Or.inl ⟨by omega, rfl⟩) | (exact Or.inr ⟨by omega, rfl⟩) | (exact x16) | (exact fr) | ((refine MS_c q1 (fun f f0 f1 => ?_); have cz : cxC E W (kP K) (LV E W (kP K) (kA K) n) (ct E W (kP K) (kA K)) i4 i3 f a6 = 0 := (by rcases KZ with u | u; { have nk : ¬ (LV E W (kP K) (kA K) n).2.1 a6 = eK E i4 0 := (fun y => by (rw [u] at y; rcases io1 with v | v; { exact v.2 y }; { omega })); unfold cxC; by_cases e : eO E i4 = 1; { rw [if_pos e]; exact cif_n (fun y => nk y.1) }; { rw [if_neg e]; exact cif_n nk } }; { exact cx_0 u.1 u.2.1 u.2.2 }); rw [show x12 = a6 + 1 by omega, sumN_s (by omega), cz, Int.add_zero])) | ((refine MS_c (by first | exact ms2 | exact ms3) (fun f f0 f1 => ?_); rw [three_x (by rcases KZ with u | u; { exact Or.inl (by (rw [u]; rcases io1 with v | v; { omega }; { exact v.2 })) }; { exact Or.inr u }), show x12 = a6 + 1 by omega, sumN_s (by omega), Int.add_assoc])) | ((first | exact ⟨fQ_t fr.1 fs2.1, fs2.2⟩ | exact ⟨fQ_t fr.1 fs3.1, fs3.2⟩)) | (first | assumption | omega | ((try dsimp only [jt2, jt3, jt4]); first | omega | (simp (disch := omega) only [jst_eq, jst_ne, jst_ni, jst_o, jI_i, jcpy_out, w32_id, jdiv_nn, jshr_k, jand_255] <;> first | done | omega | assumption)) | (intros; simp (disch := omega) only [jst_eq, jst_ne, jst_ni, jst_o, jI_i, jcpy_out, w32_id, jdiv_nn, *] <;> first | done | omega) | (intros; simp (disch := omega) only [jst_eq, jst_ne, jst_ni, jst_o, jI_i, jcpy_out, w32_id, jdiv_nn] at * <;> first | done | omega | assumption) | (intros; first | rfl | (exfalso; omega) | ((repeat' apply And.intro) <;> first | assumption | rfl | omega | trivial)))) -- o10 e2i.3
        · (first | (exact q1) | (exact ia) | (exact ⟨q0.1, by omega, by (rcases io1 with u | u; { omega }; { exact u.2 })⟩) | (exact Or.inl ⟨by omega, rfl⟩) | (exact Or.inr ⟨by omega, rfl⟩) | (exact x16) | (exact fr) | ((refine MS_c q1 (fun f f0 f1 => ?_); have cz : cxC E W (kP K) (LV E W (kP K) (kA K) n) (ct E W (kP K) (kA K)) i4 i3 f a6 = 0 := (by rcases KZ with u | u; { have nk : ¬ (LV E W (kP K) (kA K) n).2.1 a6 = eK E i4 0 := (fun y => by (rw [u] at y; rcases io1 with v | v; { exact v.2 y }; { omega })); unfold cxC; by_cases e : eO E i4 = 1; { rw [if_pos e]; exact cif_n (fun y => nk y.1) }; { rw [if_neg e]; exact cif_n nk } }; { exact cx_0 u.1 u.2.1 u.2.2 }); rw [show x12 = a6 + 1 by omega, sumN_s (by omega), cz, Int.add_zero])) | ((refine MS_c (by first | exact ms2 | exact ms3) (fun f f0 f1 => ?_); rw [three_x (by rcases KZ with u | u; { exact Or.inl (by (rw [u]; rcases io1 with v | v; { omega }; { exact v.2 })) }; { exact Or.inr u }), show x12 = a6 + 1 by omega, sumN_s (by omega), Int.add_assoc])) | ((first | exact ⟨fQ_t fr.1 fs2.1, fs2.2⟩ | exact ⟨fQ_t fr.1 fs3.1, fs3.2⟩)) | (first | assumption | omega | ((try dsimp only [jt2, jt3, jt4]); first | omega | (simp (disch := omega) only [jst_eq, jst_ne, jst_ni, jst_o, jI_i, jcpy_out, w32_id, jdiv_nn, jshr_k, jand_255] <;> first | done | omega | assumption)) | (intros; simp (disch := omega) only [jst_eq, jst_ne, jst_ni, jst_o, jI_i, jcpy_out, w32_id, jdiv_nn, *] <;> first | done | omega) | (intros; simp (disch := omega) only [jst_eq, jst_ne, jst_ni, jst_o, jI_i, jcpy_out, w32_id, jdiv_nn] at * <;> first | done | omega | assumption) | (intros; first | rfl | (exfalso; omega) | ((repeat' apply And.intro) <;> first | assumption | rfl | omega | trivial)))) -- o11 e2m
      · skip
        try simp (disch := omega) only [jst_eq, jst_ne, jst_ni, jI_i, jcmp_lt, jcmp_gt, w32_id, jcpy_out, Sum.elim_inl, Sum.elim_inr, jt2, jt3, jt4, jt5, jt6, jt7, jt8] at c2
        refine OK_jg (by (first | (exact q1) | (exact ia) | (exact ⟨q0.1, by omega, by (rcases io1 with u | u; { omega }; { exact u.2 })⟩) | (exact Or.inl ⟨by omega, rfl⟩) | (exact Or.inr ⟨by omega, rfl⟩) | (exact x16) | (exact fr) | ((refine MS_c q1 (fun f f0 f1 => ?_); have cz : cxC E W (kP K) (LV E W (kP K) (kA K) n) (ct E W (kP K) (kA K)) i4 i3 f a6 = 0 := (by rcases KZ with u | u; { have nk : ¬ (LV E W (kP K) (kA K) n).2.1 a6 = eK E i4 0 := (fun y => by (rw [u] at y; rcases io1 with v | v; { exact v.2 y }; { omega })); unfold cxC; by_cases e : eO E i4 = 1; { rw [if_pos e]; exact cif_n (fun y => nk y.1) }; { rw [if_neg e]; exact cif_n nk } }; { exact cx_0 u.1 u.2.1 u.2.2 }); rw [show x12 = a6 + 1 by omega, sumN_s (by omega), cz, Int.add_zero])) | ((refine MS_c (by first | exact ms2 | exact ms3) (fun f f0 f1 => ?_); rw [three_x (by rcases KZ with u | u; { exact Or.inl (by (rw [u]; rcases io1 with v | v; { omega }; { exact v.2 })) }; { exact Or.inr u }), show x12 = a6 + 1 by omega, sumN_s (by omega), Int.add_assoc])) | ((first | exact ⟨fQ_t fr.1 fs2.1, fs2.2⟩ | exact ⟨fQ_t fr.1 fs3.1, fs3.2⟩)) | (first | assumption | omega | ((try dsimp only [jt2, jt3, jt4]); first | omega | (simp (disch := omega) only [jst_eq, jst_ne, jst_ni, jst_o, jI_i, jcpy_out, w32_id, jdiv_nn, jshr_k, jand_255] <;> first | done | omega | assumption)) | (intros; simp (disch := omega) only [jst_eq, jst_ne, jst_ni, jst_o, jI_i, jcpy_out, w32_id, jdiv_nn, *] <;> first | done | omega) | (intros; simp (disch := omega) only [jst_eq, jst_ne, jst_ni, jst_o, jI_i, jcpy_out, w32_id, jdiv_nn] at * <;> first | done | omega | assumption) | (intros; first | rfl | (exfalso; omega) | ((repeat' apply And.intro) <;> first | assumption | rfl | omega | trivial))))) ?_ -- o12
        refine OK_jg (by (first | (exact q1) | (exact ia) | (exact ⟨q0.1, by omega, by (rcases io1 with u | u; { omega }; { exact u.2 })⟩) | (exact Or.inl ⟨by omega, rfl⟩) | (exact Or.inr ⟨by omega, rfl⟩) | (exact x16) | (exact fr) | ((refine MS_c q1 (fun f f0 f1 => ?_); have cz : cxC E W (kP K) (LV E W (kP K) (kA K) n) (ct E W (kP K) (kA K)) i4 i3 f a6 = 0 := (by rcases KZ with u | u; { have nk : ¬ (LV E W (kP K) (kA K) n).2.1 a6 = eK E i4 0 := (fun y => by (rw [u] at y; rcases io1 with v | v; { exact v.2 y }; { omega })); unfold cxC; by_cases e : eO E i4 = 1; { rw [if_pos e]; exact cif_n (fun y => nk y.1) }; { rw [if_neg e]; exact cif_n nk } }; { exact cx_0 u.1 u.2.1 u.2.2 }); rw [show x12 = a6 + 1 by omega, sumN_s (by omega), cz, Int.add_zero])) | ((refine MS_c (by first | exact ms2 | exact ms3) (fun f f0 f1 => ?_); rw [three_x (by rcases KZ with u | u; { exact Or.inl (by (rw [u]; rcases io1 with v | v; { omega }; { exact v.2 })) }; { exact Or.inr u }), show x12 = a6 + 1 by omega, sumN_s (by omega), Int.add_assoc])) | ((first | exact ⟨fQ_t fr.1 fs2.1, fs2.2⟩ | exact ⟨fQ_t fr.1 fs3.1, fs3.2⟩)) | (first | assumption | omega | ((try dsimp only [jt2, jt3, jt4]); first | omega | (simp (disch := omega) only [jst_eq, jst_ne, jst_ni, jst_o, jI_i, jcpy_out, w32_id, jdiv_nn, jshr_k, jand_255] <;> first | done | omega | assumption)) | (intros; simp (disch := omega) only [jst_eq, jst_ne, jst_ni, jst_o, jI_i, jcpy_out, w32_id, jdiv_nn, *] <;> first | done | omega) | (intros; simp (disch := omega) only [jst_eq, jst_ne, jst_ni, jst_o, jI_i, jcpy_out, w32_id, jdiv_nn] at * <;> first | done | omega | assumption) | (intros; first | rfl | (exfalso; omega) | ((repeat' apply And.intro) <;> first | assumption | rfl | omega | trivial))))) ?_ -- o13
        refine OK_if (fun c3 => ?_) (fun c3 => ?_)
        · skip
          try simp (disch := omega) only [jst_eq, jst_ne, jst_ni, jI_i, jcmp_lt, jcmp_gt, w32_id, jcpy_out, Sum.elim_inl, Sum.elim_inr, jt2, jt3, jt4, jt5, jt6, jt7, jt8] at c3
          refine OK_if (fun c4 => ?_) (fun c4 => ?_)
          · skip
            try simp (disch := omega) only [jst_eq, jst_ne, jst_ni, jI_i, jcmp_lt, jcmp_gt, w32_id, jcpy_out, Sum.elim_inl, Sum.elim_inr, jt2, jt3, jt4, jt5, jt6, jt7, jt8] at c4
            unfold gX14_reckonAll_j84_35
            refine OK_jb (vX14_reckonAll_l86 (E := E) (Rf := Rf) (W := W) (K := K) (tp := tp) (p := p) (T := T) (n := n) (r0 := fun f => r0 f + sumN (cxC E W (kP K) (LV E W (kP K) (kA K) n) (ct E W (kP K) (kA K)) i4 i3 f) a6.toNat) _ _ _ _ _ _ (by (first | (exact q1) | (exact ia) | (exact ⟨q0.1, by omega, by (rcases io1 with u | u; { omega }; { exact u.2 })⟩) | (exact Or.inl ⟨by omega, rfl⟩) | (exact Or.inr ⟨by omega, rfl⟩) | (exact x16) | (exact fr) | ((refine MS_c q1 (fun f f0 f1 => ?_); have cz : cxC E W (kP K) (LV E W (kP K) (kA K) n) (ct E W (kP K) (kA K)) i4 i3 f a6 = 0 := (by rcases KZ with u | u; { have nk : ¬ (LV E W (kP K) (kA K) n).2.1 a6 = eK E i4 0 := (fun y => by (rw [u] at y; rcases io1 with v | v; { exact v.2 y }; { omega })); unfold cxC; by_cases e : eO E i4 = 1; { rw [if_pos e]; exact cif_n (fun y => nk y.1) }; { rw [if_neg e]; exact cif_n nk } }; { exact cx_0 u.1 u.2.1 u.2.2 }); rw [show x12 = a6 + 1 by omega, sumN_s (by omega), cz, Int.add_zero])) | ((refine MS_c (by first | exact ms2 | exact ms3) (fun f f0 f1 => ?_); rw [three_x (by rcases KZ with u | u; { exact Or.inl (by (rw [u]; rcases io1 with v | v; { omega }; { exact v.2 })) }; { exact Or.inr u }), show x12 = a6 + 1 by omega, sumN_s (by omega), Int.add_assoc])) | ((first | exact ⟨fQ_t fr.1 fs2.1, fs2.2⟩ | exact ⟨fQ_t fr.1 fs3.1, fs3.2⟩)) | (first | assumption | omega | ((try dsimp only [jt2, jt3, jt4]); first | omega | (simp (disch := omega) only [jst_eq, jst_ne, jst_ni, jst_o, jI_i, jcpy_out, w32_id, jdiv_nn, jshr_k, jand_255] <;> first | done | omega | assumption)) | (intros; simp (disch := omega) only [jst_eq, jst_ne, jst_ni, jst_o, jI_i, jcpy_out, w32_id, jdiv_nn, *] <;> first | done | omega) | (intros; simp (disch := omega) only [jst_eq, jst_ne, jst_ni, jst_o, jI_i, jcpy_out, w32_id, jdiv_nn] at * <;> first | done | omega | assumption) | (intros; first | rfl | (exfalso; omega) | ((repeat' apply And.intro) <;> first | assumption | rfl | omega | trivial))))) (by (first | (exact q1) | (exact ia) | (exact ⟨q0.1, by omega, by (rcases io1 with u | u; { omega }; { exact u.2 })⟩) | (exact Or.inl ⟨by omega, rfl⟩) | (exact Or.inr ⟨by omega, rfl⟩) | (exact x16) | (exact fr) | ((refine MS_c q1 (fun f f0 f1 => ?_); have cz : cxC E W (kP K) (LV E W (kP K) (kA K) n) (ct E W (kP K) (kA K)) i4 i3 f a6 = 0 := (by rcases KZ with u | u; { have nk : ¬ (LV E W (kP K) (kA K) n).2.1 a6 = eK E i4 0 := (fun y => by (rw [u] at y; rcases io1 with v | v; { exact v.2 y }; { omega })); unfold cxC; by_cases e : eO E i4 = 1; { rw [if_pos e]; exact cif_n (fun y => nk y.1) }; { rw [if_neg e]; exact cif_n nk } }; { exact cx_0 u.1 u.2.1 u.2.2 }); rw [show x12 = a6 + 1 by omega, sumN_s (by omega), cz, Int.add_zero])) | ((refine MS_c (by first | exact ms2 | exact ms3) (fun f f0 f1 => ?_); rw [three_x (by rcases KZ with u | u; { exact Or.inl (by (rw [u]; rcases io1 with v | v; { omega }; { exact v.2 })) }; { exact Or.inr u }), show x12 = a6 + 1 by omega, sumN_s (by omega), Int.add_assoc])) | ((first | exact ⟨fQ_t fr.1 fs2.1, fs2.2⟩ | exact ⟨fQ_t fr.1 fs3.1, fs3.2⟩)) | (first | assumption | omega | ((try dsimp only [jt2, jt3, jt4]); first | omega | (simp (disch := omega) only [jst_eq, jst_ne, jst_ni, jst_o, jI_i, jcpy_out, w32_id, jdiv_nn, jshr_k, jand_255] <;> first | done | omega | assumption)) | (intros; simp (disch := omega) only [jst_eq, jst_ne, jst_ni, jst_o, jI_i, jcpy_out, w32_id, jdiv_nn, *] <;> first | done | omega) | (intros; simp (disch := omega) only [jst_eq, jst_ne, jst_ni, jst_o, jI_i, jcpy_out, w32_id, jdiv_nn] at * <;> first | done | omega | assumption) | (intros; first | rfl | (exfalso; omega) | ((repeat' apply And.intro) <;> first | assumption | rfl | omega | trivial))))) (by (first | (exact q1) | (exact ia) | (exact ⟨q0.1, by omega, by (rcases io1 with u | u; { omega }; { exact u.2 })⟩) | (exact Or.inl ⟨by omega, rfl⟩) | (exact Or.inr ⟨by omega, rfl⟩) | (exact x16) | (exact fr) | ((refine MS_c q1 (fun f f0 f1 => ?_); have cz : cxC E W (kP K) (LV E W (kP K) (kA K) n) (ct E W (kP K) (kA K)) i4 i3 f a6 = 0 := (by rcases KZ with u | u; { have nk : ¬ (LV E W (kP K) (kA K) n).2.1 a6 = eK E i4 0 := (fun y => by (rw [u] at y; rcases io1 with v | v; { exact v.2 y }; { omega })); unfold cxC; by_cases e : eO E i4 = 1; { rw [if_pos e]; exact cif_n (fun y => nk y.1) }; { rw [if_neg e]; exact cif_n nk } }; { exact cx_0 u.1 u.2.1 u.2.2 }); rw [show x12 = a6 + 1 by omega, sumN_s (by omega), cz, Int.add_zero])) | ((refine MS_c (by first | exact ms2 | exact ms3) (fun f f0 f1 => ?_); rw [three_x (by rcases KZ with u | u; { exact Or.inl (by (rw [u]; rcases io1 with v | v; { omega }; { exact v.2 })) }; { exact Or.inr u }), show x12 = a6 + 1 by omega, sumN_s (by omega), Int.add_assoc])) | ((first | exact ⟨fQ_t fr.1 fs2.1, fs2.2⟩ | exact ⟨fQ_t fr.1 fs3.1, fs3.2⟩)) | (first | assumption | omega | ((try dsimp only [jt2, jt3, jt4]); first | omega | (simp (disch := omega) only [jst_eq, jst_ne, jst_ni, jst_o, jI_i, jcpy_out, w32_id, jdiv_nn, jshr_k, jand_255] <;> first | done | omega | assumption)) | (intros; simp (disch := omega) only [jst_eq, jst_ne, jst_ni, jst_o, jI_i, jcpy_out, w32_id, jdiv_nn, *] <;> first | done | omega) | (intros; simp (disch := omega) only [jst_eq, jst_ne, jst_ni, jst_o, jI_i, jcpy_out, w32_id, jdiv_nn] at * <;> first | done | omega | assumption) | (intros; first | rfl | (exfalso; omega) | ((repeat' apply And.intro) <;> first | assumption | rfl | omega | trivial))))) (by (first | (exact q1) | (exact ia) | (exact ⟨q0.1, by omega, by (rcases io1 with u | u; { omega }; { exact u.2 })⟩) | (exact Or.inl ⟨by omega, rfl⟩) | (exact Or.inr ⟨by omega, rfl⟩) | (exact x16) | (exact fr) | ((refine MS_c q1 (fun f f0 f1 => ?_); have cz : cxC E W (kP K) (LV E W (kP K) (kA K) n) (ct E W (kP K) (kA K)) i4 i3 f a6 = 0 := (by rcases KZ with u | u; { have nk : ¬ (LV E W (kP K) (kA K) n).2.1 a6 = eK E i4 0 := (fun y => by (rw [u] at y; rcases io1 with v | v; { exact v.2 y }; { omega })); unfold cxC; by_cases e : eO E i4 = 1; { rw [if_pos e]; exact cif_n (fun y => nk y.1) }; { rw [if_neg e]; exact cif_n nk } }; { exact cx_0 u.1 u.2.1 u.2.2 }); rw [show x12 = a6 + 1 by omega, sumN_s (by omega), cz, Int.add_zero])) | ((refine MS_c (by first | exact ms2 | exact ms3) (fun f f0 f1 => ?_); rw [three_x (by rcases KZ with u | u; { exact Or.inl (by (rw [u]; rcases io1 with v | v; { omega }; { exact v.2 })) }; { exact Or.inr u }), show x12 = a6 + 1 by omega, sumN_s (by omega), Int.add_assoc])) | ((first | exact ⟨fQ_t fr.1 fs2.1, fs2.2⟩ | exact ⟨fQ_t fr.1 fs3.1, fs3.2⟩)) | (first | assumption | omega | ((try dsimp only [jt2, jt3, jt4]); first | omega | (simp (disch := omega) only [jst_eq, jst_ne, jst_ni, jst_o, jI_i, jcpy_out, w32_id, jdiv_nn, jshr_k, jand_255] <;> first | done | omega | assumption)) | (intros; simp (disch := omega) only [jst_eq, jst_ne, jst_ni, jst_o, jI_i, jcpy_out, w32_id, jdiv_nn, *] <;> first | done | omega) | (intros; simp (disch := omega) only [jst_eq, jst_ne, jst_ni, jst_o, jI_i, jcpy_out, w32_id, jdiv_nn] at * <;> first | done | omega | assumption) | (intros; first | rfl | (exfalso; omega) | ((repeat' apply And.intro) <;> first | assumption | rfl | omega | trivial)))))) (fun o13 r2 => ?_)
            try dsimp only [Sum.elim_inl, Sum.elim_inr, jt2, jt3, jt4, jt5, jt6, jt7, jt8] at r2
            obtain ⟨ms2, fs2⟩ := r2
            try simp (disch := omega) only [jst_eq, jst_ne, jst_ni, jI_i, jcmp_lt, jcmp_gt, w32_id, jcpy_out, Sum.elim_inl, Sum.elim_inr, jt2, jt3, jt4, jt5, jt6, jt7, jt8] at ms2
            try simp (disch := omega) only [jst_eq, jst_ne, jst_ni, jI_i, jcmp_lt, jcmp_gt, w32_id, jcpy_out, Sum.elim_inl, Sum.elim_inr, jt2, jt3, jt4, jt5, jt6, jt7, jt8] at fs2
            unfold gX14_reckonAll_j296_35
            refine OK_jlx (fun x12 ex12 => ?_)
            try simp (disch := omega) only [jst_eq, jst_ne, jst_ni, jI_i, jcmp_lt, jcmp_gt, w32_id, jcpy_out, Sum.elim_inl, Sum.elim_inr, jt2, jt3, jt4, jt5, jt6, jt7, jt8] at ex12
            refine OK_il ?_ ?_
            · try dsimp only [Sum.elim_inl, Sum.elim_inr, jt2, jt3, jt4, jt5, jt6, jt7, jt8]
              refine ⟨?_, ?_, ?_⟩
              · (first | (exact q1) | (exact ia) | (exact ⟨q0.1, by omega, by (rcases io1 with u | u; { omega }; { exact u.2 })⟩) | (exact Or.inl ⟨by omega, rfl⟩) | (exact Or.inr ⟨by omega, rfl⟩) | (exact x16) | (exact fr) | ((refine MS_c q1 (fun f f0 f1 => ?_); have cz : cxC E W (kP K) (LV E W (kP K) (kA K) n) (ct E W (kP K) (kA K)) i4 i3 f a6 = 0 := (by rcases KZ with u | u; { have nk : ¬ (LV E W (kP K) (kA K) n).2.1 a6 = eK E i4 0 := (fun y => by (rw [u] at y; rcases io1 with v | v; { exact v.2 y }; { omega })); unfold cxC; by_cases e : eO E i4 = 1; { rw [if_pos e]; exact cif_n (fun y => nk y.1) }; { rw [if_neg e]; exact cif_n nk } }; { exact cx_0 u.1 u.2.1 u.2.2 }); rw [show x12 = a6 + 1 by omega, sumN_s (by omega), cz, Int.add_zero])) | ((refine MS_c (by first | exact ms2 | exact ms3) (fun f f0 f1 => ?_); rw [three_x (by rcases KZ with u | u; { exact Or.inl (by (rw [u]; rcases io1 with v | v; { omega }; { exact v.2 })) }; { exact Or.inr u }), show x12 = a6 + 1 by omega, sumN_s (by omega), Int.add_assoc])) | ((first | exact ⟨fQ_t fr.1 fs2.1, fs2.2⟩ | exact ⟨fQ_t fr.1 fs3.1, fs3.2⟩)) | (first | assumption | omega | ((try dsimp only [jt2, jt3, jt4]); first | omega | (simp (disch := omega) only [jst_eq, jst_ne, jst_ni, jst_o, jI_i, jcpy_out, w32_id, jdiv_nn, jshr_k, jand_255] <;> first | done | omega | assumption)) | (intros; simp (disch := omega) only [jst_eq, jst_ne, jst_ni, jst_o, jI_i, jcpy_out, w32_id, jdiv_nn, *] <;> first | done | omega) | (intros; simp (disch := omega) only [jst_eq, jst_ne, jst_ni, jst_o, jI_i, jcpy_out, w32_id, jdiv_nn] at * <;> first | done | omega | assumption) | (intros; first | rfl | (exfalso; omega) | ((repeat' apply And.intro) <;> first | assumption | rfl | omega | trivial)))) -- o18 e3i.1
              · (first | (exact q1) | (exact ia) | (exact ⟨q0.1, by omega, by (rcases io1 with u | u; { omega }; { exact u.2 })⟩) | (exact Or.inl ⟨by omega, rfl⟩) | (exact Or.inr ⟨by omega, rfl⟩) | (exact x16) | (exact fr) | ((refine MS_c q1 (fun f f0 f1 => ?_); have cz : cxC E W (kP K) (LV E W (kP K) (kA K) n) (ct E W (kP K) (kA K)) i4 i3 f a6 = 0 := (by rcases KZ with u | u; { have nk : ¬ (LV E W (kP K) (kA K) n).2.1 a6 = eK E i4 0 := (fun y => by (rw [u] at y; rcases io1 with v | v; { exact v.2 y }; { omega })); unfold cxC; by_cases e : eO E i4 = 1; { rw [if_pos e]; exact cif_n (fun y => nk y.1) }; { rw [if_neg e]; exact cif_n nk } }; { exact cx_0 u.1 u.2.1 u.2.2 }); rw [show x12 = a6 + 1 by omega, sumN_s (by omega), cz, Int.add_zero])) | ((refine MS_c (by first | exact ms2 | exact ms3) (fun f f0 f1 => ?_); rw [three_x (by rcases KZ with u | u; { exact Or.inl (by (rw [u]; rcases io1 with v | v; { omega }; { exact v.2 })) }; { exact Or.inr u }), show x12 = a6 + 1 by omega, sumN_s (by omega), Int.add_assoc])) | ((first | exact ⟨fQ_t fr.1 fs2.1, fs2.2⟩ | exact ⟨fQ_t fr.1 fs3.1, fs3.2⟩)) | (first | assumption | omega | ((try dsimp only [jt2, jt3, jt4]); first | omega | (simp (disch := omega) only [jst_eq, jst_ne, jst_ni, jst_o, jI_i, jcpy_out, w32_id, jdiv_nn, jshr_k, jand_255] <;> first | done | omega | assumption)) | (intros; simp (disch := omega) only [jst_eq, jst_ne, jst_ni, jst_o, jI_i, jcpy_out, w32_id, jdiv_nn, *] <;> first | done | omega) | (intros; simp (disch := omega) only [jst_eq, jst_ne, jst_ni, jst_o, jI_i, jcpy_out, w32_id, jdiv_nn] at * <;> first | done | omega | assumption) | (intros; first | rfl | (exfalso; omega) | ((repeat' apply And.intro) <;> first | assumption | rfl | omega | trivial)))) -- o19 e3i.2
              · (first | (exact q1) | (exact ia) | (exact ⟨q0.1, by omega, by (rcases io1 with u | u; { omega }; { exact u.2 })⟩) | (exact Or.inl ⟨by omega, rfl⟩) | (exact Or.inr ⟨by omega, rfl⟩) | (exact x16) | (exact fr) | ((refine MS_c q1 (fun f f0 f1 => ?_); have cz : cxC E W (kP K) (LV E W (kP K) (kA K) n) (ct E W (kP K) (kA K)) i4 i3 f a6 = 0 := (by rcases KZ with u | u; { have nk : ¬ (LV E W (kP K) (kA K) n).2.1 a6 = eK E i4 0 := (fun y => by (rw [u] at y; rcases io1 with v | v; { exact v.2 y }; { omega })); unfold cxC; by_cases e : eO E i4 = 1; { rw [if_pos e]; exact cif_n (fun y => nk y.1) }; { rw [if_neg e]; exact cif_n nk } }; { exact cx_0 u.1 u.2.1 u.2.2 }); rw [show x12 = a6 + 1 by omega, sumN_s (by omega), cz, Int.add_zero])) | ((refine MS_c (by first | exact ms2 | exact ms3) (fun f f0 f1 => ?_); rw [three_x (by rcases KZ with u | u; { exact Or.inl (by (rw [u]; rcases io1 with v | v; { omega }; { exact v.2 })) }; { exact Or.inr u }), show x12 = a6 + 1 by omega, sumN_s (by omega), Int.add_assoc])) | ((first | exact ⟨fQ_t fr.1 fs2.1, fs2.2⟩ | exact ⟨fQ_t fr.1 fs3.1, fs3.2⟩)) | (first | assumption | omega | ((try dsimp only [jt2, jt3, jt4]); first | omega | (simp (disch := omega) only [jst_eq, jst_ne, jst_ni, jst_o, jI_i, jcpy_out, w32_id, jdiv_nn, jshr_k, jand_255] <;> first | done | omega | assumption)) | (intros; simp (disch := omega) only [jst_eq, jst_ne, jst_ni, jst_o, jI_i, jcpy_out, w32_id, jdiv_nn, *] <;> first | done | omega) | (intros; simp (disch := omega) only [jst_eq, jst_ne, jst_ni, jst_o, jI_i, jcpy_out, w32_id, jdiv_nn] at * <;> first | done | omega | assumption) | (intros; first | rfl | (exfalso; omega) | ((repeat' apply And.intro) <;> first | assumption | rfl | omega | trivial)))) -- o20 e3i.3
            · (first | (exact q1) | (exact ia) | (exact ⟨q0.1, by omega, by (rcases io1 with u | u; { omega }; { exact u.2 })⟩) | (exact Or.inl ⟨by omega, rfl⟩) | (exact Or.inr ⟨by omega, rfl⟩) | (exact x16) | (exact fr) | ((refine MS_c q1 (fun f f0 f1 => ?_); have cz : cxC E W (kP K) (LV E W (kP K) (kA K) n) (ct E W (kP K) (kA K)) i4 i3 f a6 = 0 := (by rcases KZ with u | u; { have nk : ¬ (LV E W (kP K) (kA K) n).2.1 a6 = eK E i4 0 := (fun y => by (rw [u] at y; rcases io1 with v | v; { exact v.2 y }; { omega })); unfold cxC; by_cases e : eO E i4 = 1; { rw [if_pos e]; exact cif_n (fun y => nk y.1) }; { rw [if_neg e]; exact cif_n nk } }; { exact cx_0 u.1 u.2.1 u.2.2 }); rw [show x12 = a6 + 1 by omega, sumN_s (by omega), cz, Int.add_zero])) | ((refine MS_c (by first | exact ms2 | exact ms3) (fun f f0 f1 => ?_); rw [three_x (by rcases KZ with u | u; { exact Or.inl (by (rw [u]; rcases io1 with v | v; { omega }; { exact v.2 })) }; { exact Or.inr u }), show x12 = a6 + 1 by omega, sumN_s (by omega), Int.add_assoc])) | ((first | exact ⟨fQ_t fr.1 fs2.1, fs2.2⟩ | exact ⟨fQ_t fr.1 fs3.1, fs3.2⟩)) | (first | assumption | omega | ((try dsimp only [jt2, jt3, jt4]); first | omega | (simp (disch := omega) only [jst_eq, jst_ne, jst_ni, jst_o, jI_i, jcpy_out, w32_id, jdiv_nn, jshr_k, jand_255] <;> first | done | omega | assumption)) | (intros; simp (disch := omega) only [jst_eq, jst_ne, jst_ni, jst_o, jI_i, jcpy_out, w32_id, jdiv_nn, *] <;> first | done | omega) | (intros; simp (disch := omega) only [jst_eq, jst_ne, jst_ni, jst_o, jI_i, jcpy_out, w32_id, jdiv_nn] at * <;> first | done | omega | assumption) | (intros; first | rfl | (exfalso; omega) | ((repeat' apply And.intro) <;> first | assumption | rfl | omega | trivial)))) -- o21 e3m
          · skip
            try simp (disch := omega) only [jst_eq, jst_ne, jst_ni, jI_i, jcmp_lt, jcmp_gt, w32_id, jcpy_out, Sum.elim_inl, Sum.elim_inr, jt2, jt3, jt4, jt5, jt6, jt7, jt8] at c4
            unfold gX14_reckonAll_j84_35
            refine OK_jb (vX14_reckonAll_l86 (E := E) (Rf := Rf) (W := W) (K := K) (tp := tp) (p := p) (T := T) (n := n) (r0 := fun f => r0 f + sumN (cxC E W (kP K) (LV E W (kP K) (kA K) n) (ct E W (kP K) (kA K)) i4 i3 f) a6.toNat) _ _ _ _ _ _ (by (first | (exact q1) | (exact ia) | (exact ⟨q0.1, by omega, by (rcases io1 with u | u; { omega }; { exact u.2 })⟩) | (exact Or.inl ⟨by omega, rfl⟩) | (exact Or.inr ⟨by omega, rfl⟩) | (exact x16) | (exact fr) | ((refine MS_c q1 (fun f f0 f1 => ?_); have cz : cxC E W (kP K) (LV E W (kP K) (kA K) n) (ct E W (kP K) (kA K)) i4 i3 f a6 = 0 := (by rcases KZ with u | u; { have nk : ¬ (LV E W (kP K) (kA K) n).2.1 a6 = eK E i4 0 := (fun y => by (rw [u] at y; rcases io1 with v | v; { exact v.2 y }; { omega })); unfold cxC; by_cases e : eO E i4 = 1; { rw [if_pos e]; exact cif_n (fun y => nk y.1) }; { rw [if_neg e]; exact cif_n nk } }; { exact cx_0 u.1 u.2.1 u.2.2 }); rw [show x12 = a6 + 1 by omega, sumN_s (by omega), cz, Int.add_zero])) | ((refine MS_c (by first | exact ms2 | exact ms3) (fun f f0 f1 => ?_); rw [three_x (by rcases KZ with u | u; { exact Or.inl (by (rw [u]; rcases io1 with v | v; { omega }; { exact v.2 })) }; { exact Or.inr u }), show x12 = a6 + 1 by omega, sumN_s (by omega), Int.add_assoc])) | ((first | exact ⟨fQ_t fr.1 fs2.1, fs2.2⟩ | exact ⟨fQ_t fr.1 fs3.1, fs3.2⟩)) | (first | assumption | omega | ((try dsimp only [jt2, jt3, jt4]); first | omega | (simp (disch := omega) only [jst_eq, jst_ne, jst_ni, jst_o, jI_i, jcpy_out, w32_id, jdiv_nn, jshr_k, jand_255] <;> first | done | omega | assumption)) | (intros; simp (disch := omega) only [jst_eq, jst_ne, jst_ni, jst_o, jI_i, jcpy_out, w32_id, jdiv_nn, *] <;> first | done | omega) | (intros; simp (disch := omega) only [jst_eq, jst_ne, jst_ni, jst_o, jI_i, jcpy_out, w32_id, jdiv_nn] at * <;> first | done | omega | assumption) | (intros; first | rfl | (exfalso; omega) | ((repeat' apply And.intro) <;> first | assumption | rfl | omega | trivial))))) (by (first | (exact q1) | (exact ia) | (exact ⟨q0.1, by omega, by (rcases io1 with u | u; { omega }; { exact u.2 })⟩) | (exact Or.inl ⟨by omega, rfl⟩) | (exact Or.inr ⟨by omega, rfl⟩) | (exact x16) | (exact fr) | ((refine MS_c q1 (fun f f0 f1 => ?_); have cz : cxC E W (kP K) (LV E W (kP K) (kA K) n) (ct E W (kP K) (kA K)) i4 i3 f a6 = 0 := (by rcases KZ with u | u; { have nk : ¬ (LV E W (kP K) (kA K) n).2.1 a6 = eK E i4 0 := (fun y => by (rw [u] at y; rcases io1 with v | v; { exact v.2 y }; { omega })); unfold cxC; by_cases e : eO E i4 = 1; { rw [if_pos e]; exact cif_n (fun y => nk y.1) }; { rw [if_neg e]; exact cif_n nk } }; { exact cx_0 u.1 u.2.1 u.2.2 }); rw [show x12 = a6 + 1 by omega, sumN_s (by omega), cz, Int.add_zero])) | ((refine MS_c (by first | exact ms2 | exact ms3) (fun f f0 f1 => ?_); rw [three_x (by rcases KZ with u | u; { exact Or.inl (by (rw [u]; rcases io1 with v | v; { omega }; { exact v.2 })) }; { exact Or.inr u }), show x12 = a6 + 1 by omega, sumN_s (by omega), Int.add_assoc])) | ((first | exact ⟨fQ_t fr.1 fs2.1, fs2.2⟩ | exact ⟨fQ_t fr.1 fs3.1, fs3.2⟩)) | (first | assumption | omega | ((try dsimp only [jt2, jt3, jt4]); first | omega | (simp (disch := omega) only [jst_eq, jst_ne, jst_ni, jst_o, jI_i, jcpy_out, w32_id, jdiv_nn, jshr_k, jand_255] <;> first | done | omega | assumption)) | (intros; simp (disch := omega) only [jst_eq, jst_ne, jst_ni, jst_o, jI_i, jcpy_out, w32_id, jdiv_nn, *] <;> first | done | omega) | (intros; simp (disch := omega) only [jst_eq, jst_ne, jst_ni, jst_o, jI_i, jcpy_out, w32_id, jdiv_nn] at * <;> first | done | omega | assumption) | (intros; first | rfl | (exfalso; omega) | ((repeat' apply And.intro) <;> first | assumption | rfl | omega | trivial))))) (by (first | (exact q1) | (exact ia) | (exact ⟨q0.1, by omega, by (rcases io1 with u | u; { omega }; { exact u.2 })⟩) | (exact Or.inl ⟨by omega, rfl⟩) | (exact Or.inr ⟨by omega, rfl⟩) | (exact x16) | (exact fr) | ((refine MS_c q1 (fun f f0 f1 => ?_); have cz : cxC E W (kP K) (LV E W (kP K) (kA K) n) (ct E W (kP K) (kA K)) i4 i3 f a6 = 0 := (by rcases KZ with u | u; { have nk : ¬ (LV E W (kP K) (kA K) n).2.1 a6 = eK E i4 0 := (fun y => by (rw [u] at y; rcases io1 with v | v; { exact v.2 y }; { omega })); unfold cxC; by_cases e : eO E i4 = 1; { rw [if_pos e]; exact cif_n (fun y => nk y.1) }; { rw [if_neg e]; exact cif_n nk } }; { exact cx_0 u.1 u.2.1 u.2.2 }); rw [show x12 = a6 + 1 by omega, sumN_s (by omega), cz, Int.add_zero])) | ((refine MS_c (by first | exact ms2 | exact ms3) (fun f f0 f1 => ?_); rw [three_x (by rcases KZ with u | u; { exact Or.inl (by (rw [u]; rcases io1 with v | v; { omega }; { exact v.2 })) }; { exact Or.inr u }), show x12 = a6 + 1 by omega, sumN_s (by omega), Int.add_assoc])) | ((first | exact ⟨fQ_t fr.1 fs2.1, fs2.2⟩ | exact ⟨fQ_t fr.1 fs3.1, fs3.2⟩)) | (first | assumption | omega | ((try dsimp only [jt2, jt3, jt4]); first | omega | (simp (disch := omega) only [jst_eq, jst_ne, jst_ni, jst_o, jI_i, jcpy_out, w32_id, jdiv_nn, jshr_k, jand_255] <;> first | done | omega | assumption)) | (intros; simp (disch := omega) only [jst_eq, jst_ne, jst_ni, jst_o, jI_i, jcpy_out, w32_id, jdiv_nn, *] <;> first | done | omega) | (intros; simp (disch := omega) only [jst_eq, jst_ne, jst_ni, jst_o, jI_i, jcpy_out, w32_id, jdiv_nn] at * <;> first | done | omega | assumption) | (intros; first | rfl | (exfalso; omega) | ((repeat' apply And.intro) <;> first | assumption | rfl | omega | trivial))))) (by (first | (exact q1) | (exact ia) | (exact ⟨q0.1, by omega, by (rcases io1 with u | u; { omega }; { exact u.2 })⟩) | (exact Or.inl ⟨by omega, rfl⟩) | (exact Or.inr ⟨by omega, rfl⟩) | (exact x16) | (exact fr) | ((refine MS_c q1 (fun f f0 f1 => ?_); have cz : cxC E W (kP K) (LV E W (kP K) (kA K) n) (ct E W (kP K) (kA K)) i4 i3 f a6 = 0 := (by rcases KZ with u | u; { have nk : ¬ (LV E W (kP K) (kA K) n).2.1 a6 = eK E i4 0 := (fun y => by (rw [u] at y; rcases io1 with v | v; { exact v.2 y }; { omega })); unfold cxC; by_cases e : eO E i4 = 1; { rw [if_pos e]; exact cif_n (fun y => nk y.1) }; { rw [if_neg e]; exact cif_n nk } }; { exact cx_0 u.1 u.2.1 u.2.2 }); rw [show x12 = a6 + 1 by omega, sumN_s (by omega), cz, Int.add_zero])) | ((refine MS_c (by first | exact ms2 | exact ms3) (fun f f0 f1 => ?_); rw [three_x (by rcases KZ with u | u; { exact Or.inl (by (rw [u]; rcases io1 with v | v; { omega }; { exact v.2 })) }; { exact Or.inr u }), show x12 = a6 + 1 by omega, sumN_s (by omega), Int.add_assoc])) | ((first | exact ⟨fQ_t fr.1 fs2.1, fs2.2⟩ | exact ⟨fQ_t fr.1 fs3.1, fs3.2⟩)) | (first | assumption | omega | ((try dsimp only [jt2, jt3, jt4]); first | omega | (simp (disch := omega) only [jst_eq, jst_ne, jst_ni, jst_o, jI_i, jcpy_out, w32_id, jdiv_nn, jshr_k, jand_255] <;> first | done | omega | assumption)) | (intros; simp (disch := omega) only [jst_eq, jst_ne, jst_ni, jst_o, jI_i, jcpy_out, w32_id, jdiv_nn, *] <;> first | done | omega) | (intros; simp (disch := omega) only [jst_eq, jst_ne, jst_ni, jst_o, jI_i, jcpy_out, w32_id, jdiv_nn] at * <;> first | done | omega | assumption) | (intros; first | rfl | (exfalso; omega) | ((repeat' apply And.intro) <;> first | assumption | rfl | omega | trivial)))))) (fun o13 r3 => ?_)
            try dsimp only [Sum.elim_inl, Sum.elim_inr, jt2, jt3, jt4, jt5, jt6, jt7, jt8] at r3
            obtain ⟨ms3, fs3⟩ := r3
            try simp (disch := omega) only [jst_eq, jst_ne, jst_ni, jI_i, jcmp_lt, jcmp_gt, w32_id, jcpy_out, Sum.elim_inl, Sum.elim_inr, jt2, jt3, jt4, jt5, jt6, jt7, jt8] at ms3
            try simp (disch := omega) only [jst_eq, jst_ne, jst_ni, jI_i, jcmp_lt, jcmp_gt, w32_id, jcpy_out, Sum.elim_inl, Sum.elim_inr, jt2, jt3, jt4, jt5, jt6, jt7, jt8] at fs3
            unfold gX14_reckonAll_j296_35
            refine OK_jlx (fun x12 ex12 => ?_)
            try simp (disch := omega) only [jst_eq, jst_ne, jst_ni, jI_i, jcmp_lt, jcmp_gt, w32_id, jcpy_out, Sum.elim_inl, Sum.elim_inr, jt2, jt3, jt4, jt5, jt6, jt7, jt8] at ex12
            refine OK_il ?_ ?_
            · try dsimp only [Sum.elim_inl, Sum.elim_inr, jt2, jt3, jt4, jt5, jt6, jt7, jt8]
              refine ⟨?_, ?_, ?_⟩
              · (first | (exact q1) | (exact ia) | (exact ⟨q0.1, by omega, by (rcases io1 with u | u; { omega }; { exact u.2 })⟩) | (exact Or.inl ⟨by omega, rfl⟩) | (exact Or.inr ⟨by omega, rfl⟩) | (exact x16) | (exact fr) | ((refine MS_c q1 (fun f f0 f1 => ?_); have cz : cxC E W (kP K) (LV E W (kP K) (kA K) n) (ct E W (kP K) (kA K)) i4 i3 f a6 = 0 := (by rcases KZ with u | u; { have nk : ¬ (LV E W (kP K) (kA K) n).2.1 a6 = eK E i4 0 := (fun y => by (rw [u] at y; rcases io1 with v | v; { exact v.2 y }; { omega })); unfold cxC; by_cases e : eO E i4 = 1; { rw [if_pos e]; exact cif_n (fun y => nk y.1) }; { rw [if_neg e]; exact cif_n nk } }; { exact cx_0 u.1 u.2.1 u.2.2 }); rw [show x12 = a6 + 1 by omega, sumN_s (by omega), cz, Int.add_zero])) | ((refine MS_c (by first | exact ms2 | exact ms3) (fun f f0 f1 => ?_); rw [three_x (by rcases KZ with u | u; { exact Or.inl (by (rw [u]; rcases io1 with v | v; { omega }; { exact v.2 })) }; { exact Or.inr u }), show x12 = a6 + 1 by omega, sumN_s (by omega), Int.add_assoc])) | ((first | exact ⟨fQ_t fr.1 fs2.1, fs2.2⟩ | exact ⟨fQ_t fr.1 fs3.1, fs3.2⟩)) | (first | assumption | omega | ((try dsimp only [jt2, jt3, jt4]); first | omega | (simp (disch := omega) only [jst_eq, jst_ne, jst_ni, jst_o, jI_i, jcpy_out, w32_id, jdiv_nn, jshr_k, jand_255] <;> first | done | omega | assumption)) | (intros; simp (disch := omega) only [jst_eq, jst_ne, jst_ni, jst_o, jI_i, jcpy_out, w32_id, jdiv_nn, *] <;> first | done | omega) | (intros; simp (disch := omega) only [jst_eq, jst_ne, jst_ni, jst_o, jI_i, jcpy_out, w32_id, jdiv_nn] at * <;> first | done | omega | assumption) | (intros; first | rfl | (exfalso; omega) | ((repeat' apply And.intro) <;> first | assumption | rfl | omega | trivial)))) -- o26 e4i.1
              · (first | (exact q1) | (exact ia) | (exact ⟨q0.1, by omega, by (rcases io1 with u | u; { omega }; { exact u.2 })⟩) | (exact Or.inl ⟨by omega, rfl⟩) | (exact Or.inr ⟨by omega, rfl⟩) | (exact x16) | (exact fr) | ((refine MS_c q1 (fun f f0 f1 => ?_); have cz : cxC E W (kP K) (LV E W (kP K) (kA K) n) (ct E W (kP K) (kA K)) i4 i3 f a6 = 0 := (by rcases KZ with u | u; { have nk : ¬ (LV E W (kP K) (kA K) n).2.1 a6 = eK E i4 0 := (fun y => by (rw [u] at y; rcases io1 with v | v; { exact v.2 y }; { omega })); unfold cxC; by_cases e : eO E i4 = 1; { rw [if_pos e]; exact cif_n (fun y => nk y.1) }; { rw [if_neg e]; exact cif_n nk } }; { exact cx_0 u.1 u.2.1 u.2.2 }); rw [show x12 = a6 + 1 by omega, sumN_s (by omega), cz, Int.add_zero])) | ((refine MS_c (by first | exact ms2 | exact ms3) (fun f f0 f1 => ?_); rw [three_x (by rcases KZ with u | u; { exact Or.inl (by (rw [u]; rcases io1 with v | v; { omega }; { exact v.2 })) }; { exact Or.inr u }), show x12 = a6 + 1 by omega, sumN_s (by omega), Int.add_assoc])) | ((first | exact ⟨fQ_t fr.1 fs2.1, fs2.2⟩ | exact ⟨fQ_t fr.1 fs3.1, fs3.2⟩)) | (first | assumption | omega | ((try dsimp only [jt2, jt3, jt4]); first | omega | (simp (disch := omega) only [jst_eq, jst_ne, jst_ni, jst_o, jI_i, jcpy_out, w32_id, jdiv_nn, jshr_k, jand_255] <;> first | done | omega | assumption)) | (intros; simp (disch := omega) only [jst_eq, jst_ne, jst_ni, jst_o, jI_i, jcpy_out, w32_id, jdiv_nn, *] <;> first | done | omega) | (intros; simp (disch := omega) only [jst_eq, jst_ne, jst_ni, jst_o, jI_i, jcpy_out, w32_id, jdiv_nn] at * <;> first | done | omega | assumption) | (intros; first | rfl | (exfalso; omega) | ((repeat' apply And.intro) <;> first | assumption | rfl | omega | trivial)))) -- o27 e4i.2
              · (first | (exact q1) | (exact ia) | (exact ⟨q0.1, by omega, by (rcases io1 with u | u; { omega }; { exact u.2 })⟩) | (exact Or.inl ⟨by omega, rfl⟩) | (exact Or.inr ⟨by omega, rfl⟩) | (exact x16) | (exact fr) | ((refine MS_c q1 (fun f f0 f1 => ?_); have cz : cxC E W (kP K) (LV E W (kP K) (kA K) n) (ct E W (kP K) (kA K)) i4 i3 f a6 = 0 := (by rcases KZ with u | u; { have nk : ¬ (LV E W (kP K) (kA K) n).2.1 a6 = eK E i4 0 := (fun y => by (rw [u] at y; rcases io1 with v | v; { exact v.2 y }; { omega })); unfold cxC; by_cases e : eO E i4 = 1; { rw [if_pos e]; exact cif_n (fun y => nk y.1) }; { rw [if_neg e]; exact cif_n nk } }; { exact cx_0 u.1 u.2.1 u.2.2 }); rw [show x12 = a6 + 1 by omega, sumN_s (by omega), cz, Int.add_zero])) | ((refine MS_c (by first | exact ms2 | exact ms3) (fun f f0 f1 => ?_); rw [three_x (by rcases KZ with u | u; { exact Or.inl (by (rw [u]; rcases io1 with v | v; { omega }; { exact v.2 })) }; { exact Or.inr u }), show x12 = a6 + 1 by omega, sumN_s (by omega), Int.add_assoc])) | ((first | exact ⟨fQ_t fr.1 fs2.1, fs2.2⟩ | exact ⟨fQ_t fr.1 fs3.1, fs3.2⟩)) | (first | assumption | omega | ((try dsimp only [jt2, jt3, jt4]); first | omega | (simp (disch := omega) only [jst_eq, jst_ne, jst_ni, jst_o, jI_i, jcpy_out, w32_id, jdiv_nn, jshr_k, jand_255] <;> first | done | omega | assumption)) | (intros; simp (disch := omega) only [jst_eq, jst_ne, jst_ni, jst_o, jI_i, jcpy_out, w32_id, jdiv_nn, *] <;> first | done | omega) | (intros; simp (disch := omega) only [jst_eq, jst_ne, jst_ni, jst_o, jI_i, jcpy_out, w32_id, jdiv_nn] at * <;> first | done | omega | assumption) | (intros; first | rfl | (exfalso; omega) | ((repeat' apply And.intro) <;> first | assumption | rfl | omega | trivial)))) -- o28 e4i.3
            · (first | (exact q1) | (exact ia) | (exact ⟨q0.1, by omega, by (rcases io1 with u | u; { omega }; { exact u.2 })⟩) | (exact Or.inl ⟨by omega, rfl⟩) | (exact Or.inr ⟨by omega, rfl⟩) | (exact x16) | (exact fr) | ((refine MS_c q1 (fun f f0 f1 => ?_); have cz : cxC E W (kP K) (LV E W (kP K) (kA K) n) (ct E W (kP K) (kA K)) i4 i3 f a6 = 0 := (by rcases KZ with u | u; { have nk : ¬ (LV E W (kP K) (kA K) n).2.1 a6 = eK E i4 0 := (fun y => by (rw [u] at y; rcases io1 with v | v; { exact v.2 y }; { omega })); unfold cxC; by_cases e : eO E i4 = 1; { rw [if_pos e]; exact cif_n (fun y => nk y.1) }; { rw [if_neg e]; exact cif_n nk } }; { exact cx_0 u.1 u.2.1 u.2.2 }); rw [show x12 = a6 + 1 by omega, sumN_s (by omega), cz, Int.add_zero])) | ((refine MS_c (by first | exact ms2 | exact ms3) (fun f f0 f1 => ?_); rw [three_x (by rcases KZ with u | u; { exact Or.inl (by (rw [u]; rcases io1 with v | v; { omega }; { exact v.2 })) }; { exact Or.inr u }), show x12 = a6 + 1 by omega, sumN_s (by omega), Int.add_assoc])) | ((first | exact ⟨fQ_t fr.1 fs2.1, fs2.2⟩ | exact ⟨fQ_t fr.1 fs3.1, fs3.2⟩)) | (first | assumption | omega | ((try dsimp only [jt2, jt3, jt4]); first | omega | (simp (disch := omega) only [jst_eq, jst_ne, jst_ni, jst_o, jI_i, jcpy_out, w32_id, jdiv_nn, jshr_k, jand_255] <;> first | done | omega | assumption)) | (intros; simp (disch := omega) only [jst_eq, jst_ne, jst_ni, jst_o, jI_i, jcpy_out, w32_id, jdiv_nn, *] <;> first | done | omega) | (intros; simp (disch := omega) only [jst_eq, jst_ne, jst_ni, jst_o, jI_i, jcpy_out, w32_id, jdiv_nn] at * <;> first | done | omega | assumption) | (intros; first | rfl | (exfalso; omega) | ((repeat' apply And.intro) <;> first | assumption | rfl | omega | trivial)))) -- o29 e4m
        · skip
          try simp (disch := omega) only [jst_eq, jst_ne, jst_ni, jI_i, jcmp_lt, jcmp_gt, w32_id, jcpy_out, Sum.elim_inl, Sum.elim_inr, jt2, jt3, jt4, jt5, jt6, jt7, jt8] at c3
          unfold gX14_reckonAll_j296_35
          refine OK_jlx (fun x12 ex12 => ?_)
          try simp (disch := omega) only [jst_eq, jst_ne, jst_ni, jI_i, jcmp_lt, jcmp_gt, w32_id, jcpy_out, Sum.elim_inl, Sum.elim_inr, jt2, jt3, jt4, jt5, jt6, jt7, jt8] at ex12
          refine OK_il ?_ ?_
          · try dsimp only [Sum.elim_inl, Sum.elim_inr, jt2, jt3, jt4, jt5, jt6, jt7, jt8]
            refine ⟨?_, ?_, ?_⟩
            · (first | (exact q1) | (exact ia) | (exact ⟨q0.1, by omega, by (rcases io1 with u | u; { omega }; { exact u.2 })⟩) | (exact Or.inl ⟨by omega, rfl⟩) | (exact Or.inr ⟨by omega, rfl⟩) | (exact x16) | (exact fr) | ((refine MS_c q1 (fun f f0 f1 => ?_); have cz : cxC E W (kP K) (LV E W (kP K) (kA K) n) (ct E W (kP K) (kA K)) i4 i3 f a6 = 0 := (by rcases KZ with u | u; { have nk : ¬ (LV E W (kP K) (kA K) n).2.1 a6 = eK E i4 0 := (fun y => by (rw [u] at y; rcases io1 with v | v; { exact v.2 y }; { omega })); unfold cxC; by_cases e : eO E i4 = 1; { rw [if_pos e]; exact cif_n (fun y => nk y.1) }; { rw [if_neg e]; exact cif_n nk } }; { exact cx_0 u.1 u.2.1 u.2.2 }); rw [show x12 = a6 + 1 by omega, sumN_s (by omega), cz, Int.add_zero])) | ((refine MS_c (by first | exact ms2 | exact ms3) (fun f f0 f1 => ?_); rw [three_x (by rcases KZ with u | u; { exact Or.inl (by (rw [u]; rcases io1 with v | v; { omega }; { exact v.2 })) }; { exact Or.inr u }), show x12 = a6 + 1 by omega, sumN_s (by omega), Int.add_assoc])) | ((first | exact ⟨fQ_t fr.1 fs2.1, fs2.2⟩ | exact ⟨fQ_t fr.1 fs3.1, fs3.2⟩)) | (first | assumption | omega | ((try dsimp only [jt2, jt3, jt4]); first | omega | (simp (disch := omega) only [jst_eq, jst_ne, jst_ni, jst_o, jI_i, jcpy_out, w32_id, jdiv_nn, jshr_k, jand_255] <;> first | done | omega | assumption)) | (intros; simp (disch := omega) only [jst_eq, jst_ne, jst_ni, jst_o, jI_i, jcpy_out, w32_id, jdiv_nn, *] <;> first | done | omega) | (intros; simp (disch := omega) only [jst_eq, jst_ne, jst_ni, jst_o, jI_i, jcpy_out, w32_id, jdiv_nn] at * <;> first | done | omega | assumption) | (intros; first | rfl | (exfalso; omega) | ((repeat' apply And.intro) <;> first | assumption | rfl | omega | trivial)))) -- o30 e5i.1
            · (refine MS_c q1 (fun f f0 f1 => ?_); have cz : cxC E W (kP K) (LV E W (kP K) (kA K) n) (ct E W (kP K) (kA K)) i4 i3 f a6 = 0 := (by refine cx_0 (ct_zT tq q0.1 (by omega) (Or.inr (by omega))) (fun y y0 => ?_) (fun y z y0 z0 => ?_); { by_cases u : w2C (ct E W (kP K) (kA K)) i3 a6 y = 0; { exact u }; { have s := w2_sup tq.1 (x := a6) q0.1 y0 (by omega) u; have q6 := (tq.2.1.2 a6 q0.1 s.1).2.1; omega } }; { by_cases u : w3C (ct E W (kP K) (kA K)) i3 a6 y z = 0; { exact u }; { have s := w3_sup tq.1 (x := a6) q0.1 y0 z0 (by omega) u; have q6 := (tq.2.1.2 a6 q0.1 s.1).2.1; omega } }); rw [show x12 = a6 + 1 by omega, sumN_s (by omega), cz, Int.add_zero]) -- o31 e5i.2
            · (first | (exact q1) | (exact ia) | (exact ⟨q0.1, by omega, by (rcases io1 with u | u; { omega }; { exact u.2 })⟩) | (exact Or.inl ⟨by omega, rfl⟩) | (exact Or.inr ⟨by omega, rfl⟩) | (exact x16) | (exact fr) | ((refine MS_c q1 (fun f f0 f1 => ?_); have cz : cxC E W (kP K) (LV E W (kP K) (kA K) n) (ct E W (kP K) (kA K)) i4 i3 f a6 = 0 := (by rcases KZ with u | u; { have nk : ¬ (LV E W (kP K) (kA K) n).2.1 a6 = eK E i4 0 := (fun y => by (rw [u] at y; rcases io1 with v | v; { exact v.2 y }; { omega })); unfold cxC; by_cases e : eO E i4 = 1; { rw [if_pos e]; exact cif_n (fun y => nk y.1) }; { rw [if_neg e]; exact cif_n nk } }; { exact cx_0 u.1 u.2.1 u.2.2 }); rw [show x12 = a6 + 1 by omega, sumN_s (by omega), cz, Int.add_zero])) | ((refine MS_c (by first | exact ms2 | exact ms3) (fun f f0 f1 => ?_); rw [three_x (by rcases KZ with u | u; { exact Or.inl (by (rw [u]; rcases io1 with v | v; { omega }; { exact v.2 })) }; { exact Or.inr u }), show x12 = a6 + 1 by omega, sumN_s (by omega), Int.add_assoc])) | ((first | exact ⟨fQ_t fr.1 fs2.1, fs2.2⟩ | exact ⟨fQ_t fr.1 fs3.1, fs3.2⟩)) | (first | assumption | omega | ((try dsimp only [jt2, jt3, jt4]); first | omega | (simp (disch := omega) only [jst_eq, jst_ne, jst_ni, jst_o, jI_i, jcpy_out, w32_id, jdiv_nn, jshr_k, jand_255] <;> first | done | omega | assumption)) | (intros; simp (disch := omega) only [jst_eq, jst_ne, jst_ni, jst_o, jI_i, jcpy_out, w32_id, jdiv_nn, *] <;> first | done | omega) | (intros; simp (disch := omega) only [jst_eq, jst_ne, jst_ni, jst_o, jI_i, jcpy_out, w32_id, jdiv_nn] at * <;> first | done | omega | assumption) | (intros; first | rfl | (exfalso; omega) | ((repeat' apply And.intro) <;> first | assumption | rfl | omega | trivial)))) -- o32 e5i.3
          · (first | (exact q1) | (exact ia) | (exact ⟨q0.1, by omega, by (rcases io1 with u | u; { omega }; { exact u.2 })⟩) | (exact Or.inl ⟨by omega, rfl⟩) | (exact Or.inr ⟨by omega, rfl⟩) | (exact x16) | (exact fr) | ((refine MS_c q1 (fun f f0 f1 => ?_); have cz : cxC E W (kP K) (LV E W (kP K) (kA K) n) (ct E W (kP K) (kA K)) i4 i3 f a6 = 0 := (by rcases KZ with u | u; { have nk : ¬ (LV E W (kP K) (kA K) n).2.1 a6 = eK E i4 0 := (fun y => by (rw [u] at y; rcases io1 with v | v; { exact v.2 y }; { omega })); unfold cxC; by_cases e : eO E i4 = 1; { rw [if_pos e]; exact cif_n (fun y => nk y.1) }; { rw [if_neg e]; exact cif_n nk } }; { exact cx_0 u.1 u.2.1 u.2.2 }); rw [show x12 = a6 + 1 by omega, sumN_s (by omega), cz, Int.add_zero])) | ((refine MS_c (by first | exact ms2 | exact ms3) (fun f f0 f1 => ?_); rw [three_x (by rcases KZ with u | u; { exact Or.inl (by (rw [u]; rcases io1 with v | v; { omega }; { exact v.2 })) }; { exact Or.inr u }), show x12 = a6 + 1 by omega, sumN_s (by omega), Int.add_assoc])) | ((first | exact ⟨fQ_t fr.1 fs2.1, fs2.2⟩ | exact ⟨fQ_t fr.1 fs3.1, fs3.2⟩)) | (first | assumption | omega | ((try dsimp only [jt2, jt3, jt4]); first | omega | (simp (disch := omega) only [jst_eq, jst_ne, jst_ni, jst_o, jI_i, jcpy_out, w32_id, jdiv_nn, jshr_k, jand_255] <;> first | done | omega | assumption)) | (intros; simp (disch := omega) only [jst_eq, jst_ne, jst_ni, jst_o, jI_i, jcpy_out, w32_id, jdiv_nn, *] <;> first | done | omega) | (intros; simp (disch := omega) only [jst_eq, jst_ne, jst_ni, jst_o, jI_i, jcpy_out, w32_id, jdiv_nn] at * <;> first | done | omega | assumption) | (intros; first | rfl | (exfalso; omega) | ((repeat' apply And.intro) <;> first | assumption | rfl | omega | trivial)))) -- o33 e5m
  · try dsimp only [Sum.elim_inl, Sum.elim_inr, jt2, jt3, jt4, jt5, jt6, jt7, jt8]
    refine ⟨?_, ?_, ?_⟩
    · (have l := LV_0 (E := E) (W := W) (pts := kP K) (A := kA K) p; omega) -- o34 init.1
    · (refine MS_c ms (fun f f0 f1 => ?_); rw [z]; show r0 f = r0 f + 0; omega) -- o35 init.2
    · exact ⟨fQ_r _, ms.1.2.2⟩ -- o36 init.3

