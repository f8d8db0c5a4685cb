/-! both: the first term that meets -/
theorem hd_lf {h : AH} {E : EV} {A : AD} {T : TB} {t a n : Int} (tr : 0 ≤ t ∧ t < 8800) (x : hdC h E A t (T.2.2.2.1 a) n) (k : h 461 t = kch (T.2.1 a)) (l5 : h 465 t = n) (l6 : h 466 t = -1) : lfM h t n (hiT A T a) := by
  unfold hiT
  rcases x with u | ⟨j, u1, u2, u3, u4, u5, u6, u7, u8⟩ | ⟨j, u1, u2, u3, u4, u5, u6, u7, u8⟩
  · rw [if_pos u.2.1]
    exact ⟨tr.1, tr.2, l5, l6, k, fun _ => ⟨u.2.2.1, u.2.2.2.2.1⟩, fun z => by have : (0 : Int) = 1 := z; omega, fun z => by have : (0 : Int) = 2 := z; omega, fun z => by have : (0 : Int) = 4 := z; omega, fun z => by have : (0 : Int) = 3 := z; omega, by show (0 : Int) ≤ 0; decide, by show (0 : Int) ≤ 4; decide⟩
  · rw [if_neg (by omega), show T.2.2.2.1 a - A.1 = j by omega, if_pos u4]
    exact ⟨tr.1, tr.2, l5, l6, k, fun z => by have : (1 : Int) = 0 := z; omega, fun _ => ⟨u5, u7⟩, fun z => by have : (1 : Int) = 2 := z; omega, fun z => by have : (1 : Int) = 4 := z; omega, fun z => by have : (1 : Int) = 3 := z; omega, by show (0 : Int) ≤ 1; decide, by show (1 : Int) ≤ 4; decide⟩
  · rw [if_neg (by omega), show T.2.2.2.1 a - A.1 = j by omega, if_neg u4]
    exact ⟨tr.1, tr.2, l5, l6, k, fun z => by have : (2 : Int) = 0 := z; omega, fun z => by have : (2 : Int) = 1 := z; omega, fun _ => ⟨u5, u7⟩, fun z => by have : (2 : Int) = 4 := z; omega, fun z => by have : (2 : Int) = 3 := z; omega, by show (0 : Int) ≤ 2; decide, by show (2 : Int) ≤ 4; decide⟩
theorem MT_rw {h : AH} {E : EV} {W : Int → Int → Int → VW} {K : AK} {tp : Int} {p : Nat} {T : TB} (x : MT h E W K tp p T) (tl : tp = 8500 ∨ tp = 8650) (g : gkT E (kA K) (LV E W (kP K) (kA K) p)) : ∀ a, 0 ≤ a → a < (LV E W (kP K) (kA K) p).1 → rwM h (rgN 8500 300) (-1) (-1) (tm (kA K) (LV E W (kP K) (kA K) p) a) (tp + a) 0 := by
  refine tm_ind g (P := fun a R => rwM h (rgN 8500 300) (-1) (-1) R (tp + a) 0) (fun a a0 a1 k => ?_)
  have e := x.2.2.1.2 a a0 a1
  have l := x.2.2.1.1
  have t121 := x.1.1
  have n := x.1.2.2.2 a a0 (by omega)
  obtain ⟨n1, n2, n3, ⟨m1, m6⟩, m2, m3, m4, m5⟩ := n
  have p120 := x.2.2.2.2.1
  have tr : 0 ≤ tp + a ∧ tp + a < 8800 := by omega
  rw [e.2.2.2.1] at m2 m3 m4
  rw [e.2.2.1] at m4
  rw [e.1] at n3
  have Q0 : rgN 8500 300 (tp + a) := by unfold rgN; omega
  have dn : tp + a ≠ -1 := by omega
  have KK : ∀ m, 0 ≤ m → m < nkO ((LV E W (kP K) (kA K) p).2.2.2.2.1 a) → rwM h (rgN 8500 300) (-1) (-1) (tm (kA K) (LV E W (kP K) (kA K) p) ((LV E W (kP K) (kA K) p).2.2.2.2.1 a m)) (h 464 (3 * (tp + a) + m)) 0 := fun m m0 m1 => by
    rw [(m3 m m0 m1).1]
    exact k m m0 m1
  rcases sp_cs (hiT (kA K) (LV E W (kP K) (kA K) p) a) ((LV E W (kP K) (kA K) p).2.2.2.2.1 a) (tm (kA K) (LV E W (kP K) (kA K) p)) with ⟨n, e⟩ | ⟨n, e⟩ | ⟨n, e⟩ | ⟨n, e⟩ <;> rw [e]
  · rw [n] at m2 m4
    exact Or.inr ⟨dn, Q0, hd_lf tr m4 n3 m2 m6⟩
  · have k0 := KK 0 (by omega) (by omega)
    rw [n] at m2 m4
    exact Or.inr ⟨dn, by decide, by decide, k0, Or.inr ⟨dn, Q0, hd_lf tr m4 n3 m2 m6⟩⟩
  · have k0 := KK 0 (by omega) (by omega)
    have k1 := KK 1 (by omega) (by omega)
    rw [n] at m2 m4
    exact Or.inr ⟨dn, by decide, by decide, k0, Or.inr ⟨dn, by decide, by decide, k1, Or.inr ⟨dn, Q0, hd_lf tr m4 n3 m2 m6⟩⟩⟩
  · have k0 := KK 0 (by omega) (by omega)
    have k1 := KK 1 (by omega) (by omega)
    have k2 := KK 2 (by omega) (by omega)
    rw [n] at m2 m4
    exact Or.inr ⟨dn, by decide, by decide, k0, Or.inr ⟨dn, by decide, by decide, k1, Or.inr ⟨dn, by decide, by decide, k2, Or.inr ⟨dn, Q0, hd_lf tr m4 n3 m2 m6⟩⟩⟩⟩
def fdL (h : AH) (E : EV) (W : Int → Int → Int → VW) (K : AK) (R : TR) : Prop := fdM h E.1.2.1 R (kP K) (inf R).2.2.1 (kA K).1 (kA K).2.1 (fun p => (evT W (fun _ _ _ => 0) ((kA K).2.2.1 p) (fun _ => 0) R).1)
theorem wA40m {E : EV} {h : AH} {Rf : Int → TR} (o : ownsM h E Rf) : ∀ a, 26 ≤ a → a < E.1.1 → E.1.2.2.2.1 a ≤ 40 := fun a a0 a1 => (o.2.2.1 a a0 a1).2.1
/-- m: a term of the levels is told -/
theorem vTL (a1 : Int) {a : Int} {h : AH} {E : EV} {Rf : Int → TR} {W : Int → Int → Int → VW} {K : AK} {tp : Int} {p : Nat} {T : TB} (ak : akM h E Rf W K tp) (xt : MT h E W K tp p T) (p12 : p ≤ 12) (cA : ∀ a, 0 ≤ a → a < E.1.1 → 0 ≤ E.1.2.1 a ∧ E.1.2.1 a < 282429536481) (r : 0 ≤ a ∧ a < (LV E W (kP K) (kA K) p).1) (e : a1 = tp + a) : OK (gX14_tell a1 h) (fun h' => fdL h' E W K (tm (kA K) (LV E W (kP K) (kA K) p) a) ∧ fV h h' ∧ akM h' E Rf W K tp) := by
  have c := akM_0 ak
  have VAk := c.2.2.2.2.2.2.1
  have GK := gk_GT VAk xt.2.2.2.2.2.2.1 (by omega) xt.2.2.2.2.1
  have O := tm_okR c.1.2.1.2.1 VAk GK c.2.1.1.2.2.2.1 a r.1 r.2
  have SZ := tm_sz GK a r.1 r.2
  have W12 := (GK a r.1 r.2).1.2
  have DS := dpT_sz (tm (kA K) (LV E W (kP K) (kA K) p) a)
  have DE := dpE_sz (wA40m c.1.2.1) O.2.1
  subst e
  refine OK_mono (vX14_tell (k := (LV E W (kP K) (kA K) p).2.1 a) (Q := rgN 8500 300) (tp + a) ak cA (MT_rw xt c.2.2.1.2 GK a r.1 r.2) (fun x q => by unfold rgN at q; omega) O ⟨by omega, by omega, by omega⟩) (fun h' z => ?_)
  have z1 := z.1
  rw [← O.1.2] at z1
  exact ⟨z1, z.2.1, z.2.2⟩
theorem asM_v {h h' : AH} {E : EV} {Rf : Int → TR} {W : Int → Int → Int → VW} {K : AK} {tp : Int} (a : asM h E Rf W K tp) (f : fV h h') (k : akM h' E Rf W K tp) : asM h' E Rf W K tp := asM_y a (fV_A f).2 k
/-- what find leaves: told, or as it was -/
def fW (h h' : AH) : Prop := ∀ a s, ¬ (a = 454 ∧ (s = 17 ∨ s = 19 ∨ s = 20 ∨ s = 21 ∨ s = 22 ∨ s = 40 ∨ s = 51 ∨ s = 56 ∨ s = 58 ∨ s = 60 ∨ s = 62)) → ¬ (460 ≤ a ∧ a ≤ 469 ∧ a ≠ 464 ∧ 7600 ≤ s ∧ s < 8800) → ¬ (a = 464 ∧ 22800 ≤ s ∧ s < 26400) → ¬ (a = 471 ∧ 0 ≤ s) → ¬ (476 ≤ a ∧ a ≤ 754 ∧ 0 ≤ s) → ¬ (791 ≤ a ∧ a ≤ 793 ∧ 0 ≤ s) → h' a s = h a s
theorem fO_W {h h' : AH} (f : fO h h') : fW h h' := fun a s y1 y2 y3 y4 y5 y6 => f a s (by omega) (by omega) (by omega) (by omega) (by omega)
theorem fV_W {h h' : AH} (f : fV h h') : fW h h' := fun a s y1 y2 y3 y4 y5 y6 => f a s (by omega) (by omega) (by omega) (by omega) (by omega) (by omega)
theorem fW_t {h h1 h2 : AH} (x : fW h h1) (y : fW h1 h2) : fW h h2 := fun a s z1 z2 z3 z4 z5 z6 => (y a s z1 z2 z3 z4 z5 z6).trans (x a s z1 z2 z3 z4 z5 z6)
/-- the answer of find: the weight of the first that meets, or 0 -/
noncomputable def fdA (E : EV) (W : Int → Int → Int → VW) (K : AK) (p : Nat) (v : Int) : Int := if 0 ≤ v then (LV E W (kP K) (kA K) p).2.2.1 v else 0
theorem vX14_find (a1 : Int) {h : AH} {E : EV} {Rf : Int → TR} {W : Int → Int → Int → VW} {K : AK} {tp : Int} (hd : h 454 54 = 0 ∨ h 454 54 = 1) (cA : ∀ a, 0 ≤ a → a < E.1.1 → 0 ≤ E.1.2.1 a ∧ E.1.2.1 a < 282429536481) (ak : ¬ h 454 38 = 0 → asM h E Rf W K tp) : OK (gX14_find a1 h) (fun r => jt2 r fun v h' => (∃ r y, rfs (¬ h 454 54 = 0) a1 (¬ h 454 38 = 0) (lvK E W (kP K) (kA K) a1.toNat) r ∧ (r = 0 → fiT E W K a1.toNat y) ∧ v = (if 0 ≤ r then fdA E W K a1.toNat y else r) ∧ ((r = 0 ∧ 0 ≤ y ∧ fdL h' E W K (tm (kA K) (LV E W (kP K) (kA K) a1.toNat) y) ∧ fW h h') ∨ (¬ (r = 0 ∧ 0 ≤ y) ∧ fO h h'))) ∧ (¬ h 454 38 = 0 → asM h' E Rf W K tp)) := by
  unfold gX14_find
  refine OK_jb2 (vX14_refusal (E := E) (Rf := Rf) (W := W) (K := K) (tp := tp) _ (by (first | (exact ck.1.1) | (exact (akM_0 TL.2.2).1.1) | (first | assumption | omega | ((try dsimp only [jt2, jt3, jt4]); first | omega | (simp (disch := omega) only [jst_eq, jst_ne, jst_ni, jst_o, jI_i, jcpy_out, w32_id, jdiv_nn, jshr_k, jand_255] <;> first | done | omega | assumption)) | (intros; simp (disch := omega) only [jst_eq, jst_ne, jst_ni, jst_o, jI_i, jcpy_out, w32_id, jdiv_nn, *] <;> first | done | omega) | (intros; simp (disch := omega) only [jst_eq, jst_ne, jst_ni, jst_o, jI_i, jcpy_out, w32_id, jdiv_nn] at * <;> first | done | omega | assumption) | (intros; first | rfl | (exfalso; omega) | ((repeat' apply And.intro) <;> first | assumption | rfl | omega | trivial))))) (by exact ak)) (fun v2 h3 r1 => ?_)
  try dsimp only [Sum.elim_inl, Sum.elim_inr, jt2, jt3, jt4, jt5, jt6, jt7, jt8] at r1
  obtain ⟨rf1, st1⟩ := r1
  try simp (disch := omega) only [jst_eq, jst_ne, jst_ni, jI_i, jcmp_lt, jcmp_gt, w32_id, jcpy_out, Sum.elim_inl, Sum.elim_inr, jt2, jt3, jt4, jt5, jt6, jt7, jt8] at rf1
  try simp (disch := omega) only [jst_eq, jst_ne, jst_ni, jI_i, jcmp_lt, jcmp_gt, w32_id, jcpy_out, Sum.elim_inl, Sum.elim_inr, jt2, jt3, jt4, jt5, jt6, jt7, jt8] at st1
  refine OK_if (fun c1 => ?_) (fun c1 => ?_)
  · skip
    try simp (disch := omega) only [jst_eq, jst_ne, jst_ni, jI_i, jcmp_lt, jcmp_gt, w32_id, jcpy_out, Sum.elim_inl, Sum.elim_inr, jt2, jt3, jt4, jt5, jt6, jt7, jt8] at c1
    have v0 : v2 = 0 := by { rcases rf1 with u | u | u | u | u; { omega }; { omega }; { omega }; { omega }; { exact u.2.2.2.2 } }
    have p0 : 1 ≤ a1 ∧ a1 ≤ 12 := by { rcases rf1 with u | u | u | u | u; { omega }; { omega }; { omega }; { omega }; { exact u.2.1 } }
    have hn : ¬ h 454 38 = 0 := by { rcases rf1 with u | u | u | u | u; { omega }; { omega }; { omega }; { omega }; { exact u.2.2.1 } }
    have AS := st1.2.1 hn
    obtain ⟨T, mt⟩ := st1.2.2 v0
    refine OK_jb (vX14_find_l17 (E := E) (Rf := Rf) (W := W) (K := K) (tp := tp) (p := a1.toNat) (T := T) _ _ _ (by exact AS.1) (by exact mt) (by omega) (by exact ⟨rfl, rfl⟩)) (fun o5 r2 => ?_)
    obtain ⟨y7, h8⟩ := o5
    refine OK_jt2 ?_
    try dsimp only [Sum.elim_inl, Sum.elim_inr, jt2, jt3, jt4, jt5, jt6, jt7, jt8] at r2
    obtain ⟨fi2, fs2⟩ := r2
    try simp (disch := omega) only [jst_eq, jst_ne, jst_ni, jI_i, jcmp_lt, jcmp_gt, w32_id, jcpy_out, Sum.elim_inl, Sum.elim_inr, jt2, jt3, jt4, jt5, jt6, jt7, jt8] at fi2
    try simp (disch := omega) only [jst_eq, jst_ne, jst_ni, jI_i, jcmp_lt, jcmp_gt, w32_id, jcpy_out, Sum.elim_inl, Sum.elim_inr, jt2, jt3, jt4, jt5, jt6, jt7, jt8] at fs2
    have AS8 := asM_x AS fs2.2.1 fs2.2.2
    have ck := akM_0 fs2.2.2
    have n120 := mt.2.2.2.2.1
    have F8 : fW h h8 := fW_t (fO_W st1.1) (fO_W (f2021_O fs2.2.1))
    refine OK_if (fun c2 => ?_) (fun c2 => ?_)
    · skip
      try simp (disch := omega) only [jst_eq, jst_ne, jst_ni, jI_i, jcmp_lt, jcmp_gt, w32_id, jcpy_out, Sum.elim_inl, Sum.elim_inr, jt2, jt3, jt4, jt5, jt6, jt7, jt8] at c2
      have FI : 0 ≤ y7 ∧ y7 < (LV E W (kP K) (kA K) a1.toNat).1 := by { rcases fi2 with u | u; { exact ⟨u.1, u.2.1⟩ }; { omega } }
      obtain ⟨l7, k7, w7, v7⟩ := MT_at fs2.1 FI.1 FI.2
      have nd7 := (fs2.1.1.2.1.2.2.2.2.2.2 y7 FI.1 l7).2.2.1
      refine OK_jg (by (first | (exact ck.1.1) | (exact (akM_0 TL.2.2).1.1) | (first | assumption | omega | ((try dsimp only [jt2, jt3, jt4]); first | omega | (simp (disch := omega) only [jst_eq, jst_ne, jst_ni, jst_o, jI_i, jcpy_out, w32_id, jdiv_nn, jshr_k, jand_255] <;> first | done | omega | assumption)) | (intros; simp (disch := omega) only [jst_eq, jst_ne, jst_ni, jst_o, jI_i, jcpy_out, w32_id, jdiv_nn, *] <;> first | done | omega) | (intros; simp (disch := omega) only [jst_eq, jst_ne, jst_ni, jst_o, jI_i, jcpy_out, w32_id, jdiv_nn] at * <;> first | done | omega | assumption) | (intros; first | rfl | (exfalso; omega) | ((repeat' apply And.intro) <;> first | assumption | rfl | omega | trivial))))) ?_ -- o7
      refine OK_jg (by (first | (exact ck.1.1) | (exact (akM_0 TL.2.2).1.1) | (first | assumption | omega | ((try dsimp only [jt2, jt3, jt4]); first | omega | (simp (disch := omega) only [jst_eq, jst_ne, jst_ni, jst_o, jI_i, jcpy_out, w32_id, jdiv_nn, jshr_k, jand_255] <;> first | done | omega | assumption)) | (intros; simp (disch := omega) only [jst_eq, jst_ne, jst_ni, jst_o, jI_i, jcpy_out, w32_id, jdiv_nn, *] <;> first | done | omega) | (intros; simp (disch := omega) only [jst_eq, jst_ne, jst_ni, jst_o, jI_i, jcpy_out, w32_id, jdiv_nn] at * <;> first | done | omega | assumption) | (intros; first | rfl | (exfalso; omega) | ((repeat' apply And.intro) <;> first | assumption | rfl | omega | trivial))))) ?_ -- o8
      refine OK_jb (vTL (a := y7) (E := E) (Rf := Rf) (W := W) (K := K) (tp := tp) (p := a1.toNat) (T := T) _ (by exact fs2.2.2) (by exact fs2.1) (by omega) (by exact cA) (by exact FI) (by exact nd7)) (fun h11 r3 => ?_)
      try dsimp only [Sum.elim_inl, Sum.elim_inr, jt2, jt3, jt4, jt5, jt6, jt7, jt8] at r3
      have tl3 := r3
      clear r3
      try simp (disch := omega) only [jst_eq, jst_ne, jst_ni, jI_i, jcmp_lt, jcmp_gt, w32_id, jcpy_out, Sum.elim_inl, Sum.elim_inr, jt2, jt3, jt4, jt5, jt6, jt7, jt8] at tl3
      have TL := tl3
      have MT11 := MT_g fs2.1 ck.2.2.1.2 (fV_A TL.2.1).2
      have w11 := (MT11.1.2.1.2.2.2.2.2.2 y7 FI.1 l7).2.1
      refine OK_jg (by (first | (exact ck.1.1) | (exact (akM_0 TL.2.2).1.1) | (first | assumption | omega | ((try dsimp only [jt2, jt3, jt4]); first | omega | (simp (disch := omega) only [jst_eq, jst_ne, jst_ni, jst_o, jI_i, jcpy_out, w32_id, jdiv_nn, jshr_k, jand_255] <;> first | done | omega | assumption)) | (intros; simp (disch := omega) only [jst_eq, jst_ne, jst_ni, jst_o, jI_i, jcpy_out, w32_id, jdiv_nn, *] <;> first | done | omega) | (intros; simp (disch := omega) only [jst_eq, jst_ne, jst_ni, jst_o, jI_i, jcpy_out, w32_id, jdiv_nn] at * <;> first | done | omega | assumption) | (intros; first | rfl | (exfalso; omega) | ((repeat' apply And.intro) <;> first | assumption | rfl | omega | trivial))))) ?_ -- o15
      refine OK_some ?_
      try dsimp only [Sum.elim_inl, Sum.elim_inr, jt2, jt3, jt4, jt5, jt6, jt7, jt8]
      try dsimp only [Sum.elim_inl, Sum.elim_inr, jt2, jt3, jt4, jt5, jt6, jt7, jt8]
      refine ⟨?_, ?_⟩
      · exact ⟨v2, y7, rf1, fun _ => fi2, by { rw [if_pos (by omega)]; unfold fdA; rw [if_pos FI.1, ← w7]; exact w11 }, Or.inl ⟨v0, FI.1, TL.1, fW_t F8 (fV_W TL.2.1)⟩⟩ -- o16 e1.1
      · exact fun _ => asM_v AS8 TL.2.1 TL.2.2 -- o17 e1.2
    · skip
      try simp (disch := omega) only [jst_eq, jst_ne, jst_ni, jI_i, jcmp_lt, jcmp_gt, w32_id, jcpy_out, Sum.elim_inl, Sum.elim_inr, jt2, jt3, jt4, jt5, jt6, jt7, jt8] at c2
      refine OK_some ?_
      try dsimp only [Sum.elim_inl, Sum.elim_inr, jt2, jt3, jt4, jt5, jt6, jt7, jt8]
      try dsimp only [Sum.elim_inl, Sum.elim_inr, jt2, jt3, jt4, jt5, jt6, jt7, jt8]
      refine ⟨?_, ?_⟩
      · exact ⟨v2, y7, rf1, fun _ => fi2, by { rw [if_pos (by omega)]; unfold fdA; rw [if_neg (by omega)] }, Or.inr ⟨fun z => by omega, fO_t st1.1 (f2021_O fs2.2.1)⟩⟩ -- o18 e2.1
      · exact fun _ => AS8 -- o19 e2.2
  · skip
    try simp (disch := omega) only [jst_eq, jst_ne, jst_ni, jI_i, jcmp_lt, jcmp_gt, w32_id, jcpy_out, Sum.elim_inl, Sum.elim_inr, jt2, jt3, jt4, jt5, jt6, jt7, jt8] at c1
    refine OK_some ?_
    try dsimp only [Sum.elim_inl, Sum.elim_inr, jt2, jt3, jt4, jt5, jt6, jt7, jt8]
    try dsimp only [Sum.elim_inl, Sum.elim_inr, jt2, jt3, jt4, jt5, jt6, jt7, jt8]
    refine ⟨?_, ?_⟩
    · exact ⟨v2, -1, rf1, fun z => by omega, by rw [if_neg (by omega)], Or.inr ⟨fun z => by omega, st1.1⟩⟩ -- o20 e3.1
    · exact st1.2.1 -- o21 e3.2
/-- what x's search stands on -/
def sA (a s : Int) : Prop := (a = 200 ∧ s = 16) ∨ ((a = 271 ∨ a = 289) ∧ s = 18) ∨ (307 ≤ a ∧ a ≤ 321)
def agS (h h' : AH) : Prop := ∀ a s, sA a s → h' a s = h a s
theorem XI_g {h h' : AH} {E : EV} {W : Int → Int → Int → VW} {A : AD} {pts : Int} {M : Int → (Int → Int) → Prop} {T : TB} (f : agS h h') (x : XI h E W A pts M T) : XI h' E W A pts M T := by
  obtain ⟨x1, x2, x3, x4, x5⟩ := x
  have G : ∀ a s, 307 ≤ a → a ≤ 321 → h' a s = h a s := fun a s a0 a1 => f a s (Or.inr (Or.inr ⟨a0, a1⟩))
  refine ⟨x1, ?_, caX_f (fun a s y => G a s (by omega) (by omega)) x3, meX_f (fun s _ _ => G 315 s (by decide) (by decide)) x4, x5⟩
  unfold tX tbX at *
  obtain ⟨t1, t2, t3, t4, t5, t6, t7, t8⟩ := x2
  have xx : h 200 16 = 271 ∨ h 200 16 = 289 := t1
  have e16 : h' 200 16 = h 200 16 := f _ _ (Or.inl ⟨rfl, rfl⟩)
  refine ⟨by rw [e16]; exact t1, by rw [e16, f _ _ (Or.inr (Or.inl ⟨xx, rfl⟩))]; exact t2, t3, t4, by rw [G _ _ (by decide) (by decide)]; exact t5, t6, t7, fun x x0 x1 => ?_⟩
  obtain ⟨c1, c2, c3, c4, c5, c6⟩ := t8 x x0 x1
  refine ⟨?_, ?_, ?_, fun i i0 i1 => ?_, fun p p0 p1 => ?_, ?_⟩
  · rw [G _ _ (by decide) (by decide)]; exact c1
  · rw [G _ _ (by decide) (by decide)]; exact c2
  · rw [G _ _ (by decide) (by decide)]; exact c3
  · rw [G _ _ (by decide) (by decide)]; exact c4 i i0 i1
  · rw [G _ _ (by decide) (by decide)]; exact c5 p p0 p1
  · rw [G _ _ (by decide) (by decide)]; exact c6
theorem GSx_g {h h' : AH} {E : EV} {W : Int → Int → Int → VW} {A : AD} {pts : Int} {M : Int → (Int → Int) → Prop} {cn : Int → Int → Int} {d : Nat} {fl : Int} (f : agS h h') (g : GSx h E W A pts M cn d fl) : GSx h' E W A pts M cn d fl := by
  obtain ⟨g1, g2, g3, g4, g5⟩ := g
  have G : ∀ a s, 307 ≤ a → a ≤ 321 → h' a s = h a s := fun a s a0 a1 => f a s (Or.inr (Or.inr ⟨a0, a1⟩))
  refine ⟨g1, by rw [G _ _ (by decide) (by decide)]; exact g2, by rw [G _ _ (by decide) (by decide)]; exact g3, by rw [G _ _ (by decide) (by decide)]; exact g4, ?_⟩
  rcases g5 with y | ⟨T, t1, t2, t3, t4, t5⟩
  · exact Or.inl ⟨y.1, y.2.1, by rw [G _ _ (by decide) (by decide)]; exact y.2.2⟩
  · exact Or.inr ⟨T, XI_g f t1, t2, t3, fun m l => by rw [G _ _ (by decide) (by decide)]; exact t4 m l, fun q f a b c d => by rw [G _ _ (by decide) (by decide), G 307 _ (by decide) (by decide)]; exact t5 q f a b c d⟩
theorem asX_g {h h' : AH} {E : EV} {Rf : Int → TR} {W : Int → Int → Int → VW} {K : AK} {cn : Int → Int → Int} (a : asX h E Rf W K cn) (f : agS h h') (k : akX h' E Rf W K) : asX h' E Rf W K cn := by
  obtain ⟨a1, d, g, a2⟩ := a
  exact ⟨k, d, g, GSx_g f a2⟩
theorem fBF_S {h h' : AH} (f : fBF h h') : agS h h' := fun a s y => by
  unfold sA at y
  exact f a s (by omega) (by omega) (by omega) (by omega)
def fUB (h h' : AH) : Prop := ∀ a s, ¬ (a = 200 ∧ (s = 9 ∨ s = 10 ∨ s = 14 ∨ s = 15 ∨ s = 22 ∨ s = 23 ∨ s = 26 ∨ s = 27 ∨ s = 29)) → ¬ (a = 269 ∧ 0 ≤ s) → ¬ (307 ≤ a ∧ a ≤ 339 ∧ 0 ≤ s) → h' a s = h a s
theorem fU_B {h h1 h2 : AH} (x : fU h h1) (y : fBF h1 h2) : fUB h h2 := fun a s z1 z2 z3 => (y a s z1 z2 (by omega) (by omega)).trans (x a s (by omega) z2 (by omega))
theorem vX1_find (a1 : Int) {h : AH} {E : EV} {Rf : Int → TR} {W : Int → Int → Int → VW} {K : AK} {cn : Int → Int → Int} (x4 : isX4 (h 200 16)) (cA : ∀ a, 0 ≤ a → a < E.1.1 → E.1.2.1 a < 282429536481) (ak : ¬ h (h 200 16) 19 = 0 → asX h E Rf W K cn) : OK (gX1_find a1 h) (fun r => jt2 r fun v h' => (∃ r y, rfs (¬ h 200 53 = 0) a1 (¬ h (h 200 16) 19 = 0) (lvK E W (kP K) (kA K) a1.toNat) r ∧ (r = 0 → fiT E W K a1.toNat y) ∧ v = (if 0 ≤ r then fdA E W K a1.toNat y else r) ∧ ((r = 0 ∧ 0 ≤ y ∧ fdK h' E W K (tm (kA K) (LV E W (kP K) (kA K) a1.toNat) y) ∧ fUB h h') ∨ (¬ (r = 0 ∧ 0 ≤ y) ∧ fU h h'))) ∧ (¬ h (h 200 16) 19 = 0 → asX h' E Rf W K cn)) := by
  unfold gX1_find
  refine OK_jb2 (vX1_known (E := E) (Rf := Rf) (W := W) (K := K) (cn := cn) _ (by exact x4) (by exact ak)) (fun v2 h3 r1 => ?_)
  try dsimp only [Sum.elim_inl, Sum.elim_inr, jt2, jt3, jt4, jt5, jt6, jt7, jt8] at r1
  obtain ⟨rf1, st1⟩ := r1
  try simp (disch := omega) only [jst_eq, jst_ne, jst_ni, jI_i, jcmp_lt, jcmp_gt, w32_id, jcpy_out, Sum.elim_inl, Sum.elim_inr, jt2, jt3, jt4, jt5, jt6, jt7, jt8] at rf1
  try simp (disch := omega) only [jst_eq, jst_ne, jst_ni, jI_i, jcmp_lt, jcmp_gt, w32_id, jcpy_out, Sum.elim_inl, Sum.elim_inr, jt2, jt3, jt4, jt5, jt6, jt7, jt8] at st1
  refine OK_if (fun c1 => ?_) (fun c1 => ?_)
  · skip
    try simp (disch := omega) only [jst_eq, jst_ne, jst_ni, jI_i, jcmp_lt, jcmp_gt, w32_id, jcpy_out, Sum.elim_inl, Sum.elim_inr, jt2, jt3, jt4, jt5, jt6, jt7, jt8] at c1
    have v0 : v2 = 0 := by { rcases rf1 with u | u | u | u | u; { omega }; { omega }; { omega }; { omega }; { exact u.2.2.2.2 } }
    have R0 : (1 ≤ a1 ∧ a1 ≤ 12) ∧ (¬ h (h 200 16) 19 = 0) ∧ lvK E W (kP K) (kA K) a1.toNat := by { rcases rf1 with u | u | u | u | u; { omega }; { omega }; { omega }; { omega }; { exact ⟨u.2.1, u.2.2.1, u.2.2.2.1⟩ } }
    have AS := st1.2.1 R0.2.1
    obtain ⟨T, xt, cl⟩ := st1.2.2 v0
    refine OK_jb2 (vX5_first (E := E) (Rf := Rf) (W := W) (K := K) (p := a1.toNat) (T := T) _ (by exact AS.1) (by exact xt) (by omega)) (fun v6 h7 r2 => ?_)
    try dsimp only [Sum.elim_inl, Sum.elim_inr, jt2, jt3, jt4, jt5, jt6, jt7, jt8] at r2
    obtain ⟨fi2, fs2⟩ := r2
    try simp (disch := omega) only [jst_eq, jst_ne, jst_ni, jI_i, jcmp_lt, jcmp_gt, w32_id, jcpy_out, Sum.elim_inl, Sum.elim_inr, jt2, jt3, jt4, jt5, jt6, jt7, jt8] at fi2
    try simp (disch := omega) only [jst_eq, jst_ne, jst_ni, jI_i, jcmp_lt, jcmp_gt, w32_id, jcpy_out, Sum.elim_inl, Sum.elim_inr, jt2, jt3, jt4, jt5, jt6, jt7, jt8] at fs2
    have AS7 := cl h7 fs2.2.1 fs2.1 fs2.2.2
    have U7 := fU_t st1.1 (fI_U fs2.2.1)
    have n120 := xt.2.2.2.1
    refine OK_if (fun c2 => ?_) (fun c2 => ?_)
    · skip
      try simp (disch := omega) only [jst_eq, jst_ne, jst_ni, jI_i, jcmp_lt, jcmp_gt, w32_id, jcpy_out, Sum.elim_inl, Sum.elim_inr, jt2, jt3, jt4, jt5, jt6, jt7, jt8] at c2
      refine OK_some ?_
      try dsimp only [Sum.elim_inl, Sum.elim_inr, jt2, jt3, jt4, jt5, jt6, jt7, jt8]
      try dsimp only [Sum.elim_inl, Sum.elim_inr, jt2, jt3, jt4, jt5, jt6, jt7, jt8]
      refine ⟨?_, ?_⟩
      · exact ⟨v2, v6, rf1, fun _ => fi2, by { rw [if_pos (by omega)]; unfold fdA; rw [if_neg (by omega)] }, Or.inr ⟨fun z => by omega, U7⟩⟩ -- o6 e1.1
      · exact fun _ => AS7 -- o7 e1.2
    · skip
      try simp (disch := omega) only [jst_eq, jst_ne, jst_ni, jI_i, jcmp_lt, jcmp_gt, w32_id, jcpy_out, Sum.elim_inl, Sum.elim_inr, jt2, jt3, jt4, jt5, jt6, jt7, jt8] at c2
      have FI : 0 ≤ v6 ∧ v6 < (LV E W (kP K) (kA K) a1.toNat).1 := by { rcases fi2 with u | u; { exact ⟨u.1, u.2.1⟩ }; { exact absurd u.1 c2 } }
      refine OK_jb (vX1_becomeFirst (E := E) (Rf := Rf) (W := W) (K := K) (p := a1.toNat) (T := T) _ (by exact fs2.2.2) (by exact cA) (by exact fs2.1) (by exact FI) (by exact ⟨R0.2.2, by omega⟩)) (fun h10 r3 => ?_)
      try dsimp only [Sum.elim_inl, Sum.elim_inr, jt2, jt3, jt4, jt5, jt6, jt7, jt8] at r3
      obtain ⟨fd3, fs3⟩ := r3
      try simp (disch := omega) only [jst_eq, jst_ne, jst_ni, jI_i, jcmp_lt, jcmp_gt, w32_id, jcpy_out, Sum.elim_inl, Sum.elim_inr, jt2, jt3, jt4, jt5, jt6, jt7, jt8] at fd3
      try simp (disch := omega) only [jst_eq, jst_ne, jst_ni, jI_i, jcmp_lt, jcmp_gt, w32_id, jcpy_out, Sum.elim_inl, Sum.elim_inr, jt2, jt3, jt4, jt5, jt6, jt7, jt8] at fs3
      have FB := (by first | exact fs3 | assumption : fBF h7 h10 ∧ akX h10 E Rf W K)
      have e6 := fs2.1.2.1.2 v6 FI.1 FI.2
      have l6 := fs2.1.2.1.1
      have w10 : h10 309 v6 = (LV E W (kP K) (kA K) a1.toNat).2.2.1 v6 := by { rw [FB.1 _ _ (by omega) (by omega) (by omega) (by omega), ← e6.2.1]; exact (fs2.1.1.2.1.2.2.2.2.2.2.2 v6 FI.1 (by omega)).2.1 }
      refine OK_jg (by (first | assumption | omega | ((try dsimp only [jt2, jt3, jt4]); first | omega | (simp (disch := omega) only [jst_eq, jst_ne, jst_ni, jst_o, jI_i, jcpy_out, w32_id, jdiv_nn, jshr_k, jand_255] <;> first | done | omega | assumption)) | (intros; simp (disch := omega) only [jst_eq, jst_ne, jst_ni, jst_o, jI_i, jcpy_out, w32_id, jdiv_nn, *] <;> first | done | omega) | (intros; simp (disch := omega) only [jst_eq, jst_ne, jst_ni, jst_o, jI_i, jcpy_out, w32_id, jdiv_nn] at * <;> first | done | omega | assumption) | (intros; first | rfl | (exfalso; omega) | ((repeat' apply And.intro) <;> first | assumption | rfl | omega | trivial)))) ?_ -- o13
      refine OK_some ?_
      try dsimp only [Sum.elim_inl, Sum.elim_inr, jt2, jt3, jt4, jt5, jt6, jt7, jt8]
      try dsimp only [Sum.elim_inl, Sum.elim_inr, jt2, jt3, jt4, jt5, jt6, jt7, jt8]
      refine ⟨?_, ?_⟩
      · exact ⟨v2, v6, rf1, fun _ => fi2, by { rw [if_pos (by omega)]; unfold fdA; rw [if_pos FI.1]; exact w10 }, Or.inl ⟨v0, FI.1, by first | exact fd3 | assumption, fU_B U7 FB.1⟩⟩ -- o14 e2.1
      · exact fun _ => asX_g AS7 (fBF_S FB.1) FB.2 -- o15 e2.2
  · skip
    try simp (disch := omega) only [jst_eq, jst_ne, jst_ni, jI_i, jcmp_lt, jcmp_gt, w32_id, jcpy_out, Sum.elim_inl, Sum.elim_inr, jt2, jt3, jt4, jt5, jt6, jt7, jt8] at c1
    refine OK_some ?_
    try dsimp only [Sum.elim_inl, Sum.elim_inr, jt2, jt3, jt4, jt5, jt6, jt7, jt8]
    try dsimp only [Sum.elim_inl, Sum.elim_inr, jt2, jt3, jt4, jt5, jt6, jt7, jt8]
    refine ⟨?_, ?_⟩
    · exact ⟨v2, -1, rf1, fun z => by omega, by rw [if_neg (by omega)], Or.inr ⟨fun z => by omega, st1.1⟩⟩ -- o16 e3.1
    · exact st1.2.1 -- o17 e3.2
theorem vX1_different (a1 : Int) {h : AH} {E : EV} {Rf : Int → TR} {W : Int → Int → Int → VW} {K : AK} {cn : Int → Int → Int} (x4 : isX4 (h 200 16)) (ak : ¬ h (h 200 16) 19 = 0 → asX h E Rf W K cn) : OK (gX1_different a1 h) (fun r => jt2 r fun v h' => (ansQ E W K (¬ h 200 53 = 0) (¬ h (h 200 16) 19 = 0) a1 (fun p => cMt (MKT E W K p) (LV E W (kP K) (kA K) p).1.toNat) v) ∧ (fU h h' ∧ (¬ h (h 200 16) 19 = 0 → asX h' E Rf W K cn))) := by
  unfold gX1_different
  refine OK_jb2 (vX1_known (E := E) (Rf := Rf) (W := W) (K := K) (cn := cn) _ (by exact x4) (by exact ak)) (fun v2 h3 r1 => ?_)
  try dsimp only [Sum.elim_inl, Sum.elim_inr, jt2, jt3, jt4, jt5, jt6, jt7, jt8] at r1
  obtain ⟨rf1, st1⟩ := r1
  try simp (disch := omega) only [jst_eq, jst_ne, jst_ni, jI_i, jcmp_lt, jcmp_gt, w32_id, jcpy_out, Sum.elim_inl, Sum.elim_inr, jt2, jt3, jt4, jt5, jt6, jt7, jt8] at rf1
  try simp (disch := omega) only [jst_eq, jst_ne, jst_ni, jI_i, jcmp_lt, jcmp_gt, w32_id, jcpy_out, Sum.elim_inl, Sum.elim_inr, jt2, jt3, jt4, jt5, jt6, jt7, jt8] at st1
  refine OK_if (fun c1 => ?_) (fun c1 => ?_)
  · skip
    try simp (disch := omega) only [jst_eq, jst_ne, jst_ni, jI_i, jcmp_lt, jcmp_gt, w32_id, jcpy_out, Sum.elim_inl, Sum.elim_inr, jt2, jt3, jt4, jt5, jt6, jt7, jt8] at c1
    have v0 : v2 = 0 := by { rcases rf1 with u | u | u | u | u; { omega }; { omega }; { omega }; { omega }; { exact u.2.2.2.2 } }
    have R0 : (1 ≤ a1 ∧ a1 ≤ 12) ∧ (¬ h (h 200 16) 19 = 0) ∧ lvK E W (kP K) (kA K) a1.toNat := by { rcases rf1 with u | u | u | u | u; { omega }; { omega }; { omega }; { omega }; { exact ⟨u.2.1, u.2.2.1, u.2.2.2.1⟩ } }
    have AS := st1.2.1 R0.2.1
    obtain ⟨T, xt, cl⟩ := st1.2.2 v0
    refine OK_jb2 (vX5_different (E := E) (Rf := Rf) (W := W) (K := K) (p := a1.toNat) (T := T) _ (by exact AS.1) (by exact xt) (by omega)) (fun v6 h7 r2 => ?_)
    try dsimp only [Sum.elim_inl, Sum.elim_inr, jt2, jt3, jt4, jt5, jt6, jt7, jt8] at r2
    obtain ⟨cc2, fs2⟩ := r2
    try simp (disch := omega) only [jst_eq, jst_ne, jst_ni, jI_i, jcmp_lt, jcmp_gt, w32_id, jcpy_out, Sum.elim_inl, Sum.elim_inr, jt2, jt3, jt4, jt5, jt6, jt7, jt8] at cc2
    try simp (disch := omega) only [jst_eq, jst_ne, jst_ni, jI_i, jcmp_lt, jcmp_gt, w32_id, jcpy_out, Sum.elim_inl, Sum.elim_inr, jt2, jt3, jt4, jt5, jt6, jt7, jt8] at fs2
    refine OK_some ?_
    try dsimp only [Sum.elim_inl, Sum.elim_inr, jt2, jt3, jt4, jt5, jt6, jt7, jt8]
    try dsimp only [Sum.elim_inl, Sum.elim_inr, jt2, jt3, jt4, jt5, jt6, jt7, jt8]
    refine ⟨?_, ?_⟩
    · exact ⟨v2, rf1, by rw [if_pos (by omega)]; exact cc2⟩ -- o6 e1.1
    · exact ⟨fU_t st1.1 (fI_U fs2.2.1), fun _ => cl _ fs2.2.1 fs2.1 fs2.2.2⟩ -- o7 e1.2
  · skip
    try simp (disch := omega) only [jst_eq, jst_ne, jst_ni, jI_i, jcmp_lt, jcmp_gt, w32_id, jcpy_out, Sum.elim_inl, Sum.elim_inr, jt2, jt3, jt4, jt5, jt6, jt7, jt8] at c1
    refine OK_some ?_
    try dsimp only [Sum.elim_inl, Sum.elim_inr, jt2, jt3, jt4, jt5, jt6, jt7, jt8]
    try dsimp only [Sum.elim_inl, Sum.elim_inr, jt2, jt3, jt4, jt5, jt6, jt7, jt8]
    refine ⟨?_, ?_⟩
    · exact ⟨v2, rf1, by rw [if_neg (by omega)]⟩ -- o8 e2.1
    · exact ⟨st1.1, st1.2.1⟩ -- o9 e2.2
theorem vX1_question (a1 : Int) {h : AH} {E : EV} {Rf : Int → TR} {W : Int → Int → Int → VW} {K : AK} {cn : Int → Int → Int} (x4 : isX4 (h 200 16)) (ak : ¬ h (h 200 16) 19 = 0 → asX h E Rf W K cn) : OK (gX1_question a1 h) (fun r => jt2 r fun v h' => (ansQ E W K (¬ h 200 53 = 0) (¬ h (h 200 16) 19 = 0) a1 (fun p => qsP (bsP (MKT E W K p) (QP E W K p) (LV E W (kP K) (kA K) p).1.toNat (kP K).toNat)) v) ∧ (fU h h' ∧ (¬ h (h 200 16) 19 = 0 → asX h' E Rf W K cn))) := by
  unfold gX1_question
  refine OK_jb2 (vX1_known (E := E) (Rf := Rf) (W := W) (K := K) (cn := cn) _ (by exact x4) (by exact ak)) (fun v2 h3 r1 => ?_)
  try dsimp only [Sum.elim_inl, Sum.elim_inr, jt2, jt3, jt4, jt5, jt6, jt7, jt8] at r1
  obtain ⟨rf1, st1⟩ := r1
  try simp (disch := omega) only [jst_eq, jst_ne, jst_ni, jI_i, jcmp_lt, jcmp_gt, w32_id, jcpy_out, Sum.elim_inl, Sum.elim_inr, jt2, jt3, jt4, jt5, jt6, jt7, jt8] at rf1
  try simp (disch := omega) only [jst_eq, jst_ne, jst_ni, jI_i, jcmp_lt, jcmp_gt, w32_id, jcpy_out, Sum.elim_inl, Sum.elim_inr, jt2, jt3, jt4, jt5, jt6, jt7, jt8] at st1
  refine OK_if (fun c1 => ?_) (fun c1 => ?_)
  · skip
    try simp (disch := omega) only [jst_eq, jst_ne, jst_ni, jI_i, jcmp_lt, jcmp_gt, w32_id, jcpy_out, Sum.elim_inl, Sum.elim_inr, jt2, jt3, jt4, jt5, jt6, jt7, jt8] at c1
    have v0 : v2 = 0 := by { rcases rf1 with u | u | u | u | u; { omega }; { omega }; { omega }; { omega }; { exact u.2.2.2.2 } }
    have R0 : (1 ≤ a1 ∧ a1 ≤ 12) ∧ (¬ h (h 200 16) 19 = 0) ∧ lvK E W (kP K) (kA K) a1.toNat := by { rcases rf1 with u | u | u | u | u; { omega }; { omega }; { omega }; { omega }; { exact ⟨u.2.1, u.2.2.1, u.2.2.2.1⟩ } }
    have AS := st1.2.1 R0.2.1
    obtain ⟨T, xt, cl⟩ := st1.2.2 v0
    refine OK_jb2 (vX5_question (E := E) (Rf := Rf) (W := W) (K := K) (p := a1.toNat) (T := T) _ (by exact AS.1) (by exact xt) (by omega)) (fun v6 h7 r2 => ?_)
    try dsimp only [Sum.elim_inl, Sum.elim_inr, jt2, jt3, jt4, jt5, jt6, jt7, jt8] at r2
    obtain ⟨qs2, fs2⟩ := r2
    try simp (disch := omega) only [jst_eq, jst_ne, jst_ni, jI_i, jcmp_lt, jcmp_gt, w32_id, jcpy_out, Sum.elim_inl, Sum.elim_inr, jt2, jt3, jt4, jt5, jt6, jt7, jt8] at qs2
    try simp (disch := omega) only [jst_eq, jst_ne, jst_ni, jI_i, jcmp_lt, jcmp_gt, w32_id, jcpy_out, Sum.elim_inl, Sum.elim_inr, jt2, jt3, jt4, jt5, jt6, jt7, jt8] at fs2
    refine OK_some ?_
    try dsimp only [Sum.elim_inl, Sum.elim_inr, jt2, jt3, jt4, jt5, jt6, jt7, jt8]
    try dsimp only [Sum.elim_inl, Sum.elim_inr, jt2, jt3, jt4, jt5, jt6, jt7, jt8]
    refine ⟨?_, ?_⟩
    · exact ⟨v2, rf1, by rw [if_pos (by omega)]; exact qs2⟩ -- o6 e1.1
    · exact ⟨fU_t st1.1 (fI_U fs2.2.1), fun _ => cl _ fs2.2.1 fs2.1 fs2.2.2⟩ -- o7 e1.2
  · skip
    try simp (disch := omega) only [jst_eq, jst_ne, jst_ni, jI_i, jcmp_lt, jcmp_gt, w32_id, jcpy_out, Sum.elim_inl, Sum.elim_inr, jt2, jt3, jt4, jt5, jt6, jt7, jt8] at c1
    refine OK_some ?_
    try dsimp only [Sum.elim_inl, Sum.elim_inr, jt2, jt3, jt4, jt5, jt6, jt7, jt8]
    try dsimp only [Sum.elim_inl, Sum.elim_inr, jt2, jt3, jt4, jt5, jt6, jt7, jt8]
    refine ⟨?_, ?_⟩
    · exact ⟨v2, rf1, by rw [if_neg (by omega)]⟩ -- o8 e2.1
    · exact ⟨st1.1, st1.2.1⟩ -- o9 e2.2

