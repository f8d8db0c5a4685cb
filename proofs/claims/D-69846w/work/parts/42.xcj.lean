/-! x: a call read, its end -/
def sR3 (R : Int ⊕ (List TR × Int)) : Int ⊕ Int := match R with | .inl z => .inl z | .inr x => .inr x.2
def posC (B : Int → Int) (n T : Int) (E : EV) (D q1 : Int) (h0 : AH) (res : PR) (v : Int) (h' : AH) : Prop := coC T D h0 h' ∧ v = D ∧ match res with
  | .inl z => Sx B n (.inl z) h' ∧ h' T 0 ≤ h0 T 0 + (n - q1) ∧ h' 441 16 ≤ h0 441 16 + (n - q1)
  | .inr (t, q) => Sx B n (.inr q) h' ∧ q1 < q ∧ h' T 0 = D + sz t ∧ sz t ≤ q - q1 ∧ rXc h' T (rsE E t (h0 441 16)) D 0 (D + 1) ∧ FK h' = min (FK h0) (fkE E t 0 (h0 441 16)) ∧ h' 441 16 = h0 441 16 + hlT t ∧ h' 445 D = wtE E t ∧ (3 < h' 441 16 → FK h' ≤ 8 * q)
theorem pC_l {B : Int → Int} {n q1 w pl z : Int} {sk : Bool} {d : Nat} (e : bdG (nx B n q1) (pKs B n (pT B n sk d) 2002 []) = .inl z) : pC B n sk d w pl q1 = .inl z := by
  unfold pC
  cases e1 : nx B n q1 with
  | inl z1 => rw [e1] at e; have : Sum.inl z1 = (Sum.inl z : Int ⊕ (List TR × Int)) := e; cases this; rfl
  | inr q2 =>
    rw [e1] at e
    have e2 : pKs B n (pT B n sk d) 2002 [] q2 = .inl z := e
    simp only [e2]
theorem pC_r {B : Int → Int} {n q1 w pl q3 : Int} {sk : Bool} {d : Nat} {l : List TR} (e : bdG (nx B n q1) (pKs B n (pT B n sk d) 2002 []) = .inr (l, q3)) : pC B n sk d w pl q1 = bdT (pW B n 41 q3) (fun q4 => .inr (spn (2, 0, w, pl) l, q4)) := by
  unfold pC
  cases e1 : nx B n q1 with
  | inl z1 => rw [e1] at e; cases e
  | inr q2 =>
    rw [e1] at e
    have e2 : pKs B n (pT B n sk d) 2002 [] q2 = .inr (l, q3) := e
    simp only [e2]
    rfl
theorem fiE_2 {E : EV} {w pl j hc : Int} : fiE E (2, 0, w, pl) j hc = if eRs E w = -1 then pl * 8 + 2 else if j ≠ eO E (eRs E w) then pl * 8 + 4 else 1000000 := rfl
theorem fk_spn {E : EV} {w pl : Int} (p : 0 ≤ pl ∧ pl ≤ 2001) (l : List TR) (j hc : Int) : fkE E (spn (2, 0, w, pl) l) j hc = min (flE E (2, 0, w, pl) l j hc) (fiE E (2, 0, w, pl) (j + (l.length : Nat)) (hc + hlL l)) := by
  refine fkT_spn _ _ _ _ _ _ (fun j hc => ?_) l j hc
  show fiE E (2, 0, w, pl) j hc ≤ 1000000
  rw [fiE_2]
  by_cases a : eRs E w = -1
  · rw [if_pos a]; omega
  · rw [if_neg a]
    by_cases b : j ≠ eO E (eRs E w)
    · rw [if_pos b]; omega
    · rw [if_neg b]; omega
/-- the end of a call: the bracket, its weight, whether the operands are as many as it wants -/
theorem endC {B : Int → Int} {n T : Int} {sk : Bool} {d : Nat} {E : EV} {w pl D q1 x s' : Int} {h0 h36 h38 h' : AH} (hB : ∀ i, 0 ≤ i → i < n → 0 ≤ B i ∧ B i < 256) (hT : 258 ≤ T ∧ T ≤ 400) (hD : 0 ≤ D ∧ h0 T 0 = D + 1) (hn : q1 ≤ n ∧ 0 ≤ q1) (hp : 0 ≤ pl ∧ pl ≤ 2001) (lt : q1 < n)
    (at' : h0 (T + 1) D = (riE E (2, 0, w, pl) 0).1 ∧ h0 (T + 2) D = (riE E (2, 0, w, pl) 0).2.1 ∧ h0 (T + 3) D = (riE E (2, 0, w, pl) 0).2.2.1 ∧ h0 (T + 4) D = (riE E (2, 0, w, pl) 0).2.2.2)
    (r : resC B n T sk d E w pl D q1 h0 x s' h36) (sx : Sx B n (bnd (sR3 (bdG (nx B n q1) (pKs B n (pT B n sk d) 2002 []))) (pW B n 41)) h38)
    (f38 : ∀ a s, ¬ (a = 441 ∧ 2 ≤ s ∧ s ≤ 7) → h38 a s = h36 a s) (f' : ∀ a s, ¬ (a = 441 ∧ (s = 8 ∨ s = 9)) → ¬ (a = 445 ∧ s = D) → h' a s = h38 a s) (hw : h' 445 D = s') (f8 : 0 ≤ h' 441 8 ∧ h' 441 8 ≤ 6) (g : FK h0 ≤ 1000000)
    (fk : FK h' = min (FK h38) (if eRs E w ≠ -1 ∧ x ≠ eO E (eRs E w) then pl * 8 + 4 else 1000000)) (fu : eRs E w = -1 → FK h0 ≤ pl * 8 + 2) : posC B n T E D q1 h0 (pC B n sk d w pl q1) D h' := by
  obtain ⟨⟨o1, o2, o3, o4, o5, o6⟩, r⟩ := r
  have e38 : FK h38 = FK h36 := FK_fr (f38 _ _ (by omega)) (f38 _ _ (by omega))
  have e0 : h' T 0 = h36 T 0 := by rw [f' _ _ (by omega) (by omega), f38 _ _ (by omega)]
  have e16 : h' 441 16 = h36 441 16 := by rw [f' _ _ (by omega) (by omega), f38 _ _ (by omega)]
  refine ⟨⟨fun a s y1 y2 y3 y4 y5 => ?_, f8.1, f8.2, by rw [fk, e38]; omega, by omega, by omega⟩, rfl, ?_⟩
  · rw [f' a s (by omega) (by omega), f38 a s (by omega)]; exact o1 a s y1 y2 y3 y4 y5
  have sx' : Sx B n (bnd (sR3 (bdG (nx B n q1) (pKs B n (pT B n sk d) 2002 []))) (pW B n 41)) h' := Sx_fr sx (fun s s0 s1 => f' _ _ (by omega) (by omega))
  rcases r with ⟨z, e, s1, s2, s3⟩ | ⟨l, q3, e, st⟩
  · rw [pC_l e]
    rw [e] at sx'
    exact ⟨sx', by omega, by omega⟩
  · rw [pC_r e]
    rw [e] at sx'
    have sx2 : Sx B n (pW B n 41 q3) h' := sx'
    obtain ⟨s1, s2, s3, s4, s5, s6, s7, s8, s9, s10, s11, s12⟩ := st
    obtain ⟨nb, g5⟩ := Sx_inr s1
    have z1 := szL_pos l
    have z2 := hlL_sz l
    cases ew : pW B n 41 q3 with
    | inl z =>
      rw [ew] at sx2
      have nb3 := nb.2.2.2
      refine ⟨sx2, by omega, by omega⟩
    | inr q4 =>
      rw [ew] at sx2
      have qq : q3 < q4 := by
        unfold pW at ew
        by_cases c : tO B n q3 = 4 ∧ tV B n q3 = 41
        · rw [if_pos c] at ew; have := nx_r hB nb.2.2.1 nb.2.2.2 g5 (by omega) ew; omega
        · rw [if_neg c] at ew; cases ew
      have hs : sz (spn (2, 0, w, pl) l) = szL l + 1 := sz_spn _ l
      have hh : hlT (spn (2, 0, w, pl) l) = hlL l := hlT_spn (show (2 : Int) ≠ 3 by decide) l
      have F : ∀ a s, ¬ (a = 441 ∧ 2 ≤ s ∧ s ≤ 9) → ¬ (a = 445 ∧ s = D) → h' a s = h36 a s := fun a s y1 y2 => by rw [f' a s (by omega) y2, f38 a s (by omega)]
      refine ⟨sx2, by omega, by omega, by omega, ?_, ?_, by omega, ?_, ?_⟩
      · have e1 : rsE E (spn (2, 0, w, pl) l) (h0 441 16) = spn (riE E (2, 0, w, pl) 0) (rlE E l (h0 441 16)) := rsT_spn _ _ _ _ _ _ rfl l _
        rw [e1]
        have e2 : (rlE E l (h0 441 16)).length = l.length := len_rs _ _ _ _ _ _ l _
        have e3 : szL (rlE E l (h0 441 16)) = szL l := szL_rs _ _ _ _ _ _ l _
        refine rXc_spn ?_ ⟨?_, ?_, ?_, ?_, fun k k0 k1 k2 => ?_⟩
        · exact rXl_fr (h := h36) (lo := D + 1) (hi := D + 1 + szL l) (fun a s a0 a1 s0 s1 => F _ _ (by omega) (by omega)) (fun s s0 s1 => F _ _ (by omega) (by omega)) (Int.le_refl _) (Int.le_refl _) (by rw [e3]; omega) (fun k k0 k1 k2 => F _ _ (by omega) (by omega)) s7
        · rw [F _ _ (by omega) (by omega), s9 _ (by omega) (by omega)]; exact at'.1
        · rw [F _ _ (by omega) (by omega), s9 _ (by omega) (by omega)]; exact at'.2.1
        · rw [F _ _ (by omega) (by omega), s9 _ (by omega) (by omega)]; exact at'.2.2.1
        · rw [F _ _ (by omega) (by omega), s9 _ (by omega) (by omega)]; exact at'.2.2.2
        · rw [e2] at k1
          rw [F _ _ (by omega) (by omega)]
          exact s8 k k0 (by omega) k2
      · rw [fk, e38, s10, fk_spn hp, fiE_2, show (0 : Int) + ((l.length : Nat) : Int) = x by omega]
        by_cases a : eRs E w = -1
        · rw [if_pos a, if_neg (fun z => z.1 a)]; have := fu a; omega
        · rw [if_neg a]
          by_cases b : x ≠ eO E (eRs E w)
          · rw [if_pos b, if_pos ⟨a, b⟩]; omega
          · rw [if_neg b, if_neg (fun z => b z.2)]; omega
      · rw [hw, s4]
        have : wtE E (spn (2, 0, w, pl) l) = wlE E l + (1 + eW E (eRs E w)) := wtT_spn _ _ rfl l
        omega
      · intro z
        have h1 : FK h' ≤ FK h36 := by rw [fk, e38]; omega
        have := s12 (by omega)
        omega
theorem resC_sx {B : Int → Int} {n T : Int} {sk : Bool} {d : Nat} {E : EV} {w pl D q1 x s' : Int} {h0 h : AH} (r : resC B n T sk d E w pl D q1 h0 x s' h) : Sx B n (sR3 (bdG (nx B n q1) (pKs B n (pT B n sk d) 2002 []))) h := by
  obtain ⟨_, ⟨z, e, s, _⟩ | ⟨l, q3, e, st⟩⟩ := r
  · rw [e]; exact s
  · rw [e]; exact st.1
theorem brkE {B : Int → Int} {n T : Int} {sk : Bool} {d : Nat} {E : EV} {w pl D q1 x s' : Int} {h0 h : AH} (r : resC B n T sk d E w pl D q1 h0 x s' h) (b : ¬ h 441 6 = 0) : posC B n T E D q1 h0 (pC B n sk d w pl q1) D h := by
  obtain ⟨co, ⟨z, e, s, s2, s3⟩ | ⟨l, q3, e, st⟩⟩ := r
  · exact ⟨co, rfl, by rw [pC_l e]; exact ⟨s, s2, s3⟩⟩
  · exact absurd (Sx_inr st.1).1.1 b
theorem vX13_call_j228 {F : Int → Int → Int → AH → Option (Int × AH)} (a1 : Int) (a3 : Int) (a4 : Int) (a5 : Int) (a6 : Int) (a7 : Int) (a8 : Int) (a9 : Int) (t0 : Int) (t1 : Int) {h : AH} {B : Int → Int} {n A T u w q1 : Int} {d : Nat} {sk : Bool} {E : EV} (hB : ∀ i, 0 ≤ i → i < n → 0 ≤ B i ∧ B i < 256) (hF : ∀ d', d = d' + 1 → CTX F B n A T sk E d') (hd : a3 + d = 12 ∧ 0 ≤ a3) (hq : 0 ≤ q1 ∧ q1 ≤ n ∧ u ≤ q1 ∧ tO B n q1 = 4) (s : Sx B n (.inr q1) h) (p : preT B n A T sk E u h) (dn : 0 ≤ a7 ∧ h T 0 = a7 + 1 ∧ ndX h T a7 (riE E (2, 0, w, a1) 0)) (ac : (a4 = if eRs E w = -2 then 1 else 0) ∧ (eRs E w ≠ -2 → a5 = eRs E w) ∧ (a6 = if eRs E w = -1 then 0 else 1) ∧ a8 = eO E (eRs E w)) (z : a9 = 0 ∧ t0 = 1 ∧ t1 = eW E (eRs E w)) (pl : 0 ≤ a1 ∧ a1 ≤ 2001) (fu : eRs E w = -1 → FK h ≤ a1 * 8 + 2) : OK (gX13_call_j228 F a1 a3 a4 a5 a6 a7 a8 a9 t0 t1 h) (fun r => jt2 r fun v h' => posC B n T E a7 q1 h (pC B n sk d w a1 q1) v h') := by
  have p0 := p
  have cp := p.1.2.2.2.2.2.1
  have Tb : 258 ≤ T ∧ T ≤ 400 := ⟨cp.2.2.2.2.2.1, cp.2.2.2.2.2.2.1⟩
  have W := W_of p0.1.2.1.1 w
  have g5 := (Sx_inr s).2
  have lt := nx_u hB hq.1 hq.2.1 g5 (by omega)
  have p2 := p0.2.1
  have hn := p0.1.1.2.2.2.1
  unfold gX13_call_j228
  refine OK_jlx (fun x29 ex29 => ?_)
  try simp (disch := omega) only [jst_eq, jst_ne, jst_ni, jI_i, jcmp_lt, jcmp_gt, w32_id, jcpy_out, Sum.elim_inl, Sum.elim_inr, jt2, jt3, jt4, jt5, jt6, jt7, jt8] at ex29
  refine OK_jb (vX13_call_l231 (B := B) (n := n) (A := A) (T := T) (u := u) (w := w) (pl := a1) (q1 := q1) (d := d) (sk := sk) (E := E) _ _ _ _ _ _ _ _ _ (by (first | assumption | omega | ((try dsimp only [jt2, jt3, jt4]); first | omega | (simp (disch := omega) only [jst_eq, jst_ne, jst_ni, jst_o, jI_i, jcpy_out, w32_id, jdiv_nn, jshr_k, jand_255] <;> first | done | omega | assumption)) | (intros; simp (disch := omega) only [jst_eq, jst_ne, jst_ni, jst_o, jI_i, jcpy_out, w32_id, jdiv_nn, *] <;> first | done | omega) | (intros; simp (disch := omega) only [jst_eq, jst_ne, jst_ni, jst_o, jI_i, jcpy_out, w32_id, jdiv_nn] at * <;> first | done | omega | assumption) | (intros; first | rfl | (exfalso; omega) | ((repeat' apply And.intro) <;> first | assumption | rfl | omega | trivial)))) (by (first | assumption | omega | ((try dsimp only [jt2, jt3, jt4]); first | omega | (simp (disch := omega) only [jst_eq, jst_ne, jst_ni, jst_o, jI_i, jcpy_out, w32_id, jdiv_nn, jshr_k, jand_255] <;> first | done | omega | assumption)) | (intros; simp (disch := omega) only [jst_eq, jst_ne, jst_ni, jst_o, jI_i, jcpy_out, w32_id, jdiv_nn, *] <;> first | done | omega) | (intros; simp (disch := omega) only [jst_eq, jst_ne, jst_ni, jst_o, jI_i, jcpy_out, w32_id, jdiv_nn] at * <;> first | done | omega | assumption) | (intros; first | rfl | (exfalso; omega) | ((repeat' apply And.intro) <;> first | assumption | rfl | omega | trivial)))) (by (first | assumption | omega | ((try dsimp only [jt2, jt3, jt4]); first | omega | (simp (disch := omega) only [jst_eq, jst_ne, jst_ni, jst_o, jI_i, jcpy_out, w32_id, jdiv_nn, jshr_k, jand_255] <;> first | done | omega | assumption)) | (intros; simp (disch := omega) only [jst_eq, jst_ne, jst_ni, jst_o, jI_i, jcpy_out, w32_id, jdiv_nn, *] <;> first | done | omega) | (intros; simp (disch := omega) only [jst_eq, jst_ne, jst_ni, jst_o, jI_i, jcpy_out, w32_id, jdiv_nn] at * <;> first | done | omega | assumption) | (intros; first | rfl | (exfalso; omega) | ((repeat' apply And.intro) <;> first | assumption | rfl | omega | trivial)))) (by (first | assumption | omega | ((try dsimp only [jt2, jt3, jt4]); first | omega | (simp (disch := omega) only [jst_eq, jst_ne, jst_ni, jst_o, jI_i, jcpy_out, w32_id, jdiv_nn, jshr_k, jand_255] <;> first | done | omega | assumption)) | (intros; simp (disch := omega) only [jst_eq, jst_ne, jst_ni, jst_o, jI_i, jcpy_out, w32_id, jdiv_nn, *] <;> first | done | omega) | (intros; simp (disch := omega) only [jst_eq, jst_ne, jst_ni, jst_o, jI_i, jcpy_out, w32_id, jdiv_nn] at * <;> first | done | omega | assumption) | (intros; first | rfl | (exfalso; omega) | ((repeat' apply And.intro) <;> first | assumption | rfl | omega | trivial)))) (by (first | assumption | omega | ((try dsimp only [jt2, jt3, jt4]); first | omega | (simp (disch := omega) only [jst_eq, jst_ne, jst_ni, jst_o, jI_i, jcpy_out, w32_id, jdiv_nn, jshr_k, jand_255] <;> first | done | omega | assumption)) | (intros; simp (disch := omega) only [jst_eq, jst_ne, jst_ni, jst_o, jI_i, jcpy_out, w32_id, jdiv_nn, *] <;> first | done | omega) | (intros; simp (disch := omega) only [jst_eq, jst_ne, jst_ni, jst_o, jI_i, jcpy_out, w32_id, jdiv_nn] at * <;> first | done | omega | assumption) | (intros; first | rfl | (exfalso; omega) | ((repeat' apply And.intro) <;> first | assumption | rfl | omega | trivial)))) (by (first | assumption | omega | ((try dsimp only [jt2, jt3, jt4]); first | omega | (simp (disch := omega) only [jst_eq, jst_ne, jst_ni, jst_o, jI_i, jcpy_out, w32_id, jdiv_nn, jshr_k, jand_255] <;> first | done | omega | assumption)) | (intros; simp (disch := omega) only [jst_eq, jst_ne, jst_ni, jst_o, jI_i, jcpy_out, w32_id, jdiv_nn, *] <;> first | done | omega) | (intros; simp (disch := omega) only [jst_eq, jst_ne, jst_ni, jst_o, jI_i, jcpy_out, w32_id, jdiv_nn] at * <;> first | done | omega | assumption) | (intros; first | rfl | (exfalso; omega) | ((repeat' apply And.intro) <;> first | assumption | rfl | omega | trivial)))) (by exact ⟨dn.1, dn.2.1, dn.2.2.2.2.2.2⟩) (by (first | assumption | omega | ((try dsimp only [jt2, jt3, jt4]); first | omega | (simp (disch := omega) only [jst_eq, jst_ne, jst_ni, jst_o, jI_i, jcpy_out, w32_id, jdiv_nn, jshr_k, jand_255] <;> first | done | omega | assumption)) | (intros; simp (disch := omega) only [jst_eq, jst_ne, jst_ni, jst_o, jI_i, jcpy_out, w32_id, jdiv_nn, *] <;> first | done | omega) | (intros; simp (disch := omega) only [jst_eq, jst_ne, jst_ni, jst_o, jI_i, jcpy_out, w32_id, jdiv_nn] at * <;> first | done | omega | assumption) | (intros; first | rfl | (exfalso; omega) | ((repeat' apply And.intro) <;> first | assumption | rfl | omega | trivial)))) (by (first | assumption | omega | ((try dsimp only [jt2, jt3, jt4]); first | omega | (simp (disch := omega) only [jst_eq, jst_ne, jst_ni, jst_o, jI_i, jcpy_out, w32_id, jdiv_nn, jshr_k, jand_255] <;> first | done | omega | assumption)) | (intros; simp (disch := omega) only [jst_eq, jst_ne, jst_ni, jst_o, jI_i, jcpy_out, w32_id, jdiv_nn, *] <;> first | done | omega) | (intros; simp (disch := omega) only [jst_eq, jst_ne, jst_ni, jst_o, jI_i, jcpy_out, w32_id, jdiv_nn] at * <;> first | done | omega | assumption) | (intros; first | rfl | (exfalso; omega) | ((repeat' apply And.intro) <;> first | assumption | rfl | omega | trivial))))) (fun o30 r1 => ?_)
  rcases o30 with o32 | o33
  · skip
    have r2 := r1; clear r1
    dsimp only [Sum.elim_inl, Sum.elim_inr] at r2
    try dsimp only [Sum.elim_inl, Sum.elim_inr, jt2, jt3, jt4, jt5, jt6, jt7, jt8] at r2
    obtain ⟨r1, b1⟩ := r2
    try simp (disch := omega) only [jst_eq, jst_ne, jst_ni, jI_i, jcmp_lt, jcmp_gt, w32_id, jcpy_out, Sum.elim_inl, Sum.elim_inr, jt2, jt3, jt4, jt5, jt6, jt7, jt8] at r1
    try simp (disch := omega) only [jst_eq, jst_ne, jst_ni, jI_i, jcmp_lt, jcmp_gt, w32_id, jcpy_out, Sum.elim_inl, Sum.elim_inr, jt2, jt3, jt4, jt5, jt6, jt7, jt8] at b1
    refine OK_jml ?_
    refine OK_some ?_
    try dsimp only [Sum.elim_inl, Sum.elim_inr, jt2, jt3, jt4, jt5, jt6, jt7, jt8]
    (obtain ⟨y1, y2, rr⟩ := r1; exact brkE rr b1) -- o10 e1
  · skip
    have r3 := r1; clear r1
    dsimp only [Sum.elim_inl, Sum.elim_inr] at r3
    refine OK_jmr ?_
    obtain ⟨y34, y35, h36⟩ := o33
    refine OK_jt3 ?_
    try dsimp only [Sum.elim_inl, Sum.elim_inr, jt2, jt3, jt4, jt5, jt6, jt7, jt8] at r3
    have r2 := r3
    clear r3
    try simp (disch := omega) only [jst_eq, jst_ne, jst_ni, jI_i, jcmp_lt, jcmp_gt, w32_id, jcpy_out, Sum.elim_inl, Sum.elim_inr, jt2, jt3, jt4, jt5, jt6, jt7, jt8] at r2
    have q36 := pre_frT dn.1 p0.1 r2.1.1
    refine OK_jb (vX13_want (B := B) (n := n) (A := A) (c := 41) (r := sR3 (bdG (nx B n q1) (pKs B n (pT B n sk d) 2002 []))) _ (by exact q36.1) (by (first | assumption | omega | ((try dsimp only [jt2, jt3, jt4]); first | omega | (simp (disch := omega) only [jst_eq, jst_ne, jst_ni, jst_o, jI_i, jcpy_out, w32_id, jdiv_nn, jshr_k, jand_255] <;> first | done | omega | assumption)) | (intros; simp (disch := omega) only [jst_eq, jst_ne, jst_ni, jst_o, jI_i, jcpy_out, w32_id, jdiv_nn, *] <;> first | done | omega) | (intros; simp (disch := omega) only [jst_eq, jst_ne, jst_ni, jst_o, jI_i, jcpy_out, w32_id, jdiv_nn] at * <;> first | done | omega | assumption) | (intros; first | rfl | (exfalso; omega) | ((repeat' apply And.intro) <;> first | assumption | rfl | omega | trivial)))) (by exact resC_sx r2) (by (first | assumption | omega | ((try dsimp only [jt2, jt3, jt4]); first | omega | (simp (disch := omega) only [jst_eq, jst_ne, jst_ni, jst_o, jI_i, jcpy_out, w32_id, jdiv_nn, jshr_k, jand_255] <;> first | done | omega | assumption)) | (intros; simp (disch := omega) only [jst_eq, jst_ne, jst_ni, jst_o, jI_i, jcpy_out, w32_id, jdiv_nn, *] <;> first | done | omega) | (intros; simp (disch := omega) only [jst_eq, jst_ne, jst_ni, jst_o, jI_i, jcpy_out, w32_id, jdiv_nn] at * <;> first | done | omega | assumption) | (intros; first | rfl | (exfalso; omega) | ((repeat' apply And.intro) <;> first | assumption | rfl | omega | trivial))))) (fun h38 r4 => ?_)
    try dsimp only [Sum.elim_inl, Sum.elim_inr, jt2, jt3, jt4, jt5, jt6, jt7, jt8] at r4
    obtain ⟨sx3, fr3⟩ := r4
    try simp (disch := omega) only [jst_eq, jst_ne, jst_ni, jI_i, jcmp_lt, jcmp_gt, w32_id, jcpy_out, Sum.elim_inl, Sum.elim_inr, jt2, jt3, jt4, jt5, jt6, jt7, jt8] at sx3
    try simp (disch := omega) only [jst_eq, jst_ne, jst_ni, jI_i, jcmp_lt, jcmp_gt, w32_id, jcpy_out, Sum.elim_inl, Sum.elim_inr, jt2, jt3, jt4, jt5, jt6, jt7, jt8] at fr3
    have q38 : 0 ≤ h38 441 8 ∧ h38 441 8 ≤ 6 := by { rw [fr3 _ _ (by omega)]; exact ⟨r2.1.2.1, r2.1.2.2.1⟩ }
    have k38 : FK h38 ≤ 1000000 := by { rw [FK_fr (fr3 _ _ (by omega)) (fr3 _ _ (by omega))]; exact r2.1.2.2.2.1 }
    refine OK_jg (by (first | assumption | omega | ((try dsimp only [jt2, jt3, jt4]); first | omega | (simp (disch := omega) only [jst_eq, jst_ne, jst_ni, jst_o, jI_i, jcpy_out, w32_id, jdiv_nn, jshr_k, jand_255] <;> first | done | omega | assumption)) | (intros; simp (disch := omega) only [jst_eq, jst_ne, jst_ni, jst_o, jI_i, jcpy_out, w32_id, jdiv_nn, *] <;> first | done | omega) | (intros; simp (disch := omega) only [jst_eq, jst_ne, jst_ni, jst_o, jI_i, jcpy_out, w32_id, jdiv_nn] at * <;> first | done | omega | assumption) | (intros; first | rfl | (exfalso; omega) | ((repeat' apply And.intro) <;> first | assumption | rfl | omega | trivial)))) ?_ -- o15
    refine OK_jl ?_
    refine OK_if (fun c1 => ?_) (fun c1 => ?_)
    · skip
      try simp (disch := omega) only [jst_eq, jst_ne, jst_ni, jI_i, jcmp_lt, jcmp_gt, w32_id, jcpy_out, Sum.elim_inl, Sum.elim_inr, jt2, jt3, jt4, jt5, jt6, jt7, jt8] at c1
      refine OK_some ?_
      try dsimp only [Sum.elim_inl, Sum.elim_inr, jt2, jt3, jt4, jt5, jt6, jt7, jt8]
      (have u1 : eRs E w = -1 := Classical.byContradiction (fun y => by { have y2 := ac.2.2.1; rw [if_neg y] at y2; omega }); exact endC hB Tb ⟨dn.1, dn.2.1⟩ ⟨hq.2.1, hq.1⟩ pl lt ⟨dn.2.2.1, dn.2.2.2.1, dn.2.2.2.2.1, dn.2.2.2.2.2.1⟩ r2 sx3 fr3 (fun a s x y => jst_o y) jst_eq (by (try simp (disch := omega) only [jst_eq, jst_ne, jst_ni, jI_i, jcmp_lt, jcmp_gt, w32_id, jcpy_out, Sum.elim_inl, Sum.elim_inr, jt2, jt3, jt4, jt5, jt6, jt7, jt8]); exact q38) p0.2.2.2.1 (by rw [if_neg (fun y => y.1 u1), FK_fr (jst_o (by omega)) (jst_o (by omega))]; omega) fu) -- o16 e2
    · skip
      try simp (disch := omega) only [jst_eq, jst_ne, jst_ni, jI_i, jcmp_lt, jcmp_gt, w32_id, jcpy_out, Sum.elim_inl, Sum.elim_inr, jt2, jt3, jt4, jt5, jt6, jt7, jt8] at c1
      refine OK_if (fun c2 => ?_) (fun c2 => ?_)
      · skip
        try simp (disch := omega) only [jst_eq, jst_ne, jst_ni, jI_i, jcmp_lt, jcmp_gt, w32_id, jcpy_out, Sum.elim_inl, Sum.elim_inr, jt2, jt3, jt4, jt5, jt6, jt7, jt8] at c2
        refine OK_some ?_
        try dsimp only [Sum.elim_inl, Sum.elim_inr, jt2, jt3, jt4, jt5, jt6, jt7, jt8]
        (exact endC hB Tb ⟨dn.1, dn.2.1⟩ ⟨hq.2.1, hq.1⟩ pl lt ⟨dn.2.2.1, dn.2.2.2.1, dn.2.2.2.2.1, dn.2.2.2.2.2.1⟩ r2 sx3 fr3 (fun a s x y => jst_o y) jst_eq (by (try simp (disch := omega) only [jst_eq, jst_ne, jst_ni, jI_i, jcmp_lt, jcmp_gt, w32_id, jcpy_out, Sum.elim_inl, Sum.elim_inr, jt2, jt3, jt4, jt5, jt6, jt7, jt8]); exact q38) p0.2.2.2.1 (by rw [if_neg (fun y => y.2 (by have := ac.2.2.2; omega)), FK_fr (jst_o (by omega)) (jst_o (by omega))]; omega) fu) -- o17 e3
      · skip
        try simp (disch := omega) only [jst_eq, jst_ne, jst_ni, jI_i, jcmp_lt, jcmp_gt, w32_id, jcpy_out, Sum.elim_inl, Sum.elim_inr, jt2, jt3, jt4, jt5, jt6, jt7, jt8] at c2
        refine OK_jb (vX13_err _ _ (by ((try simp (disch := omega) only [jst_eq, jst_ne, jst_ni, jI_i, jcmp_lt, jcmp_gt, w32_id, jcpy_out, Sum.elim_inl, Sum.elim_inr, jt2, jt3, jt4, jt5, jt6, jt7, jt8]); exact q38)) (by (first | assumption | omega | ((try dsimp only [jt2, jt3, jt4]); first | omega | (simp (disch := omega) only [jst_eq, jst_ne, jst_ni, jst_o, jI_i, jcpy_out, w32_id, jdiv_nn, jshr_k, jand_255] <;> first | done | omega | assumption)) | (intros; simp (disch := omega) only [jst_eq, jst_ne, jst_ni, jst_o, jI_i, jcpy_out, w32_id, jdiv_nn, *] <;> first | done | omega) | (intros; simp (disch := omega) only [jst_eq, jst_ne, jst_ni, jst_o, jI_i, jcpy_out, w32_id, jdiv_nn] at * <;> first | done | omega | assumption) | (intros; first | rfl | (exfalso; omega) | ((repeat' apply And.intro) <;> first | assumption | rfl | omega | trivial))))) (fun h43 r5 => ?_)
        try dsimp only [Sum.elim_inl, Sum.elim_inr, jt2, jt3, jt4, jt5, jt6, jt7, jt8] at r5
        obtain ⟨f4, k4, fr4⟩ := r5
        try simp (disch := omega) only [jst_eq, jst_ne, jst_ni, jI_i, jcmp_lt, jcmp_gt, w32_id, jcpy_out, Sum.elim_inl, Sum.elim_inr, jt2, jt3, jt4, jt5, jt6, jt7, jt8] at f4
        try simp (disch := omega) only [jst_eq, jst_ne, jst_ni, jI_i, jcmp_lt, jcmp_gt, w32_id, jcpy_out, Sum.elim_inl, Sum.elim_inr, jt2, jt3, jt4, jt5, jt6, jt7, jt8] at k4
        try simp (disch := omega) only [jst_eq, jst_ne, jst_ni, jI_i, jcmp_lt, jcmp_gt, w32_id, jcpy_out, Sum.elim_inl, Sum.elim_inr, jt2, jt3, jt4, jt5, jt6, jt7, jt8] at fr4
        refine OK_some ?_
        try dsimp only [Sum.elim_inl, Sum.elim_inr, jt2, jt3, jt4, jt5, jt6, jt7, jt8]
        (have u1 : eRs E w ≠ -1 := (fun y => by { have y2 := ac.2.2.1; rw [if_pos y] at y2; omega }); exact endC hB Tb ⟨dn.1, dn.2.1⟩ ⟨hq.2.1, hq.1⟩ pl lt ⟨dn.2.2.1, dn.2.2.2.1, dn.2.2.2.2.1, dn.2.2.2.2.2.1⟩ r2 sx3 fr3 (fun a s x y => by rw [fr4 a s x]; exact jst_o y) (by rw [fr4 _ _ (by omega)]; exact jst_eq) f4 p0.2.2.2.1 (by rw [if_pos ⟨u1, by have := ac.2.2.2; omega⟩, k4, FK_fr (jst_o (by omega)) (jst_o (by omega))]) fu) -- o20 e4

