/-! x: a call read: what its operands come to -/
def bdG {α : Type} (R : Int ⊕ Int) (f : Int → Int ⊕ α) : Int ⊕ α := match R with | .inl z => .inl z | .inr q => f q
theorem pKs_l {B : Int → Int} {n z q : Int} {P : Int → PR} {k : Nat} {l : List TR} (e : P q = .inl z) : pKs B n P (k + 1) l q = .inl z := by
  unfold pKs; rw [e]
theorem pKs_c {B : Int → Int} {n q q1 : Int} {t : TR} {P : Int → PR} {k : Nat} {l : List TR} (e : P q = .inr (t, q1)) (c : comma B n q1) : pKs B n P (k + 1) l q = bdG (nx B n q1) (pKs B n P k (l ++ [t])) := by
  show (match P q with | .inl z => (Sum.inl z : Int ⊕ (List TR × Int)) | .inr (t, q1) => if comma B n q1 then (match nx B n q1 with | .inl z => (Sum.inl z : Int ⊕ (List TR × Int)) | .inr q2 => pKs B n P k (l ++ [t]) q2) else Sum.inr (l ++ [t], q1)) = _
  rw [e]
  exact if_pos c
theorem pKs_e {B : Int → Int} {n q q1 : Int} {t : TR} {P : Int → PR} {k : Nat} {l : List TR} (e : P q = .inr (t, q1)) (c : ¬ comma B n q1) : pKs B n P (k + 1) l q = .inr (l ++ [t], q1) := by
  show (match P q with | .inl z => (Sum.inl z : Int ⊕ (List TR × Int)) | .inr (t, q1) => if comma B n q1 then (match nx B n q1 with | .inl z => (Sum.inl z : Int ⊕ (List TR × Int)) | .inr q2 => pKs B n P k (l ++ [t]) q2) else Sum.inr (l ++ [t], q1)) = _
  rw [e]
  exact if_neg c
theorem rXc_inf {h : AH} {T : Int} : ∀ {t : TR} {d j p : Int}, rXc h T t d j p → h (T + 1) d = (inf t).1 ∧ h (T + 2) d = (inf t).2.1 ∧ h (T + 3) d = (inf t).2.2.1 ∧ h (T + 4) d = (inf t).2.2.2
  | .leaf i, d, j, p, r => ⟨r.1, r.2.1, r.2.2.1, r.2.2.2.1⟩
  | .branch _ s r, d, j, p, q => rXc_inf (t := r) q.2.2
theorem inf_rs (E : EV) : ∀ (t : TR) (hc : Int), (inf (rsE E t hc)).2.2.1 = kdE E t
  | .leaf i, hc => by
    show (rsI E.2.1.1 E.2.1.2.1 E.2.1.2.2 (eRs E) (eO E) (eK E) i hc).2.2.1 = kdI E.2.1.1 E.2.1.2.1 E.2.1.2.2 (eRs E) (eO E) (eK E) i
    by_cases c0 : i.1 = 0
    · unfold rsI kdI; rw [if_pos c0, if_pos c0]
    by_cases c1 : i.1 = 1
    · unfold rsI kdI; rw [if_neg c0, if_neg c0, if_pos c1, if_pos c1]
      by_cases m : mky E.2.1.1 E.2.1.2.1 i.2.2.1 < 0
      · rw [if_pos m, if_pos m]
      · rw [if_neg m, if_neg m]
    by_cases c2 : i.1 = 2
    · unfold rsI; rw [if_neg c0, if_neg c1, if_pos c2]
      by_cases m : eRs E i.2.2.1 = -2
      · rw [if_pos m]
      · rw [if_neg m]
    · unfold rsI kdI; rw [if_neg c0, if_neg c0, if_neg c1, if_neg c1, if_neg c2, if_neg c2]
  | .branch _ s r, hc => inf_rs E r (hc + hlT s)
theorem pT_pl {B : Int → Int} {n q q1 : Int} {sk : Bool} {t : TR} : ∀ {d : Nat}, pT B n sk d q = .inr (t, q1) → (inf t).2.2.2 = tS B n q
  | 0, h => by cases h
  | d + 1, h => by
    by_cases c0 : isVl B n q
    · rw [pT_v c0] at h
      cases e : nx B n q with
      | inl z => rw [e] at h; cases h
      | inr q2 => rw [e] at h; cases h; rfl
    by_cases c1 : quest B n q ∧ sk = true
    · rw [pT_h c0 c1] at h
      cases e : nx B n q with
      | inl z => rw [e] at h; cases h
      | inr q2 => rw [e] at h; cases h; rfl
    by_cases c2 : tO B n q = 1
    · rw [pT_n c0 c2] at h
      cases e : nx B n q with
      | inl z => rw [e] at h; cases h
      | inr q2 =>
        rw [e] at h
        have h2 : (if paren B n q2 then pC B n sk d (tV B n q) (tS B n q) q2 else .inr (.leaf (1, 0, tV B n q, tS B n q), q2)) = Sum.inr (t, q1) := h
        by_cases c3 : paren B n q2
        · rw [if_pos c3] at h2
          unfold pC at h2
          cases e2 : nx B n q2 with
          | inl z => rw [e2] at h2; cases h2
          | inr q3 =>
            rw [e2] at h2
            cases e3 : pKs B n (pT B n sk d) 2002 [] q3 with
            | inl z => simp only [e3] at h2; cases h2
            | inr x =>
              obtain ⟨l, q4⟩ := x
              simp only [e3] at h2
              cases e4 : pW B n 41 q4 with
              | inl z => rw [e4] at h2; cases h2
              | inr q5 => rw [e4] at h2; cases h2; rw [inf_spn]
        · rw [if_neg c3] at h2; cases h2; rfl
    · rw [pT_x c0 c1 c2] at h; cases h
/-- on the way through a call's operands: those that were met, where we are -/
def stC (B : Int → Int) (n T : Int) (E : EV) (w pl D q1 : Int) (h0 : AH) (l : List TR) (qc a9 a10 : Int) (h : AH) : Prop := Sx B n (.inr qc) h ∧ q1 ≤ qc ∧ a9 = (l.length : Nat) ∧ a10 = 1 + eW E (eRs E w) + wlE E l ∧ h T 0 = h0 T 0 + szL l ∧ szL l ≤ qc - q1 ∧ rXl h T D (rlE E l (h0 441 16)) 0 (D + 1) ∧ (∀ k : Int, 0 ≤ k → ((l.length : Nat) : Int) ≤ k → k < 3 → h (T + 5) (3 * D + k) = -1) ∧ (∀ a, T + 1 ≤ a → a ≤ T + 4 → h a D = h0 a D) ∧ FK h = min (FK h0) (flE E (2, 0, w, pl) l 0 (h0 441 16)) ∧ h 441 16 = h0 441 16 + hlL l ∧ (3 < h 441 16 → FK h ≤ 8 * qc)
def coC (T D : Int) (h0 h : AH) : Prop := frT T D h0 h ∧ 0 ≤ h 441 8 ∧ h 441 8 ≤ 6 ∧ FK h ≤ 1000000 ∧ h0 T 0 ≤ h T 0 ∧ h0 441 16 ≤ h 441 16
def invC (B : Int → Int) (n T : Int) (sk : Bool) (d : Nat) (E : EV) (w pl D q1 : Int) (h0 : AH) (a9 a10 : Int) (h : AH) : Prop := coC T D h0 h ∧ ∃ (l : List TR) (k : Nat) (qc : Int), stC B n T E w pl D q1 h0 l qc a9 a10 h ∧ bdG (nx B n q1) (pKs B n (pT B n sk d) 2002 []) = bdG (nx B n qc) (pKs B n (pT B n sk d) (k + 1) l) ∧ n - qc ≤ k ∧ tO B n qc = 4
def resC (B : Int → Int) (n T : Int) (sk : Bool) (d : Nat) (E : EV) (w pl D q1 : Int) (h0 : AH) (a9 a10 : Int) (h : AH) : Prop := coC T D h0 h ∧ ((∃ z, bdG (nx B n q1) (pKs B n (pT B n sk d) 2002 []) = .inl z ∧ Sx B n (.inl z) h ∧ h T 0 ≤ h0 T 0 + (n - q1) ∧ h 441 16 ≤ h0 441 16 + (n - q1)) ∨ (∃ l q3, bdG (nx B n q1) (pKs B n (pT B n sk d) 2002 []) = .inr (l, q3) ∧ stC B n T E w pl D q1 h0 l q3 a9 a10 h))
theorem hlL_sz : ∀ l : List TR, hlL l ≤ szL l
  | [] => Int.le_refl _
  | t :: l => by have := hlT_sz t; have := hlL_sz l; show hlT t + hlL l ≤ sz t + szL l; omega
theorem hlL_0 : ∀ l : List TR, 0 ≤ hlL l
  | [] => Int.le_refl _
  | t :: l => by have := hlT_0 t; have := hlL_0 l; show 0 ≤ hlT t + hlL l; omega
def miE (E : EV) (i : NI) (j : Int) (k : TR) : Int := misK E.2.1.1 E.2.1.2.1 E.2.1.2.2 (eRs E) (eO E) (eK E) i j k
theorem miE_r {E : EV} {i : NI} {j : Int} {k : TR} : miE E i j k = 1000000 ∨ miE E i j k = (inf k).2.2.2 * 8 + 3 := by
  unfold miE misK
  by_cases c : i.1 = 2 ∧ eRs E i.2.2.1 ≠ -1 ∧ j < eO E (eRs E i.2.2.1) ∧ kdT E.2.1.1 E.2.1.2.1 E.2.1.2.2 (eRs E) (eO E) (eK E) k ≠ -1 ∧ kdT E.2.1.1 E.2.1.2.1 E.2.1.2.2 (eRs E) (eO E) (eK E) k ≠ eK E (eRs E i.2.2.1) j
  · rw [if_pos c]; exact Or.inr rfl
  · rw [if_neg c]; exact Or.inl rfl
def outC (B : Int → Int) (n T : Int) (sk : Bool) (d : Nat) (E : EV) (w pl D q1 : Int) (h0 h : AH) (l : List TR) (qc n' s' : Int) (h59 : AH) : Prop := coC T D h0 h59 ∧ ((∃ z, bdG (nx B n q1) (pKs B n (pT B n sk d) 2002 []) = .inl z ∧ Sx B n (.inl z) h59 ∧ h59 T 0 ≤ h0 T 0 + (n - q1) ∧ h59 441 16 ≤ h0 441 16 + (n - q1)) ∨ (∃ t q', bdT (nx B n qc) (pT B n sk d) = .inr (t, q') ∧ h T 0 < h59 T 0 ∧ qc < q' ∧ q' ≤ n ∧ stC B n T E w pl D q1 h0 (l ++ [t]) q' n' s' h59))
theorem len_sz : ∀ l : List TR, ((l.length : Nat) : Int) ≤ szL l
  | [] => Int.le_refl _
  | t :: l => by have := len_sz l; have := sz_pos t; rw [List.length_cons]; show _ ≤ sz t + szL l; omega
/-- one operand more -/
theorem stepC {B : Int → Int} {n T : Int} {sk : Bool} {d : Nat} {E : EV} {w pl D q1 a9 a10 v n' s' : Int} {h0 h h45 h49 h59 : AH} {l : List TR} {k : Nat} {qc : Int} (hB : ∀ i, 0 ≤ i → i < n → 0 ≤ B i ∧ B i < 256) (hT : 258 ≤ T ∧ T ≤ 400) (hD : 0 ≤ D ∧ h0 T 0 = D + 1) (hn : q1 ≤ n ∧ 0 ≤ q1)
    (co : coC T D h0 h) (st : stC B n T E w pl D q1 h0 l qc a9 a10 h) (eq : bdG (nx B n q1) (pKs B n (pT B n sk d) 2002 []) = bdG (nx B n qc) (pKs B n (pT B n sk d) (k + 1) l)) (hk : n - qc ≤ k)
    (hq : 0 ≤ qc ∧ qc ≤ n) (f45 : ∀ a s, ¬ (a = 441 ∧ 2 ≤ s ∧ s ≤ 5) → h45 a s = h a s) (po : posT B n T E qc h45 (bdT (nx B n qc) (pT B n sk d)) v h49)
    (f59 : ∀ a s, ¬ (a = 441 ∧ (s = 8 ∨ s = 9)) → ¬ (a = T + 5 ∧ a9 < 3 ∧ s = 3 * D + a9) → h59 a s = h49 a s) (jn : a9 < 3 → h59 (T + 5) (3 * D + a9) = v) (f8 : 0 ≤ h59 441 8 ∧ h59 441 8 ≤ 6) (fk : FK h59 ≤ 1000000)
    (fm : ∀ t q', bdT (nx B n qc) (pT B n sk d) = .inr (t, q') → FK h59 = min (FK h49) (miE E (2, 0, w, pl) a9 t))
    (nn : n' = a9 + 1) (sw : ∀ t q', bdT (nx B n qc) (pT B n sk d) = .inr (t, q') → s' = a10 + h49 445 v) : outC B n T sk d E w pl D q1 h0 h l qc n' s' h59 := by
  obtain ⟨⟨c1, c2, c3, c4, c5, c6, c7, c8⟩, res⟩ := po
  obtain ⟨o1, o2, o3, o4, o5, o6⟩ := co
  obtain ⟨s1, s2, s3, s4, s5, s6, s7, s8, s9, s10, s11, s12⟩ := st
  have e45 : h45 T 0 = h T 0 := f45 _ _ (by omega)
  have e16 : h45 441 16 = h 441 16 := f45 _ _ (by omega)
  have eKk : FK h45 = FK h := FK_fr (f45 _ _ (by omega)) (f45 _ _ (by omega))
  have z1 := szL_pos l
  have z2 := hlL_sz l
  rw [e45] at c1 c4
  rw [e16] at c8
  have g0 : h59 T 0 = h49 T 0 := f59 _ _ (by omega) (by omega)
  have g16 : h59 441 16 = h49 441 16 := f59 _ _ (by omega) (by omega)
  refine ⟨⟨fun a s y1 y2 y3 y4 y5 => ?_, f8.1, f8.2, fk, by omega, by omega⟩, ?_⟩
  · rw [f59 a s (by omega) (by omega), c1 a s y1 (by omega) y3 (by omega) (by omega), f45 a s (by omega)]
    exact o1 a s y1 y2 y3 y4 y5
  cases er : bdT (nx B n qc) (pT B n sk d) with
  | inl z =>
    left
    rw [er] at res
    obtain ⟨r1, r2, r3⟩ := res
    refine ⟨z, ?_, Sx_fr r1 (fun s s0 s1 => f59 _ _ (by omega) (by omega)), by omega, by omega⟩
    rw [eq]
    cases e : nx B n qc with
    | inl z2 => rw [e] at er; have : Sum.inl z2 = (Sum.inl z : PR) := er; cases this; rfl
    | inr q2 => rw [e] at er; exact pKs_l er
  | inr x =>
    right
    obtain ⟨t, q'⟩ := x
    rw [er] at res
    obtain ⟨r1, r2, r3, r4, r5, r6, r7, r8, r9, r10⟩ := res
    rw [e45] at r3 r4
    rw [e16] at r6 r7 r8
    rw [eKk] at r7
    have zt := sz_pos t
    have q'n : q' ≤ n := by
      rcases r1 with ⟨z, e, _⟩ | ⟨q2, nb, ⟨e, _⟩ | ⟨e, _⟩⟩
      · cases e
      · cases e
      · cases e; exact nb.2.2.2
    have zL : szL (l ++ [t]) = szL l + sz t := by rw [szL_app]; show szL l + (sz t + 0) = _; omega
    have hL : hlL (l ++ [t]) = hlL l + hlT t := by rw [hlL_app]; show hlL l + (hlT t + 0) = _; omega
    have lL : (((l ++ [t]).length : Nat) : Int) = (l.length : Nat) + 1 := by rw [List.length_append]; show (((l.length + 1 : Nat)) : Int) = _; omega
    have fm1 := fm t q' er
    have sw1 := sw t q' er
    refine ⟨t, q', rfl, by omega, r2, q'n, Sx_fr r1 (fun s s0 s1 => f59 _ _ (by omega) (by omega)), by omega, by omega, ?_, by omega, by omega, ?_, ?_, ?_, ?_, by omega, ?_⟩
    · rw [sw1, s4, r9]
      unfold wlE wtE
      rw [wtL_app]
      show _ = 1 + eW E (eRs E w) + (wtL (eRs E) (eW E) l + (wtT (eRs E) (eW E) t + 0))
      omega
    · unfold rlE
      rw [rsL_app]
      have e1 : szL (rsL E.2.1.1 E.2.1.2.1 E.2.1.2.2 (eRs E) (eO E) (eK E) l (h0 441 16)) = szL l := szL_rs _ _ _ _ _ _ l _
      have e2 : (rsL E.2.1.1 E.2.1.2.1 E.2.1.2.2 (eRs E) (eO E) (eK E) l (h0 441 16)).length = l.length := len_rs _ _ _ _ _ _ l _
      refine rXl_app ?_ ?_ ?_
      · refine rXl_fr (h := h) (lo := D + 1) (hi := D + 1 + szL l) (fun a s a0 a1 s0 s1 => ?_) (fun s s0 s1 => ?_) (Int.le_refl _) (Int.le_refl _) (by rw [e1]; omega) (fun k k0 k1 k2 => ?_) s7
        · rw [f59 _ _ (by omega) (by omega), c1 _ _ (by omega) (by omega) (by omega) (by omega) (by omega), f45 _ _ (by omega)]
        · rw [f59 _ _ (by omega) (by omega), c1 _ _ (by omega) (by omega) (by omega) (by omega) (by omega), f45 _ _ (by omega)]
        · rw [e2] at k2
          rw [f59 _ _ (by omega) (by omega), c1 _ _ (by omega) (by omega) (by omega) (by omega) (by omega), f45 _ _ (by omega)]
      · rw [e1, e2]
        intro z
        rw [show (0 : Int) + ((l.length : Nat) : Int) = a9 by omega, jn (by omega)]
        omega
      · rw [e1, show D + 1 + szL l = v by omega, show h0 441 16 + hlL l = h 441 16 by omega]
        refine rXc_fr (h := h49) (lo := v) (hi := v + sz t) (fun a s a0 a1 s0 s1 => f59 _ _ (by omega) (by omega)) (fun s s0 s1 => f59 _ _ (by omega) (by omega)) (Int.le_refl _) (Int.le_refl _) (by omega) (by omega) ?_ r6
        have := sz_rs E.2.1.1 E.2.1.2.1 E.2.1.2.2 (eRs E) (eO E) (eK E) t (h 441 16)
        omega
    · intro k k0 k1 k2
      rw [lL] at k1
      rw [f59 _ _ (by omega) (by omega), c1 _ _ (by omega) (by omega) (by omega) (by omega) (by omega), f45 _ _ (by omega)]
      exact s8 k k0 (by omega) k2
    · intro a a0 a1
      rw [f59 _ _ (by omega) (by omega), c1 _ _ (by omega) (by omega) (by omega) (by omega) (by omega), f45 _ _ (by omega)]
      exact s9 a a0 a1
    · rw [fm1, r7, s10]
      unfold flE
      rw [fkL_app, show (0 : Int) + ((l.length : Nat) : Int) = a9 by omega, ← s11]
      show min (min (min (FK h0) (flE E (2, 0, w, pl) l 0 (h0 441 16))) (fkE E t 0 (h 441 16))) (miE E (2, 0, w, pl) a9 t) = min (FK h0) (min (flE E (2, 0, w, pl) l 0 (h0 441 16)) (min (fkE E t 0 (h 441 16)) (miE E (2, 0, w, pl) a9 t)))
      omega
    · intro z
      rw [g16] at z
      have := r10 z
      omega
theorem miE_eq {E : EV} {w pl a9 kind wanted place : Int} {t : TR} (r : eRs E w ≠ -1) (lt : a9 < eO E (eRs E w)) (hk : kind = kdE E t) (hw : wanted = eK E (eRs E w) a9) (hp : (inf t).2.2.2 = place) : (if kind ≠ -1 ∧ kind ≠ wanted then place * 8 + 3 else 1000000) = miE E (2, 0, w, pl) a9 t := by
  subst hk hw hp
  unfold miE misK
  by_cases c : kdE E t ≠ -1 ∧ kdE E t ≠ eK E (eRs E w) a9
  · rw [if_pos c, if_pos ⟨rfl, r, lt, c⟩]
  · rw [if_neg c, if_neg (fun z => c z.2.2.2)]
theorem miE_n {E : EV} {w pl a9 : Int} {t : TR} (r : eRs E w = -1 ∨ eO E (eRs E w) ≤ a9) : miE E (2, 0, w, pl) a9 t = 1000000 := by
  unfold miE misK
  exact if_neg (fun z => by have h1 : eRs E w ≠ -1 := z.2.1; have h2 : a9 < eO E (eRs E w) := z.2.2.1; omega)
theorem wtE_r {E : EV} (W : ∀ w, 0 ≤ eW E (eRs E w) ∧ eW E (eRs E w) ≤ 40) : ∀ t : TR, 0 ≤ wtE E t ∧ wtE E t ≤ 41 * sz t
  | .leaf i => by
    show 0 ≤ (if i.1 = 2 then 1 + eW E (eRs E i.2.2.1) else 0) ∧ (if i.1 = 2 then 1 + eW E (eRs E i.2.2.1) else 0) ≤ 41 * 1
    have := W i.2.2.1
    by_cases c : i.1 = 2
    · rw [if_pos c]; omega
    · rw [if_neg c]; omega
  | .branch _ s r => by
    have a := wtE_r W s
    have b := wtE_r W r
    show 0 ≤ wtE E s + wtE E r ∧ wtE E s + wtE E r ≤ 41 * (sz s + sz r)
    omega
theorem wlE_r {E : EV} (W : ∀ w, 0 ≤ eW E (eRs E w) ∧ eW E (eRs E w) ≤ 40) : ∀ l : List TR, 0 ≤ wlE E l ∧ wlE E l ≤ 41 * szL l
  | [] => ⟨Int.le_refl _, Int.le_refl _⟩
  | t :: l => by
    have a := wtE_r W t
    have b := wlE_r W l
    show 0 ≤ wtE E t + wlE E l ∧ wtE E t + wlE E l ≤ 41 * (sz t + szL l)
    omega
theorem eRs_r {E : EV} (w : Int) : eRs E w = -2 ∨ eRs E w = -1 ∨ (0 ≤ eRs E w ∧ eRs E w < E.1.1) := by
  unfold eRs
  by_cases c : E.2.2.1 = 1 ∧ w = 6
  · rw [if_pos c]; exact Or.inl rfl
  · rw [if_neg c]
    rcases fA_0 (c := E.1.2.1) (w := w) (n := E.1.1) with h | h
    · exact Or.inr (Or.inl h)
    · exact Or.inr (Or.inr ⟨h.1, h.2.1⟩)
theorem W_of {h : AH} {E : EV} (x : actX h E.1.1 E.1.2.1 E.1.2.2.1 E.1.2.2.2.1 E.1.2.2.2.2) (w : Int) : 0 ≤ eW E (eRs E w) ∧ eW E (eRs E w) ≤ 40 := by
  unfold eW
  by_cases c : eRs E w < 26
  · rw [if_pos c]; omega
  · rw [if_neg c]
    rcases eRs_r (E := E) w with r | r | r
    · omega
    · omega
    · have := x.2.2.2 _ r.1 r.2
      exact this.2.2.2.2.2.2.2.2

