/-! told terms of an ask: what is known of them -/
theorem ty_nr {E : EV} {np : Int} {kp : Int → Int} : ∀ {R : TR} {j : Int}, tyT E np kp R j → nrT R
  | .leaf i, j, t => fun z => by
    obtain ⟨t1, t2, t3⟩ := t
    rcases t3 with t | t | t | t | t
    · omega
    · omega
    · exact ⟨t.2.2.1, t.2.2.2.1⟩
    · omega
    · omega
  | .branch b s r, j, t => ⟨ty_nr t.1, ty_nr t.2.2⟩
theorem ty_pl {E : EV} (l0 : E.2.2.1 ≠ 1) {np : Int} {kp : Int → Int} : ∀ {R : TR} {j : Int}, tyT E np kp R j → nhT R → pnT R
  | .leaf i, j, t, n => by
    obtain ⟨t1, t2, t3⟩ := t
    have n : i.1 ≠ 3 := n
    rcases t3 with t | t | t | t | t
    · exact .inl t.1
    · exact .inr (.inl t.1)
    · exact absurd t.1 n
    · exact .inr (.inr ⟨t.1, t.2.1⟩)
    · exact absurd t.2.1 l0
  | .branch b s r, j, t, n => ⟨ty_pl l0 t.1 n.1, ty_pl l0 t.2.2 n.2⟩
/-- a told term's values are no errors -/
theorem rs_nv {P : Int} {nP kP rs oE : Int → Int} {kE : Int → Int → Int} : ∀ {t : TR} {hc : Int}, gV t → nvT (rsT P nP kP rs oE kE t hc)
  | .leaf i, hc, g => by
    have g : i.1 = 0 → vlR i.2.1 i.2.2.1 := g
    show (rsI P nP kP rs oE kE i hc).1 = 1 → (rsI P nP kP rs oE kE i hc).2.1 ≠ -1
    unfold rsI
    by_cases a : i.1 = 0
    · rw [if_pos a]; exact fun _ => by have := (g a).1; show i.2.2.1 ≠ -1; omega
    · rw [if_neg a]
      by_cases b : i.1 = 1
      · rw [if_pos b]
        by_cases c : mky P nP i.2.2.1 < 0
        · rw [if_pos c]; exact fun _ => (show (0 : Int) ≠ -1 by decide)
        · rw [if_neg c]; exact fun y => absurd y (show ¬ (0 : Int) = 1 by decide)
      · rw [if_neg b]
        by_cases c : i.1 = 2
        · rw [if_pos c]
          by_cases d : rs i.2.2.1 = -2
          · rw [if_pos d]; exact fun y => absurd y (show ¬ (4 : Int) = 1 by decide)
          · rw [if_neg d]; exact fun y => absurd y (show ¬ (2 : Int) = 1 by decide)
        · rw [if_neg c]; exact fun y => absurd y (show ¬ (3 : Int) = 1 by decide)
  | .branch b s r, hc, g => ⟨rs_nv g.1, rs_nv g.2⟩
/-- a told term, with its names known -/
def rdTm (E : EV) (np : Int) (kp : Int → Int) (R : TR) : Prop := tyT E np kp R 0 ∧ dpE E.1.2.2.2.1 R ≤ 40 ∧ wtR E.1.2.2.2.1 R ≤ 40 ∧ sz R ≤ 121 ∧ dpT R ≤ 12 ∧ nvT R
theorem rd_tm {B : Int → Int} {n m : Int} {sk : Bool} {E : EV} {kf : Int → Int} {t : TR} {w : Int} (ac : acE E) (ew : ∀ a, 26 ≤ a → 0 ≤ E.1.2.2.2.1 a) (hB : ∀ i, 0 ≤ i → i < n → 0 ≤ B i ∧ B i < 256) (hn : n ≤ 2000) (n0 : 0 ≤ n) (m0 : 0 ≤ m) (kl : ∀ k, 0 ≤ k → k < m → 0 ≤ kf k ∧ kf k ≤ 2) (e : pA B n sk (beg B n) = .inr t) (k : keyE (EPn E m kf) w t = 1000000) : rdTm E m kf (rsE (EPn E m kf) t 0) ∧ sz (rsE (EPn E m kf) t 0) = sz t ∧ (w ≠ -1 → kdE (EPn E m kf) t = w) ∧ (inf (rsE (EPn E m kf) t 0)).2.2.1 = kdE (EPn E m kf) t ∧ fkE (EPn E m kf) t 0 0 = 1000000 ∧ gT t ∧ (sk = false → nhT (rsE (EPn E m kf) t 0) ∧ hlT t = 0) := by
  obtain ⟨q, q1, e1, e2, e3⟩ := pA_inr e
  obtain ⟨z, o⟩ := beg_r e1
  have pa : paE (EPn E m kf) := ⟨m0, kl⟩
  have ac2 : acE (EPn E m kf) := ac
  obtain ⟨t1, t2, t3, t4, t5, t6⟩ := told_ok (E := EPn E m kf) (W := w) ac2 pa ew hB hn (by omega) (by omega) o e2 k
  have ty : tyT E m kf (rsE (EPn E m kf) t 0) 0 := tyT_E (E := E) (E' := EPn E m kf) rfl rfl t1
  have wt : wtR E.1.2.2.2.1 (rsE (EPn E m kf) t 0) ≤ 40 := by
    have y := wtR_rs (E := EPn E m kf) t 0
    have y2 : wtR E.1.2.2.2.1 (rsE (EPn E m kf) t 0) = wtE (EPn E m kf) t := y
    omega
  have dk := (pT_ok hB hn 13 q t q1 (by omega) (by omega) o e2).2
  have dp : dpT (rsE (EPn E m kf) t 0) = dpT t := dp_rs t 0
  refine ⟨⟨ty, t2, wt, sz_121 ac ew ty wt, by omega, rs_nv (pT_gV hB 13 q t q1 (by omega) (by omega) o e2)⟩, sz_rs _ _ _ _ _ _ t 0, t5, inf_rs (EPn E m kf) t 0, t6, t4, fun s => ?_⟩
  subst s
  have h0 := pT_h0 13 q t q1 e2
  exact ⟨nhT_rs 0 h0 t4, h0⟩
/-- x: a term of the ask is read -/
def epK (h : AH) (E : EV) (Rf : Int → TR) (W : Int → Int → Int → VW) (K : AK) (EP : EV) : Prop := (h (h 200 16) 19 = 0 ∧ EP = EPn E 0 (fun _ => 0)) ∨ (h (h 200 16) 19 ≠ 0 ∧ akX h E Rf W K ∧ EP = EPn E (kA K).1 (kA K).2.1)
theorem vRT (a1 a2 : Int) {h : AH} {B : Int → Int} {n : Int} {sk : Bool} {E EP : EV} {Rf : Int → TR} {W : Int → Int → Int → VW} {K : AK} (hB : ∀ i, 0 ≤ i → i < n → 0 ≤ B i ∧ B i < 256) (tb : n = h 200 55 ∧ tapX B n h) (hs : a1 = if sk = true then 1 else 0) (st : stX h E Rf W) (xx : isX4 (h 200 16)) (ep : epK h E Rf W K EP) : OK (gX1_readTerm a1 a2 h) (fun r => jt2 r fun v h' => outX EP (if a2 = 0 ∨ h (h 200 16) 19 = 0 then -1 else h (h 200 16) 2) (pA B n sk (beg B n)) (h 200 56) v h' ∧ frXr h h') := by
  obtain ⟨⟨s1, s2, s3, s4, s5, s6⟩, s7, s8, s9, s10⟩ := st
  have CP : capT h 324 2200 ∧ h 327 (-2) = 101 := ⟨⟨(s9 325 (by decide) (by decide)).2.trans (by decide), (s9 326 (by decide) (by decide)).2.trans (by decide), (s9 327 (by decide) (by decide)).2.trans (by decide), (s9 328 (by decide) (by decide)).2.trans (by decide), (s9 329 (by decide) (by decide)).2.trans (by decide), by decide, by decide, by decide⟩, (s9 327 (by decide) (by decide)).1.trans (by decide)⟩
  have x2 : h 200 16 = 271 ∨ h 200 16 = 289 := xx
  rcases ep with ⟨p1, p2⟩ | ⟨p1, p2, p3⟩
  · subst p2
    exact vX1_readTerm a1 a2 (B := B) (n := n) (sk := sk) (E := EPn E 0 (fun _ => 0)) hB tb hs s1 s10 CP s5 xx (fun _ => rfl) (fun y => absurd p1 y)
  · subst p3
    have X := p2.1
    obtain ⟨q1, q2, q3, q4⟩ := X.2.1
    have va := p2.2.2.2.2.2.2.1
    have L : h (h 200 16 + 1) (-2) = 101 ∧ h (h 200 16 + 1) (-1) = 3 := by
      rcases x2 with y | y
      · rw [y]; exact ⟨(s9 272 (by decide) (by decide)).1.trans (by decide), (s9 272 (by decide) (by decide)).2.trans (by decide)⟩
      · rw [y]; exact ⟨(s9 290 (by decide) (by decide)).1.trans (by decide), (s9 290 (by decide) (by decide)).2.trans (by decide)⟩
    exact vX1_readTerm a1 a2 (B := B) (n := n) (sk := sk) (E := EPn E (kA K).1 (kA K).2.1) hB tb hs s1 s10 CP s5 xx (fun y => absurd y p1) (fun _ => ⟨xx, q1.symm, by omega, by omega, L.1, L.2, fun k k0 k1 => ⟨rfl, q4 k k0 (by omega), by have := va.1 k k0 (by omega); show -1 ≤ (kA K).2.1 k; omega, by have := va.1 k k0 (by omega); show (kA K).2.1 k ≤ 2; omega⟩⟩)

