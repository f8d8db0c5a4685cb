/-! x: terms read -/
/-- what is known while a text is read: acts (how many, names, operands, weights, kinds), parameters (how many, names, kinds), the ask's f (whether, operands, kinds, kind) -/
abbrev EV : Type := (Int × (Int → Int) × (Int → Int) × (Int → Int) × (Int → Int → Int)) × (Int × (Int → Int) × (Int → Int)) × (Int × Int × (Int → Int) × Int)
def eRs (E : EV) (w : Int) : Int := if E.2.2.1 = 1 ∧ w = 6 then -2 else fA E.1.2.1 w E.1.1.toNat 0
def eO (E : EV) (a : Int) : Int := if a = -2 then E.2.2.2.1 else if a = -1 then 0 else E.1.2.2.1 a
def eW (E : EV) (a : Int) : Int := if a < 26 then 0 else E.1.2.2.2.1 a
def eK (E : EV) (a k : Int) : Int := if a = -2 then (if k = E.2.2.2.1 then E.2.2.2.2.2 else E.2.2.2.2.1 k) else E.1.2.2.2.2 a k
def kdE (E : EV) (t : TR) : Int := kdT E.2.1.1 E.2.1.2.1 E.2.1.2.2 (eRs E) (eO E) (eK E) t
def wtE (E : EV) (t : TR) : Int := wtT (eRs E) (eW E) t
def wlE (E : EV) (l : List TR) : Int := wtL (eRs E) (eW E) l
def fkE (E : EV) (t : TR) (j hc : Int) : Int := fkT E.2.1.1 E.2.1.2.1 E.2.1.2.2 (eRs E) (eO E) (eK E) t j hc
def flE (E : EV) (i : NI) (l : List TR) (j hc : Int) : Int := fkL E.2.1.1 E.2.1.2.1 E.2.1.2.2 (eRs E) (eO E) (eK E) i l j hc
def rsE (E : EV) (t : TR) (hc : Int) : TR := rsT E.2.1.1 E.2.1.2.1 E.2.1.2.2 (eRs E) (eO E) (eK E) t hc
def rlE (E : EV) (l : List TR) (hc : Int) : List TR := rsL E.2.1.1 E.2.1.2.1 E.2.1.2.2 (eRs E) (eO E) (eK E) l hc
def riE (E : EV) (i : NI) (hc : Int) : NI := rsI E.2.1.1 E.2.1.2.1 E.2.1.2.2 (eRs E) (eO E) (eK E) i hc
def fiE (E : EV) (i : NI) (j hc : Int) : Int := fkI E.2.1.1 E.2.1.2.1 (eRs E) (eO E) i j hc
def askX (h : AH) (E : EV) : Prop := h 441 15 = E.2.2.1 ∧ (E.2.2.1 = 0 ∨ E.2.2.1 = 1) ∧ (E.2.2.1 = 1 → (h 441 20 = 271 ∨ h 441 20 = 289) ∧ h (h 441 20) 1 = E.2.2.2.1 ∧ h (h 441 20) 2 = E.2.2.2.2.2 ∧ 1 ≤ E.2.2.2.1 ∧ E.2.2.2.1 ≤ 3 ∧ 0 ≤ E.2.2.2.2.2 ∧ E.2.2.2.2.2 ≤ 2 ∧ ∀ k, 0 ≤ k → k < E.2.2.2.1 → h (h 441 20 + 1) k = E.2.2.2.2.1 k)
def semX (B : Int → Int) (n : Int) (h : AH) (E : EV) : Prop := actX h E.1.1 E.1.2.1 E.1.2.2.1 E.1.2.2.2.1 E.1.2.2.2.2 ∧ parX B n h E.2.1.1 E.2.1.2.1 E.2.1.2.2 ∧ askX h E
def Tset (T : Int) : Prop := T = 324 ∨ T = 283 ∨ T = 301 ∨ T = 383 ∨ T = 396
/-- what reading may change: the reader's state, trees and weights from a node on -/
def frT (T N : Int) (h h' : AH) : Prop := ∀ a s, ¬ (a = 441 ∧ ((2 ≤ s ∧ s ≤ 9) ∨ s = 16 ∨ s = 18)) → ¬ (a = 445 ∧ N ≤ s) → ¬ (a = T ∧ s = 0) → ¬ (T + 1 ≤ a ∧ a ≤ T + 4 ∧ N ≤ s) → ¬ (a = T + 5 ∧ 3 * N ≤ s) → h' a s = h a s
theorem frT_tr {T N N' : Int} {h h1 h2 : AH} (n : N ≤ N') (a : frT T N h h1) (b : frT T N' h1 h2) : frT T N h h2 := fun x s y1 y2 y3 y4 y5 => by
  rw [b x s y1 (by omega) y3 (by omega) (by omega)]; exact a x s y1 y2 y3 y4 y5
theorem askX_fr {h h' : AH} {E : EV} (x : askX h E) (f0 : h' 441 15 = h 441 15) (f1 : h' 441 20 = h 441 20) (f : ∀ a s, (271 ≤ a ∧ a ≤ 272) ∨ (289 ≤ a ∧ a ≤ 290) → h' a s = h a s) : askX h' E := by
  obtain ⟨x1, x2, x3⟩ := x
  refine ⟨by rw [f0]; exact x1, x2, fun z => ?_⟩
  obtain ⟨y1, y2, y3, y4, y5, y6, y7, y8⟩ := x3 z
  rw [f1]
  refine ⟨y1, ?_, ?_, y4, y5, y6, y7, fun k k0 k1 => ?_⟩
  · rw [f _ _ (by omega)]; exact y2
  · rw [f _ _ (by omega)]; exact y3
  · rw [f _ _ (by omega)]; exact y8 k k0 k1
theorem semX_frT {B : Int → Int} {n T N : Int} {h h' : AH} {E : EV} (hT : Tset T) (hN : 0 ≤ N) (x : semX B n h E) (f : frT T N h h') : semX B n h' E := by
  obtain ⟨x1, x2, x3⟩ := x
  unfold Tset at hT
  refine ⟨actX_fr x1 (fun a s q => ?_), parX_fr x2 ?_ (fun a s a0 a1 => ?_), askX_fr x3 ?_ ?_ (fun a s q => ?_)⟩
  · unfold actC at q; exact f _ _ (by omega) (by omega) (by omega) (by omega) (by omega)
  · exact f _ _ (by omega) (by omega) (by omega) (by omega) (by omega)
  · exact f _ _ (by omega) (by omega) (by omega) (by omega) (by omega)
  · exact f _ _ (by omega) (by omega) (by omega) (by omega) (by omega)
  · exact f _ _ (by omega) (by omega) (by omega) (by omega) (by omega)
  · exact f _ _ (by omega) (by omega) (by omega) (by omega) (by omega)
def preT (B : Int → Int) (n A T : Int) (sk : Bool) (E : EV) (u : Int) (h : AH) : Prop := (TX B n A h ∧ semX B n h E ∧ Od h ∧ h 441 17 = T ∧ Tset T ∧ capT h T 2200 ∧ h 441 14 = (if sk = true then 1 else 0) ∧ h (T + 3) (-2) = 101) ∧ (0 ≤ h T 0 ∧ h T 0 + (n - u) ≤ 2100 ∧ 0 ≤ u) ∧ (0 ≤ h 441 8 ∧ h 441 8 ≤ 6) ∧ FK h ≤ 1000000 ∧ 0 ≤ h 441 16 ∧ h 441 16 + (n - u) ≤ 2100 ∧ (3 < h 441 16 → FK h ≤ 8 * u)
/-- the part that a step of reading doesn't change -/
theorem pre_frT {B : Int → Int} {n A T : Int} {sk : Bool} {E : EV} {N : Int} {h h' : AH} (hN : 0 ≤ N) (p : TX B n A h ∧ semX B n h E ∧ Od h ∧ h 441 17 = T ∧ Tset T ∧ capT h T 2200 ∧ h 441 14 = (if sk = true then 1 else 0) ∧ h (T + 3) (-2) = 101) (f : frT T N h h') : TX B n A h' ∧ semX B n h' E ∧ Od h' ∧ h' 441 17 = T ∧ Tset T ∧ capT h' T 2200 ∧ h' 441 14 = (if sk = true then 1 else 0) ∧ h' (T + 3) (-2) = 101 := by
  obtain ⟨p1, p2, p3, p4, p5, p6, p7, p8⟩ := p
  have pT := p5
  unfold Tset at pT
  have pA := p1.2.2.2.2
  refine ⟨TX_fr p1 ?_ ?_ (fun s => ?_), semX_frT p5 hN p2 f, Od_fr p3 (fun a i a0 a1 => ?_), ?_, p5, capT_fr p6 (fun a a0 a1 => ?_), ?_, ?_⟩
  · exact f _ _ (by omega) (by omega) (by omega) (by omega) (by omega)
  · exact f _ _ (by omega) (by omega) (by omega) (by omega) (by omega)
  · exact f _ _ (by omega) (by omega) (by omega) (by omega) (by omega)
  · exact f _ _ (by omega) (by omega) (by omega) (by omega) (by omega)
  · rw [f _ _ (by omega) (by omega) (by omega) (by omega) (by omega)]; exact p4
  · exact f _ _ (by omega) (by omega) (by omega) (by omega) (by omega)
  · rw [f _ _ (by omega) (by omega) (by omega) (by omega) (by omega)]; exact p7
  · rw [f _ _ (by omega) (by omega) (by omega) (by omega) (by omega)]; exact p8
def resT (B : Int → Int) (n T : Int) (E : EV) (u : Int) (h : AH) (res : PR) (v : Int) (h' : AH) : Prop := match res with
  | .inl z => Sx B n (.inl z) h' ∧ h' T 0 ≤ h T 0 + (n - u) ∧ h' 441 16 ≤ h 441 16 + (n - u)
  | .inr (t, q) => Sx B n (.inr q) h' ∧ u < q ∧ v = h T 0 ∧ h' T 0 = h T 0 + sz t ∧ sz t ≤ q - u ∧ rXc h' T (rsE E t (h 441 16)) v 0 (v + 1) ∧ FK h' = min (FK h) (fkE E t 0 (h 441 16)) ∧ h' 441 16 = h 441 16 + hlT t ∧ h' 445 v = wtE E t ∧ (3 < h' 441 16 → FK h' ≤ 8 * q)
def posT (B : Int → Int) (n T : Int) (E : EV) (u : Int) (h : AH) (res : PR) (v : Int) (h' : AH) : Prop := (frT T (h T 0) h h' ∧ 0 ≤ v ∧ v < 2200 ∧ h T 0 ≤ h' T 0 ∧ 0 ≤ h' 441 8 ∧ h' 441 8 ≤ 6 ∧ FK h' ≤ 1000000 ∧ h 441 16 ≤ h' 441 16) ∧ resT B n T E u h res v h'
def bdT (R : Int ⊕ Int) (f : Int → PR) : PR := match R with | .inl z => .inl z | .inr q => f q
/-- a call, its name told by w at pl; the token at hand at q is the bracket -/
def pC (B : Int → Int) (n : Int) (sk : Bool) (d : Nat) (w pl q : Int) : PR := match nx B n q with
  | .inl z => .inl z
  | .inr q2 => match pKs B n (pT B n sk d) 2002 [] q2 with
    | .inl z => .inl z
    | .inr (l, q3) => match pW B n 41 q3 with
      | .inl z => .inl z
      | .inr q4 => .inr (spn (2, 0, w, pl) l, q4)
theorem nx_r {B : Int → Int} {n q q1 : Int} (hB : ∀ i, 0 ≤ i → i < n → 0 ≤ B i ∧ B i < 256) (h0 : 0 ≤ q) (h1 : q ≤ n) (g : tO B n q ≠ 5) (g0 : tO B n q ≠ 0) (e : nx B n q = .inr q1) : q1 = tE B n q ∧ q < q1 ∧ q1 ≤ n ∧ tO B n q1 ≠ 5 := by
  have r := tE_r hB h0 h1 g
  unfold nx at e
  by_cases c : tO B n (tE B n q) = 5
  · rw [if_pos c] at e; cases e
  · rw [if_neg c] at e
    cases e
    exact ⟨rfl, by have := r.2.2.2 g0; omega, r.2.2.1, c⟩
theorem posT_leaf {B : Int → Int} {n T u q v : Int} {E : EV} {i : NI} {h h' : AH} (hB : ∀ i, 0 ≤ i → i < n → 0 ≤ B i ∧ B i < 256) (hq : 0 ≤ q ∧ q ≤ n ∧ u ≤ q) (g : tO B n q ≠ 5) (g0 : tO B n q ≠ 0) (un : u < n)
    (hf : frT T (h T 0) h h') (hv : v = h T 0) (h0 : 0 ≤ h T 0 ∧ h T 0 < 2200) (h1 : h' T 0 = h T 0 + 1) (nd : ndX h' T v (riE E i (h 441 16))) (f8 : 0 ≤ h' 441 8 ∧ h' 441 8 ≤ 6) (g9 : FK h ≤ 1000000) (k : FK h' = min (FK h) (fiE E i 0 (h 441 16))) (hc : h' 441 16 = h 441 16 + hlT (.leaf i)) (w : h' 445 v = wtE E (.leaf i)) (s : Sx B n (nx B n q) h') (h3 : 3 < h' 441 16 → FK h' ≤ 8 * (tS B n q + 1)) : posT B n T E u h (bdT (nx B n q) (fun q1 => .inr (.leaf i, q1))) v h' := by
  have l0 := hlT_0 (.leaf i)
  have l1 := hlT_sz (.leaf i)
  have l2 : sz (.leaf i) = 1 := rfl
  refine ⟨⟨hf, by omega, by omega, by omega, f8.1, f8.2, by omega, by omega⟩, ?_⟩
  cases e : nx B n q with
  | inl z => rw [e] at s; exact ⟨s, by omega, by omega⟩
  | inr q1 =>
    have r := nx_r hB hq.1 hq.2.1 g g0 e
    rw [e] at s
    have r2 := tE_r hB hq.1 hq.2.1 g
    have r3 := r2.2.2.2 g0
    exact ⟨s, by omega, hv, by omega, by omega, rXc_lf nd, k, hc, w, fun z => by have := h3 z; omega⟩

