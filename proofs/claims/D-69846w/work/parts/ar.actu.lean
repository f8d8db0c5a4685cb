/-! m: the grown acts -/
theorem resQ_imp {h : AH} {Q Q' : Int → Prop} (i : ∀ x, Q x → Q' x) : ∀ {R : TR} {d j : Int}, resQ h Q R d j → resQ h Q' R d j
  | .leaf _, _, _, r => ⟨i _ r.1, r.2⟩
  | .branch _ _ _, _, _, r => ⟨r.1, r.2.1, resQ_imp i r.2.2.1, resQ_imp i r.2.2.2⟩
/-- m's own acts, each in its own place -/
def ownQ (h : AH) (E : EV) (Rf : Int → TR) : Prop := ∀ a, 26 ≤ a → a < E.1.1 → 0 ≤ E.1.2.2.2.1 a ∧ E.1.2.2.2.1 a ≤ 40 ∧ acR a (Rf a) ∧ wtR E.1.2.2.2.1 (Rf a) = E.1.2.2.2.1 a ∧ h 459 a = adN a ∧ resQ h (rgN (adN a) 130) (Rf a) (adN a) 0
theorem ownM_Q {h : AH} {E : EV} {Rf : Int → TR} (o : ownQ h E Rf) (N : E.1.1 ≤ 36) : ownM h E.1.1 E.1.2.2.2.1 Rf := fun a a0 a1 => by
  obtain ⟨o1, o2, o3, o4, o5, o6⟩ := o a a0 a1
  refine ⟨o1, o2, o3, o4, fun hh g => ?_⟩
  rw [o5]
  have AD : adN a = 5500 + 130 * (a - 26) := rfl
  exact resQ_M (resQ_fr (fun b s b0 b1 b2 q => g.1 b s b0 b1 b2 (by have := q.1; omega) (by have := q.2; omega)) (fun s j q j0 j1 => g.2 _ (by have := q.1; omega) (by have := q.2; omega)) o6)
theorem wtR_cg {wA wA' : Int → Int} {N : Int} (e : ∀ b, b < N → wA' b = wA b) : ∀ {R : TR}, acR N R → wtR wA' R = wtR wA R
  | .leaf i, a => by
    have a : i.1 = 2 → 0 ≤ i.2.1 ∧ i.2.1 < N := a
    show lwI wA' i = lwI wA i
    unfold lwI
    by_cases c : i.1 = 2
    · rw [if_pos c, if_pos c, e _ (a c).2]
    · rw [if_neg c, if_neg c]
  | .branch _ s r, a => by
    have a : ((inf r).1 = 2 ∨ (inf r).1 = 4) ∧ acR N s ∧ acR N r := a
    show wtR wA' s + wtR wA' r = wtR wA s + wtR wA r
    rw [wtR_cg e a.2.1, wtR_cg e a.2.2]
theorem actM_U {h h' : AH} {E : EV} {w kr wt z : Int} {l : List Int} {T : TR} (x : actM h E) (g : owGd E l kr T) (n : nwM E w kr l T h') (f : frMn E.1.1 z h h') : actM h' (evU E w l kr wt) := by
  obtain ⟨x1, x2, x3, x4⟩ := x
  obtain ⟨⟨l1, l2⟩, lk, e35, tm, krr, wtr, s1, d1, hl, ar⟩ := g
  obtain ⟨n5, n455, n456, n457, n458, n459, rq⟩ := n
  refine ⟨n5, by show 26 ≤ E.1.1 + 1; omega, by show E.1.1 + 1 ≤ 36; omega, fun a a0 a1 => ?_⟩
  have a1 : a < E.1.1 + 1 := a1
  show h' 455 a = upF E.1.2.1 E.1.1 w a ∧ h' 456 a = upF E.1.2.2.1 E.1.1 (l.length : Int) a ∧ 1 ≤ upF E.1.2.2.1 E.1.1 (l.length : Int) a ∧ upF E.1.2.2.1 E.1.1 (l.length : Int) a ≤ 3 ∧ (∀ k, 0 ≤ k → k < upF E.1.2.2.1 E.1.1 (l.length : Int) a → h' 457 (3 * a + k) = kch (upF E.1.2.2.2.2 E.1.1 (fun k => if k = (l.length : Int) then kr else kL l k) a k)) ∧ h' 458 a = kch (upF E.1.2.2.2.2 E.1.1 (fun k => if k = (l.length : Int) then kr else kL l k) a (upF E.1.2.2.1 E.1.1 (l.length : Int) a)) ∧ ∀ k, 0 ≤ k → k ≤ upF E.1.2.2.1 E.1.1 (l.length : Int) a → 0 ≤ upF E.1.2.2.2.2 E.1.1 (fun k => if k = (l.length : Int) then kr else kL l k) a k ∧ upF E.1.2.2.2.2 E.1.1 (fun k => if k = (l.length : Int) then kr else kL l k) a k ≤ 2
  by_cases c : a = E.1.1
  · rw [c]
    simp only [upF_n]
    refine ⟨n455, n456, by omega, by omega, fun k k0 k1 => ?_, ?_, fun k k0 k1 => ?_⟩
    · rw [if_neg (by omega)]; exact n457 k k0 k1
    · first | exact n458 | (rw [if_pos rfl]; exact n458)
    · by_cases d : k = (l.length : Int)
      · rw [if_pos d]; exact krr
      · rw [if_neg d]; exact lk k k0 (by omega)
  · simp only [upF_o c]
    obtain ⟨y1, y2, y3, y4, y5, y6, y7⟩ := x4 a a0 (by omega)
    have F : ∀ b, b = 455 ∨ b = 456 ∨ b = 458 → h' b a = h b a := fun b y => f b a (by omega) (by omega) (by omega) (by omega) (by omega) (by omega) (by omega) (by omega) (by omega) (by omega) (by omega)
    refine ⟨(F _ (Or.inl rfl)).trans y1, (F _ (Or.inr (Or.inl rfl))).trans y2, y3, y4, fun k k0 k1 => ?_, (F _ (Or.inr (Or.inr rfl))).trans y6, y7⟩
    exact (f 457 _ (by omega) (by omega) (by omega) (by omega) (by omega) (by omega) (by omega) (by omega) (by omega) (by omega) (by omega)).trans (y5 k k0 k1)
theorem ownQ_U {h h' : AH} {E : EV} {Rf : Int → TR} {w kr : Int} {l : List Int} {T : TR} (x2 : 26 ≤ E.1.1) (o : ownQ h E Rf) (g : owGd E l kr T) (n : nwM E w kr l T h') (f : frMn E.1.1 (sz T) h h') : ownQ h' (evU E w l kr (wtR E.1.2.2.2.1 (rsE (EL E l) T 0))) (upF Rf E.1.1 (rsE (EL E l) T 0)) := fun a a0 a1 => by
  obtain ⟨⟨l1, l2⟩, lk, e35, tm, krr, wtr, s1, d1, hl, ar⟩ := g
  obtain ⟨n5, n455, n456, n457, n458, n459, rq⟩ := n
  have a1 : a < E.1.1 + 1 := a1
  have AN : adN E.1.1 = 5500 + 130 * (E.1.1 - 26) := rfl
  have AD : adN a = 5500 + 130 * (a - 26) := rfl
  show 0 ≤ upF E.1.2.2.2.1 E.1.1 (wtR E.1.2.2.2.1 (rsE (EL E l) T 0)) a ∧ upF E.1.2.2.2.1 E.1.1 (wtR E.1.2.2.2.1 (rsE (EL E l) T 0)) a ≤ 40 ∧ acR a (upF Rf E.1.1 (rsE (EL E l) T 0) a) ∧ wtR (upF E.1.2.2.2.1 E.1.1 (wtR E.1.2.2.2.1 (rsE (EL E l) T 0))) (upF Rf E.1.1 (rsE (EL E l) T 0) a) = upF E.1.2.2.2.1 E.1.1 (wtR E.1.2.2.2.1 (rsE (EL E l) T 0)) a ∧ h' 459 a = adN a ∧ resQ h' (rgN (adN a) 130) (upF Rf E.1.1 (rsE (EL E l) T 0) a) (adN a) 0
  by_cases c : a = E.1.1
  · rw [c]
    rw [upF_n, upF_n]
    refine ⟨wtr.1, wtr.2, ar, wtR_cg (N := E.1.1) (fun b y => upF_o (by omega)) ar, n459, resQ_imp (fun x y => ⟨y.1, by have := y.2; omega⟩) rq⟩
  · rw [upF_o c, upF_o c]
    obtain ⟨o1, o2, o3, o4, o5, o6⟩ := o a a0 (by omega)
    refine ⟨o1, o2, o3, (wtR_cg (N := a) (fun b y => upF_o (by omega)) o3).trans o4, (f 459 a (by omega) (by omega) (by omega) (by omega) (by omega) (by omega) (by omega) (by omega) (by omega) (by omega) (by omega)).trans o5, resQ_fr (fun b s b0 b1 b2 q => ?_) (fun s j q j0 j1 => ?_) o6⟩
    · have q0 := q.1
      have q1 := q.2
      exact f b s (by omega) (by omega) (by omega) (by omega) (by omega) (by omega) (by omega) (by omega) (by omega) (by omega) (by omega)
    · have q0 := q.1
      have q1 := q.2
      exact f 464 _ (by omega) (by omega) (by omega) (by omega) (by omega) (by omega) (by omega) (by omega) (by omega) (by omega) (by omega)

