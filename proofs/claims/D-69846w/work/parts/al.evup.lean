/-! one act more: pure -/
def upF {α : Type} (f : Int → α) (N : Int) (v : α) : Int → α := fun a => if a = N then v else f a
theorem upF_n {α : Type} {f : Int → α} {N : Int} {v : α} : upF f N v N = v := if_pos rfl
theorem upF_o {α : Type} {f : Int → α} {N a : Int} {v : α} (h : a ≠ N) : upF f N v a = f a := if_neg h
def evU (E : EV) (w : Int) (l : List Int) (kr wt : Int) : EV := ((E.1.1 + 1, upF E.1.2.1 E.1.1 w, upF E.1.2.2.1 E.1.1 (l.length : Int), upF E.1.2.2.2.1 E.1.1 wt, upF E.1.2.2.2.2 E.1.1 (fun k => if k = (l.length : Int) then kr else kL l k)), E.2)
theorem eO_o {E : EV} {w kr wt : Int} {l : List Int} {a : Int} (h : a ≠ E.1.1) : eO (evU E w l kr wt) a = eO E a := by
  unfold eO
  show (if a = -2 then E.2.2.2.1 else if a = -1 then 0 else upF E.1.2.2.1 E.1.1 (l.length : Int) a) = _
  rw [upF_o h]
theorem eK_o {E : EV} {w kr wt k : Int} {l : List Int} {a : Int} (h : a ≠ E.1.1) : eK (evU E w l kr wt) a k = eK E a k := by
  unfold eK
  show (if a = -2 then (if k = E.2.2.2.1 then E.2.2.2.2.2 else E.2.2.2.2.1 k) else upF E.1.2.2.2.2 E.1.1 (fun k => if k = (l.length : Int) then kr else kL l k) a k) = _
  rw [upF_o h]
theorem eO_N {E : EV} {w kr wt : Int} {l : List Int} (h : 0 ≤ E.1.1) : eO (evU E w l kr wt) E.1.1 = (l.length : Int) := by
  unfold eO
  rw [if_neg (by omega), if_neg (by omega)]
  exact upF_n
theorem eK_N {E : EV} {w kr wt k : Int} {l : List Int} (h : 0 ≤ E.1.1) : eK (evU E w l kr wt) E.1.1 k = if k = (l.length : Int) then kr else kL l k := by
  unfold eK
  rw [if_neg (by omega)]
  show upF E.1.2.2.2.2 E.1.1 (fun k => if k = (l.length : Int) then kr else kL l k) E.1.1 k = _
  rw [upF_n]
theorem tyT_U {E : EV} {w kr wt : Int} {l : List Int} (N0 : 0 ≤ E.1.1) {np : Int} {kp : Int → Int} : ∀ {R : TR} {j : Int}, 0 ≤ j → tyT E np kp R j → tyT (evU E w l kr wt) np kp R j
  | .leaf i, j, _, t => by
    obtain ⟨t1, t2, t3⟩ := t
    refine ⟨t1, t2, ?_⟩
    rcases t3 with y | y | y | y | y
    · exact Or.inl y
    · exact Or.inr (Or.inl y)
    · exact Or.inr (Or.inr (Or.inl y))
    · obtain ⟨y1, y2, y3, y4, y5⟩ := y
      refine Or.inr (Or.inr (Or.inr (Or.inl ⟨y1, y2, by show i.2.1 < E.1.1 + 1; omega, ?_, ?_⟩)))
      · rw [eO_o (by omega)]; exact y4
      · rw [eO_o (by omega), eK_o (by omega)]; exact y5
    · obtain ⟨y1, y2, y3, y4⟩ := y
      refine Or.inr (Or.inr (Or.inr (Or.inr ⟨y1, y2, ?_, ?_⟩)))
      · rw [eO_o (by omega)]; exact y3
      · rw [eO_o (by omega), eK_o (by omega)]; exact y4
  | .branch b s r, j, j0, t => by
    obtain ⟨t1, t2, t3⟩ := t
    refine ⟨tyT_U N0 (Int.le_refl _) t1, ?_, tyT_U N0 (by omega) t3⟩
    have nd := (tyT_nd t3).2.2
    have n0 := nk_0 r
    have nn : acI (inf r) ≠ E.1.1 := by
      unfold acI
      by_cases c : (inf r).1 = 4
      · rw [if_pos c]; omega
      · rw [if_neg c]
        rcases nd with y | y | y | y | y <;> omega
    rw [eK_o nn]; exact t2
theorem acE_U {E : EV} {w kr wt : Int} {l : List Int} (a : acE E) (N5 : E.1.1 ≤ 35) (ll : 1 ≤ l.length ∧ l.length ≤ 2) (lr : ∀ k, 0 ≤ k → k < (l.length : Int) → 0 ≤ kL l k ∧ kL l k ≤ 2) (kk : 0 ≤ kr ∧ kr ≤ 2) : acE (evU E w l kr wt) := by
  obtain ⟨a1, a2, a3, a4, a5⟩ := a
  refine ⟨by show 26 ≤ E.1.1 + 1; omega, by show E.1.1 + 1 ≤ 36; omega, fun b b0 b1 => ?_, fun b b0 b1 => ?_, fun z => ?_⟩
  · have b1 : b < E.1.1 + 1 := b1
    by_cases c : b = E.1.1
    · rw [c, eO_N (by omega)]
      refine ⟨by omega, by omega, fun _ => by omega, fun k k0 k1 => ?_⟩
      rw [eK_N (by omega)]
      by_cases d : k = (l.length : Int)
      · rw [if_pos d]; exact kk
      · rw [if_neg d]; exact lr k k0 (by omega)
    · rw [eO_o c]
      obtain ⟨c1, c2, c3, c4⟩ := a3 b b0 (by omega)
      exact ⟨c1, c2, c3, fun k k0 k1 => by rw [eK_o c]; exact c4 k k0 k1⟩
  · rw [eO_o (by omega)]
    obtain ⟨c1, c2⟩ := a4 b b0 b1
    exact ⟨c1, fun k k0 k1 => by rw [eK_o (by omega)]; exact c2 k k0 k1⟩
  · rw [eO_o (by omega)]
    obtain ⟨c1, c2, c3⟩ := a5 z
    exact ⟨c1, c2, fun k k0 k1 => by rw [eK_o (by omega)]; exact c3 k k0 k1⟩
theorem tyT_kp {E : EV} {np : Int} {kp kp' : Int → Int} (h : ∀ k, 0 ≤ k → k < np → kp' k = kp k) : ∀ {R : TR} {j : Int}, tyT E np kp R j → tyT E np kp' R j
  | .leaf i, j, t => by
    obtain ⟨t1, t2, t3⟩ := t
    refine ⟨t1, t2, ?_⟩
    rcases t3 with y | y
    · exact Or.inl ⟨y.1, y.2.1, y.2.2.1, y.2.2.2.1, by rw [h _ y.2.2.1 y.2.2.2.1]; exact y.2.2.2.2⟩
    · exact Or.inr y
  | .branch b s r, j, t => ⟨tyT_kp h t.1, t.2.1, tyT_kp h t.2.2⟩
theorem owT_U {E : EV} {Rf : Int → TR} {R : TR} {w kr wt : Int} {l : List Int} (o : owT E Rf) (N0 : 26 ≤ E.1.1) (c : cgT (l.length : Int) E.1.1 R) (t : tyT E (l.length : Int) (fun k => kL l k) R 0) (k : (inf R).2.2.1 = kr) : owT (evU E w l kr wt) (upF Rf E.1.1 R) := fun a a0 a1 => by
  have a1 : a < E.1.1 + 1 := a1
  by_cases z : a = E.1.1
  · rw [z, upF_n, eO_N (by omega)]
    refine ⟨c, ?_, ?_⟩
    · have t' := tyT_U (w := w) (kr := kr) (wt := wt) (l := l) (by omega) (Int.le_refl _) t
      exact tyT_kp (fun k k0 k1 => by rw [eK_N (by omega), if_neg (by omega)]) t'
    · rw [eK_N (by omega), if_pos rfl]; exact k
  · obtain ⟨o1, o2, o3⟩ := o a a0 (by omega)
    rw [upF_o z, eO_o z, eK_o z]
    refine ⟨o1, ?_, o3⟩
    have e : eK (evU E w l kr wt) a = eK E a := funext fun k => eK_o z
    rw [e]
    exact tyT_U (by omega) (Int.le_refl _) o2
/-- what acts mean does not change -/
theorem Wn_U {E : EV} {Rf : Int → TR} {R : TR} (o : owT E Rf) : ∀ (n : Nat) (b : Int), 0 ≤ b → b < E.1.1 → ∀ x y, Wn (upF Rf E.1.1 R) n b x y = Wn Rf n b x y
  | 0, _, _, _, _, _ => rfl
  | n + 1, b, b0, b1, x, y => by
    show (if b < 26 then (plP b x y, 0) else evT (Wn (upF Rf E.1.1 R) n) (fun _ _ _ => 0) (pr2 x y) (fun _ => 0) (upF Rf E.1.1 R b)) = (if b < 26 then (plP b x y, 0) else evT (Wn Rf n) (fun _ _ _ => 0) (pr2 x y) (fun _ => 0) (Rf b))
    by_cases q : b < 26
    · rw [if_pos q, if_pos q]
    · rw [if_neg q, if_neg q, upF_o (by omega)]
      exact evT_cg (fun a a0 a1 x y => Wn_U o n a a0 (by omega) x y) (fun _ _ _ => rfl) (o b (by omega) b1).1
theorem Wf_U {E : EV} {Rf : Int → TR} {R : TR} (o : owT E Rf) {b : Int} (b0 : 0 ≤ b) (b1 : b < E.1.1) (x y : Int) : Wf (upF Rf E.1.1 R) b x y = Wf Rf b x y := Wn_U o 12 b b0 b1 x y
/-! the search does not change -/
noncomputable def mkG (kk : Int → Int) (oo : Int) (gg : Int → Int → Int → VW) (pts : Int) (A : AD) (T0 : TB) (q k x y z : Int) (T : TB) : TB := stepT pts T (kk oo) q (A.1 + k) (op3 x y z) (fun p => (gg (vlO T0.2.2.2.2.2 x p) (vlO T0.2.2.2.2.2 y p) (vlO T0.2.2.2.2.2 z p)).1)
noncomputable def m1G (kk : Int → Int) (oo : Int) (gg : Int → Int → Int → VW) (pts : Int) (A : AD) (T0 : TB) (q k left x : Int) (T : TB) : TB := @ite TB (T0.2.1 x = kk 0 ∧ T0.2.2.1 x = left) (Classical.propDecidable _) (mkG kk oo gg pts A T0 q k x (-1) (-1) T) T
noncomputable def m2G (kk : Int → Int) (oo : Int) (gg : Int → Int → Int → VW) (pts : Int) (A : AD) (T0 : TB) (q k left x y : Int) (T : TB) : TB := @ite TB (T0.2.1 x = kk 0 ∧ T0.2.1 y = kk 1 ∧ T0.2.2.1 x + T0.2.2.1 y = left) (Classical.propDecidable _) (mkG kk oo gg pts A T0 q k x y (-1) T) T
noncomputable def m3G (kk : Int → Int) (oo : Int) (gg : Int → Int → Int → VW) (pts : Int) (A : AD) (T0 : TB) (q k left x y z : Int) (T : TB) : TB := @ite TB (T0.2.1 x = kk 0 ∧ T0.2.1 y = kk 1 ∧ T0.2.1 z = kk 2 ∧ T0.2.2.1 x + T0.2.2.1 y + T0.2.2.1 z = left) (Classical.propDecidable _) (mkG kk oo gg pts A T0 q k x y z T) T
noncomputable def sXG (kk : Int → Int) (oo : Int) (gg : Int → Int → Int → VW) (pts : Int) (A : AD) (T0 : TB) (q k left x : Int) (T : TB) : TB := if oo = 1 then m1G kk oo gg pts A T0 q k left x T else if oo = 2 then rF (fun y => m2G kk oo gg pts A T0 q k left x y) T0.1.toNat T else rF (fun y => rF (fun z => m3G kk oo gg pts A T0 q k left x y z) T0.1.toNat) T0.1.toNat T
noncomputable def acG (kk : Int → Int) (oo : Int) (gg : Int → Int → Int → VW) (pts : Int) (A : AD) (T0 : TB) (q k left : Int) (T : TB) : TB := rF (fun x => sXG kk oo gg pts A T0 q k left x) T0.1.toNat T
theorem acT_G {E : EV} {W : Int → Int → Int → VW} {pts : Int} {A : AD} {T0 : TB} {q k ac left : Int} {T : TB} : acT E W pts A T0 q k ac left T = acG (eK E ac) (eO E ac) (gvA E W ac) pts A T0 q k left T := rfl
/-- acts of an ask mean the same -/
def agE (E E' : EV) (W W' : Int → Int → Int → VW) (A : AD) : Prop := ∀ k, 0 ≤ k → k < A.2.2.2.1 → A.2.2.2.2.1 k ≠ -1 → eK E' (A.2.2.2.2.1 k) = eK E (A.2.2.2.2.1 k) ∧ eO E' (A.2.2.2.2.1 k) = eO E (A.2.2.2.2.1 k) ∧ gvA E' W' (A.2.2.2.2.1 k) = gvA E W (A.2.2.2.2.1 k)
theorem rF_cg {f g : Int → TB → TB} : ∀ (n : Nat) (T : TB), (∀ k : Nat, k < n → ∀ T, f k T = g k T) → rF f n T = rF g n T
  | 0, _, _ => rfl
  | n + 1, T, h => by
    show f n (rF f n T) = g n (rF g n T)
    rw [rF_cg n T (fun k kn T => h k (by omega) T)]
    exact h n (Nat.lt_succ_self n) _
theorem levT_cg {E E' : EV} {W W' : Int → Int → Int → VW} {pts : Int} {A : AD} (a : agE E E' W W' A) (T0 : TB) (q : Int) : levT E' W' pts A T0 q = levT E W pts A T0 q := by
  unfold levT
  refine rF_cg _ _ (fun k kn T => ?_)
  unfold stQ
  by_cases c : A.2.2.2.2.1 k = -1
  · rw [if_pos c, if_pos c]
  · rw [if_neg c, if_neg c, acT_G, acT_G]
    obtain ⟨a1, a2, a3⟩ := a k (by omega) (by omega) c
    rw [a1, a2, a3]
theorem LV_cg {E E' : EV} {W W' : Int → Int → Int → VW} {pts : Int} {A : AD} (a : agE E E' W W' A) : ∀ d : Nat, LV E' W' pts A d = LV E W pts A d
  | 0 => rfl
  | d + 1 => by
    show levT E' W' pts A (LV E' W' pts A d) (d + 1) = levT E W pts A (LV E W pts A d) (d + 1)
    rw [LV_cg a d]
    exact levT_cg a _ _
theorem gvA_U {E : EV} {Rf : Int → TR} {R : TR} {w kr wt : Int} {l : List Int} (o : owT E Rf) {a : Int} (a0 : 0 ≤ a) (a1 : a < E.1.1) : gvA (evU E w l kr wt) (Wf (upF Rf E.1.1 R)) a = gvA E (Wf Rf) a := by
  funext x y z
  unfold gvA
  rw [eO_o (by omega), Wf_U o a0 a1]
theorem agE_U {E : EV} {Rf : Int → TR} {R : TR} {w kr wt pts : Int} {l : List Int} {A : AD} (o : owT E Rf) (v : VA E A pts) : agE E (evU E w l kr wt) (Wf Rf) (Wf (upF Rf E.1.1 R)) A := fun k k0 k1 c => by
  have z := (v.2.2 k k0 k1).2.resolve_left (fun z => c z.1)
  exact ⟨funext fun j => eK_o (by omega), eO_o (by omega), gvA_U o z.1 z.2⟩

