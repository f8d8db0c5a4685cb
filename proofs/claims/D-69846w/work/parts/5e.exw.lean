/-! what acts mean is told by their terms: there is such a meaning -/
def cgI (np N : Int) (i : NI) : Prop := i.1 ≠ 3 ∧ i.1 ≠ 4 ∧ (i.1 = 0 → 0 ≤ i.2.1 ∧ i.2.1 < np) ∧ (i.1 = 2 → 0 ≤ i.2.1 ∧ i.2.1 < N) ∧ 0 ≤ i.1 ∧ i.1 ≤ 4
def cgT (np N : Int) : TR → Prop
  | .leaf i => cgI np N i
  | .branch _ s r => cgT np N s ∧ cgT np N r
theorem cgT_nd {np N : Int} : ∀ {R : TR}, cgT np N R → cgI np N (inf R)
  | .leaf _, c => c
  | .branch _ _ r, c => cgT_nd (R := r) c.2
theorem cgT_le {np N M : Int} (l : N ≤ M) : ∀ {R : TR}, cgT np N R → cgT np M R
  | .leaf i, c => ⟨c.1, c.2.1, c.2.2.1, fun z => by have := c.2.2.2.1 z; omega, c.2.2.2.2⟩
  | .branch _ s r, c => ⟨cgT_le l c.1, cgT_le l c.2⟩
theorem cgT_ns {np N : Int} : ∀ {R : TR}, cgT np N R → nsT R
  | .leaf _, c => c.2.1
  | .branch _ _ _, c => ⟨cgT_ns c.1, cgT_ns c.2⟩
theorem evN_cg {W W' : Int → Int → Int → VW} {f f' : Int → Int → Int → Int} {p p' hl hl' : Int → Int} {np N : Int} {i : NI} {l : List VW} (w : ∀ a, 0 ≤ a → a < N → ∀ x y, W a x y = W' a x y) (hp : ∀ c, 0 ≤ c → c < np → p c = p' c) (c : cgI np N i) : evN W f p hl i l = evN W' f' p' hl' i l := by
  obtain ⟨c3, c4, c0, c2, ca, cb⟩ := c
  unfold evN
  by_cases i0 : i.1 = 0
  · rw [if_pos i0, if_pos i0]; have := c0 i0; rw [hp _ this.1 this.2]
  rw [if_neg i0, if_neg i0]
  by_cases i1 : i.1 = 1
  · rw [if_pos i1, if_pos i1]
  rw [if_neg i1, if_neg i1, if_neg c3, if_neg c3]
  have i2 : i.1 = 2 := by omega
  have k := c2 i2
  by_cases ch : i.1 = 2 ∧ (i.2.1 = 15 ∨ i.2.1 = 16)
  · rw [if_pos ch, if_pos ch]
  rw [if_neg ch, if_neg ch]
  unfold evS
  rw [if_neg c4, if_neg c4, w _ k.1 k.2]
theorem evK_cg {W W' : Int → Int → Int → VW} {f f' : Int → Int → Int → Int} {p p' hl hl' : Int → Int} {np N : Int} (w : ∀ a, 0 ≤ a → a < N → ∀ x y, W a x y = W' a x y) (hp : ∀ c, 0 ≤ c → c < np → p c = p' c) : ∀ R : TR, cgT np N R → evK W f p hl R = evK W' f' p' hl' R
  | .leaf _, _ => rfl
  | .branch b s r, c => by
    show evN W f p hl (inf s) (evK W f p hl s) :: evK W f p hl r = evN W' f' p' hl' (inf s) (evK W' f' p' hl' s) :: evK W' f' p' hl' r
    rw [evK_cg w hp s c.1, evK_cg w hp r c.2, evN_cg w hp (cgT_nd c.1)]
theorem evT_cg {W W' : Int → Int → Int → VW} {f f' : Int → Int → Int → Int} {p p' hl hl' : Int → Int} {np N : Int} {R : TR} (w : ∀ a, 0 ≤ a → a < N → ∀ x y, W a x y = W' a x y) (hp : ∀ c, 0 ≤ c → c < np → p c = p' c) (c : cgT np N R) : evT W f p hl R = evT W' f' p' hl' R := by
  unfold evT
  rw [evK_cg w hp R c, evN_cg w hp (cgT_nd c)]
def Wn (Rf : Int → TR) : Nat → Int → Int → Int → VW
  | 0, _, _, _ => (-1, 0)
  | n + 1, a, x, y => if a < 26 then (plP a x y, 0) else evT (Wn Rf n) (fun _ _ _ => 0) (pr2 x y) (fun _ => 0) (Rf a)
def owT (E : EV) (Rf : Int → TR) : Prop := ∀ a, 26 ≤ a → a < E.1.1 → cgT (eO E a) a (Rf a) ∧ tyT E (eO E a) (eK E a) (Rf a) 0 ∧ (inf (Rf a)).2.2.1 = eK E a (eO E a)
theorem Wn_st {E : EV} {Rf : Int → TR} (o : owT E Rf) : ∀ (n : Nat) (b : Int), 0 ≤ b → b < E.1.1 → b < 26 + n → ∀ x y, Wn Rf (n + 2) b x y = Wn Rf (n + 1) b x y
  | 0, b, b0, b1, b2, x, y => by
    show (if b < 26 then _ else _) = (if b < 26 then _ else _)
    rw [if_pos (by omega), if_pos (by omega)]
  | n + 1, b, b0, b1, b2, x, y => by
    show (if b < 26 then (plP b x y, 0) else evT (Wn Rf (n + 2)) (fun _ _ _ => 0) (pr2 x y) (fun _ => 0) (Rf b)) = (if b < 26 then (plP b x y, 0) else evT (Wn Rf (n + 1)) (fun _ _ _ => 0) (pr2 x y) (fun _ => 0) (Rf b))
    by_cases q : b < 26
    · rw [if_pos q, if_pos q]
    · rw [if_neg q, if_neg q]
      exact evT_cg (fun a a0 a1 x y => Wn_st o n a a0 (by omega) (by omega) x y) (fun _ _ _ => rfl) (o b (by omega) b1).1
def Wf (Rf : Int → TR) (a x y : Int) : VW := Wn Rf 12 a x y
theorem Wf_own {E : EV} {Rf : Int → TR} (o : owT E Rf) (hE : E.1.1 ≤ 36) (ho : ∀ a, 26 ≤ a → a < E.1.1 → eO E a ≤ 2) (a : Int) (a0 : 26 ≤ a) (a1 : a < E.1.1) (x y : Int) (f : Int → Int → Int → Int) (hl p : Int → Int) (p0 : p 0 = x) (p1 : p 1 = y) : Wf Rf a x y = evT (Wf Rf) f p hl (Rf a) := by
  unfold Wf
  show (if a < 26 then (plP a x y, 0) else evT (Wn Rf 11) (fun _ _ _ => 0) (pr2 x y) (fun _ => 0) (Rf a)) = evT (Wn Rf 12) f p hl (Rf a)
  rw [if_neg (by omega)]
  have h2 := ho a a0 a1
  refine evT_cg (fun b b0 b1 x y => (Wn_st o 10 b b0 (by omega) (by omega) x y).symm) (fun c c0 c1 => ?_) (o a a0 a1).1
  rcases (show c = 0 ∨ c = 1 by omega) with rfl | rfl
  · exact p0.symm
  · exact p1.symm
theorem Wf_ty {E : EV} {Rf : Int → TR} (ac : acE E) (o : owT E Rf) : ∀ (n : Nat) (a x y : Int), a < 26 + (n : Int) → 26 ≤ a → a < E.1.1 → vlR (eK E a 0) x → (eO E a = 2 → vlR (eK E a 1) y) → okV (eK E a (eO E a)) (Wf Rf a x y).1
  | 0, a, x, y, h, h0, _, _, _ => by omega
  | n + 1, a, x, y, h, a0, a1, hx, hy => by
    have ho : ∀ a, 26 ≤ a → a < E.1.1 → eO E a ≤ 2 := fun b b0 b1 => (ac.2.2.1 b (by omega) b1).2.2.1 b0
    have O := o a a0 a1
    have A := ac.2.2.1 a (by omega) a1
    rw [Wf_own o ac.2.1 ho a a0 a1 x y (fun _ _ _ => 0) (fun _ => 0) (pr2 x y) rfl rfl]
    have cg : evT (Wf Rf) (fun _ _ _ => 0) (pr2 x y) (fun _ => 0) (Rf a) = evT (fun b u v => if b < a then Wf Rf b u v else (-1, 0)) (fun _ _ _ => -1) (pr2 x y) (fun _ => 0) (Rf a) := evT_cg (fun b b0 b1 u v => by rw [if_pos b1]) (fun _ _ _ => rfl) O.1
    rw [cg, ← O.2.2]
    refine evT_ty (E := E) (np := eO E a) (kp := eK E a) ac ⟨fun b u v b0 b1 b2 b3 => ?_, fun b u v b0 b1 bx by_ => ?_⟩ (fun _ _ _ _ _ _ _ => Or.inl rfl) (fun c c0 c1 => ?_) (fun _ _ _ => ⟨by decide, by decide⟩) O.2.1
    · show (if b < a then Wf Rf b u v else (-1, 0)) = _
      rw [if_pos (by omega)]
      show (if b < 26 then (plP b u v, 0) else _) = _
      rw [if_pos b1]
    · show okV _ (if b < a then Wf Rf b u v else (-1, 0)).1
      by_cases q : b < a
      · rw [if_pos q]; exact Wf_ty ac o n b u v (by omega) b0 b1 bx by_
      · rw [if_neg q]; exact Or.inl rfl
    · have := A.2.2.1 a0
      rcases (show c = 0 ∨ c = 1 by omega) with rfl | rfl
      · exact hx
      · exact hy (by omega)
theorem W_ex {E : EV} {Rf : Int → TR} (ac : acE E) (o : owT E Rf) : wOK E Rf (Wf Rf) :=
  ⟨fun a x y a0 a1 _ _ => if_pos a1, fun a a0 a1 x y f hl p p0 p1 => Wf_own o ac.2.1 (fun b b0 b1 => (ac.2.2.1 b (by omega) b1).2.2.1 b0) a a0 a1 x y f hl p p0 p1, fun a x y a0 a1 hx hy => Wf_ty ac o 10 a x y (by have := ac.2.1; omega) a0 a1 hx hy⟩

