/-! holes filled: pure; the ask with other holes: x -/
theorem cX_kd {h : AH} {T : Int} : ∀ {R : TR} {d j p : Int} (k : Nat), cX h T R d j p → (k : Int) < nk R → h (T + 5) (3 * d + (j + k)) = p + kss sz R k ∧ cX h T (kdA R k) (p + kss sz R k) 0 (p + kss sz R k + 1)
  | .leaf i, d, j, p, k, _, l => by have e : nk (.leaf i) = 0 := rfl; omega
  | .branch b s r, d, j, p, 0, c, _ => by
    have e0 : kss sz (.branch b s r) 0 = 0 := rfl
    rw [e0, show j + ((0 : Nat) : Int) = j from Int.add_zero j, Int.add_zero]
    exact ⟨c.2.2.1, c.2.2.2.1⟩
  | .branch b s r, d, j, p, k + 1, c, l => by
    have e : nk (.branch b s r) = nk r + 1 := rfl
    have q := cX_kd (R := r) k c.2.2.2.2 (by omega)
    rw [kss_br, show j + ((k + 1 : Nat) : Int) = j + 1 + (k : Int) by omega, show p + (sz s + kss sz r k) = p + sz s + kss sz r k by omega]
    exact q
theorem cX_nd {h : AH} {T : Int} : ∀ {R : TR} {d j p : Int}, cX h T R d j p → h (T + 1) d = (inf R).1 ∧ h (T + 2) d = (inf R).2.1 ∧ h (T + 3) d = (inf R).2.2.1
  | .leaf i, d, j, p, c => ⟨c.1, c.2.1, c.2.2.1⟩
  | .branch _ s r, d, j, p, c => cX_nd (R := r) c.2.2.2.2
theorem rXc_cX {h : AH} {E : EV} (ac : acE E) {np T : Int} {kp : Int → Int} : ∀ {R : TR} {d j p : Int}, tyT E np kp R j → rXc h T R d j p → 0 ≤ j → cX h T R d j p
  | .leaf i, d, j, p, _, r, j0 => ⟨r.1, r.2.1, r.2.2.1, r.2.2.2.2⟩
  | .branch b s r, d, j, p, t, q, j0 => by
    have n := tyI_n ac (tyT_nd t.2.2)
    have n0 := nk_0 r
    have j3 : j < 3 := by omega
    obtain ⟨q1, q2, q3⟩ := q
    exact ⟨j0, j3, q1 j3, rXc_cX ac t.1 q2 (Int.le_refl _), rXc_cX ac t.2.2 q3 (by omega)⟩
/-- holes' numbers are less than n -/
def hcT (n : Int) : TR → Prop
  | .leaf i => i.1 = 3 → 0 ≤ i.2.1 ∧ i.2.1 < n
  | .branch _ s r => hcT n s ∧ hcT n r
theorem hcT_nd {n : Int} : ∀ {R : TR}, hcT n R → ((inf R).1 = 3 → 0 ≤ (inf R).2.1 ∧ (inf R).2.1 < n)
  | .leaf _, c => c
  | .branch _ _ r, c => hcT_nd (R := r) c.2
theorem nh_hc : ∀ {R : TR}, nhT R → hcT 0 R
  | .leaf _, c => fun y => absurd y c
  | .branch _ _ _, c => ⟨nh_hc c.1, nh_hc c.2⟩
theorem evK_hc {W : Int → Int → Int → VW} {f : Int → Int → Int → Int} {p hl hl' : Int → Int} {n : Int} (e : ∀ c, 0 ≤ c → c < n → hl c = hl' c) : ∀ {R : TR}, hcT n R → evK W f p hl R = evK W f p hl' R
  | .leaf _, _ => rfl
  | .branch b s r, c => by
    have a := evK_hc (W := W) (f := f) (p := p) e c.1
    have d := evK_hc (W := W) (f := f) (p := p) e c.2
    have g := hcT_nd c.1
    show evN W f p hl (inf s) (evK W f p hl s) :: evK W f p hl r = evN W f p hl' (inf s) (evK W f p hl' s) :: evK W f p hl' r
    rw [a, d]
    congr 1
    unfold evN
    by_cases y : (inf s).1 = 3
    · rw [e _ (g y).1 (g y).2]
    · rw [if_neg y, if_neg y]
theorem evT_hc {W : Int → Int → Int → VW} {f : Int → Int → Int → Int} {p hl hl' : Int → Int} {n : Int} {R : TR} (e : ∀ c, 0 ≤ c → c < n → hl c = hl' c) (c : hcT n R) : evT W f p hl R = evT W f p hl' R := by
  have g := hcT_nd c
  unfold evT
  rw [evK_hc e c]
  unfold evN
  by_cases y : (inf R).1 = 3
  · rw [e _ (g y).1 (g y).2]
  · rw [if_neg y, if_neg y]
theorem fl_hc {hl hl' : Int → Int} {n : Int} (e : ∀ c, 0 ≤ c → c < n → hl c = hl' c) : ∀ {R : TR}, hcT n R → flT hl R = flT hl' R
  | .leaf i, c => by
    have c : i.1 = 3 → 0 ≤ i.2.1 ∧ i.2.1 < n := c
    show (Lean.RArray.leaf (flI hl i) : TR) = Lean.RArray.leaf (flI hl' i)
    unfold flI
    by_cases y : i.1 = 3
    · rw [e _ (c y).1 (c y).2]
    · rw [if_neg y, if_neg y]
  | .branch b s r, c => by
    show Lean.RArray.branch b (flT hl s) (flT hl r) = Lean.RArray.branch b (flT hl' s) (flT hl' r)
    rw [fl_hc e c.1, fl_hc e c.2]
/-- told terms: their holes are numbered in order -/
theorem rs_hc {P : Int} {nP kP rs oE : Int → Int} {kE : Int → Int → Int} : ∀ {t : TR} {j hc n : Int}, 0 ≤ hc → hc + hlT t ≤ n → gT t → 1000000 ≤ fkT P nP kP rs oE kE t j hc → hcT n (rsT P nP kP rs oE kE t hc)
  | .leaf i, j, hc, n, h0, hn, g, f => fun y => by
    have f : 1000000 ≤ fkI P nP rs oE i j hc := f
    have y : (rsI P nP kP rs oE kE i hc).1 = 3 := y
    have i3 : i.1 = 3 := by
      unfold rsI at y
      by_cases a : i.1 = 0
      · rw [if_pos a] at y; exact absurd y (show ¬ (1 : Int) = 3 by decide)
      · rw [if_neg a] at y
        by_cases b : i.1 = 1
        · rw [if_pos b] at y
          by_cases c : mky P nP i.2.2.1 < 0
          · rw [if_pos c] at y; exact absurd y (show ¬ (1 : Int) = 3 by decide)
          · rw [if_neg c] at y; exact absurd y (show ¬ (0 : Int) = 3 by decide)
        · rw [if_neg b] at y
          by_cases c : i.1 = 2
          · rw [if_pos c] at y
            by_cases d : rs i.2.2.1 = -2
            · rw [if_pos d] at y; exact absurd y (show ¬ (4 : Int) = 3 by decide)
            · rw [if_neg d] at y; exact absurd y (show ¬ (2 : Int) = 3 by decide)
          · have := g.2.2.2; omega
    have e : (rsI P nP kP rs oE kE i hc) = (3, min 2 hc, 0, i.2.2.2) := by
      unfold rsI; rw [if_neg (by omega), if_neg (by omega), if_neg (by omega)]
    have l : hlT (.leaf i) = 1 := if_pos i3
    unfold fkI at f
    rw [if_neg (by omega), if_neg (by omega), if_pos i3] at f
    have h3 : hc < 3 := Classical.byContradiction fun z => by
      rw [if_pos (by omega)] at f
      have := g.2.1
      omega
    show 0 ≤ (rsI P nP kP rs oE kE i hc).2.1 ∧ (rsI P nP kP rs oE kE i hc).2.1 < n
    rw [e]
    show 0 ≤ min 2 hc ∧ min 2 hc < n
    omega
  | .branch b s r, j, hc, n, h0, hn, g, f => by
    have f : 1000000 ≤ min (fkT P nP kP rs oE kE s 0 hc) (min (misK P nP kP rs oE kE (inf r) j s) (fkT P nP kP rs oE kE r (j + 1) (hc + hlT s))) := f
    have e : hlT (.branch b s r) = hlT s + hlT r := rfl
    have s0 := hlT_0 s
    have r0 := hlT_0 r
    exact ⟨rs_hc (j := 0) h0 (by omega) g.2.1 (by omega), rs_hc (j := j + 1) (by omega) (by omega) g.2.2 (by omega)⟩
/-- a term has at most three holes, if it has no fault -/
theorem hl_3 {P : Int} {nP kP rs oE : Int → Int} {kE : Int → Int → Int} : ∀ {t : TR} {j hc : Int}, 0 ≤ hc → hc ≤ 3 → gT t → 1000000 ≤ fkT P nP kP rs oE kE t j hc → hc + hlT t ≤ 3
  | .leaf i, j, hc, h0, h3, g, f => by
    have f : 1000000 ≤ fkI P nP rs oE i j hc := f
    by_cases i3 : i.1 = 3
    · have l : hlT (.leaf i) = 1 := if_pos i3
      unfold fkI at f
      rw [if_neg (by omega), if_neg (by omega), if_pos i3] at f
      by_cases z : 3 ≤ hc
      · rw [if_pos z] at f; have := g.2.1; omega
      · omega
    · have l : hlT (.leaf i) = 0 := if_neg i3
      omega
  | .branch b s r, j, hc, h0, h3, g, f => by
    have f : 1000000 ≤ min (fkT P nP kP rs oE kE s 0 hc) (min (misK P nP kP rs oE kE (inf r) j s) (fkT P nP kP rs oE kE r (j + 1) (hc + hlT s))) := f
    have e : hlT (.branch b s r) = hlT s + hlT r := rfl
    have s0 := hlT_0 s
    have a := hl_3 (P := P) (nP := nP) (kP := kP) (rs := rs) (oE := oE) (kE := kE) (t := s) (j := 0) (hc := hc) h0 h3 g.2.1 (by omega)
    have c := hl_3 (P := P) (nP := nP) (kP := kP) (rs := rs) (oE := oE) (kE := kE) (t := r) (j := j + 1) (hc := hc + hlT s) (by omega) a g.2.2 (by omega)
    omega
theorem hl_E {E : EV} {t : TR} (g : gT t) (f : fkE E t 0 0 = 1000000) : 0 + hlT t ≤ 3 := hl_3 (P := E.2.1.1) (nP := E.2.1.2.1) (kP := E.2.1.2.2) (rs := eRs E) (oE := eO E) (kE := eK E) (t := t) (j := 0) (hc := 0) (Int.le_refl _) (by decide) g (Int.le_of_eq f.symm)
theorem hc_E {E : EV} {t : TR} (g : gT t) (f : fkE E t 0 0 = 1000000) : hcT (hlT t) (rsE E t 0) := rs_hc (P := E.2.1.1) (nP := E.2.1.2.1) (kP := E.2.1.2.2) (rs := eRs E) (oE := eO E) (kE := eK E) (t := t) (j := 0) (hc := 0) (n := hlT t) (Int.le_refl _) (by omega) g (Int.le_of_eq f.symm)
/-- the k-th digit of n, to the base 16 -/
def dgS (n v k : Int) : Int := jand (jshr v (4 * (n - 1 - k))) 15
def hlS (n v c : Int) : Int := if 0 ≤ c ∧ c < n then dgS n v c else 0
theorem dgS_r (n v k : Int) : 0 ≤ dgS n v k ∧ dgS n v k ≤ 15 := by unfold dgS; rw [jand_15]; omega
theorem hlS_r (n v c : Int) : 0 ≤ hlS n v c ∧ hlS n v c ≤ 15 := by
  unfold hlS
  by_cases y : 0 ≤ c ∧ c < n
  · rw [if_pos y]; exact dgS_r n v c
  · rw [if_neg y]; decide
/-- the ask with other values for holes -/
def hlK (K : AK) (hl : Int → Int) : AK := (K.1, K.2.1, K.2.2.1, K.2.2.2.1, hl)
/-- laws without holes -/
def nhK (K : AK) : Prop := ∀ l, 0 ≤ l → l < K.2.2.1.1 → nhT (K.2.2.1.2.2.2.1 l) ∧ nhT (K.2.2.1.2.2.2.2 l)
theorem lwA_hl {W : Int → Int → Int → VW} {f : Int → Int → Int → Int} {hl hl' : Int → Int} {one two : Int} {L R : TR} (a : nhT L) (b : nhT R) (x : lwA W f hl one two L R) : lwA W f hl' one two L R := fun i j i0 i1 j0 j1 => by
  have q := x i j i0 i1 j0 j1
  rw [evT_hc (n := 0) (hl' := hl') (fun c c0 c1 => by omega) (nh_hc a), evT_hc (n := 0) (hl' := hl') (fun c c0 c1 => by omega) (nh_hc b)] at q
  exact q
theorem MKa_hl {E : EV} {W : Int → Int → Int → VW} {K : AK} (nk : nhK K) (hl : Int → Int) : MKa E W (hlK K hl) = MKa E W K := by
  funext k u
  have S : ∀ (h1 h2 : Int → Int), (∀ l, 0 ≤ l → l < K.2.2.1.1 → lwH W (fPt (evF E K) u) h1 K.2.2.1.2.1 K.2.2.1.2.2.1 K.2.2.1.2.2.2.1 K.2.2.1.2.2.2.2 l) → ∀ l, 0 ≤ l → l < K.2.2.1.1 → lwH W (fPt (evF E K) u) h2 K.2.2.1.2.1 K.2.2.1.2.2.1 K.2.2.1.2.2.2.1 K.2.2.1.2.2.2.2 l := fun h1 h2 x l l0 l1 => lwA_hl (nk l l0 l1).1 (nk l l0 l1).2 (x l l0 l1)
  exact propext ⟨fun x => ⟨x.1, x.2.1, S _ _ x.2.2⟩, fun x => ⟨x.1, x.2.1, S _ _ x.2.2⟩⟩
theorem nhK_hl {K : AK} (nk : nhK K) (hl : Int → Int) : nhK (hlK K hl) := nk
theorem ownX_h {h h' : AH} {E : EV} {Rf : Int → TR} (o : ownX h E Rf) (g : ∀ a s, a ≠ 270 → h' a s = h a s) : ownX h' E Rf := by
  obtain ⟨N, c, o⟩ := o
  refine ⟨N, capX_fr c (fun a a0 a1 => g _ _ (by omega)), fun a a0 a1 => ?_⟩
  obtain ⟨o1, o2⟩ := o a a0 a1
  rw [g 264 _ (by decide)]
  exact ⟨vwX_fr (fun a s q => g _ _ (by omega)) o1, o2⟩
theorem actX_h {h h' : AH} {nA : Int} {cA oA wA : Int → Int} {kA : Int → Int → Int} (x : actX h nA cA oA wA kA) (g : ∀ a s, a ≠ 270 → h' a s = h a s) : actX h' nA cA oA wA kA := actX_fr x (fun a s y => g a s (by unfold actC at y; omega))
theorem enX0_h {h h' : AH} {E : EV} {Rf : Int → TR} {W : Int → Int → Int → VW} (e : enX0 h E Rf W) (g : ∀ a s, a ≠ 270 → h' a s = h a s) : enX0 h' E Rf W := by
  obtain ⟨e1, e2, e3, e5, e8, e7⟩ := e
  exact ⟨actX_h e1 g, e2, e3, ownX_h e5 g, ⟨by rw [g _ _ (by decide)]; exact e8.1, by rw [g _ _ (by decide)]; exact e8.2⟩, e7⟩
theorem lwX_h {h h' : AH} {E : EV} {nn : Int → Int} {lk : Int → Int → Int} {LL LR : Int → TR} {l : Int} (x4 : isX4 (h 200 16)) (w : lwX h E nn lk LL LR l) (g : ∀ a s, a ≠ 270 → h' a s = h a s) : lwX h' E nn lk LL LR l := by
  have x : h 200 16 = 271 ∨ h 200 16 = 289 := x4
  have e : h' 200 16 = h 200 16 := g _ _ (by decide)
  have S : ∀ {np d : Int} {kp : Int → Int} {R : TR}, sdX h E (h 200 16 + 12) np kp R d → sdX h' E (h 200 16 + 12) np kp R d := fun {np d kp R} s => by
    obtain ⟨s1, s2, s3, s4⟩ := s
    exact ⟨capX_fr s1 (fun a a0 a1 => g _ _ (by omega)), vwX_fr (fun a s y => g _ _ (by omega)) s2, s3, s4⟩
  obtain ⟨w1, w2, w3, w4, w5, w6⟩ := w
  unfold lwX
  rw [e, g (h 200 16 + 10) l (by omega), g (h 200 16 + 8) l (by omega), g (h 200 16 + 9) l (by omega)]
  exact ⟨w1, w2, w3, fun k k0 k1 => by rw [g _ _ (by omega)]; exact w4 k k0 k1, S w5, S w6⟩
theorem akX_h {h h' : AH} {E : EV} {Rf : Int → TR} {W : Int → Int → Int → VW} {K : AK} {hl : Int → Int} (x : akX h E Rf W K) (g : ∀ a s, a ≠ 270 → h' a s = h a s) (v : ∀ c, 0 ≤ c → c ≤ 2 → h' 270 c = hl c ∧ 0 ≤ hl c ∧ hl c ≤ 15) (n : ∀ s, s < 0 → h' 270 s = h 270 s) : akX h' E Rf W (hlK K hl) := by
  obtain ⟨x1, x2, x3, x4, x5, x6, x7, x8, x9, x10, x11⟩ := x
  have xx : h 200 16 = 271 ∨ h 200 16 = 289 := x1.1.1
  have e : h' 200 16 = h 200 16 := g _ _ (by decide)
  have G : ∀ s, h' (h 200 16) s = h (h 200 16) s := fun s => g _ _ (by omega)
  refine ⟨?_, ?_, by rw [e, G]; exact x3, ⟨by rw [g _ _ (by decide)]; exact x4.1, by rw [g _ _ (by decide)]; exact x4.2⟩, ?_, ⟨by rw [e, G]; exact x6.1, x6.2⟩, x7, x8, x9, ?_, ?_⟩
  · obtain ⟨⟨x1, ⟨n1, n2, n3, n4, n5, n6, n8, n7⟩, x3, x4⟩, ⟨y1, y2, y3, y4⟩, ⟨z1, z2, z3⟩, ⟨w1, w2, w3, w4⟩, pv⟩ := x1
    unfold seX
    rw [e]
    refine ⟨⟨x1, ⟨actX_h n1 g, n2, n3, n4, ownX_h n5 g, fun y => by omega, ⟨by rw [g _ _ (by decide)]; exact n8.1, by rw [g _ _ (by decide)]; exact n8.2⟩, n7⟩, x3, ⟨fun c c0 c1 => by have q := v c c0 c1; omega, by rw [g _ _ (by decide)]; exact x4.2⟩⟩, ⟨by rw [G]; exact y1, y2, y3, fun k k0 k1 => by rw [g _ _ (by omega)]; exact y4 k k0 k1⟩, ⟨by rw [G]; exact z1, fun q => ⟨(z2 q).1, fun s s0 s1 => by rw [g _ _ (by omega)]; exact (z2 q).2 s s0 s1⟩, z3⟩, ⟨by rw [G]; exact w1, w2, w3, fun k k0 k1 => ?_⟩, pv⟩
    have c := w4 k k0 k1
    rw [g (h 200 16 + 2) _ (by omega), g (h 200 16 + 3) _ (by omega), g (h 200 16 + 4) _ (by omega), g (h 200 16 + 5) _ (by omega)]
    exact c
  · obtain ⟨⟨a1, a2, a3, a4, a5⟩, ⟨b1, b2, b3, b4, b5, b6⟩, ⟨c1, c2, c3, c4, c5⟩, ⟨d1, d2, d3, d4⟩, e1⟩ := x2
    have e6 : ∀ s, h' (h 200 16 + 6) s = h (h 200 16 + 6) s := fun s => g _ _ (by omega)
    have e7 : ∀ s, h' (h 200 16 + 7) s = h (h 200 16 + 7) s := fun s => g _ _ (by omega)
    have e11 : ∀ s, h' (h 200 16 + 1) s = h (h 200 16 + 1) s := fun s => g _ _ (by omega)
    unfold mtX
    rw [e, G, G, G, G]
    exact ⟨⟨a1, enX0_h a2 g, by rw [g _ _ (by decide)]; exact a3, v, by rw [g _ _ (by decide)]; exact a5⟩, ⟨b1, b2, b3, fun k k0 k1 => by rw [e11]; exact b4 k k0 k1, b5, fun y => by rw [e6, e6]; exact ⟨(b6 y).1, (b6 y).2.1, fun r k r0 r1 k0 k1 => by rw [e6]; exact (b6 y).2.2 r k r0 r1 k0 k1⟩⟩, ⟨c1, c2, c3, fun r r0 r1 => by rw [e7]; exact c4 r r0 r1, c5⟩, ⟨d1, d2, d3, fun l l0 l1 => lwX_h a1 (d4 l l0 l1) g⟩, fun y => ⟨(e1 y).1, fun k k0 k1 => by rw [e11]; exact (e1 y).2.1 k k0 k1, (e1 y).2.2⟩⟩
  · unfold lenX
    rw [g 316 _ (by decide), g 316 _ (by decide), g 317 _ (by decide), g 317 _ (by decide), g 321 _ (by decide), g 321 _ (by decide)]
    exact x5
  · exact fun a a0 a1 => by
      by_cases y : a = 270
      · rw [y, n _ (by decide), n _ (by decide), ← y]; exact x10 a a0 a1
      · rw [g a _ y, g a _ y]; exact x10 a a0 a1
  · obtain ⟨S, q⟩ := x11
    exact ⟨S, fun a i a0 a1 => by rw [g a i (by omega)]; exact q a i a0 a1⟩

