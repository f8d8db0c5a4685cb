/-! x: what is asked, and what of the heap it stands on -/
def nA (a s : Int) : Prop := (a = 200 ∧ (s = 7 ∨ s = 11 ∨ s = 16)) ∨ (0 < a ∧ a < 200) ∨ (201 ≤ a ∧ a ≤ 306 ∧ ¬ (a = 269 ∧ 0 ≤ s)) ∨ 1078 ≤ a ∨ (s < 0 ∧ 200 ≤ a ∧ a < 1078)
def agX (h h' : AH) : Prop := ∀ a s, nA a s → h' a s = h a s
theorem agX_r (h : AH) : agX h h := fun _ _ _ => rfl
theorem agX_t {h h1 h2 : AH} (x : agX h h1) (y : agX h1 h2) : agX h h2 := fun a s z => (y a s z).trans (x a s z)
theorem agX_f {h h' : AH} (f : ∀ a s, nA a s → h' a s = h a s) : agX h h' := f
theorem fS_A {h h' : AH} (f : fS h h') : agX h h' := fun a s y => by
  unfold nA at y
  exact f a s (by omega) (by omega) (by omega) (by omega)
theorem actC_n {a s : Int} (y : actC a s) : nA a s := by
  unfold actC at y
  unfold nA
  omega
theorem ownX_n {h h' : AH} {E : EV} {Rf : Int → TR} (o : ownX h E Rf) (g : agX h h') : ownX h' E Rf := by
  obtain ⟨N, c, o⟩ := o
  have G : ∀ a s, 258 ≤ a → a ≤ 264 → h' a s = h a s := fun a s a0 a1 => g _ _ (by unfold nA; omega)
  refine ⟨N, capX_fr c (fun a a0 a1 => G _ _ (by omega) (by omega)), fun a a0 a1 => ?_⟩
  obtain ⟨o1, o2⟩ := o a a0 a1
  rw [G 264 _ (by decide) (by decide)]
  exact ⟨vwX_fr (fun a s q => G _ _ (by omega) (by omega)) o1, o2⟩
theorem enX0_n {h h' : AH} {E : EV} {Rf : Int → TR} {W : Int → Int → Int → VW} (e : enX0 h E Rf W) (g : agX h h') : enX0 h' E Rf W := by
  obtain ⟨e1, e2, e3, e5, e8, e7⟩ := e
  exact ⟨actX_fr e1 (fun a s q => g a s (actC_n q)), e2, e3, ownX_n e5 g, ⟨by rw [g _ _ (by unfold nA; omega)]; exact e8.1, by rw [g _ _ (by unfold nA; omega)]; exact e8.2⟩, e7⟩
theorem lwX_n {h h' : AH} {E : EV} {nn : Int → Int} {lk : Int → Int → Int} {LL LR : Int → TR} {l : Int} (x4 : isX4 (h 200 16)) (w : lwX h E nn lk LL LR l) (g : agX h h') : lwX h' E nn lk LL LR l := by
  have x : h 200 16 = 271 ∨ h 200 16 = 289 := x4
  have e : h' 200 16 = h 200 16 := g _ _ (by unfold nA; omega)
  have G : ∀ a s, 271 ≤ a → a ≤ 306 → h' a s = h a s := fun a s a0 a1 => g _ _ (by unfold nA; omega)
  have S : ∀ {np d : Int} {kp : Int → Int} {R : TR}, sdX h E (h 200 16 + 12) np kp R d → sdX h' E (h 200 16 + 12) np kp R d := fun {np d kp R} s => by
    obtain ⟨s1, s2, s3, s4⟩ := s
    exact ⟨capX_fr s1 (fun a a0 a1 => G _ _ (by omega) (by omega)), vwX_fr (fun a s y => G _ _ (by omega) (by omega)) s2, s3, s4⟩
  obtain ⟨w1, w2, w3, w4, w5, w6⟩ := w
  unfold lwX
  rw [e, G _ l (by omega) (by omega), G (h 200 16 + 8) l (by omega) (by omega), G (h 200 16 + 9) l (by omega) (by omega)]
  exact ⟨w1, w2, w3, fun k k0 k1 => by rw [G _ _ (by omega) (by omega)]; exact w4 k k0 k1, S w5, S w6⟩
theorem mtX_n {h h' : AH} {E : EV} {Rf : Int → TR} {W : Int → Int → Int → VW} {hl ra : Int → Int} {n wh pts rn ln : Int} {kf rv nn : Int → Int} {lk : Int → Int → Int} {LL LR : Int → TR} (m : mtX h E Rf W hl n kf wh rv pts rn ra ln nn lk LL LR) (g : agX h h') (b : b10 h') : mtX h' E Rf W hl n kf wh rv pts rn ra ln nn lk LL LR := by
  obtain ⟨⟨a1, a2, a3, a4, a5⟩, ⟨b1, b2, b3, b4, b5, b6⟩, ⟨c1, c2, c3, c4, c5⟩, ⟨d1, d2, d3, d4⟩, e1⟩ := m
  have x : h 200 16 = 271 ∨ h 200 16 = 289 := a1
  have e : h' 200 16 = h 200 16 := g _ _ (by unfold nA; omega)
  have G : ∀ a s, 270 ≤ a → a ≤ 306 → h' a s = h a s := fun a s a0 a1 => g _ _ (by unfold nA; omega)
  have eX : ∀ s, h' (h 200 16) s = h (h 200 16) s := fun s => G _ _ (by omega) (by omega)
  have e6 : ∀ s, h' (h 200 16 + 6) s = h (h 200 16 + 6) s := fun s => G _ _ (by omega) (by omega)
  have e7 : ∀ s, h' (h 200 16 + 7) s = h (h 200 16 + 7) s := fun s => G _ _ (by omega) (by omega)
  have e11 : ∀ s, h' (h 200 16 + 1) s = h (h 200 16 + 1) s := fun s => G _ _ (by omega) (by omega)
  unfold mtX
  rw [e, eX, eX, eX, eX]
  exact ⟨⟨a1, enX0_n a2 g, by rw [g _ _ (by unfold nA; omega)]; exact a3, fun c c0 c1 => by rw [G _ _ (by omega) (by omega)]; exact a4 c c0 c1, b⟩, ⟨b1, b2, b3, fun k k0 k1 => by rw [e11]; exact b4 k k0 k1, b5, fun y => by rw [e6, e6]; exact ⟨(b6 y).1, (b6 y).2.1, fun r k r0 r1 k0 k1 => by rw [e6]; exact (b6 y).2.2 r k r0 r1 k0 k1⟩⟩, ⟨c1, c2, c3, fun r r0 r1 => by rw [e7]; exact c4 r r0 r1, c5⟩, ⟨d1, d2, d3, fun l l0 l1 => lwX_n a1 (d4 l l0 l1) g⟩, fun y => ⟨(e1 y).1, fun k k0 k1 => by rw [e11]; exact (e1 y).2.1 k k0 k1, (e1 y).2.2⟩⟩
theorem seX_n {h h' : AH} {E : EV} {Rf : Int → TR} {W : Int → Int → Int → VW} {f : Int → Int → Int → Int} {A : AD} {pts wh : Int} {rv : Int → Int} (x : seX h E Rf W f A pts wh rv) (g : agX h h') (b : b10 h') : seX h' E Rf W f A pts wh rv := by
  obtain ⟨⟨x1, ⟨n1, n2, n3, n4, n5, n6, n8, n7⟩, x3, x4⟩, ⟨y1, y2, y3, y4⟩, ⟨z1, z2, z3⟩, ⟨w1, w2, w3, w4⟩, pv⟩ := x
  have xx : h 200 16 = 271 ∨ h 200 16 = 289 := x1
  have e : h' 200 16 = h 200 16 := g _ _ (by unfold nA; omega)
  have G : ∀ a s, 270 ≤ a → a ≤ 306 → h' a s = h a s := fun a s a0 a1 => g _ _ (by unfold nA; omega)
  unfold seX
  rw [e]
  refine ⟨⟨x1, ⟨actX_fr n1 (fun a s q => g a s (actC_n q)), n2, n3, n4, ownX_n n5 g, fun y => by omega, ⟨by rw [g _ _ (by unfold nA; omega)]; exact n8.1, by rw [g _ _ (by unfold nA; omega)]; exact n8.2⟩, n7⟩, x3, ⟨fun c c0 c1 => by rw [G _ _ (by omega) (by omega)]; exact x4.1 c c0 c1, b⟩⟩, ⟨by rw [G _ _ (by omega) (by omega)]; exact y1, y2, y3, fun k k0 k1 => by rw [G _ _ (by omega) (by omega)]; exact y4 k k0 k1⟩, ⟨by rw [G _ _ (by omega) (by omega)]; exact z1, fun q => ⟨(z2 q).1, fun s s0 s1 => by rw [G _ _ (by omega) (by omega)]; exact (z2 q).2 s s0 s1⟩, z3⟩, ⟨by rw [G _ _ (by omega) (by omega)]; exact w1, w2, w3, fun k k0 k1 => ?_⟩, pv⟩
  have c := w4 k k0 k1
  rw [G (h 200 16 + 2) _ (by omega) (by omega), G (h 200 16 + 3) _ (by omega) (by omega), G (h 200 16 + 4) _ (by omega) (by omega), G (h 200 16 + 5) _ (by omega) (by omega)]
  exact c
/-- all that is asked: pieces, points, rows, laws, the kind and the holes' values -/
abbrev AK : Type := (AD × Int × Int × (Int → Int)) × (Int × (Int → Int)) × (Int × (Int → Int) × (Int → Int → Int) × (Int → TR) × (Int → TR)) × Int × (Int → Int)
def kA (K : AK) : AD := K.1.1
def kP (K : AK) : Int := K.1.2.1
def kR (K : AK) : Int := K.2.2.2.1
/-- with the function that is looked for -/
def evF (E : EV) (K : AK) : EV := (E.1, E.2.1, (if K.2.2.1.1 = 0 then 0 else 1, (kA K).1, (kA K).2.1, kR K))
theorem evF_k (E : EV) (K : AK) : eO (evF E K) (-2) = (kA K).1 ∧ eK (evF E K) (-2) (eO (evF E K) (-2)) = kR K := by
  have a : eO (evF E K) (-2) = (kA K).1 := if_pos rfl
  refine ⟨a, ?_⟩
  rw [a]
  unfold eK
  rw [if_pos rfl]
  exact if_pos rfl
def MKa (E : EV) (W : Int → Int → Int → VW) (K : AK) (k : Int) (u : Int → Int) : Prop := k = kR K ∧ mtA (evF E K) W K.2.2.2.2 K.2.1.1 (rpA (kA K).1 (kA K).2.1 K.1.2.2.1 K.1.2.2.2) K.2.1.2 K.2.2.1.1 K.2.2.1.2.1 K.2.2.1.2.2.1 K.2.2.1.2.2.2.1 K.2.2.1.2.2.2.2 u
def lnS (h : AH) : Prop := ∀ a, 200 ≤ a → a < 1078 → h a (-2) = kd a ∧ h a (-1) = ln a
theorem Od_n {h h' : AH} (o : Od h) (g : agX h h') : Od h' := by
  obtain ⟨S, s⟩ := o
  exact ⟨S, fun a i a0 a1 => by rw [g a i (by unfold nA; omega)]; exact s a i a0 a1⟩
theorem lnS_n {h h' : AH} (o : lnS h) (g : agX h h') : lnS h' := fun a a0 a1 => by rw [g a _ (by unfold nA; omega), g a _ (by unfold nA; omega)]; exact o a a0 a1
/-- x stands at what is asked -/
def akX (h : AH) (E : EV) (Rf : Int → TR) (W : Int → Int → Int → VW) (K : AK) : Prop := seX h E Rf W (fun _ _ _ => 0) (kA K) (kP K) K.1.2.2.1 K.1.2.2.2 ∧ mtX h (evF E K) Rf W K.2.2.2.2 (kA K).1 (kA K).2.1 K.1.2.2.1 K.1.2.2.2 (kP K) K.2.1.1 K.2.1.2 K.2.2.1.1 K.2.2.1.2.1 K.2.2.1.2.2.1 K.2.2.1.2.2.2.1 K.2.2.1.2.2.2.2 ∧ h (h 200 16) 2 = kR K ∧ (h 312 (-2) = 101 ∧ h 312 (-1) = 30976) ∧ lenX h ∧ (h (h 200 16) 18 = kP K ∧ 0 ≤ kP K) ∧ VA E (kA K) (kP K) ∧ (0 ≤ kR K ∧ kR K ≤ 2) ∧ (K.1.2.2.1 = 0 ∨ K.1.2.2.1 = 1) ∧ lnS h ∧ Od h
theorem akX_n {h h' : AH} {E : EV} {Rf : Int → TR} {W : Int → Int → Int → VW} {K : AK} (x : akX h E Rf W K) (g : agX h h') (b : b10 h') : akX h' E Rf W K := by
  obtain ⟨x1, x2, x3, x4, x5, x6, x7, x8, x9, x10, x11⟩ := x
  have xx : h 200 16 = 271 ∨ h 200 16 = 289 := x1.1.1
  have e : h' 200 16 = h 200 16 := g _ _ (by unfold nA; omega)
  have G : ∀ s, h' (h 200 16) s = h (h 200 16) s := fun s => g _ _ (by unfold nA; omega)
  have L : ∀ a s, s < 0 → 307 ≤ a → a ≤ 323 → h' a s = h a s := fun a s s0 a0 a1 => g _ _ (by unfold nA; omega)
  refine ⟨seX_n x1 g b, mtX_n x2 g b, by rw [e, G]; exact x3, ⟨by rw [L _ _ (by decide) (by decide) (by decide)]; exact x4.1, by rw [L _ _ (by decide) (by decide) (by decide)]; exact x4.2⟩, ?_, ⟨by rw [e, G]; exact x6.1, x6.2⟩, x7, x8, x9, lnS_n x10 g, Od_n x11 g⟩
  unfold lenX
  rw [L 316 _ (by decide) (by decide) (by decide), L 316 _ (by decide) (by decide) (by decide), L 317 _ (by decide) (by decide) (by decide), L 317 _ (by decide) (by decide) (by decide), L 321 _ (by decide) (by decide) (by decide), L 321 _ (by decide) (by decide) (by decide)]
  exact x5
/-- what keeps one from looking for anything -/
def rfs (down : Prop) (p : Int) (has lv : Prop) (v : Int) : Prop := (down ∧ v = -5) ∨ (¬ down ∧ ¬ (1 ≤ p ∧ p ≤ 12) ∧ v = -1) ∨ (¬ down ∧ (1 ≤ p ∧ p ≤ 12) ∧ ¬ has ∧ v = -2) ∨ (¬ down ∧ (1 ≤ p ∧ p ≤ 12) ∧ has ∧ ¬ lv ∧ v = -3) ∨ (¬ down ∧ (1 ≤ p ∧ p ≤ 12) ∧ has ∧ lv ∧ v = 0)
theorem rfs_det {down has lv : Prop} {p v v' : Int} (a : rfs down p has lv v) (b : rfs down p has lv v') : v = v' := by
  unfold rfs at a b
  by_cases d : down
  · rcases a with a | a | a | a | a <;> rcases b with b | b | b | b | b <;> first | omega | exact absurd d a.1 | exact absurd d b.1
  · by_cases h : has
    · by_cases l : lv
      · rcases a with a | a | a | a | a <;> rcases b with b | b | b | b | b <;> first | omega | exact absurd a.1 d | exact absurd b.1 d | exact absurd h a.2.2.1 | exact absurd h b.2.2.1 | exact absurd l a.2.2.2.1 | exact absurd l b.2.2.2.1 | exact absurd a.2.1 b.2.1 | exact absurd b.2.1 a.2.1
      · rcases a with a | a | a | a | a <;> rcases b with b | b | b | b | b <;> first | omega | exact absurd a.1 d | exact absurd b.1 d | exact absurd h a.2.2.1 | exact absurd h b.2.2.1 | exact absurd a.2.2.2.1 l | exact absurd b.2.2.2.1 l | exact absurd a.2.1 b.2.1 | exact absurd b.2.1 a.2.1
    · rcases a with a | a | a | a | a <;> rcases b with b | b | b | b | b <;> first | omega | exact absurd a.1 d | exact absurd b.1 d | exact absurd a.2.2.1 h | exact absurd b.2.2.1 h | exact absurd a.2.1 b.2.1 | exact absurd b.2.1 a.2.1
theorem rch_lv {E : EV} {W : Int → Int → Int → VW} {pts : Int} {A : AD} {d e p : Nat} {fl f : Int} (r : RSd E W pts A e f) (c : rch d fl p e f) : p ≤ e ↔ lvK E W pts A p := by
  constructor
  · exact fun l m ml => r.1 m (by omega)
  · intro l
    by_cases y : p ≤ e
    · exact y
    · exfalso
      unfold rch at c
      rcases r.2.2 with z | z
      · rcases c.2 with u | u | u <;> omega
      · have := l (e + 1) (by omega)
        omega
/-- a term of the levels that meets -/
def MKT (E : EV) (W : Int → Int → Int → VW) (K : AK) (p : Nat) (a : Int) : Prop := MKa E W K ((LV E W (kP K) (kA K) p).2.1 a) ((LV E W (kP K) (kA K) p).2.2.2.2.2 a)
noncomputable def cMt (Q : Int → Prop) : Nat → Int
  | 0 => 0
  | n + 1 => cMt Q n + @ite Int (Q n) (Classical.propDecidable _) 1 0
theorem cMt_y {Q : Int → Prop} {n : Nat} (q : Q n) : cMt Q (n + 1) = cMt Q n + 1 := by
  show cMt Q n + @ite Int (Q n) (Classical.propDecidable _) 1 0 = _
  rw [@if_pos _ (Classical.propDecidable _) q]
theorem cMt_n {Q : Int → Prop} {n : Nat} (q : ¬ Q n) : cMt Q (n + 1) = cMt Q n := by
  show cMt Q n + @ite Int (Q n) (Classical.propDecidable _) 1 0 = _
  rw [@if_neg _ (Classical.propDecidable _) q]
  exact Int.add_zero _
theorem cMt_r (Q : Int → Prop) : ∀ n : Nat, 0 ≤ cMt Q n ∧ cMt Q n ≤ n
  | 0 => ⟨Int.le_refl _, Int.le_refl _⟩
  | n + 1 => by
    have := cMt_r Q n
    by_cases q : Q n
    · rw [cMt_y q]; omega
    · rw [cMt_n q]; omega
/-- at a point: terms that meet and answer what none before them does -/
def nwT (Q : Int → Prop) (vl : Int → Int → Int) (pt a : Int) : Prop := Q a ∧ ∀ b, 0 ≤ b → b < a → Q b → vl b pt ≠ vl a pt
/-- the point where they differ most, the first of such: from 1 at 0 on -/
noncomputable def bsP (Q : Int → Prop) (vl : Int → Int → Int) (n : Nat) : Nat → Int × Int
  | 0 => (1, 0)
  | p + 1 => if (bsP Q vl n p).1 < cMt (nwT Q vl p) n then (cMt (nwT Q vl p) n, p) else bsP Q vl n p
noncomputable def qsP (b : Int × Int) : Int := if b.1 = 1 then 0 else 1000 * b.2 + b.1
theorem bsP_r {Q : Int → Prop} {vl : Int → Int → Int} {n : Nat} : ∀ p : Nat, 1 ≤ (bsP Q vl n p).1 ∧ (bsP Q vl n p).1 ≤ max 1 (n : Int) ∧ 0 ≤ (bsP Q vl n p).2 ∧ (bsP Q vl n p).2 ≤ p
  | 0 => ⟨Int.le_refl _, by show (1 : Int) ≤ _; omega, Int.le_refl _, Int.le_refl _⟩
  | p + 1 => by
    have i := bsP_r (Q := Q) (vl := vl) (n := n) p
    have c := cMt_r (nwT Q vl p) n
    have e : bsP Q vl n (p + 1) = if (bsP Q vl n p).1 < cMt (nwT Q vl p) n then (cMt (nwT Q vl p) n, (p : Int)) else bsP Q vl n p := rfl
    rw [e]
    by_cases y : (bsP Q vl n p).1 < cMt (nwT Q vl p) n
    · rw [if_pos y]
      dsimp only
      omega
    · rw [if_neg y]
      omega

