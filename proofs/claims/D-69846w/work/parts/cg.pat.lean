/-! patterns: what two terms have alike -/
def nlB (i j : NI) : Bool := decide (i.1 = j.1) && (decide (i.2.1 = j.2.1) && decide (i.2.2.1 = j.2.2.1))
theorem nlB_iff {i j : NI} : nlB i j = true ↔ nlk i j := by
  unfold nlB nlk
  rw [Bool.and_eq_true, Bool.and_eq_true, decide_eq_true_eq, decide_eq_true_eq, decide_eq_true_eq]
def lkB : TR → TR → Bool
  | .leaf i, .leaf j => nlB i j
  | .branch _ s r, .branch _ s' r' => lkB s s' && lkB r r'
  | .leaf _, .branch _ _ _ => false
  | .branch _ _ _, .leaf _ => false
theorem lkB_iff : ∀ {R R' : TR}, lkB R R' = true ↔ lkT R R'
  | .leaf i, .leaf j => nlB_iff
  | .branch b s r, .branch b' s' r' => by
    show (lkB s s' && lkB r r') = true ↔ (lkT s s' ∧ lkT r r')
    rw [Bool.and_eq_true, lkB_iff (R := s), lkB_iff (R := r)]
  | .leaf _, .branch _ _ _ => ⟨fun y => absurd y (by show ¬ false = true; decide), fun y => y.elim⟩
  | .branch _ _ _, .leaf _ => ⟨fun y => absurd y (by show ¬ false = true; decide), fun y => y.elim⟩
theorem lkT_s : ∀ {R R' : TR}, lkT R R' → lkT R' R
  | .leaf i, .leaf j, y => ⟨y.1.symm, y.2.1.symm, y.2.2.symm⟩
  | .branch _ s r, .branch _ s' r', y => ⟨lkT_s (R := s) y.1, lkT_s (R := r) y.2⟩
  | .leaf _, .branch _ _ _, y => y.elim
  | .branch _ _ _, .leaf _, y => y.elim
theorem lkT_t : ∀ {R R' R2 : TR}, lkT R R' → lkT R' R2 → lkT R R2
  | .leaf i, .leaf j, .leaf k, y, z => ⟨y.1.trans z.1, y.2.1.trans z.2.1, y.2.2.trans z.2.2⟩
  | .branch _ s r, .branch _ s' r', .branch _ s2 r2, y, z => ⟨lkT_t (R := s) y.1 z.1, lkT_t (R := r) y.2 z.2⟩
  | .leaf _, .branch _ _ _, _, y, _ => y.elim
  | .branch _ _ _, .leaf _, _, y, _ => y.elim
  | .leaf _, .leaf _, .branch _ _ _, _, z => z.elim
  | .branch _ _ _, .branch _ _ _, .leaf _, _, z => z.elim
abbrev PS : Type := List (TR × TR)
def fdP : PS → TR → TR → Nat
  | [], _, _ => 0
  | x :: l, a, b => if (lkB x.1 a && lkB x.2 b) = true then 0 else fdP l a b + 1
def jnP (a b : TR) (ps : PS) : PS := if fdP ps a b < ps.length then ps else ps ++ [(a, b)]
def jn1 (rec : PS → TR × PS) (a b : TR) (ps : PS) : TR × PS :=
  if (inf a).1 = 2 ∧ (inf b).1 = 2 ∧ (inf a).2.1 = (inf b).2.1 then rec ps
  else if (inf a).1 = 1 ∧ lkB a b = true then (.leaf (1, (inf a).2.1, (inf a).2.2.1, 0), ps)
  else (.leaf (0, (fdP ps a b : Nat), (inf a).2.2.1, 0), jnP a b ps)
def jnK : TR → TR → PS → TR × PS
  | .leaf i, _, ps => (.leaf (2, i.2.1, i.2.2.1, 0), ps)
  | .branch _ s r, .branch _ s' r', ps => (.branch 0 (jn1 (jnK s s') s s' ps).1 (jnK r r' (jn1 (jnK s s') s s' ps).2).1, (jnK r r' (jn1 (jnK s s') s s' ps).2).2)
  | .branch _ _ r, .leaf _, ps => (.leaf (2, (inf r).2.1, (inf r).2.2.1, 0), ps)
def jnT (a b : TR) (ps : PS) : TR × PS := jn1 (jnK a b) a b ps
theorem fdP_le : ∀ (ps : PS) (a b : TR), fdP ps a b ≤ ps.length
  | [], _, _ => Nat.le_refl _
  | x :: l, a, b => by
    have q := fdP_le l a b
    show (if (lkB x.1 a && lkB x.2 b) = true then 0 else fdP l a b + 1) ≤ l.length + 1
    by_cases y : (lkB x.1 a && lkB x.2 b) = true
    · rw [if_pos y]; omega
    · rw [if_neg y]; omega
def gPS (ps : PS) (k : Nat) : TR × TR := ps.getD k (.leaf (0, 0, 0, 0), .leaf (0, 0, 0, 0))
theorem fdP_hit : ∀ {ps : PS} {a b : TR}, fdP ps a b < ps.length → lkT (gPS ps (fdP ps a b)).1 a ∧ lkT (gPS ps (fdP ps a b)).2 b
  | [], _, _, l => absurd l (Nat.not_lt_zero _)
  | x :: l, a, b, h => by
    have e : fdP (x :: l) a b = if (lkB x.1 a && lkB x.2 b) = true then 0 else fdP l a b + 1 := rfl
    by_cases y : (lkB x.1 a && lkB x.2 b) = true
    · rw [if_pos y] at e
      rw [e]
      rw [Bool.and_eq_true] at y
      exact ⟨lkB_iff.mp y.1, lkB_iff.mp y.2⟩
    · rw [if_neg y] at e
      rw [e] at h ⊢
      exact fdP_hit (ps := l) (by have e2 : (x :: l).length = l.length + 1 := rfl; omega)
theorem fdP_no : ∀ {ps : PS} {a b : TR} {k : Nat}, k < fdP ps a b → ¬ (lkT (gPS ps k).1 a ∧ lkT (gPS ps k).2 b)
  | [], _, _, k, l => absurd l (Nat.not_lt_zero _)
  | x :: l, a, b, k, h => by
    have e : fdP (x :: l) a b = if (lkB x.1 a && lkB x.2 b) = true then 0 else fdP l a b + 1 := rfl
    by_cases y : (lkB x.1 a && lkB x.2 b) = true
    · rw [if_pos y] at e; omega
    · rw [if_neg y] at e
      cases k with
      | zero => intro z; apply y; rw [Bool.and_eq_true]; exact ⟨lkB_iff.mpr z.1, lkB_iff.mpr z.2⟩
      | succ k => exact fdP_no (ps := l) (k := k) (by omega)
/-- the first pair that is alike is the one found -/
theorem fdP_eq {ps : PS} {a b : TR} {k : Nat} (hit : lkT (gPS ps k).1 a ∧ lkT (gPS ps k).2 b) (kl : k < ps.length) (no : ∀ j, j < k → ¬ (lkT (gPS ps j).1 a ∧ lkT (gPS ps j).2 b)) : fdP ps a b = k := by
  have l := fdP_le ps a b
  rcases Nat.lt_trichotomy (fdP ps a b) k with y | y | y
  · exact absurd (fdP_hit (by omega)) (no _ y)
  · exact y
  · exact absurd hit (fdP_no y)
theorem fdP_end {ps : PS} {a b : TR} (no : ∀ j, j < ps.length → ¬ (lkT (gPS ps j).1 a ∧ lkT (gPS ps j).2 b)) : fdP ps a b = ps.length := by
  have l := fdP_le ps a b
  rcases Nat.lt_or_ge (fdP ps a b) ps.length with y | y
  · exact absurd (fdP_hit y) (no _ y)
  · omega
/-- pairs stay where they are -/
def preP (ps qs : PS) : Prop := ps.length ≤ qs.length ∧ ∀ k, k < ps.length → gPS qs k = gPS ps k
theorem preP_r (ps : PS) : preP ps ps := ⟨Nat.le_refl _, fun _ _ => rfl⟩
theorem preP_t {a b c : PS} (x : preP a b) (y : preP b c) : preP a c := ⟨Nat.le_trans x.1 y.1, fun k l => (y.2 k (Nat.lt_of_lt_of_le l x.1)).trans (x.2 k l)⟩
theorem gPS_app {ps : PS} {x : TR × TR} : gPS (ps ++ [x]) ps.length = x ∧ ∀ k, k < ps.length → gPS (ps ++ [x]) k = gPS ps k := by
  unfold gPS
  constructor
  · rw [List.getD_eq_getElem?_getD, List.getElem?_append_right (Nat.le_refl _), Nat.sub_self]; rfl
  · intro k l
    rw [List.getD_eq_getElem?_getD, List.getD_eq_getElem?_getD, List.getElem?_append_left l]
theorem len_app {ps : PS} {x : TR × TR} : (ps ++ [x]).length = ps.length + 1 := by rw [List.length_append]; rfl
theorem jnP_pre {a b : TR} {ps : PS} : preP ps (jnP a b ps) ∧ (jnP a b ps).length ≤ ps.length + 1 ∧ fdP ps a b < (jnP a b ps).length ∧ lkT (gPS (jnP a b ps) (fdP ps a b)).1 a ∧ lkT (gPS (jnP a b ps) (fdP ps a b)).2 b := by
  unfold jnP
  by_cases y : fdP ps a b < ps.length
  · rw [if_pos y]; exact ⟨preP_r _, by omega, y, fdP_hit y⟩
  · rw [if_neg y]
    have e : fdP ps a b = ps.length := by have := fdP_le ps a b; omega
    rw [e, gPS_app.1, len_app]
    exact ⟨⟨by rw [len_app]; omega, gPS_app.2⟩, Nat.le_refl _, by omega, lkT_r _, lkT_r _⟩
theorem jnK_pre : ∀ {a b : TR} {ps : PS}, preP ps (jnK a b ps).2 ∧ (((jnK a b ps).2.length : Nat) : Int) ≤ (ps.length : Nat) + (sz a - 1)
  | .leaf i, b, ps => by
    have e : jnK (.leaf i) b ps = (.leaf (2, i.2.1, i.2.2.1, 0), ps) := by cases b <;> rfl
    rw [e]
    exact ⟨preP_r _, by show ((ps.length : Nat) : Int) ≤ (ps.length : Nat) + (1 - 1); omega⟩
  | .branch b s r, .leaf j, ps => by
    have := sz_pos s; have := sz_pos r
    have e : sz (.branch b s r) = sz s + sz r := rfl
    exact ⟨preP_r _, by show ((ps.length : Nat) : Int) ≤ _; omega⟩
  | .branch b s r, .branch b' s' r', ps => by
    have z1 := sz_pos s
    have e : sz (.branch b s r) = sz s + sz r := rfl
    have q1 : preP ps (jn1 (jnK s s') s s' ps).2 ∧ (((jn1 (jnK s s') s s' ps).2.length : Nat) : Int) ≤ (ps.length : Nat) + sz s := by
      unfold jn1
      by_cases c1 : (inf s).1 = 2 ∧ (inf s').1 = 2 ∧ (inf s).2.1 = (inf s').2.1
      · rw [if_pos c1]; have q := jnK_pre (a := s) (b := s') (ps := ps); exact ⟨q.1, by omega⟩
      · rw [if_neg c1]
        by_cases c2 : (inf s).1 = 1 ∧ lkB s s' = true
        · rw [if_pos c2]; exact ⟨preP_r _, by show ((ps.length : Nat) : Int) ≤ _; omega⟩
        · rw [if_neg c2]; have q := jnP_pre (a := s) (b := s') (ps := ps); exact ⟨q.1, by have := q.2.1; show (((jnP s s' ps).length : Nat) : Int) ≤ _; omega⟩
    have q2 := jnK_pre (a := r) (b := r') (ps := (jn1 (jnK s s') s s' ps).2)
    exact ⟨preP_t q1.1 q2.1, by show (((jnK r r' (jn1 (jnK s s') s s' ps).2).2.length : Nat) : Int) ≤ _; omega⟩
theorem jn1_pre {s s' : TR} {ps : PS} : preP ps (jnT s s' ps).2 ∧ (((jnT s s' ps).2.length : Nat) : Int) ≤ (ps.length : Nat) + sz s := by
  have z1 := sz_pos s
  unfold jnT jn1
  by_cases c1 : (inf s).1 = 2 ∧ (inf s').1 = 2 ∧ (inf s).2.1 = (inf s').2.1
  · rw [if_pos c1]; have q := jnK_pre (a := s) (b := s') (ps := ps); exact ⟨q.1, by omega⟩
  · rw [if_neg c1]
    by_cases c2 : (inf s).1 = 1 ∧ lkB s s' = true
    · rw [if_pos c2]; exact ⟨preP_r _, by show ((ps.length : Nat) : Int) ≤ _; omega⟩
    · rw [if_neg c2]; have q := jnP_pre (a := s) (b := s') (ps := ps); exact ⟨q.1, by have := q.2.1; show (((jnP s s' ps).length : Nat) : Int) ≤ _; omega⟩
theorem jnK_sz : ∀ {a b : TR} {ps : PS}, sz (jnK a b ps).1 ≤ sz a ∧ dpT (jnK a b ps).1 ≤ dpT a
  | .leaf i, b, ps => by
    have e : jnK (.leaf i) b ps = (.leaf (2, i.2.1, i.2.2.1, 0), ps) := by cases b <;> rfl
    rw [e]; exact ⟨Int.le_refl _, Int.le_refl _⟩
  | .branch b s r, .leaf j, ps => ⟨sz_pos _, dpT_0 _⟩
  | .branch b s r, .branch b' s' r', ps => by
    have q := jnK_sz (a := r) (b := r') (ps := (jn1 (jnK s s') s s' ps).2)
    have q1 : sz (jn1 (jnK s s') s s' ps).1 ≤ sz s ∧ dpT (jn1 (jnK s s') s s' ps).1 ≤ dpT s := by
      have z1 := sz_pos s
      have d1 := dpT_0 s
      unfold jn1
      by_cases c1 : (inf s).1 = 2 ∧ (inf s').1 = 2 ∧ (inf s).2.1 = (inf s').2.1
      · rw [if_pos c1]; exact jnK_sz (a := s) (b := s') (ps := ps)
      · rw [if_neg c1]
        by_cases c2 : (inf s).1 = 1 ∧ lkB s s' = true
        · rw [if_pos c2]; exact ⟨z1, d1⟩
        · rw [if_neg c2]; exact ⟨z1, d1⟩
    constructor
    · show sz (jn1 (jnK s s') s s' ps).1 + sz (jnK r r' (jn1 (jnK s s') s s' ps).2).1 ≤ sz s + sz r
      omega
    · show max (dpT (jn1 (jnK s s') s s' ps).1 + 1) (dpT (jnK r r' (jn1 (jnK s s') s s' ps).2).1) ≤ max (dpT s + 1) (dpT r)
      omega
/-- the pattern's shape -/
theorem jnK_sh : ∀ {a b : TR} {ps : PS}, nk a = nk b → nk (jnK a b ps).1 = nk a ∧ inf (jnK a b ps).1 = (2, (inf a).2.1, (inf a).2.2.1, 0) ∧ sz (jnK a b ps).1 ≤ sz a ∧ dpT (jnK a b ps).1 ≤ dpT a
  | .leaf i, .leaf j, ps, _ => ⟨rfl, rfl, Int.le_refl _, Int.le_refl _⟩
  | .leaf i, .branch b s r, ps, n => by have e : nk (.branch b s r) = nk r + 1 := rfl; have := nk_0 r; have e0 : nk (.leaf i) = 0 := rfl; omega
  | .branch b s r, .leaf j, ps, n => by have e : nk (.branch b s r) = nk r + 1 := rfl; have := nk_0 r; have e0 : nk (.leaf j) = 0 := rfl; omega
  | .branch b s r, .branch b' s' r', ps, n => by
    have e : nk (.branch b s r) = nk r + 1 := rfl
    have e' : nk (.branch b' s' r') = nk r' + 1 := rfl
    have q := jnK_sh (a := r) (b := r') (ps := (jn1 (jnK s s') s s' ps).2) (by omega)
    have q1 : sz (jn1 (jnK s s') s s' ps).1 ≤ sz s ∧ dpT (jn1 (jnK s s') s s' ps).1 ≤ dpT s := by
      have z1 := sz_pos s
      have d1 := dpT_0 s
      unfold jn1
      by_cases c1 : (inf s).1 = 2 ∧ (inf s').1 = 2 ∧ (inf s).2.1 = (inf s').2.1
      · rw [if_pos c1]
        exact jnK_sz (a := s) (b := s') (ps := ps)
      · rw [if_neg c1]
        by_cases c2 : (inf s).1 = 1 ∧ lkB s s' = true
        · rw [if_pos c2]; exact ⟨z1, d1⟩
        · rw [if_neg c2]; exact ⟨z1, d1⟩
    refine ⟨by show nk (jnK r r' (jn1 (jnK s s') s s' ps).2).1 + 1 = nk r + 1; omega, q.2.1, ?_, ?_⟩
    · show sz (jn1 (jnK s s') s s' ps).1 + sz (jnK r r' (jn1 (jnK s s') s s' ps).2).1 ≤ sz s + sz r
      omega
    · show max (dpT (jn1 (jnK s s') s s' ps).1 + 1) (dpT (jnK r r' (jn1 (jnK s s') s s' ps).2).1) ≤ max (dpT s + 1) (dpT r)
      omega
/-! patterns: where they are met -/
abbrev BD : Type := Option TR × Option TR
def bget (m : BD) (k : Int) : Option TR := if k = 0 then m.1 else m.2
def bset (m : BD) (k : Int) (t : TR) : BD := if k = 0 then (some t, m.2) else (m.1, some t)
def fbO (o : Option TR) (m : BD) (k : Int) (t : TR) : Bool × BD := match o with
  | none => (true, bset m k t)
  | some u => (lkB u t, m)
def ft1 (rec : TR → BD → Bool × BD) (p t : TR) (m : BD) : Bool × BD :=
  if (inf p).1 = 0 then fbO (bget m (inf p).2.1) m (inf p).2.1 t
  else if nlB (inf p) (inf t) = true then rec t m else (false, m)
def ftK : TR → TR → BD → Bool × BD
  | .leaf _, _, m => (true, m)
  | .branch _ s r, .branch _ s' r', m => if (ft1 (ftK s) s s' m).1 = true then ftK r r' (ft1 (ftK s) s s' m).2 else (false, (ft1 (ftK s) s s' m).2)
  | .branch _ _ _, .leaf _, m => (false, m)
def ftT (p t : TR) (m : BD) : Bool × BD := ft1 (ftK p) p t m
def sumK (f : TR → Int) : TR → Int
  | .leaf _ => 0
  | .branch _ s r => f s + sumK f r
def opI (o : Option TR) (f : TR → Int) : Int := match o with
  | none => 0
  | some u => f u
def swN : Nat → TR → TR → Int
  | 0, _, _ => 0
  | k + 1, p, t => if (ftT p t (none, none)).1 = true then 1 + opI (ftT p t (none, none)).2.1 (swN k p) + opI (ftT p t (none, none)).2.2 (swN k p) else 1 + sumK (swN k p) t
def mpK (f : TR → TR) : TR → TR
  | .leaf i => .leaf i
  | .branch _ s r => .branch 0 (f s) (mpK f r)
def opB (o : Option TR) (f : TR → TR) (r : TR) : TR := match o with
  | none => r
  | some u => .branch 0 (f u) r
def rwP : Nat → TR → Int → TR → TR
  | 0, _, _, t => t
  | k + 1, p, a, t => if (ftT p t (none, none)).1 = true then opB (ftT p t (none, none)).2.1 (rwP k p a) (opB (ftT p t (none, none)).2.2 (rwP k p a) (.leaf (2, a, (inf t).2.2.1, 0))) else mpK (rwP k p a) t
/-- what is bound stands below -/
def bnT (P : TR → Prop) (m : BD) : Prop := (∀ u, m.1 = some u → P u) ∧ (∀ u, m.2 = some u → P u)
theorem bdT_0 {P : TR → Prop} : bnT P (none, none) := ⟨fun _ y => by cases y, fun _ y => by cases y⟩
theorem fbO_P {P : TR → Prop} {o : Option TR} {m : BD} {k : Int} {t : TR} (pt : P t) (b : bnT P m) : bnT P (fbO o m k t).2 := by
  cases o with
  | none =>
    show bnT P (bset m k t)
    unfold bset
    by_cases y : k = 0
    · rw [if_pos y]; exact ⟨fun u e => by cases e; exact pt, b.2⟩
    · rw [if_neg y]; exact ⟨b.1, fun u e => by cases e; exact pt⟩
  | some u => exact b
/-- subterms -/
def subT (u : TR) : TR → Prop
  | .leaf _ => False
  | .branch _ s r => u = s ∨ subT u s ∨ subT u r
theorem subT_t {u w : TR} : ∀ {t : TR}, subT u w → subT w t → subT u t
  | .leaf _, _, y => y.elim
  | .branch _ s r, x, y => by
    rcases (y : w = s ∨ subT w s ∨ subT w r) with e | e | e
    · subst e; exact .inr (.inl x)
    · exact .inr (.inl (subT_t x e))
    · exact .inr (.inr (subT_t x e))
theorem subT_dp {u : TR} : ∀ {t : TR}, subT u t → dpT u + 1 ≤ dpT t ∧ sz u < sz t
  | .leaf _, y => y.elim
  | .branch b s r, y => by
    have e : sz (.branch b s r) = sz s + sz r := rfl
    have d : dpT (.branch b s r) = max (dpT s + 1) (dpT r) := rfl
    have z1 := sz_pos s
    have z2 := sz_pos r
    rcases (y : u = s ∨ subT u s ∨ subT u r) with e1 | e1 | e1
    · subst e1; exact ⟨by omega, by omega⟩
    · have q := subT_dp e1; exact ⟨by omega, by omega⟩
    · have q := subT_dp e1; exact ⟨by omega, by omega⟩
theorem ft1_P {P : TR → Prop} {rec : TR → BD → Bool × BD} {p t : TR} {m : BD} (hr : bnT P m → bnT P (rec t m).2) (pt : (inf p).1 = 0 → P t) (b : bnT P m) : bnT P (ft1 rec p t m).2 := by
  unfold ft1
  by_cases c1 : (inf p).1 = 0
  · rw [if_pos c1]; exact fbO_P (pt c1) b
  · rw [if_neg c1]
    by_cases c2 : nlB (inf p) (inf t) = true
    · rw [if_pos c2]; exact hr b
    · rw [if_neg c2]; exact b
theorem ftK_P {P : TR → Prop} : ∀ {p t : TR} {m : BD}, (∀ u, subT u t → P u) → bnT P m → bnT P (ftK p t m).2
  | .leaf _, t, m, _, b => by
    have e : ftK (.leaf _) t m = (true, m) := by cases t <;> rfl
    rw [e]; exact b
  | .branch _ _ _, .leaf _, m, _, b => b
  | .branch _ s r, .branch _ s' r', m, h, b => by
    have q1 : bnT P (ft1 (ftK s) s s' m).2 := ft1_P (fun b => ftK_P (fun u y => h u (.inr (.inl y))) b) (fun _ => h s' (.inl rfl)) b
    show bnT P (if (ft1 (ftK s) s s' m).1 = true then ftK r r' (ft1 (ftK s) s s' m).2 else (false, (ft1 (ftK s) s s' m).2)).2
    by_cases c : (ft1 (ftK s) s s' m).1 = true
    · rw [if_pos c]; exact ftK_P (fun u y => h u (.inr (.inr y))) q1
    · rw [if_neg c]; exact q1
/-- a pattern that is an act binds subterms -/
theorem ftT_sub {p t : TR} (p0 : (inf p).1 ≠ 0) : bnT (fun u => subT u t) (ftT p t (none, none)).2 := ft1_P (fun b => ftK_P (fun _ y => y) b) (fun y => absurd y p0) bdT_0
theorem sumK_kss {f : TR → Int} : ∀ (R : TR) (k : Nat), nk R ≤ (k : Int) → sumK f R = kss f R k
  | .leaf i, 0, _ => rfl
  | .leaf i, k + 1, l => by
    have ih := sumK_kss (f := f) (.leaf i) k (by show (0 : Int) ≤ _; omega)
    show (0 : Int) = kss f (.leaf i) k + (if (k : Int) < 0 then _ else 0)
    rw [if_neg (show ¬ (k : Int) < 0 by omega), ← ih]; rfl
  | .branch b s r, 0, l => by have e : nk (.branch b s r) = nk r + 1 := rfl; have := nk_0 r; omega
  | .branch b s r, k + 1, l => by
    have e : nk (.branch b s r) = nk r + 1 := rfl
    rw [kss_br, ← sumK_kss (f := f) r k (by omega)]; rfl
/-! kid by kid -/
def btK (p t : TR) (m : BD) : Nat → BD
  | 0 => m
  | j + 1 => (ftT (kdA p j) (kdA t j) (btK p t m j)).2
theorem btK_s {b b' : Nat} {s r s' r' : TR} {m : BD} : ∀ j : Nat, btK (.branch b s r) (.branch b' s' r') m (j + 1) = btK r r' (ftT s s' m).2 j
  | 0 => rfl
  | j + 1 => by
    show (ftT (kdA r j) (kdA r' j) (btK (.branch b s r) (.branch b' s' r') m (j + 1))).2 = _
    rw [btK_s j]; rfl
theorem ftK_ok : ∀ {p t : TR} {m : BD}, nk p = nk t → (∀ j : Nat, (j : Int) < nk p → (ftT (kdA p j) (kdA t j) (btK p t m j)).1 = true) → ftK p t m = (true, btK p t m (nk p).toNat)
  | .leaf i, t, m, _, _ => by cases t <;> rfl
  | .branch b s r, .leaf i, m, n, _ => by have e : nk (.branch b s r) = nk r + 1 := rfl; have := nk_0 r; have e0 : nk (.leaf i) = 0 := rfl; omega
  | .branch b s r, .branch b' s' r', m, n, h => by
    have e : nk (.branch b s r) = nk r + 1 := rfl
    have e' : nk (.branch b' s' r') = nk r' + 1 := rfl
    have n0 := nk_0 r
    have h0 : (ft1 (ftK s) s s' m).1 = true := h 0 (by omega)
    show (if (ft1 (ftK s) s s' m).1 = true then ftK r r' (ft1 (ftK s) s s' m).2 else (false, (ft1 (ftK s) s s' m).2)) = _
    rw [if_pos h0, show (nk (.branch b s r)).toNat = (nk r).toNat + 1 by omega, btK_s]
    exact ftK_ok (by omega) (fun j l => by have q := h (j + 1) (by omega); rw [btK_s] at q; exact q)
theorem ftK_no : ∀ {p t : TR} {m : BD} {j : Nat}, nk p = nk t → (j : Int) < nk p → (∀ i : Nat, i < j → (ftT (kdA p i) (kdA t i) (btK p t m i)).1 = true) → (ftT (kdA p j) (kdA t j) (btK p t m j)).1 = false → (ftK p t m).1 = false
  | .leaf i, t, m, j, _, l, _, _ => by have e0 : nk (.leaf i) = 0 := rfl; omega
  | .branch b s r, .leaf i, m, j, n, _, _, _ => by have e : nk (.branch b s r) = nk r + 1 := rfl; have := nk_0 r; have e0 : nk (.leaf i) = 0 := rfl; omega
  | .branch b s r, .branch b' s' r', m, 0, n, l, h, x => by
    have x0 : (ft1 (ftK s) s s' m).1 = false := x
    show (if (ft1 (ftK s) s s' m).1 = true then ftK r r' (ft1 (ftK s) s s' m).2 else (false, (ft1 (ftK s) s s' m).2)).1 = false
    rw [x0]; rfl
  | .branch b s r, .branch b' s' r', m, j + 1, n, l, h, x => by
    have e : nk (.branch b s r) = nk r + 1 := rfl
    have e' : nk (.branch b' s' r') = nk r' + 1 := rfl
    have h0 : (ft1 (ftK s) s s' m).1 = true := h 0 (by omega)
    show (if (ft1 (ftK s) s s' m).1 = true then ftK r r' (ft1 (ftK s) s s' m).2 else (false, (ft1 (ftK s) s s' m).2)).1 = false
    rw [if_pos h0]
    rw [btK_s] at x
    exact ftK_no (j := j) (by omega) (by omega) (fun i il => by have q := h (i + 1) (by omega); rw [btK_s] at q; exact q) x
def psK (a b : TR) (ps : PS) : Nat → PS
  | 0 => ps
  | j + 1 => (jnT (kdA a j) (kdA b j) (psK a b ps j)).2
theorem psK_s {n n' : Nat} {s r s' r' : TR} {ps : PS} : ∀ j : Nat, psK (.branch n s r) (.branch n' s' r') ps (j + 1) = psK r r' (jnT s s' ps).2 j
  | 0 => rfl
  | j + 1 => by
    show (jnT (kdA r j) (kdA r' j) (psK (.branch n s r) (.branch n' s' r') ps (j + 1))).2 = _
    rw [psK_s j]; rfl
theorem jnK_kd : ∀ {a b : TR} {ps : PS}, nk a = nk b → (jnK a b ps).2 = psK a b ps (nk a).toNat ∧ ∀ j : Nat, (j : Int) < nk a → kdA (jnK a b ps).1 j = (jnT (kdA a j) (kdA b j) (psK a b ps j)).1
  | .leaf i, .leaf k, ps, _ => ⟨rfl, fun j l => absurd l (by show ¬ (j : Int) < 0; omega)⟩
  | .leaf i, .branch b s r, ps, n => by have e : nk (.branch b s r) = nk r + 1 := rfl; have := nk_0 r; have e0 : nk (.leaf i) = 0 := rfl; omega
  | .branch b s r, .leaf i, ps, n => by have e : nk (.branch b s r) = nk r + 1 := rfl; have := nk_0 r; have e0 : nk (.leaf i) = 0 := rfl; omega
  | .branch b s r, .branch b' s' r', ps, n => by
    have e : nk (.branch b s r) = nk r + 1 := rfl
    have e' : nk (.branch b' s' r') = nk r' + 1 := rfl
    have n0 := nk_0 r
    have q := jnK_kd (a := r) (b := r') (ps := (jnT s s' ps).2) (by omega)
    refine ⟨?_, fun j l => ?_⟩
    · rw [show (nk (.branch b s r)).toNat = (nk r).toNat + 1 by omega, psK_s]; exact q.1
    · cases j with
      | zero => rfl
      | succ j => rw [psK_s]; exact q.2 j (by omega)
theorem psK_pre {a b : TR} {ps : PS} : ∀ j : Nat, preP ps (psK a b ps j)
  | 0 => preP_r _
  | j + 1 => preP_t (psK_pre j) jn1_pre.1
theorem psK_m {a b : TR} {ps : PS} {j k : Nat} (l : j ≤ k) : preP (psK a b ps j) (psK a b ps k) := by
  induction l with
  | refl => exact preP_r _
  | step _ ih => exact preP_t ih jn1_pre.1
theorem mpK_sh {f : TR → TR} : ∀ (R : TR), nk (mpK f R) = nk R ∧ inf (mpK f R) = inf R ∧ ∀ m : Nat, (m : Int) < nk R → kdA (mpK f R) m = f (kdA R m)
  | .leaf i => ⟨rfl, rfl, fun m l => absurd l (by show ¬ (m : Int) < 0; omega)⟩
  | .branch b s r => by
    have q := mpK_sh (f := f) r
    have e : nk (.branch b s r) = nk r + 1 := rfl
    refine ⟨by show nk (mpK f r) + 1 = nk r + 1; omega, q.2.1, fun m l => ?_⟩
    cases m with
    | zero => rfl
    | succ m => exact q.2.2 m (by omega)
/-- parameters below n -/
def prC (n : Int) : TR → Prop
  | .leaf i => i.1 = 0 → 0 ≤ i.2.1 ∧ i.2.1 < n
  | .branch _ s r => prC n s ∧ prC n r
theorem prC_nd {n : Int} : ∀ {R : TR}, prC n R → (inf R).1 = 0 → 0 ≤ (inf R).2.1 ∧ (inf R).2.1 < n
  | .leaf _, p => p
  | .branch _ _ r, p => prC_nd (R := r) p.2
theorem prC_kd {n : Int} : ∀ {R : TR} (k : Nat), prC n R → (k : Int) < nk R → prC n (kdA R k)
  | .leaf i, k, _, l => by have e : nk (.leaf i) = 0 := rfl; omega
  | .branch b s r, 0, p, _ => p.1
  | .branch b s r, k + 1, p, l => prC_kd (R := r) k p.2 (by have e : nk (.branch b s r) = nk r + 1 := rfl; omega)
/-! sizes -/
def osz : Option TR → Int
  | none => 0
  | some u => sz u
def bsz (m : BD) : Int := osz m.1 + osz m.2
theorem osz_0 : ∀ o : Option TR, 0 ≤ osz o
  | none => Int.le_refl _
  | some u => by have := sz_pos u; show 0 ≤ sz u; omega
theorem fbO_sz {o : Option TR} {m : BD} {k : Int} {t : TR} : bsz (fbO o m k t).2 ≤ bsz m + sz t := by
  have z := sz_pos t
  have a := osz_0 m.1
  have b := osz_0 m.2
  cases o with
  | none =>
    show bsz (bset m k t) ≤ osz m.1 + osz m.2 + sz t
    unfold bset
    by_cases y : k = 0
    · rw [if_pos y]; show sz t + osz m.2 ≤ _; omega
    · rw [if_neg y]; show osz m.1 + sz t ≤ _; omega
  | some u => show osz m.1 + osz m.2 ≤ osz m.1 + osz m.2 + sz t; omega
theorem ft1_sz {rec : TR → BD → Bool × BD} {p t : TR} {m : BD} (hr : bsz (rec t m).2 ≤ bsz m + (sz t - 1)) : bsz (ft1 rec p t m).2 ≤ bsz m + sz t := by
  have z := sz_pos t
  unfold ft1
  by_cases c1 : (inf p).1 = 0
  · rw [if_pos c1]; exact fbO_sz
  · rw [if_neg c1]
    by_cases c2 : nlB (inf p) (inf t) = true
    · rw [if_pos c2]; omega
    · rw [if_neg c2]; show bsz m ≤ _; omega
theorem ftK_sz : ∀ {p t : TR} {m : BD}, bsz (ftK p t m).2 ≤ bsz m + (sz t - 1)
  | .leaf _, t, m => by
    have e : ftK (.leaf _) t m = (true, m) := by cases t <;> rfl
    have z := sz_pos t
    rw [e]; show bsz m ≤ _; omega
  | .branch _ s r, .leaf i, m => by
    have z := sz_pos (.leaf i)
    show bsz m ≤ _; omega
  | .branch b s r, .branch b' s' r', m => by
    have q1 : bsz (ft1 (ftK s) s s' m).2 ≤ bsz m + sz s' := ft1_sz ftK_sz
    have e : sz (.branch b' s' r') = sz s' + sz r' := rfl
    have z := sz_pos r'
    show bsz (if (ft1 (ftK s) s s' m).1 = true then ftK r r' (ft1 (ftK s) s s' m).2 else (false, (ft1 (ftK s) s s' m).2)).2 ≤ _
    by_cases c : (ft1 (ftK s) s s' m).1 = true
    · rw [if_pos c]; have q2 := ftK_sz (p := r) (t := r') (m := (ft1 (ftK s) s s' m).2); omega
    · rw [if_neg c]; show bsz (ft1 (ftK s) s s' m).2 ≤ _; omega
theorem ftT_sz {p t : TR} (p0 : (inf p).1 ≠ 0) : bsz (ftT p t (none, none)).2 ≤ sz t - 1 := by
  have z := sz_pos t
  have e : bsz (none, none) = 0 := rfl
  have k := ftK_sz (p := p) (t := t) (m := (none, none))
  unfold ftT ft1
  rw [if_neg p0]
  by_cases c2 : nlB (inf p) (inf t) = true
  · rw [if_pos c2]; omega
  · rw [if_neg c2]; show bsz (none, none) ≤ _; omega
theorem sumK_b {f : TR → Int} (hf : ∀ t, 0 ≤ f t ∧ f t ≤ sz t) : ∀ t : TR, 0 ≤ sumK f t ∧ sumK f t ≤ sz t - 1
  | .leaf _ => ⟨Int.le_refl _, by show (0 : Int) ≤ 1 - 1; omega⟩
  | .branch b s r => by
    have a := hf s
    have c := sumK_b hf r
    have e : sz (.branch b s r) = sz s + sz r := rfl
    have d : sumK f (.branch b s r) = f s + sumK f r := rfl
    omega
theorem opI_b {f : TR → Int} (hf : ∀ t, 0 ≤ f t ∧ f t ≤ sz t) : ∀ o : Option TR, 0 ≤ opI o f ∧ opI o f ≤ osz o
  | none => ⟨Int.le_refl _, Int.le_refl _⟩
  | some u => hf u
theorem swN_b {p : TR} (p0 : (inf p).1 ≠ 0) : ∀ (k : Nat) (t : TR), 0 ≤ swN k p t ∧ swN k p t ≤ sz t
  | 0, t => by have z := sz_pos t; exact ⟨Int.le_refl _, by show (0 : Int) ≤ _; omega⟩
  | k + 1, t => by
    have z := sz_pos t
    show 0 ≤ (if (ftT p t (none, none)).1 = true then _ else _) ∧ (if (ftT p t (none, none)).1 = true then _ else _) ≤ _
    by_cases c : (ftT p t (none, none)).1 = true
    · rw [if_pos c]
      have a := opI_b (swN_b p0 k) (ftT p t (none, none)).2.1
      have b := opI_b (swN_b p0 k) (ftT p t (none, none)).2.2
      have q : osz (ftT p t (none, none)).2.1 + osz (ftT p t (none, none)).2.2 ≤ sz t - 1 := ftT_sz p0
      omega
    · rw [if_neg c]
      have a := sumK_b (swN_b p0 k) t
      omega
theorem tzT_sub {E : EV} {u : TR} : ∀ {R : TR} {j : Int}, subT u R → tzT E R j → tzT E u 0
  | .leaf _, _, y, _ => y.elim
  | .branch _ s r, j, y, t => by
    rcases (y : u = s ∨ subT u s ∨ subT u r) with e | e | e
    · subst e; exact t.1
    · exact tzT_sub e t.1
    · exact tzT_sub e t.2.2

