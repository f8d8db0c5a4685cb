/-! loops, pure: inputs, variables, terms; a run and what it meets -/
abbrev LE : Type := (Int × (Int → Int)) × (Int × (Int → Int)) × (Int → TR) × TR × (Int → TR) × TR
def evL (W : Int → Int → Int → VW) (R : TR) (p : Int → Int) : Int := (evT W (fun _ _ _ => 0) p (fun _ => 0) R).1
theorem evL_eq {W : Int → Int → Int → VW} {f : Int → Int → Int → Int} {p p' hl : Int → Int} {np N : Int} {R : TR} (c : cgT np N R) (hp : ∀ c, 0 ≤ c → c < np → p c = p' c) : (evT W f p hl R).1 = evL W R p' := by
  unfold evL
  rw [evT_cg (W := W) (W' := W) (N := N) (fun _ _ _ _ _ => rfl) hp c]
/-- a term that is well made -/
def tmW (E : EV) (np : Int) (kp : Int → Int) (R : TR) (k : Int) : Prop := tyT E np kp R 0 ∧ (inf R).2.2.1 = k ∧ cgT np E.1.1 R ∧ dpE E.1.2.2.2.1 R ≤ 99
def vLE (E : EV) (L : LE) : Prop := (1 ≤ L.1.1 ∧ L.1.1 ≤ 2 ∧ ∀ k, 0 ≤ k → k < L.1.1 → 0 ≤ L.1.2 k ∧ L.1.2 k ≤ 1) ∧ (1 ≤ L.2.1.1 ∧ L.2.1.1 ≤ 3 ∧ ∀ k, 0 ≤ k → k < L.2.1.1 → 0 ≤ L.2.1.2 k ∧ L.2.1.2 k ≤ 1) ∧ (∀ k, 0 ≤ k → k < L.2.1.1 → tmW E L.1.1 L.1.2 (L.2.2.1 k) (L.2.1.2 k) ∧ tmW E L.2.1.1 L.2.1.2 (L.2.2.2.2.1 k) (L.2.1.2 k)) ∧ tmW E L.2.1.1 L.2.1.2 L.2.2.2.1 1 ∧ ∃ k, tmW E L.2.1.1 L.2.1.2 L.2.2.2.2.2 k
theorem evL_ty {E : EV} {W : Int → Int → Int → VW} {np k : Int} {kp p : Int → Int} {R : TR} (ac : acE E) (w : wTy E W) (t : tmW E np kp R k) (hp : ∀ c, 0 ≤ c → c < np → vlR (kp c) (p c)) : okV k (evL W R p) := by
  rw [← t.2.1]
  exact evT_ty ac w (fun _ _ _ _ _ _ _ => Or.inr ⟨Int.le_refl _, fun _ => by decide, fun _ => by decide, fun _ => by decide⟩) hp (fun _ _ _ => ⟨Int.le_refl _, by decide⟩) t.1
/-- states -/
def vlS (L : LE) (s : Int → Int) : Prop := ∀ k, 0 ≤ k → k < L.2.1.1 → vlR (L.2.1.2 k) (s k)
def gdS (L : LE) (s : Int → Int) : Prop := ∀ k, 0 ≤ k → k < L.2.1.1 → s k ≠ -1
def nxS (W : Int → Int → Int → VW) (L : LE) (s : Int → Int) (k : Int) : Int := if 0 ≤ k ∧ k < L.2.1.1 then evL W (L.2.2.2.2.1 k) s else 0
def inS (L : LE) (i : Int) (c : Int) : Int := vaT L.1.2 L.1.1 i c
def st0 (W : Int → Int → Int → VW) (L : LE) (i : Int) (k : Int) : Int := if 0 ≤ k ∧ k < L.2.1.1 then evL W (L.2.2.1 k) (inS L i) else 0
def trS (W : Int → Int → Int → VW) (L : LE) (i : Int) : Nat → Int → Int
  | 0 => st0 W L i
  | j + 1 => nxS W L (trS W L i j)
def cdS (W : Int → Int → Int → VW) (L : LE) (s : Int → Int) : Int := evL W L.2.2.2.1 s
def psI (W : Int → Int → Int → VW) (L : LE) (i : Int) (j : Nat) : Prop := ∀ q, q < j → gdS L (trS W L i q) ∧ cdS W L (trS W L i q) = 1 ∧ ∀ r, r < q → trS W L i r ≠ trS W L i q
theorem psI_s {W : Int → Int → Int → VW} {L : LE} {i : Int} {j : Nat} (p : psI W L i j) (g : gdS L (trS W L i j)) (c : cdS W L (trS W L i j) = 1) (d : ∀ r, r < j → trS W L i r ≠ trS W L i j) : psI W L i (j + 1) := fun q l => by
  by_cases y : q = j
  · subst y; exact ⟨g, c, d⟩
  · exact p q (by omega)
theorem vaT_v {kf : Int → Int} {n p k : Int} (k0 : 0 ≤ kf k) (k1 : kf k ≤ 1) (kn : k < n) : vlR (kf k) (vaT kf n p k) := by
  have r := vaT_r (kf := kf) (n := n) (p := p) (k := k) kn
  exact bs_vl k0 k1 (by omega) (by omega)
theorem inS_v {E : EV} {L : LE} {i : Int} (v : vLE E L) : ∀ c, 0 ≤ c → c < L.1.1 → vlR (L.1.2 c) (inS L i c) := fun c c0 c1 => by
  have q := v.1.2.2 c c0 c1
  exact vaT_v q.1 q.2 c1
theorem trS_v {E : EV} {W : Int → Int → Int → VW} {L : LE} {i : Int} (ac : acE E) (w : wTy E W) (v : vLE E L) (i0 : 0 ≤ i) : ∀ j : Nat, (∀ q, q ≤ j → gdS L (trS W L i q)) → vlS L (trS W L i j)
  | 0, g => fun k k0 k1 => by
    have t := (v.2.2.1 k k0 k1).1
    have o := evL_ty (p := inS L i) ac w t (inS_v v)
    have e : trS W L i 0 k = evL W (L.2.2.1 k) (inS L i) := if_pos ⟨k0, k1⟩
    have z := g 0 (Nat.le_refl _) k k0 k1
    rw [e] at z ⊢
    exact o.resolve_left z
  | j + 1, g => fun k k0 k1 => by
    have t := (v.2.2.1 k k0 k1).2
    have ih := trS_v ac w v i0 j (fun q l => g q (by omega))
    have o := evL_ty (p := trS W L i j) ac w t ih
    have e : trS W L i (j + 1) k = evL W (L.2.2.2.2.1 k) (trS W L i j) := if_pos ⟨k0, k1⟩
    have z := g (j + 1) (Nat.le_refl _) k k0 k1
    rw [e] at z ⊢
    exact o.resolve_left z
theorem trS_z {W : Int → Int → Int → VW} {L : LE} {i : Int} : ∀ (j : Nat) {k : Int}, ¬ (0 ≤ k ∧ k < L.2.1.1) → trS W L i j k = 0
  | 0, _, h => if_neg h
  | _ + 1, _, h => if_neg h
/-- numbers of states -/
def nuS (L : LE) (s : Int → Int) : Nat → Int
  | 0 => 0
  | k + 1 => nuS L s k * bsK (L.2.1.2 k) + s k
theorem nuS_s {L : LE} {s : Int → Int} {k : Nat} : nuS L s (k + 1) = nuS L s k * bsK (L.2.1.2 k) + s k := rfl
theorem vl_bt {k v : Int} (k0 : 0 ≤ k) (k1 : k ≤ 1) (h : vlR k v) : 0 ≤ v ∧ v < bsK k := by
  unfold bsK
  by_cases y : k = 0
  · rw [if_pos y]; have := h.2.1 y; have := h.1; omega
  · rw [if_neg y]; have := h.2.2.1 (by omega); have := h.1; omega
theorem bsK_c (k : Int) : bsK k = 16 ∨ bsK k = 2 := by
  unfold bsK
  by_cases y : k = 0
  · rw [if_pos y]; exact Or.inl rfl
  · rw [if_neg y]; exact Or.inr rfl
theorem nuS_b {E : EV} {L : LE} {s : Int → Int} (v : vLE E L) (h : vlS L s) : ∀ n : Nat, (n : Int) ≤ L.2.1.1 → 0 ≤ nuS L s n ∧ nuS L s n < 16 ^ n
  | 0, _ => ⟨Int.le_refl _, by show (0 : Int) < 16 ^ 0; decide⟩
  | n + 1, l => by
    have ih := nuS_b v h n (by omega)
    have q := v.2.1.2.2 n (by omega) (by omega)
    have b := vl_bt q.1 q.2 (h n (by omega) (by omega))
    rw [nuS_s, Int.pow_succ]
    rcases bsK_c (L.2.1.2 n) with e | e <;> rw [e] at b ⊢ <;> omega
theorem nuS_4 {E : EV} {L : LE} {s : Int → Int} (v : vLE E L) (h : vlS L s) : 0 ≤ nuS L s L.2.1.1.toNat ∧ nuS L s L.2.1.1.toNat < 4096 := by
  have b := nuS_b v h L.2.1.1.toNat (by have := v.2.1.1; omega)
  have c : L.2.1.1.toNat = 1 ∨ L.2.1.1.toNat = 2 ∨ L.2.1.1.toNat = 3 := by have := v.2.1; omega
  refine ⟨b.1, Int.lt_of_lt_of_le b.2 ?_⟩
  rcases c with e | e | e <;> rw [e] <;> decide
theorem nuS_i {E : EV} {L : LE} {s t : Int → Int} (v : vLE E L) (h : vlS L s) (g : vlS L t) : ∀ n : Nat, (n : Int) ≤ L.2.1.1 → nuS L s n = nuS L t n → ∀ k : Int, 0 ≤ k → k < n → s k = t k
  | 0, _, _, k, k0, k1 => by omega
  | n + 1, l, e, k, k0, k1 => by
    have q := v.2.1.2.2 n (by omega) (by omega)
    have b := vl_bt q.1 q.2 (h n (by omega) (by omega))
    have c := vl_bt q.1 q.2 (g n (by omega) (by omega))
    rw [nuS_s, nuS_s] at e
    have z : nuS L s n = nuS L t n ∧ s n = t n := by rcases bsK_c (L.2.1.2 n) with x | x <;> rw [x] at b c e <;> omega
    by_cases y : k = n
    · rw [y]; exact z.2
    · exact nuS_i v h g n (by omega) z.1 k k0 (by omega)
theorem trS_i {E : EV} {W : Int → Int → Int → VW} {L : LE} {i : Int} {r q : Nat} (v : vLE E L) (h : vlS L (trS W L i r)) (g : vlS L (trS W L i q)) (e : nuS L (trS W L i r) L.2.1.1.toNat = nuS L (trS W L i q) L.2.1.1.toNat) : trS W L i r = trS W L i q := funext fun k => by
  by_cases y : 0 ≤ k ∧ k < L.2.1.1
  · exact nuS_i v h g L.2.1.1.toNat (by omega) e k y.1 (by omega)
  · rw [trS_z r y, trS_z q y]
theorem psI_v {E : EV} {W : Int → Int → Int → VW} {L : LE} {i : Int} {j : Nat} (ac : acE E) (w : wTy E W) (v : vLE E L) (i0 : 0 ≤ i) (p : psI W L i j) : ∀ q, q < j → vlS L (trS W L i q) := fun q l => trS_v ac w v i0 q (fun r m => (p r (by omega)).1)
theorem psI_v2 {E : EV} {W : Int → Int → Int → VW} {L : LE} {i : Int} {j : Nat} (ac : acE E) (w : wTy E W) (v : vLE E L) (i0 : 0 ≤ i) (p : psI W L i j) (g : gdS L (trS W L i j)) : vlS L (trS W L i j) := trS_v ac w v i0 j (fun r m => by
  by_cases y : r = j
  · rw [y]; exact g
  · exact (p r (by omega)).1)
theorem ps_lt {E : EV} {W : Int → Int → Int → VW} {L : LE} {i : Int} {j : Nat} (ac : acE E) (w : wTy E W) (v : vLE E L) (i0 : 0 ≤ i) (p : psI W L i j) (g : gdS L (trS W L i j)) (d : ∀ r, r < j → trS W L i r ≠ trS W L i j) : j < 4096 := by
  have vl : ∀ q, q ≤ j → vlS L (trS W L i q) := fun q l => by
    by_cases y : q = j
    · rw [y]; exact psI_v2 ac w v i0 p g
    · exact psI_v ac w v i0 p q (by omega)
  refine php 4096 j (fun q => (nuS L (trS W L i q) L.2.1.1.toNat).toNat) (fun q l => ?_) (fun q r l m e => ?_)
  · have := nuS_4 v (vl q l)
    show (nuS L (trS W L i q) L.2.1.1.toNat).toNat < 4096
    omega
  · have a := nuS_4 v (vl q (by omega))
    have b := nuS_4 v (vl r m)
    have e' : (nuS L (trS W L i q) L.2.1.1.toNat).toNat = (nuS L (trS W L i r) L.2.1.1.toNat).toNat := e
    have z := trS_i v (vl q (by omega)) (vl r m) (by omega)
    by_cases y : r = j
    · rw [y] at z l; exact d q l z
    · exact (p r (by omega)).2.2 q l z
/-- a run: how it is over, its meetings, its answer -/
def enI (W : Int → Int → Int → VW) (L : LE) (i : Int) (j : Nat) (how met giv : Int) : Prop := (¬ gdS L (trS W L i j) ∧ how = 2 ∧ met = j ∧ giv = -1) ∨ (gdS L (trS W L i j) ∧ (∃ r, r < j ∧ trS W L i r = trS W L i j) ∧ how = 0 ∧ met = j ∧ giv = -1) ∨ (gdS L (trS W L i j) ∧ (∀ r, r < j → trS W L i r ≠ trS W L i j) ∧ cdS W L (trS W L i j) = -1 ∧ how = 2 ∧ met = j + 1 ∧ giv = -1) ∨ (gdS L (trS W L i j) ∧ (∀ r, r < j → trS W L i r ≠ trS W L i j) ∧ cdS W L (trS W L i j) = 0 ∧ giv = evL W L.2.2.2.2.2 (trS W L i j) ∧ how = (if giv = -1 then 2 else 1) ∧ met = j + 1)
def RN (W : Int → Int → Int → VW) (L : LE) (i : Int) (how met giv : Int) : Prop := ∃ j : Nat, psI W L i j ∧ enI W L i j how met giv
theorem enI_n {W : Int → Int → Int → VW} {L : LE} {i how met giv : Int} {j k : Nat} (e : enI W L i j how met giv) (p : psI W L i k) (l : j < k) : False := by
  obtain ⟨g, c, d⟩ := p j l
  rcases e with e | e | e | e
  · exact e.1 g
  · obtain ⟨r, r1, r2⟩ := e.2.1; exact d r r1 r2
  · have := e.2.2.1; omega
  · have := e.2.2.1; omega
theorem enI_u {W : Int → Int → Int → VW} {L : LE} {i how met giv how' met' giv' : Int} {j : Nat} (a : enI W L i j how met giv) (b : enI W L i j how' met' giv') : how = how' ∧ met = met' ∧ giv = giv' := by
  rcases a with a | a | a | a <;> rcases b with b | b | b | b
  · exact ⟨by omega, by omega, by omega⟩
  · exact absurd b.1 a.1
  · exact absurd b.1 a.1
  · exact absurd b.1 a.1
  · exact absurd a.1 b.1
  · exact ⟨by omega, by omega, by omega⟩
  · obtain ⟨r, r1, r2⟩ := a.2.1; exact absurd r2 (b.2.1 r r1)
  · obtain ⟨r, r1, r2⟩ := a.2.1; exact absurd r2 (b.2.1 r r1)
  · exact absurd a.1 b.1
  · obtain ⟨r, r1, r2⟩ := b.2.1; exact absurd r2 (a.2.1 r r1)
  · exact ⟨by omega, by omega, by omega⟩
  · have := a.2.2.1; have := b.2.2.1; omega
  · exact absurd a.1 b.1
  · obtain ⟨r, r1, r2⟩ := b.2.1; exact absurd r2 (a.2.1 r r1)
  · have := a.2.2.1; have := b.2.2.1; omega
  · obtain ⟨a1, a2, a3, a4, a5, a6⟩ := a
    obtain ⟨b1, b2, b3, b4, b5, b6⟩ := b
    have g : giv = giv' := a4.trans b4.symm
    rw [g] at a5
    exact ⟨a5.trans b5.symm, by omega, g⟩
theorem RN_u {W : Int → Int → Int → VW} {L : LE} {i how met giv how' met' giv' : Int} (a : RN W L i how met giv) (b : RN W L i how' met' giv') : how = how' ∧ met = met' ∧ giv = giv' := by
  obtain ⟨j, p, e⟩ := a
  obtain ⟨j', p', e'⟩ := b
  rcases Nat.lt_trichotomy j j' with q | q | q
  · exact (enI_n e p' q).elim
  · subst q; exact enI_u e e'
  · exact (enI_n e' p q).elim
/-- what was met, the last one first -/
def mtL (W : Int → Int → Int → VW) (L : LE) (i : Int) : Nat → List (Int → Int)
  | 0 => []
  | j + 1 => trS W L i j :: mtL W L i j
def HS (W : Int → Int → Int → VW) (L : LE) : Nat → List (Int → Int) → Prop
  | 0, l => l = []
  | i + 1, l => ∃ how met giv l0, RN W L i how met giv ∧ HS W L i l0 ∧ l = mtL W L i met.toNat ++ l0
theorem HS_u {W : Int → Int → Int → VW} {L : LE} : ∀ {i : Nat} {l l' : List (Int → Int)}, HS W L i l → HS W L i l' → l = l'
  | 0, _, _, a, b => (show _ = [] from a).trans (show _ = [] from b).symm
  | i + 1, _, _, a, b => by
    obtain ⟨h, m, g, l, r, s, e⟩ := a
    obtain ⟨h', m', g', l', r', s', e'⟩ := b
    rw [e, e', (RN_u r r').2.1, HS_u s s']
noncomputable def cntR : List (Int → Int) → Int
  | [] => 0
  | s :: l => cif (s ∈ l) (cntR l) (cntR l + 1)
def lsR (k : Int) : List (Int → Int) → Int
  | [] => 100
  | s :: l => min (lsR k l) (s k)
def gtR (k : Int) : List (Int → Int) → Int
  | [] => -1
  | s :: l => max (gtR k l) (s k)
theorem cntR_b : ∀ l : List (Int → Int), 0 ≤ cntR l ∧ cntR l ≤ (l.length : Nat)
  | [] => ⟨Int.le_refl _, Int.le_refl _⟩
  | s :: l => by
    have q := cntR_b l
    have e : ((s :: l).length : Int) = (l.length : Int) + 1 := rfl
    show 0 ≤ cif (s ∈ l) (cntR l) (cntR l + 1) ∧ cif (s ∈ l) (cntR l) (cntR l + 1) ≤ _
    rw [e]
    by_cases y : s ∈ l
    · rw [cif_y y]; omega
    · rw [cif_n y]; omega
/-- the first meeting at which a term is not true -/
def NF (W : Int → Int → Int → VW) (L : LE) (T : TR) (i met ff : Int) : Prop := (ff = -1 ∧ ∀ q : Nat, (q : Int) < met → evL W T (trS W L i q) = 1) ∨ (0 ≤ ff ∧ ff < met ∧ evL W T (trS W L i ff.toNat) ≠ 1 ∧ ∀ q : Nat, (q : Int) < ff → evL W T (trS W L i q) = 1)
theorem NF_u {W : Int → Int → Int → VW} {L : LE} {T : TR} {i met ff ff' : Int} (a : NF W L T i met ff) (b : NF W L T i met ff') : ff = ff' := by
  rcases a with a | a <;> rcases b with b | b
  · omega
  · exact absurd (a.2 ff'.toNat (by omega)) b.2.2.1
  · exact absurd (b.2 ff.toNat (by omega)) a.2.2.1
  · rcases Int.lt_trichotomy ff ff' with q | q | q
    · exact absurd (b.2.2.2 ff.toNat (by omega)) a.2.2.1
    · exact q
    · exact absurd (a.2.2.2 ff'.toNat (by omega)) b.2.2.1

