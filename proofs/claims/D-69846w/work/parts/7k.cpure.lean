/-! programs for words, pure: places in letters, states as nibbles, what leads from one to another -/
noncomputable def cif {α : Type} (P : Prop) (a b : α) : α := @ite α P (Classical.propDecidable P) a b
theorem cif_y {α : Type} {P : Prop} {a b : α} (h : P) : cif P a b = a := @if_pos _ (Classical.propDecidable P) h _ _ _
theorem cif_n {α : Type} {P : Prop} {a b : α} (h : ¬ P) : cif P a b = b := @if_neg _ (Classical.propDecidable P) h _ _ _
def ocS (f : Int → Int) (c : Int) : Nat → Int → Int → Int
  | 0, _, _ => -1
  | n + 1, i, l => if f i = c then (if l = 0 then i else ocS f c n (i + 1) (l - 1)) else ocS f c n (i + 1) l
theorem ocS_b {f : Int → Int} {c : Int} : ∀ {n : Nat} {i l : Int}, ocS f c n i l = -1 ∨ (i ≤ ocS f c n i l ∧ ocS f c n i l < i + n)
  | 0, _, _ => Or.inl rfl
  | n + 1, i, l => by
    unfold ocS
    have h1 := ocS_b (f := f) (c := c) (n := n) (i := i + 1) (l := l - 1)
    have h2 := ocS_b (f := f) (c := c) (n := n) (i := i + 1) (l := l)
    by_cases y : f i = c
    · rw [if_pos y]
      by_cases z : l = 0
      · rw [if_pos z]; omega
      · rw [if_neg z]; omega
    · rw [if_neg y]; omega
theorem ocS_c {f g : Int → Int} {c d : Int} : ∀ {n : Nat} {i l : Int}, (∀ k, i ≤ k → k < i + n → (f k = c ↔ g k = d)) → ocS f c n i l = ocS g d n i l
  | 0, _, _, _ => rfl
  | n + 1, i, l, h => by
    unfold ocS
    have e := h i (by omega) (by omega)
    rw [ocS_c (n := n) (i := i + 1) (l := l - 1) (fun k a b => h k (by omega) (by omega)), ocS_c (n := n) (i := i + 1) (l := l) (fun k a b => h k (by omega) (by omega))]
    by_cases y : f i = c
    · rw [if_pos y, if_pos (e.mp y)]
    · rw [if_neg y, if_neg (fun z => y (e.mpr z))]
def sqP (s r : Int) : Int := if r < 0 then -1 else if s < 100 then r else r + 1
def spP (f : Int → Int) (n s : Int) : Int := if s < 11 then (if s ≤ n then s else -1) else if s < 22 then (if s - 11 ≤ n then n - (s - 11) else -1) else sqP s (ocS f ((s - 22) % 78 / 3) n.toNat 0 ((s - 22) % 78 % 3))
theorem spP_b {f : Int → Int} {n s : Int} (n0 : 0 ≤ n) (s0 : 0 ≤ s) : -1 ≤ spP f n s ∧ spP f n s ≤ n := by
  unfold spP sqP
  have h := ocS_b (f := f) (c := (s - 22) % 78 / 3) (n := n.toNat) (i := 0) (l := (s - 22) % 78 % 3)
  split
  · split <;> omega
  · split
    · split <;> omega
    · split
      · omega
      · split <;> omega
theorem spP_c {f g : Int → Int} {n s : Int} (h : ∀ k, 0 ≤ k → k < n → f k = g k) : spP f n s = spP g n s := by
  unfold spP
  rw [ocS_c (f := f) (g := g) (c := (s - 22) % 78 / 3) (d := (s - 22) % 78 / 3) (fun k a b => by rw [h k (by omega) (by omega)])]
def spR (s : Int) : Int := if 22 ≤ s then 2 else 1
/-- rows: how many, letters of the ins and of the outs, their sizes -/
abbrev CE : Type := Int × (Int → Int → Int) × (Int → Int → Int) × (Int → Int) × (Int → Int)
def ps (e : CE) (s r : Int) : Int := spP (e.2.1 r) (e.2.2.2.1 r) s
def isP (e : CE) (s : Int) : Prop := ∀ r, 0 ≤ r → r < e.1 → 0 ≤ ps e s r
def vCE (e : CE) : Prop := (1 ≤ e.1 ∧ e.1 ≤ 8) ∧ ∀ r, 0 ≤ r → r < e.1 → (0 ≤ e.2.2.2.1 r ∧ e.2.2.2.1 r ≤ 10) ∧ (1 ≤ e.2.2.2.2 r ∧ e.2.2.2.2 r ≤ 10) ∧ (∀ k, 0 ≤ k → k < e.2.2.2.1 r → 0 ≤ e.2.1 r k ∧ e.2.1 r k < 26) ∧ ∀ k, 0 ≤ k → k < e.2.2.2.2 r → 0 ≤ e.2.2.1 r k ∧ e.2.2.1 r k < 26
/-- a number of nibbles -/
def mkU (f : Nat → Nat) : Nat → Nat
  | 0 => 0
  | n + 1 => mkU f n + 2 ^ (4 * n) * f n
theorem mkU_n {f : Nat → Nat} (hf : ∀ r, f r < 16) : ∀ (n r : Nat), nb (mkU f n) r = if r < n then f r else 0
  | 0, r => by
    rw [if_neg (by omega)]
    show nb 0 r = 0
    unfold nb
    rw [Nat.zero_div]
  | n + 1, r => by
    show nb (mkU f n + 2 ^ (4 * n) * f n) r = _
    have hs : ∀ j, nb (mkU f n) j + nb (2 ^ (4 * n) * f n) j < 16 := fun j => by
      rw [mkU_n hf n j, nb_sh (hf n)]
      have := hf j
      have := hf n
      by_cases y : j < n
      · rw [if_pos y, if_neg (by omega)]; omega
      · rw [if_neg y]; split <;> omega
    rw [nb_add r (fun j _ => hs j), mkU_n hf n r, nb_sh (hf n)]
    by_cases y : r < n
    · rw [if_pos y, if_neg (by omega), if_pos (by omega), Nat.add_zero]
    · by_cases z : r = n
      · rw [if_neg y, if_pos z, if_pos (by omega), Nat.zero_add, z]
      · rw [if_neg y, if_neg z, if_neg (by omega)]
theorem mkU_lt {f : Nat → Nat} (hf : ∀ r, f r < 16) : ∀ n, mkU f n < 2 ^ (4 * n)
  | 0 => by show 0 < 2 ^ (4 * 0); decide
  | n + 1 => by
    have h := mkU_lt hf n
    have := hf n
    show mkU f n + 2 ^ (4 * n) * f n < _
    rw [pw16]
    have q : 2 ^ (4 * n) * f n ≤ 2 ^ (4 * n) * 15 := Nat.mul_le_mul_left _ (by omega)
    omega
theorem mkU_c {f g : Nat → Nat} : ∀ {n : Nat}, (∀ r, r < n → f r = g r) → mkU f n = mkU g n
  | 0, _ => rfl
  | n + 1, h => by
    show mkU f n + 2 ^ (4 * n) * f n = mkU g n + 2 ^ (4 * n) * g n
    rw [mkU_c (n := n) (fun r l => h r (by omega)), h n (by omega)]
theorem mkU_nb {u : Nat} : ∀ {n : Nat}, u < 2 ^ (4 * n) → mkU (fun r => nb u r) n = u := fun {n} h => by
  refine nb_ext n (mkU_lt (fun r => nb_lt u r) n) h (fun i l => ?_)
  rw [mkU_n (fun r => nb_lt u r), if_pos l]
/-- a state: no place is behind an out's end -/
def stU (e : CE) (u : Nat) : Prop := u < 2 ^ (4 * e.1.toNat) ∧ ∀ r : Nat, (r : Int) < e.1 → ((nb u r : Nat) : Int) ≤ e.2.2.2.2 r
/-- a cut goes on -/
def okU (e : CE) (u : Nat) (a b : Int) : Prop := ∀ r : Nat, (r : Int) < e.1 → ps e a r < ps e b r ∧ ((nb u r : Nat) : Int) + ps e b r - ps e a r ≤ e.2.2.2.2 r ∧ ∀ k, ps e a r ≤ k → k < ps e b r → e.2.1 r k = e.2.2.1 r (((nb u r : Nat) : Int) + k - ps e a r)
def fnC (e : CE) (u : Nat) (a b : Int) (r : Nat) : Nat := (((nb u r : Nat) : Int) + ps e b r - ps e a r).toNat
def nxC (e : CE) (u : Nat) (a b : Int) : Nat := mkU (fnC e u a b) e.1.toNat
noncomputable def tgC (e : CE) (u : Nat) (a b : Int) : Int := cif (okU e u a b) ((nxC e u a b : Nat) : Int) (-1)
/-- a word goes on -/
def okL (e : CE) (u : Nat) (n : Int) : Prop := ∀ r : Nat, (r : Int) < e.1 → ((nb u r : Nat) : Int) + n ≤ e.2.2.2.2 r ∧ ∀ k, 0 ≤ k → k < n → e.2.2.1 r (((nb u r : Nat) : Int) + k) = e.2.2.1 0 (((nb u 0 : Nat) : Int) + k)
def fnL (u : Nat) (n : Int) (r : Nat) : Nat := (((nb u r : Nat) : Int) + n).toNat
def nxL (e : CE) (u : Nat) (n : Int) : Nat := mkU (fnL u n) e.1.toNat
noncomputable def tgL (e : CE) (u : Nat) (n : Int) : Int := cif (okL e u n) ((nxL e u n : Nat) : Int) (-1)
theorem mkU_st {e : CE} {f : Nat → Nat} (v : vCE e) (h : ∀ r : Nat, (r : Int) < e.1 → ((f r : Nat) : Int) ≤ e.2.2.2.2 r) : stU e (mkU f e.1.toNat) ∧ ∀ r : Nat, (r : Int) < e.1 → nb (mkU f e.1.toNat) r = f r := by
  have b : ∀ r : Nat, (r : Int) < e.1 → f r < 16 := fun r l => by
    have := h r l
    have := (v.2 r (by omega) l).2.1
    omega
  have c : mkU f e.1.toNat = mkU (fun r => if (r : Int) < e.1 then f r else 0) e.1.toNat := mkU_c (fun r l => by rw [if_pos (by omega)])
  have d : ∀ r, (fun r : Nat => if (r : Int) < e.1 then f r else 0) r < 16 := fun r => by
    show (if (r : Int) < e.1 then f r else 0) < 16
    by_cases y : (r : Int) < e.1
    · rw [if_pos y]; exact b r y
    · rw [if_neg y]; omega
  have n : ∀ r : Nat, (r : Int) < e.1 → nb (mkU f e.1.toNat) r = f r := fun r l => by
    rw [c, mkU_n d, if_pos (by omega), if_pos l]
  refine ⟨⟨by rw [c]; exact mkU_lt d _, fun r l => by rw [n r l]; exact h r l⟩, n⟩
theorem nxC_s {e : CE} {u : Nat} {a b : Int} (v : vCE e) (o : okU e u a b) : stU e (nxC e u a b) ∧ ∀ r : Nat, (r : Int) < e.1 → ((nb (nxC e u a b) r : Nat) : Int) = ((nb u r : Nat) : Int) + ps e b r - ps e a r := by
  have q := mkU_st (f := fnC e u a b) v (fun r l => by have := o r l; unfold fnC; omega)
  refine ⟨q.1, fun r l => ?_⟩
  have := o r l
  show ((nb (mkU (fnC e u a b) e.1.toNat) r : Nat) : Int) = _
  rw [q.2 r l]
  unfold fnC
  omega
theorem nxL_s {e : CE} {u : Nat} {n : Int} (v : vCE e) (n0 : 0 ≤ n) (o : okL e u n) : stU e (nxL e u n) ∧ ∀ r : Nat, (r : Int) < e.1 → ((nb (nxL e u n) r : Nat) : Int) = ((nb u r : Nat) : Int) + n := by
  have q := mkU_st (f := fnL u n) v (fun r l => by have := o r l; unfold fnL; omega)
  refine ⟨q.1, fun r l => ?_⟩
  show ((nb (mkU (fnL u n) e.1.toNat) r : Nat) : Int) = _
  rw [q.2 r l]
  unfold fnL
  omega
theorem st_ext {e : CE} {u w : Nat} (a : stU e u) (b : stU e w) (h : ∀ r : Nat, (r : Int) < e.1 → nb u r = nb w r) : u = w := nb_ext e.1.toNat a.1 b.1 (fun i l => h i (by omega))
theorem tgC_y {e : CE} {u : Nat} {a b : Int} (o : okU e u a b) : tgC e u a b = ((nxC e u a b : Nat) : Int) := cif_y o
theorem tgC_n {e : CE} {u : Nat} {a b : Int} (o : ¬ okU e u a b) : tgC e u a b = -1 := cif_n o
theorem tgL_y {e : CE} {u : Nat} {n : Int} (o : okL e u n) : tgL e u n = ((nxL e u n : Nat) : Int) := cif_y o
theorem tgL_n {e : CE} {u : Nat} {n : Int} (o : ¬ okL e u n) : tgL e u n = -1 := cif_n o
def endU (e : CE) : Nat := mkU (fun r => (e.2.2.2.2 r).toNat) e.1.toNat
theorem endU_s {e : CE} (v : vCE e) : stU e (endU e) ∧ ∀ r : Nat, (r : Int) < e.1 → ((nb (endU e) r : Nat) : Int) = e.2.2.2.2 r := by
  have q := mkU_st (f := fun r => (e.2.2.2.2 r).toNat) v (fun r l => by have := (v.2 r (by omega) l).2.1; omega)
  refine ⟨q.1, fun r l => ?_⟩
  show ((nb (mkU (fun r => (e.2.2.2.2 r).toNat) e.1.toNat) r : Nat) : Int) = _
  rw [q.2 r l]
  have := (v.2 r (by omega) l).2.1
  omega
theorem st_0 {e : CE} (v : vCE e) : stU e 0 := ⟨Nat.two_pow_pos _, fun r l => by
  have := (v.2 r (by omega) l).2.1
  have : nb 0 r = 0 := by unfold nb; rw [Nat.zero_div]
  omega⟩
/-! lists of what leads on: prices, states -/
abbrev ML : Type := List (Int × Int)
noncomputable def wL (e : CE) (u : Nat) : Nat → ML
  | 0 => []
  | k + 1 => wL e u k ++ (if tgL e u ((k : Int) + 1) = -1 then [] else [(2 * ((k : Int) + 1), tgL e u ((k : Int) + 1))])
noncomputable def cL1 (e : CE) (u : Nat) (a b : Int) : ML := cif (isP e b ∧ tgC e u a b ≠ -1) [(spR a + spR b, tgC e u a b)] []
noncomputable def cLs (e : CE) (u : Nat) (a : Int) : Nat → ML
  | 0 => []
  | b + 1 => cLs e u a b ++ cL1 e u a b
noncomputable def aL1 (e : CE) (u : Nat) (a : Int) : ML := cif (isP e a) (cLs e u a 178) []
noncomputable def aLs (e : CE) (u : Nat) : Nat → ML
  | 0 => wL e u 3
  | a + 1 => aLs e u a ++ aL1 e u a
noncomputable def mvL (e : CE) (u : Nat) : ML := aLs e u 178
def smL (g : Int → Int) : ML → Int
  | [] => 0
  | m :: l => g m.2 + smL g l
def mnL (g : Int → Int) : ML → Int
  | [] => 1000000
  | m :: l => min (m.1 + g m.2) (mnL g l)
theorem smL_a (g : Int → Int) : ∀ (l k : ML), smL g (l ++ k) = smL g l + smL g k
  | [], k => by show smL g k = 0 + smL g k; omega
  | m :: l, k => by
    show g m.2 + smL g (l ++ k) = g m.2 + smL g l + smL g k
    rw [smL_a g l k]; omega
theorem mnL_le (g : Int → Int) : ∀ (l : ML), mnL g l ≤ 1000000 ∧ (∀ m ∈ l, mnL g l ≤ m.1 + g m.2) ∧ (mnL g l = 1000000 ∨ ∃ m ∈ l, mnL g l = m.1 + g m.2)
  | [] => ⟨Int.le_refl _, (fun m h => by cases h), Or.inl rfl⟩
  | x :: l => by
    obtain ⟨a, b, c⟩ := mnL_le g l
    have e : mnL g (x :: l) = min (x.1 + g x.2) (mnL g l) := rfl
    refine ⟨by omega, fun m h => ?_, ?_⟩
    · rcases List.mem_cons.mp h with y | y
      · rw [y]; omega
      · have := b m y; omega
    · by_cases y : x.1 + g x.2 < mnL g l
      · exact Or.inr ⟨x, List.mem_cons_self, by omega⟩
      · rcases c with c | ⟨m, m1, m2⟩
        · exact Or.inl (by omega)
        · exact Or.inr ⟨m, List.mem_cons_of_mem _ m1, by omega⟩
theorem mnL_u {g : Int → Int} {l : ML} {v : Int} (a : v ≤ 1000000) (b : ∀ m ∈ l, v ≤ m.1 + g m.2) (c : v = 1000000 ∨ ∃ m ∈ l, v = m.1 + g m.2) : v = mnL g l := by
  obtain ⟨p, q, r⟩ := mnL_le g l
  have h1 : v ≤ mnL g l := by
    rcases r with r | ⟨m, m1, m2⟩
    · omega
    · have := b m m1; omega
  have h2 : mnL g l ≤ v := by
    rcases c with c | ⟨m, m1, m2⟩
    · omega
    · have := q m m1; omega
  omega
/-- programs of so many parts from a state to the end; the least price -/
noncomputable def cnP (e : CE) : Nat → Int → Int
  | 0, u => if u = (endU e : Nat) then 1 else 0
  | k + 1, u => smL (cnP e k) (mvL e u.toNat)
noncomputable def chP (e : CE) : Nat → Int → Int
  | 0, u => if u = (endU e : Nat) then 0 else 1000000
  | k + 1, u => mnL (chP e k) (mvL e u.toNat)
/-- what is in a list of moves -/
def mvI (e : CE) (u : Nat) (m : Int × Int) : Prop := (∃ n : Nat, 1 ≤ n ∧ n ≤ 3 ∧ tgL e u n ≠ -1 ∧ m = (2 * (n : Int), tgL e u n)) ∨ ∃ a b : Nat, a < 178 ∧ b < 178 ∧ isP e a ∧ isP e b ∧ tgC e u a b ≠ -1 ∧ m = (spR a + spR b, tgC e u a b)
theorem wL_m {e : CE} {u : Nat} {m : Int × Int} : ∀ {k : Nat}, m ∈ wL e u k ↔ ∃ n : Nat, 1 ≤ n ∧ n ≤ k ∧ tgL e u n ≠ -1 ∧ m = (2 * (n : Int), tgL e u n)
  | 0 => ⟨(fun h => by cases h), fun ⟨n, a, b, _⟩ => by omega⟩
  | k + 1 => by
    unfold wL
    rw [List.mem_append, wL_m (k := k)]
    have ek : ((k + 1 : Nat) : Int) = (k : Int) + 1 := by omega
    constructor
    · rintro (⟨n, a, b, c⟩ | h)
      · exact ⟨n, a, by omega, c⟩
      · by_cases y : tgL e u ((k : Int) + 1) = -1
        · rw [if_pos y] at h; cases h
        · rw [if_neg y] at h
          refine ⟨k + 1, by omega, Nat.le_refl _, by rw [ek]; exact y, ?_⟩
          rw [ek]
          exact List.mem_singleton.mp h
    · rintro ⟨n, a, b, c, d⟩
      by_cases y : n = k + 1
      · subst y
        rw [ek] at c d
        rw [if_neg c, d]
        exact Or.inr List.mem_cons_self
      · exact Or.inl ⟨n, a, by omega, c, d⟩
theorem cLs_m {e : CE} {u : Nat} {a : Int} {m : Int × Int} : ∀ {k : Nat}, m ∈ cLs e u a k ↔ ∃ b : Nat, b < k ∧ isP e b ∧ tgC e u a b ≠ -1 ∧ m = (spR a + spR b, tgC e u a b)
  | 0 => ⟨(fun h => by cases h), fun ⟨n, a, _⟩ => by omega⟩
  | k + 1 => by
    unfold cLs
    rw [List.mem_append, cLs_m (k := k)]
    unfold cL1
    constructor
    · rintro (⟨b, b1, b2⟩ | h)
      · exact ⟨b, by omega, b2⟩
      · by_cases y : isP e k ∧ tgC e u a k ≠ -1
        · rw [cif_y y] at h
          exact ⟨k, by omega, y.1, y.2, List.mem_singleton.mp h⟩
        · rw [cif_n y] at h; cases h
    · rintro ⟨b, b1, b2, b3, b4⟩
      by_cases y : b = k
      · subst y
        rw [cif_y ⟨b2, b3⟩, b4]
        exact Or.inr List.mem_cons_self
      · exact Or.inl ⟨b, by omega, b2, b3, b4⟩
theorem aLs_m {e : CE} {u : Nat} {m : Int × Int} : ∀ {k : Nat}, m ∈ aLs e u k ↔ (∃ n : Nat, 1 ≤ n ∧ n ≤ 3 ∧ tgL e u n ≠ -1 ∧ m = (2 * (n : Int), tgL e u n)) ∨ ∃ a b : Nat, a < k ∧ b < 178 ∧ isP e a ∧ isP e b ∧ tgC e u a b ≠ -1 ∧ m = (spR a + spR b, tgC e u a b)
  | 0 => by
    unfold aLs
    rw [wL_m]
    exact ⟨fun h => Or.inl h, fun h => h.resolve_right (fun ⟨a, b, c, _⟩ => by omega)⟩
  | k + 1 => by
    unfold aLs
    rw [List.mem_append, aLs_m (k := k)]
    unfold aL1
    constructor
    · rintro ((h | ⟨a, b, h1, h2⟩) | h)
      · exact Or.inl h
      · exact Or.inr ⟨a, b, by omega, h2⟩
      · by_cases y : isP e k
        · rw [cif_y y] at h
          obtain ⟨b, b1, b2, b3, b4⟩ := cLs_m.mp h
          exact Or.inr ⟨k, b, by omega, b1, y, b2, b3, b4⟩
        · rw [cif_n y] at h; cases h
    · rintro (h | ⟨a, b, h1, h2, h3, h4, h5, h6⟩)
      · exact Or.inl (Or.inl h)
      · by_cases y : a = k
        · subst y
          rw [cif_y h3]
          exact Or.inr (cLs_m.mpr ⟨b, h2, h4, h5, h6⟩)
        · exact Or.inl (Or.inr ⟨a, b, by omega, h2, h3, h4, h5, h6⟩)
theorem mvL_m {e : CE} {u : Nat} {m : Int × Int} : m ∈ mvL e u ↔ mvI e u m := aLs_m
/-- what is led to is a state; a price is 2 at least and 6 at most -/
theorem mvI_s {e : CE} {u : Nat} {m : Int × Int} (v : vCE e) (h : mvI e u m) : (2 ≤ m.1 ∧ m.1 ≤ 6) ∧ ∃ w : Nat, m.2 = w ∧ stU e w := by
  rcases h with ⟨n, n1, n2, n3, n4⟩ | ⟨a, b, a1, b1, a2, b2, h5, h6⟩
  · have o : okL e u n := by
      by_cases y : okL e u n
      · exact y
      · exact absurd (tgL_n y) n3
    rw [n4, tgL_y o]
    exact ⟨by show 2 ≤ 2 * (n : Int) ∧ 2 * (n : Int) ≤ 6; omega, _, rfl, (nxL_s v (by omega) o).1⟩
  · have o : okU e u a b := by
      by_cases y : okU e u a b
      · exact y
      · exact absurd (tgC_n y) h5
    rw [h6, tgC_y o]
    refine ⟨?_, _, rfl, (nxC_s v o).1⟩
    show 2 ≤ spR a + spR b ∧ spR a + spR b ≤ 6
    unfold spR
    split <;> split <;> omega
theorem wL_l {e : CE} {u : Nat} : ∀ k, (wL e u k).length ≤ k
  | 0 => Nat.le_refl _
  | k + 1 => by
    unfold wL
    rw [List.length_append]
    have := wL_l (e := e) (u := u) k
    split
    · show _ + 0 ≤ _; omega
    · show _ + 1 ≤ _; omega
theorem cLs_l {e : CE} {u : Nat} {a : Int} : ∀ k, (cLs e u a k).length ≤ k
  | 0 => Nat.le_refl _
  | k + 1 => by
    unfold cLs
    rw [List.length_append]
    have := cLs_l (e := e) (u := u) (a := a) k
    unfold cL1
    by_cases y : isP e k ∧ tgC e u a k ≠ -1
    · rw [cif_y y]; show _ + 1 ≤ _; omega
    · rw [cif_n y]; show _ + 0 ≤ _; omega
theorem aLs_l {e : CE} {u : Nat} : ∀ k, (aLs e u k).length ≤ 3 + 178 * k
  | 0 => wL_l 3
  | k + 1 => by
    unfold aLs
    rw [List.length_append]
    have := aLs_l (e := e) (u := u) k
    have := cLs_l (e := e) (u := u) (a := k) 178
    unfold aL1
    by_cases y : isP e k
    · rw [cif_y y]; omega
    · rw [cif_n y]; show _ + 0 ≤ _; omega
theorem smL_b {g : Int → Int} {B : Int} (B0 : 0 ≤ B) : ∀ (l : ML), (∀ m ∈ l, 0 ≤ g m.2 ∧ g m.2 ≤ B) → 0 ≤ smL g l ∧ smL g l ≤ (l.length : Int) * B
  | [], _ => by
    show 0 ≤ (0 : Int) ∧ (0 : Int) ≤ ((0 : Nat) : Int) * B
    rw [Int.natCast_zero, Int.zero_mul]
    omega
  | x :: l, h => by
    have a := smL_b B0 l (fun m z => h m (List.mem_cons_of_mem _ z))
    have b := h x List.mem_cons_self
    show 0 ≤ g x.2 + smL g l ∧ g x.2 + smL g l ≤ ((l.length + 1 : Nat) : Int) * B
    rw [show ((l.length + 1 : Nat) : Int) = (l.length : Int) + 1 by omega, Int.add_mul, Int.one_mul]
    omega
theorem cnP_b (e : CE) : ∀ (k : Nat) (u : Int), 0 ≤ cnP e k u ∧ cnP e k u ≤ 31687 ^ k
  | 0, u => by
    unfold cnP
    rw [show (31687 : Int) ^ 0 = 1 by decide]
    split <;> omega
  | k + 1, u => by
    have p : (0 : Int) ≤ 31687 ^ k := Int.le_trans (cnP_b e k 0).1 (cnP_b e k 0).2
    have a := smL_b (g := cnP e k) p (mvL e u.toNat) (fun m _ => cnP_b e k m.2)
    have l := aLs_l (e := e) (u := u.toNat) 178
    have q : ((mvL e u.toNat).length : Int) * 31687 ^ k ≤ 31687 * 31687 ^ k := Int.mul_le_mul_of_nonneg_right (by show ((aLs e u.toNat 178).length : Int) ≤ 31687; omega) p
    show 0 ≤ smL (cnP e k) (mvL e u.toNat) ∧ smL (cnP e k) (mvL e u.toNat) ≤ _
    rw [Int.pow_succ, Int.mul_comm]
    omega

