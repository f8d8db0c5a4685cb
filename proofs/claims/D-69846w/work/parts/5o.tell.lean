/-! texts of terms, pure -/
def gl : List (List Int) → Nat → List Int
  | [], _ => []
  | x :: _, 0 => x
  | _ :: l, k + 1 => gl l k
def jcN (g : Nat → List Int) : Nat → List Int
  | 0 => []
  | k + 1 => jcN g k ++ ((if k = 0 then [] else [44]) ++ g k)
section TXT
variable (cA hl : Int → Int)
def txN (i : NI) (l : List (List Int)) : List Int := if i.1 = 0 then [97 + i.2.1] else if i.1 = 1 then txV i.2.2.1 i.2.1 else if i.1 = 3 then dig (hl i.2.1) else lts 9 (cA i.2.1) ++ ([40] ++ (jcN (gl l) l.length ++ [41]))
def txK : TR → List (List Int)
  | .leaf _ => []
  | .branch _ s r => txN cA hl (inf s) (txK s) :: txK r
def txT (R : TR) : List Int := txN cA hl (inf R) (txK cA hl R)
end TXT
theorem txK_len {cA hl : Int → Int} : ∀ R : TR, (((txK cA hl R).length : Nat) : Int) = nk R
  | .leaf _ => rfl
  | .branch b s r => by
    have ih := txK_len (cA := cA) (hl := hl) r
    show (((txK cA hl r).length + 1 : Nat) : Int) = nk r + 1
    omega
theorem gl_kd {cA hl : Int → Int} : ∀ (R : TR) (k : Nat), (k : Int) < nk R → gl (txK cA hl R) k = txT cA hl (kdA R k)
  | .leaf i, k, l => by have e : nk (.leaf i) = 0 := rfl; omega
  | .branch b s r, 0, _ => rfl
  | .branch b s r, k + 1, l => gl_kd r k (by have e : nk (.branch b s r) = nk r + 1 := rfl; omega)
/-- terms that can be told -/
def tlT (N : Int) : TR → Prop
  | .leaf i => (i.1 = 0 ∧ 0 ≤ i.2.1 ∧ i.2.1 ≤ 2) ∨ (i.1 = 1 ∧ vlR i.2.2.1 i.2.1 ∧ 0 ≤ i.2.2.1 ∧ i.2.2.1 ≤ 2) ∨ (i.1 = 2 ∧ 0 ≤ i.2.1 ∧ i.2.1 < N) ∨ (i.1 = 3 ∧ 0 ≤ i.2.1 ∧ i.2.1 ≤ 2)
  | .branch _ s r => (inf r).1 = 2 ∧ tlT N s ∧ tlT N r
def tlI (N : Int) (i : NI) : Prop := (i.1 = 0 ∧ 0 ≤ i.2.1 ∧ i.2.1 ≤ 2) ∨ (i.1 = 1 ∧ vlR i.2.2.1 i.2.1 ∧ 0 ≤ i.2.2.1 ∧ i.2.2.1 ≤ 2) ∨ (i.1 = 2 ∧ 0 ≤ i.2.1 ∧ i.2.1 < N) ∨ (i.1 = 3 ∧ 0 ≤ i.2.1 ∧ i.2.1 ≤ 2)
theorem tlT_nd {N : Int} : ∀ {R : TR}, tlT N R → tlI N (inf R)
  | .leaf _, o => o
  | .branch _ _ r, o => tlT_nd (R := r) o.2.2
theorem tlT_kd {N : Int} : ∀ {R : TR} (k : Nat), tlT N R → (k : Int) < nk R → tlT N (kdA R k) ∧ (inf R).1 = 2
  | .leaf i, k, _, l => by have e : nk (.leaf i) = 0 := rfl; omega
  | .branch b s r, 0, o, _ => ⟨o.2.1, o.1⟩
  | .branch b s r, k + 1, o, l => tlT_kd (R := r) k o.2.2 (by have e : nk (.branch b s r) = nk r + 1 := rfl; omega)
/-- no value is an error -/
def nvT : TR → Prop
  | .leaf i => i.1 = 1 → i.2.1 ≠ -1
  | .branch _ s r => nvT s ∧ nvT r
theorem ty_ok {E : EV} {np : Int} {kp : Int → Int} (ac : acE E) (n3 : np ≤ 3) (ns : E.2.2.1 ≠ 1) : ∀ {R : TR} {j : Int}, 0 ≤ j → tyT E np kp R j → nvT R → tlT E.1.1 R
  | .leaf i, j, _, t, nv => by
    rcases t.2.2 with z | z | z | z | z
    · exact Or.inl ⟨z.1, z.2.2.1, by omega⟩
    · exact Or.inr (Or.inl ⟨z.1, z.2.2.resolve_left (nv z.1), t.1, t.2.1⟩)
    · exact Or.inr (Or.inr (Or.inr ⟨z.1, z.2.2.1, z.2.2.2.1⟩))
    · exact Or.inr (Or.inr (Or.inl ⟨z.1, z.2.1, z.2.2.1⟩))
    · exact absurd z.2.1 ns
  | .branch b s r, j, j0, t, nv => by
    have q := tyT_nd t.2.2
    have n := (tyI_n ac q).2.1 (by have := nk_0 r; omega)
    refine ⟨?_, ty_ok ac n3 ns (Int.le_refl _) t.1 nv.1, ty_ok ac n3 ns (by omega) t.2.2 nv.2⟩
    rcases q.2.2 with z | z | z | z | z
    · omega
    · omega
    · omega
    · exact z.1
    · exact absurd z.2.1 ns
theorem dig_len (v : Int) : (dig v).length ≤ 2 := by
  unfold dig
  by_cases q : v ≤ 9
  · rw [if_pos q]; exact Nat.le_succ 1
  · rw [if_neg q]; exact Nat.le_refl 2
theorem txV_len {k v : Int} (h : vlR k v) (k0 : 0 ≤ k) (k1 : k ≤ 2) : (txV k v).length ≤ 11 := by
  unfold txV
  by_cases a : k = 0
  · rw [if_pos a]; have := dig_len v; omega
  rw [if_neg a]
  by_cases b : k = 1
  · rw [if_pos b]; have := lts_len 9 (if v = 1 then 407354 else 3217595); omega
  rw [if_neg b, List.length_append, List.length_append]
  have := lts_len 9 v
  show 1 + _ + 1 ≤ 11
  omega
theorem jcN_len {g : Nat → List Int} (k : Nat) : (jcN g (k + 1)).length = (jcN g k).length + (if k = 0 then 0 else 1) + (g k).length := by
  have e : jcN g (k + 1) = jcN g k ++ ((if k = 0 then [] else [44]) ++ g k) := rfl
  rw [e, List.length_append, List.length_append]
  by_cases q : k = 0
  · rw [if_pos q, if_pos q, List.length_nil]; omega
  · rw [if_neg q, if_neg q, List.length_singleton]; omega
theorem lts_8 {w : Int} (h : w < 282429536481) : (lts 9 w).length ≤ 8 := by
  rw [lts_s (n := 8) (by have : pow27 8 = 282429536481 := (by decide); omega) 9 (by decide)]
  exact lts_len 8 w
theorem jcN_le {cA hl : Int → Int} {R : TR} (hk : ∀ k : Nat, (k : Int) < nk R → (((txT cA hl (kdA R k)).length : Nat) : Int) ≤ 12 * sz (kdA R k)) : ∀ k : Nat, (k : Int) ≤ nk R → (((jcN (gl (txK cA hl R)) k).length : Nat) : Int) ≤ 12 * kss sz R k + (if k ≤ 1 then 0 else (k : Int) - 1)
  | 0, _ => by show (0 : Int) ≤ 12 * 0 + (if 0 ≤ 1 then 0 else _); rw [if_pos (by decide)]; omega
  | k + 1, l => by
    have ih := jcN_le hk k (by omega)
    have e := jcN_len (g := gl (txK cA hl R)) k
    rw [gl_kd R k (by omega)] at e
    have h := hk k (by omega)
    have ks : kss sz R (k + 1) = kss sz R k + sz (kdA R k) := by
      show kss sz R k + (if (k : Int) < nk R then sz (kdA R k) else 0) = _
      rw [if_pos (by omega)]
    rw [ks]
    rcases (show k = 0 ∨ k ≠ 0 by omega) with y | y
    · subst y
      rw [if_pos (by omega)]
      rw [if_pos rfl] at e
      rw [if_pos (by omega)] at ih
      omega
    · rw [if_neg (by omega)]
      rw [if_neg y] at e
      by_cases y1 : k ≤ 1
      · rw [if_pos y1] at ih; omega
      · rw [if_neg y1] at ih; omega
/-- no node has more than three operands -/
def n3T : TR → Int → Prop
  | .leaf _, j => j ≤ 3
  | .branch _ s r, j => n3T s 0 ∧ n3T r (j + 1)
theorem n3T_nk : ∀ {R : TR} {j : Int}, n3T R j → j + nk R ≤ 3
  | .leaf _, j, n => by show j + 0 ≤ 3; have : j ≤ 3 := n; omega
  | .branch _ s r, j, n => by have := n3T_nk (R := r) n.2; show j + (nk r + 1) ≤ 3; omega
theorem n3T_kd : ∀ {R : TR} {j : Int} (k : Nat), n3T R j → (k : Int) < nk R → n3T (kdA R k) 0
  | .leaf i, j, k, _, l => by have e : nk (.leaf i) = 0 := rfl; omega
  | .branch b s r, j, 0, n, _ => n.1
  | .branch b s r, j, k + 1, n, l => n3T_kd (R := r) k n.2 (by have e : nk (.branch b s r) = nk r + 1 := rfl; omega)
theorem trX_n3 {h : AH} {T lo hi : Int} : ∀ {R : TR} {d j : Int}, trX h T lo hi R d j → 0 ≤ j → j ≤ 3 → n3T R j
  | .leaf _, d, j, _, _, j3 => j3
  | .branch _ s r, d, j, t, _, _ => ⟨trX_n3 t.2.2.1 (by decide) (by decide), trX_n3 t.2.2.2 (by have := t.1; omega) (by have := t.2.1; omega)⟩
theorem tx_len {N : Int} {cA hl : Int → Int} (hc : ∀ a, 0 ≤ a → a < N → cA a < 282429536481) : ∀ (D : Nat) {R : TR}, dpT R < D → tlT N R → n3T R 0 → (((txT cA hl R).length : Nat) : Int) ≤ 12 * sz R
  | 0, R, h, _, _ => by have := dpT_0 R; omega
  | D + 1, R, h, o, n => by
    have ih : ∀ k : Nat, (k : Int) < nk R → (((txT cA hl (kdA R k)).length : Nat) : Int) ≤ 12 * sz (kdA R k) := fun k l => by
      have := dpT_kd R k l
      exact tx_len hc D (by omega) (tlT_kd k o l).1 (n3T_kd k n l)
    have n3 := n3T_nk n
    have n0 := nk_0 R
    have sp := sz_pos R
    have on := tlT_nd o
    unfold txT txN
    by_cases a : (inf R).1 = 0
    · rw [if_pos a]; show ((1 : Nat) : Int) ≤ _; omega
    rw [if_neg a]
    by_cases b : (inf R).1 = 1
    · rw [if_pos b]
      have v : vlR (inf R).2.2.1 (inf R).2.1 ∧ 0 ≤ (inf R).2.2.1 ∧ (inf R).2.2.1 ≤ 2 := by rcases on with z | z | z | z <;> first | exact z.2 | omega
      have := txV_len v.1 v.2.1 v.2.2
      omega
    rw [if_neg b]
    by_cases c : (inf R).1 = 3
    · rw [if_pos c]; have := dig_len (hl (inf R).2.1); omega
    rw [if_neg c]
    have i2 : 0 ≤ (inf R).2.1 ∧ (inf R).2.1 < N := by rcases on with z | z | z | z <;> omega
    have L := lts_8 (hc _ i2.1 i2.2)
    have J := jcN_le (cA := cA) (hl := hl) (R := R) ih (nk R).toNat (by omega)
    have K := kss_sz R (nk R).toNat (by omega)
    have e : (txK cA hl R).length = (nk R).toNat := by have := txK_len (cA := cA) (hl := hl) R; omega
    rw [List.length_append, List.length_append, List.length_append, e]
    have e1 : ([40] : List Int).length = 1 := rfl
    have e2 : ([41] : List Int).length = 1 := rfl
    rw [e1, e2]
    by_cases q : (nk R).toNat ≤ 1
    · rw [if_pos q] at J; omega
    · rw [if_neg q] at J; omega
theorem resM_fr {h h' : AH} (f : ∀ a s, 460 ≤ a → a ≤ 466 → h' a s = h a s) : ∀ {R : TR} {d j : Int}, resM h R d j → resM h' R d j
  | .leaf i, d, j, r => by
    unfold resM at *
    rw [f 465 d (by decide) (by decide), f 466 d (by decide) (by decide), f 461 d (by decide) (by decide), f 460 d (by decide) (by decide), f 462 d (by decide) (by decide), f 463 d (by decide) (by decide)]
    exact r
  | .branch b s t, d, j, r => ⟨r.1, by rw [f 464 _ (by decide) (by decide)]; exact resM_fr f r.2.1, resM_fr f r.2.2⟩

