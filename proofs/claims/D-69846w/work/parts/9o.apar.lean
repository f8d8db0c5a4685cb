/-! asks: how they are read, pure -/
def pPc (B : Int → Int) (n q : Int) : Int ⊕ ((Int × Int) × Int) :=
  if isVl B n q ∨ tO B n q = 1 then bS (nx B n q) fun q1 => if isSg B n q1 58 then bS (nx B n q1) fun q2 => if tO B n q2 = 2 ∧ 1 ≤ tV B n q2 ∧ tV B n q2 ≤ 9 then bS (nx B n q2) fun q3 => .inr ((q, tV B n q2), q3) else .inl (tS B n q2) else .inr ((q, 1), q1)
  else .inl (tS B n q)
def pPcs (B : Int → Int) (n : Int) : Nat → List (Int × Int) → Int → Int ⊕ (List (Int × Int) × Int)
  | 0, _, q => .inl (tS B n q)
  | k + 1, l, q => match pPc B n q with
    | .inl z => .inl z
    | .inr (p, q1) => if comma B n q1 then (match nx B n q1 with | .inl z => .inl z | .inr q2 => pPcs B n k (l ++ [p]) q2) else .inr (l ++ [p], q1)
/-- values of a row -/
def pVs (B : Int → Int) (n : Int) : Nat → List Int → Int → Int ⊕ (List Int × Int)
  | 0, _, q => .inl (tS B n q)
  | k + 1, l, q => if isVl B n q then (match nx B n q with | .inl z => .inl z | .inr q1 => if isVl B n q1 then pVs B n k (l ++ [q]) q1 else .inr (l ++ [q], q1)) else .inl (tS B n q)
abbrev RWt : Type := List Int × Int
/-- a row behind its values: what it answers -/
def pRw (B : Int → Int) (n : Int) (vs : List Int) (q3 : Int) : Int ⊕ (RWt × Int) :=
  if isN B n q3 3025044 ∨ isVl B n q3 then bS (nx B n q3) fun q4 => bS (pW B n 59 q4) fun q5 => .inr ((vs, q3), q5) else .inl (tS B n q3)
def pRow (B : Int → Int) (n q : Int) : Int ⊕ (RWt × Int) := bS (nx B n q) fun q1 => bS (pVs B n 2002 [] q1) fun x => bS (pW B n 61 x.2) fun q3 => pRw B n x.1 q3
/-- a name of a law's parameter, its kind -/
def pNm (B : Int → Int) (n q : Int) : Int ⊕ ((Int × Int) × Int) :=
  if tO B n q = 1 then bS (nx B n q) fun q1 => bS (pW B n 58 q1) fun q2 => if isKd B n q2 then bS (nx B n q2) fun q3 => .inr ((q, kdv B n q2), q3) else .inl (tS B n q2) else .inl (tS B n q)
def pNs (B : Int → Int) (n q : Int) : Int ⊕ (List (Int × Int) × Int) := bS (pNm B n q) fun x => if tO B n x.2 = 1 then bS (pNm B n x.2) fun y => .inr ([x.1, y.1], y.2) else .inr ([x.1], x.2)
abbrev LWt : Type := List (Int × Int) × TR × TR
/-- a law behind its names -/
def pLw (B : Int → Int) (n : Int) (ns : List (Int × Int)) (q2 : Int) : Int ⊕ (LWt × Int) :=
  bS (pW B n 256 q2) fun q3 => bS (pT B n false 13 q3) fun y => bS (pW B n 61 y.2) fun q5 => bS (pT B n false 13 q5) fun z => bS (pW B n 59 z.2) fun q7 => .inr ((ns, y.1, z.1), q7)
def pLaw (B : Int → Int) (n q : Int) : Int ⊕ (LWt × Int) := bS (nx B n q) fun q1 => bS (pNs B n q1) fun x => pLw B n x.1 x.2
abbrev ITt : Type := Int × (RWt ⊕ LWt)
def pIts (B : Int → Int) (n : Int) : Nat → List ITt → Int → Int ⊕ List ITt
  | 0, _, q => .inl (tS B n q)
  | k + 1, l, q => if tO B n q = 0 then .inr l
    else if isN B n q 13550 then (match pRow B n q with | .inl z => .inl z | .inr (r, q1) => pIts B n k (l ++ [(q, .inl r)]) q1)
    else if isN B n q 8798 then (match pLaw B n q with | .inl z => .inl z | .inr (r, q1) => pIts B n k (l ++ [(q, .inr r)]) q1)
    else .inl (tS B n q)
abbrev ASt : Type := List Int × Int × List (Int × Int) × List ITt
def pAsk (B : Int → Int) (n q : Int) : Int ⊕ ASt :=
  bS (pN B n 125041 q) fun q1 => bS (pKK B n true 3 [] q1) fun x2 => bS (pW B n 256 x2.2) fun q3 => if isKd B n q3 then bS (nx B n q3) fun q4 => bS (pW B n 59 q4) fun q5 => bS (pN B n 15827 q5) fun q6 => bS (pPcs B n 2002 [] q6) fun x7 => bS (pW B n 59 x7.2) fun q8 => bS (pIts B n 2002 [] q8) fun its => .inr (x2.1, kdv B n q3, x7.1, its) else .inl (tS B n q3)
/-! faults of an ask -/
/-- what a piece at q is: its act (-1 for a value), kind, value -/
def pcA (B : Int → Int) (n : Int) (E : EV) (q : Int) : Int := if isVl B n q then -1 else fA E.1.2.1 (tV B n q) E.1.1.toNat 0
def pcK (B : Int → Int) (n : Int) (E : EV) (q : Int) : Int := if isVl B n q then vlK B n q else if pcA B n E q = -1 then -1 else eK E (pcA B n E q) (eO E (pcA B n E q))
def pcV (B : Int → Int) (n : Int) (q : Int) : Int := if isVl B n q then vlV B n q else 0
/-- whether two pieces are the same -/
def pcS (B : Int → Int) (n : Int) (E : EV) (q u : Int) : Prop := (isVl B n q ∧ isVl B n u ∧ vlK B n q = vlK B n u ∧ vlV B n q = vlV B n u) ∨ (¬ isVl B n q ∧ ¬ isVl B n u ∧ pcA B n E q ≠ -1 ∧ pcA B n E q = pcA B n E u)
noncomputable def dupK (B : Int → Int) (n : Int) (E : EV) (q : Int) : List (Int × Int) → Int
  | [] => 1000000
  | p :: l => min (cif (pcS B n E q p.1) (tS B n q * 8 + 3) 1000000) (dupK B n E q l)
/-- the key of piece number i, behind those of l -/
noncomputable def pk1 (B : Int → Int) (n : Int) (E : EV) (l : List (Int × Int)) (q : Int) : Int := min (if ¬ isVl B n q ∧ pcA B n E q = -1 then tS B n q * 8 + 2 else 1000000) (min (dupK B n E q (l.take 12)) (if 12 ≤ l.length then tS B n q * 8 + 5 else 1000000))
noncomputable def pkL (B : Int → Int) (n : Int) (E : EV) : List (Int × Int) → List (Int × Int) → Int
  | _, [] => 1000000
  | l, p :: r => min (pk1 B n E l p.1) (pkL B n E (l ++ [p]) r)
/-- values of a row against the kinds -/
def vkL (B : Int → Int) (n : Int) (ks : List Int) : Int → List Int → Int
  | _, [] => 1000000
  | j, q :: l => min (if j < (ks.length : Int) ∧ vlK B n q ≠ kL ks j then tS B n q * 8 + 3 else 1000000) (vkL B n ks (j + 1) l)
def rwK (B : Int → Int) (n : Int) (ks : List Int) (la i q : Int) (r : RWt) : Int := min (if 12 ≤ i then tS B n q * 8 + 5 else 1000000) (min (vkL B n ks 0 r.1) (min (if r.1.length = ks.length then 1000000 else tS B n q * 8 + 4) (if ¬ isN B n r.2 3025044 ∧ vlK B n r.2 ≠ la then tS B n r.2 * 8 + 3 else 1000000)))
/-- how many points parameters have -/
def ptN : List Int → Int
  | [] => 1
  | k :: l => bsK k * ptN l
def badN (B : Int → Int) (n : Int) (q : Int) : Prop := tV B n q = 6 ∨ tV B n q = 407354 ∨ tV B n q = 3217595 ∨ tV B n q = 3025044
noncomputable def nm1 (B : Int → Int) (n : Int) (l : List (Int × Int)) (p : Int × Int) : Int := min (cif (badN B n p.1 ∨ ∃ u, u ∈ l ∧ tV B n u.1 = tV B n p.1) (tS B n p.1 * 8 + 2) 1000000) (if p.2 = 2 then tS B n p.1 * 8 + 6 else 1000000)
noncomputable def nmL (B : Int → Int) (n : Int) : List (Int × Int) → List (Int × Int) → Int
  | _, [] => 1000000
  | l, p :: r => min (nm1 B n l p) (nmL B n (l ++ [p]) r)
def nmN (l : List (Int × Int)) (k : Int) : Int × Int := l.getD k.toNat (0, 0)
/-- acts, a law's parameters, the ask's f -/
def EVA (B : Int → Int) (n : Int) (E : EV) (ks : List Int) (la : Int) (ns : List (Int × Int)) : EV := (E.1, ((ns.length : Int), (fun k => tV B n (nmN ns k).1), fun k => (nmN ns k).2), (1, ((ks.length : Int), (fun k => kL ks k), la)))
def lw6 (ks : List Int) (la : Int) : Prop := la = 2 ∨ 2 ∈ ks ∨ 256 < ptN ks
noncomputable def lwK (B : Int → Int) (n : Int) (E : EV) (ks : List Int) (la i q : Int) (r : LWt) : Int := min (if 4 ≤ i then tS B n q * 8 + 5 else 1000000) (min (cif (lw6 ks la) (tS B n q * 8 + 6) 1000000) (min (nmL B n [] r.1) (min (keyE (EVA B n E ks la r.1) (-1) r.2.1) (keyE (EVA B n E ks la r.1) (kdE (EVA B n E ks la r.1) r.2.1) r.2.2))))
noncomputable def itK (B : Int → Int) (n : Int) (E : EV) (ks : List Int) (la : Int) : Int → Int → List ITt → Int
  | _, _, [] => 1000000
  | i, j, x :: l => match x.2 with
    | .inl r => min (rwK B n ks la i x.1 r) (itK B n E ks la (i + 1) j l)
    | .inr r => min (lwK B n E ks la j x.1 r) (itK B n E ks la i (j + 1) l)
noncomputable def fkAs (B : Int → Int) (n : Int) (E : EV) (p : ASt) : Int := min (pkL B n E [] p.2.2.1) (itK B n E p.1 p.2.1 0 0 p.2.2.2)

