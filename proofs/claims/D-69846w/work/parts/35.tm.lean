/-! Terms: a spine of operands, at its end what the node itself is (sort, what it is told by, kind, place) -/
abbrev NI : Type := Int × Int × Int × Int
abbrev TR : Type := Lean.RArray NI
def inf : TR → NI
  | .leaf i => i
  | .branch _ _ r => inf r
def nk : TR → Int
  | .leaf _ => 0
  | .branch _ _ r => nk r + 1
def sz : TR → Int
  | .leaf _ => 1
  | .branch _ k r => sz k + sz r
def spn (i : NI) : List TR → TR
  | [] => .leaf i
  | t :: l => .branch 0 t (spn i l)
def szL : List TR → Int
  | [] => 0
  | t :: l => sz t + szL l
theorem sz_pos : ∀ t : TR, 1 ≤ sz t
  | .leaf _ => Int.le_refl _
  | .branch _ k r => by have := sz_pos k; have := sz_pos r; show 1 ≤ sz k + sz r; omega
theorem sz_spn (i : NI) : ∀ l, sz (spn i l) = szL l + 1
  | [] => rfl
  | t :: l => by show sz t + sz (spn i l) = sz t + szL l + 1; rw [sz_spn i l]; omega
theorem szL_app : ∀ (l m : List TR), szL (l ++ m) = szL l + szL m
  | [], m => by show szL m = 0 + szL m; omega
  | t :: l, m => by show sz t + szL (l ++ m) = sz t + szL l + szL m; rw [szL_app l m]; omega
theorem szL_pos : ∀ l : List TR, 0 ≤ szL l
  | [] => Int.le_refl _
  | t :: l => by have := sz_pos t; have := szL_pos l; show 0 ≤ sz t + szL l; omega
theorem inf_spn (i : NI) : ∀ l, inf (spn i l) = i
  | [] => rfl
  | _ :: l => inf_spn i l
theorem nk_spn (i : NI) : ∀ l, nk (spn i l) = (l.length : Nat)
  | [] => rfl
  | t :: l => by show nk (spn i l) + 1 = _; rw [nk_spn i l]; rfl
/-! the parser, pure -/
abbrev PR : Type := Int ⊕ (TR × Int)
section PP
variable (B : Int → Int) (n : Int)
abbrev comma (q : Int) : Prop := tO B n q = 4 ∧ tV B n q = 44
abbrev paren (q : Int) : Prop := tO B n q = 4 ∧ tV B n q = 40
abbrev quest (q : Int) : Prop := tO B n q = 4 ∧ tV B n q = 63
/-- terms by commas: those that were met, then from q on -/
def pKs (P : Int → PR) : Nat → List TR → Int → Int ⊕ (List TR × Int)
  | 0, _, q => .inl (tS B n q)
  | k + 1, l, q => match P q with
    | .inl z => .inl z
    | .inr (t, q1) => if comma B n q1 then (match nx B n q1 with | .inl z => .inl z | .inr q2 => pKs P k (l ++ [t]) q2) else .inr (l ++ [t], q1)
def pT (sk : Bool) : Nat → Int → PR
  | 0, q => .inl (tS B n q)
  | d + 1, q =>
    if isVl B n q then (match nx B n q with | .inl z => .inl z | .inr q1 => .inr (.leaf (0, vlK B n q, vlV B n q, tS B n q), q1))
    else if quest B n q ∧ sk = true then (match nx B n q with | .inl z => .inl z | .inr q1 => .inr (.leaf (3, 0, 0, tS B n q), q1))
    else if tO B n q = 1 then (match nx B n q with
      | .inl z => .inl z
      | .inr q1 => if paren B n q1 then (match nx B n q1 with
          | .inl z => .inl z
          | .inr q2 => match pKs B n (pT sk d) 2002 [] q2 with
            | .inl z => .inl z
            | .inr (l, q3) => match pW B n 41 q3 with
              | .inl z => .inl z
              | .inr q4 => .inr (spn (2, 0, tV B n q, tS B n q) l, q4))
        else .inr (.leaf (1, 0, tV B n q, tS B n q), q1))
    else .inl (tS B n q)
end PP
/-! what the names of a term are -/
def fA (c : Int → Int) (w : Int) : Nat → Int → Int
  | 0, _ => -1
  | k + 1, a => if c a = w then a else fA c w k (a + 1)
def mky (P : Int) (nP : Int → Int) (w : Int) : Int := fA nP w P.toNat 0
section SEM
variable (P : Int) (nP kP : Int → Int) (rs : Int → Int) (oE wE : Int → Int) (kE : Int → Int → Int)
def kdI (i : NI) : Int := if i.1 = 0 then i.2.1 else if i.1 = 1 then (if mky P nP i.2.2.1 < 0 then -1 else kP (mky P nP i.2.2.1)) else if i.1 = 2 then (if rs i.2.2.1 = -1 then -1 else kE (rs i.2.2.1) (oE (rs i.2.2.1))) else 0
def kdT (t : TR) : Int := kdI P nP kP rs oE kE (inf t)
def wtT : TR → Int
  | .leaf i => if i.1 = 2 then 1 + wE (rs i.2.2.1) else 0
  | .branch _ k r => wtT k + wtT r
def hlT : TR → Int
  | .leaf i => if i.1 = 3 then 1 else 0
  | .branch _ k r => hlT k + hlT r
def misK (i : NI) (j : Int) (k : TR) : Int := if i.1 = 2 ∧ rs i.2.2.1 ≠ -1 ∧ j < oE (rs i.2.2.1) ∧ kdT P nP kP rs oE kE k ≠ -1 ∧ kdT P nP kP rs oE kE k ≠ kE (rs i.2.2.1) j then (inf k).2.2.2 * 8 + 3 else 1000000
def fkI (i : NI) (j hc : Int) : Int := if i.1 = 1 then (if mky P nP i.2.2.1 < 0 then i.2.2.2 * 8 + 2 else 1000000) else if i.1 = 2 then (if rs i.2.2.1 = -1 then i.2.2.2 * 8 + 2 else if j ≠ oE (rs i.2.2.1) then i.2.2.2 * 8 + 4 else 1000000) else if i.1 = 3 then (if 3 ≤ hc then i.2.2.2 * 8 + 5 else 1000000) else 1000000
/-- the least fault in a term: from operand j on, so many holes before -/
def fkT : TR → Int → Int → Int
  | .leaf i, j, hc => fkI P nP rs oE i j hc
  | .branch _ k r, j, hc => min (fkT k 0 hc) (min (misK P nP kP rs oE kE (inf r) j k) (fkT r (j + 1) (hc + hlT k)))
def rsI (i : NI) (hc : Int) : NI := if i.1 = 0 then (1, i.2.2.1, i.2.1, i.2.2.2) else if i.1 = 1 then (if mky P nP i.2.2.1 < 0 then (1, 0, -1, i.2.2.2) else (0, mky P nP i.2.2.1, kP (mky P nP i.2.2.1), i.2.2.2)) else if i.1 = 2 then (if rs i.2.2.1 = -2 then (4, 0, kdI P nP kP rs oE kE i, i.2.2.2) else (2, max 0 (rs i.2.2.1), kdI P nP kP rs oE kE i, i.2.2.2)) else (3, min 2 hc, 0, i.2.2.2)
/-- a term with its names known -/
def rsT : TR → Int → TR
  | .leaf i, hc => .leaf (rsI P nP kP rs oE kE i hc)
  | .branch b k r, hc => .branch b (rsT k hc) (rsT r (hc + hlT k))
def rsL : List TR → Int → List TR
  | [], _ => []
  | t :: l, hc => rsT P nP kP rs oE kE t hc :: rsL l (hc + hlT t)
def hlL : List TR → Int
  | [] => 0
  | t :: l => hlT t + hlL l
def wtL : List TR → Int
  | [] => 0
  | t :: l => wtT rs wE t + wtL l
def fkL (i : NI) : List TR → Int → Int → Int
  | [], _, _ => 1000000
  | t :: l, j, hc => min (fkT P nP kP rs oE kE t 0 hc) (min (misK P nP kP rs oE kE i j t) (fkL i l (j + 1) (hc + hlT t)))
theorem sz_rs : ∀ (t : TR) (hc : Int), sz (rsT P nP kP rs oE kE t hc) = sz t
  | .leaf _, _ => rfl
  | .branch _ k r, hc => by show sz (rsT P nP kP rs oE kE k hc) + sz (rsT P nP kP rs oE kE r _) = sz k + sz r; rw [sz_rs k, sz_rs r]
theorem hlT_0 : ∀ t : TR, 0 ≤ hlT t
  | .leaf i => by show 0 ≤ if i.1 = 3 then (1 : Int) else 0; by_cases q : i.1 = 3; · rw [if_pos q]; decide
                  · rw [if_neg q]; decide
  | .branch _ k r => by have := hlT_0 k; have := hlT_0 r; show 0 ≤ hlT k + hlT r; omega
theorem hlT_sz : ∀ t : TR, hlT t ≤ sz t
  | .leaf i => by show (if i.1 = 3 then (1 : Int) else 0) ≤ 1; by_cases q : i.1 = 3; · rw [if_pos q]; decide
                  · rw [if_neg q]; decide
  | .branch _ k r => by have := hlT_sz k; have := hlT_sz r; show hlT k + hlT r ≤ sz k + sz r; omega
theorem rsI_2 {i : NI} (h2 : i.1 = 2) (hc : Int) : rsI P nP kP rs oE kE i hc = rsI P nP kP rs oE kE i 0 := by
  unfold rsI; simp only [show ¬ i.1 = 0 by omega, show ¬ i.1 = 1 by omega, h2, if_false, if_true]
theorem rsT_spn {i : NI} (h2 : i.1 = 2) : ∀ (l : List TR) (hc : Int), rsT P nP kP rs oE kE (spn i l) hc = spn (rsI P nP kP rs oE kE i 0) (rsL P nP kP rs oE kE l hc)
  | [], hc => by
    show Lean.RArray.leaf (rsI P nP kP rs oE kE i hc) = Lean.RArray.leaf (rsI P nP kP rs oE kE i 0)
    rw [rsI_2 P nP kP rs oE kE h2]
  | t :: l, hc => by
    show Lean.RArray.branch 0 (rsT P nP kP rs oE kE t hc) (rsT P nP kP rs oE kE (spn i l) (hc + hlT t)) = Lean.RArray.branch 0 _ (spn _ (rsL P nP kP rs oE kE l (hc + hlT t)))
    rw [rsT_spn h2 l]
theorem hlT_spn {i : NI} (h3 : i.1 ≠ 3) : ∀ l : List TR, hlT (spn i l) = hlL l
  | [] => if_neg h3
  | t :: l => by show hlT t + hlT (spn i l) = hlT t + hlL l; rw [hlT_spn h3 l]
theorem wtT_spn {i : NI} (h2 : i.1 = 2) : ∀ l : List TR, wtT rs wE (spn i l) = wtL rs wE l + (1 + wE (rs i.2.2.1))
  | [] => by show (if i.1 = 2 then _ else _) = 0 + _; rw [if_pos h2]; omega
  | t :: l => by show wtT rs wE t + wtT rs wE (spn i l) = wtT rs wE t + wtL rs wE l + _; rw [wtT_spn h2 l]; omega
theorem fkT_spn {i : NI} (hp : ∀ j hc, fkI P nP rs oE i j hc ≤ 1000000) : ∀ (l : List TR) (j hc : Int), fkT P nP kP rs oE kE (spn i l) j hc = min (fkL P nP kP rs oE kE i l j hc) (fkI P nP rs oE i (j + (l.length : Nat)) (hc + hlL l))
  | [], j, hc => by
    show fkI P nP rs oE i j hc = min 1000000 (fkI P nP rs oE i (j + (0 : Nat)) (hc + 0))
    rw [show j + ((0 : Nat) : Int) = j by omega, show hc + 0 = hc by omega]
    have := hp j hc
    omega
  | t :: l, j, hc => by
    show min _ (min (misK P nP kP rs oE kE (inf (spn i l)) j t) (fkT P nP kP rs oE kE (spn i l) (j + 1) (hc + hlT t))) = min (min _ (min _ (fkL P nP kP rs oE kE i l (j + 1) (hc + hlT t)))) _
    rw [fkT_spn hp l, inf_spn, show j + 1 + ((l.length : Nat) : Int) = j + (((t :: l).length : Nat) : Int) by rw [List.length_cons]; omega, show hc + hlT t + hlL l = hc + hlL (t :: l) by show _ = hc + (hlT t + hlL l); omega]
    omega
theorem hlL_app : ∀ (l m : List TR), hlL (l ++ m) = hlL l + hlL m
  | [], m => by show hlL m = 0 + hlL m; omega
  | t :: l, m => by show hlT t + hlL (l ++ m) = hlT t + hlL l + hlL m; rw [hlL_app l m]; omega
theorem wtL_app : ∀ (l m : List TR), wtL rs wE (l ++ m) = wtL rs wE l + wtL rs wE m
  | [], m => by show wtL rs wE m = 0 + wtL rs wE m; omega
  | t :: l, m => by show wtT rs wE t + wtL rs wE (l ++ m) = wtT rs wE t + wtL rs wE l + wtL rs wE m; rw [wtL_app l m]; omega
theorem fkL_app (i : NI) : ∀ (l : List TR) (t : TR) (j hc : Int), fkL P nP kP rs oE kE i (l ++ [t]) j hc = min (fkL P nP kP rs oE kE i l j hc) (min (fkT P nP kP rs oE kE t 0 (hc + hlL l)) (misK P nP kP rs oE kE i (j + (l.length : Nat)) t))
  | [], t, j, hc => by
    show min _ (min _ 1000000) = min 1000000 (min (fkT P nP kP rs oE kE t 0 (hc + 0)) (misK P nP kP rs oE kE i (j + (0 : Nat)) t))
    rw [show j + ((0 : Nat) : Int) = j by omega, show hc + 0 = hc by omega]
    omega
  | s :: l, t, j, hc => by
    show min _ (min _ (fkL P nP kP rs oE kE i (l ++ [t]) (j + 1) (hc + hlT s))) = min (min _ (min _ (fkL P nP kP rs oE kE i l (j + 1) (hc + hlT s)))) _
    rw [fkL_app i l, show j + 1 + ((l.length : Nat) : Int) = j + (((s :: l).length : Nat) : Int) by rw [List.length_cons]; omega, show hc + hlT s + hlL l = hc + hlL (s :: l) by show _ = hc + (hlT s + hlL l); omega]
    omega
theorem rsL_app : ∀ (l : List TR) (t : TR) (hc : Int), rsL P nP kP rs oE kE (l ++ [t]) hc = rsL P nP kP rs oE kE l hc ++ [rsT P nP kP rs oE kE t (hc + hlL l)]
  | [], t, hc => by show [_] = [rsT P nP kP rs oE kE t (hc + 0)]; rw [show hc + 0 = hc by omega]
  | s :: l, t, hc => by
    show _ :: rsL P nP kP rs oE kE (l ++ [t]) (hc + hlT s) = _ :: (rsL P nP kP rs oE kE l (hc + hlT s) ++ _)
    rw [rsL_app l, show hc + hlT s + hlL l = hc + hlL (s :: l) by show _ = hc + (hlT s + hlL l); omega]
theorem szL_rs : ∀ (l : List TR) (hc : Int), szL (rsL P nP kP rs oE kE l hc) = szL l
  | [], _ => rfl
  | t :: l, hc => by show sz (rsT P nP kP rs oE kE t hc) + szL (rsL P nP kP rs oE kE l _) = sz t + szL l; rw [sz_rs, szL_rs l]
theorem len_rs : ∀ (l : List TR) (hc : Int), (rsL P nP kP rs oE kE l hc).length = l.length
  | [], _ => rfl
  | t :: l, hc => by show (rsL P nP kP rs oE kE l _).length + 1 = l.length + 1; rw [len_rs l]
end SEM
/-! x's trees: a term at a node, what is below it one behind the other from p on -/
def rXc (h : AH) (T : Int) : TR → Int → Int → Int → Prop
  | .leaf i, d, j, _ => h (T + 1) d = i.1 ∧ h (T + 2) d = i.2.1 ∧ h (T + 3) d = i.2.2.1 ∧ h (T + 4) d = i.2.2.2 ∧ ∀ k, 0 ≤ k → j ≤ k → k < 3 → h (T + 5) (3 * d + k) = -1
  | .branch _ s r, d, j, p => (j < 3 → h (T + 5) (3 * d + j) = p) ∧ rXc h T s p 0 (p + 1) ∧ rXc h T r d (j + 1) (p + sz s)
def rXl (h : AH) (T d : Int) : List TR → Int → Int → Prop
  | [], _, _ => True
  | s :: l, j, p => (j < 3 → h (T + 5) (3 * d + j) = p) ∧ rXc h T s p 0 (p + 1) ∧ rXl h T d l (j + 1) (p + sz s)
theorem rXc_spn {h : AH} {T d : Int} {i : NI} : ∀ {l : List TR} {j p : Int}, rXl h T d l j p → (h (T + 1) d = i.1 ∧ h (T + 2) d = i.2.1 ∧ h (T + 3) d = i.2.2.1 ∧ h (T + 4) d = i.2.2.2 ∧ ∀ k, 0 ≤ k → j + (l.length : Nat) ≤ k → k < 3 → h (T + 5) (3 * d + k) = -1) → rXc h T (spn i l) d j p
  | [], j, p, _, q => ⟨q.1, q.2.1, q.2.2.1, q.2.2.2.1, fun k k0 k1 k2 => q.2.2.2.2 k k0 (by show j + ((0 : Nat) : Int) ≤ k; omega) k2⟩
  | s :: l, j, p, r, q => ⟨r.1, r.2.1, rXc_spn (l := l) r.2.2 ⟨q.1, q.2.1, q.2.2.1, q.2.2.2.1, fun k k0 k1 k2 => q.2.2.2.2 k k0 (by rw [List.length_cons]; omega) k2⟩⟩
theorem rXl_app {h : AH} {T d : Int} : ∀ {l : List TR} {t : TR} {j p : Int}, rXl h T d l j p → (j + (l.length : Nat) < 3 → h (T + 5) (3 * d + (j + (l.length : Nat))) = p + szL l) → rXc h T t (p + szL l) 0 (p + szL l + 1) → rXl h T d (l ++ [t]) j p
  | [], t, j, p, _, a, b => by
    have e1 : j + ((([] : List TR).length : Nat) : Int) = j := by show j + ((0 : Nat) : Int) = j; omega
    have e2 : p + szL [] = p := by show p + 0 = p; omega
    rw [e1, e2] at a
    rw [e2] at b
    exact ⟨a, b, trivial⟩
  | s :: l, t, j, p, r, a, b => by
    have e1 : j + (((s :: l).length : Nat) : Int) = j + 1 + (l.length : Nat) := by rw [List.length_cons]; omega
    have e2 : p + szL (s :: l) = p + sz s + szL l := by show p + (sz s + szL l) = _; omega
    rw [e1, e2] at a
    rw [e2] at b
    exact ⟨r.1, r.2.1, rXl_app r.2.2 a b⟩
theorem rXc_fr {h h' : AH} {T lo hi : Int} (f : ∀ a s, T + 1 ≤ a → a ≤ T + 4 → lo ≤ s → s < hi → h' a s = h a s) (g : ∀ s, 3 * lo ≤ s → s < 3 * hi → h' (T + 5) s = h (T + 5) s) : ∀ {t : TR} {d j p : Int}, 0 ≤ j → lo ≤ d → d < hi → lo ≤ p → p + (sz t - 1) ≤ hi → rXc h T t d j p → rXc h' T t d j p
  | .leaf i, d, j, p, hj, d0, d1, p0, p1, r => by
    obtain ⟨a, b, c, e, q⟩ := r
    refine ⟨?_, ?_, ?_, ?_, fun k k0 k1 k2 => ?_⟩
    · rw [f _ _ (by omega) (by omega) d0 d1]; exact a
    · rw [f _ _ (by omega) (by omega) d0 d1]; exact b
    · rw [f _ _ (by omega) (by omega) d0 d1]; exact c
    · rw [f _ _ (by omega) (by omega) d0 d1]; exact e
    · rw [g _ (by omega) (by omega)]; exact q k k0 k1 k2
  | .branch b s r, d, j, p, hj, d0, d1, p0, p1, q => by
    have z1 := sz_pos s
    have z2 := sz_pos r
    have e : sz (.branch b s r) = sz s + sz r := rfl
    rw [e] at p1
    obtain ⟨q1, q2, q3⟩ := q
    exact ⟨fun j3 => by rw [g _ (by omega) (by omega)]; exact q1 j3, rXc_fr f g (by omega) p0 (by omega) (by omega) (by omega) q2, rXc_fr f g (by omega) d0 d1 (by omega) (by omega) q3⟩
theorem rXl_fr {h h' : AH} {T d lo hi : Int} (f : ∀ a s, T + 1 ≤ a → a ≤ T + 4 → lo ≤ s → s < hi → h' a s = h a s) (g : ∀ s, 3 * lo ≤ s → s < 3 * hi → h' (T + 5) s = h (T + 5) s) : ∀ {l : List TR} {j p : Int}, 0 ≤ j → lo ≤ p → p + szL l ≤ hi → (∀ k, j ≤ k → k < 3 → k < j + (l.length : Nat) → h' (T + 5) (3 * d + k) = h (T + 5) (3 * d + k)) → rXl h T d l j p → rXl h' T d l j p
  | [], _, _, _, _, _, _, _ => trivial
  | s :: l, j, p, hj, p0, p1, q, r => by
    have z1 := sz_pos s
    have z2 := szL_pos l
    have e : szL (s :: l) = sz s + szL l := rfl
    rw [e] at p1
    have el : (((s :: l).length : Nat) : Int) = (l.length : Nat) + 1 := by rw [List.length_cons]; omega
    obtain ⟨r1, r2, r3⟩ := r
    exact ⟨fun j3 => by rw [q j (by omega) j3 (by omega)]; exact r1 j3, rXc_fr f g (by omega) p0 (by omega) (by omega) (by omega) r2, rXl_fr f g (by omega) (by omega) (by omega) (fun k k0 k1 k2 => q k (by omega) k1 (by omega)) r3⟩

