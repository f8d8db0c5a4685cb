/-! what an ask that was told is, pure -/
def rwN (l : List RWt) (k : Int) : RWt := l.getD k.toNat ([], 0)
def lwN (l : List LWt) (k : Int) : LWt := l.getD k.toNat ([], .leaf (0, 0, 0, 0), .leaf (0, 0, 0, 0))
theorem rwN_g {l : List RWt} {k : Int} (k0 : 0 ≤ k) (k1 : k < (l.length : Int)) : l[k.toNat]? = some (rwN l k) := by
  unfold rwN
  rw [List.getD_eq_getElem?_getD, List.getElem?_eq_getElem (by omega)]; rfl
theorem lwN_g {l : List LWt} {k : Int} (k0 : 0 ≤ k) (k1 : k < (l.length : Int)) : l[k.toNat]? = some (lwN l k) := by
  unfold lwN
  rw [List.getD_eq_getElem?_getD, List.getElem?_eq_getElem (by omega)]; rfl
def whO (p : ASt) : Int := if 256 < apN p.1 then 0 else 1
def ptO (p : ASt) : Int := if 256 < apN p.1 then ((rwsO p.2.2.2).length : Int) else apN p.1
def akO (B : Int → Int) (n : Int) (E : EV) (p : ASt) (rv hl : Int → Int) : AK :=
  ((((p.1.length : Int), (fun k => kL p.1 k), (fun i k => pvA (p.1.length : Int) (fun k => kL p.1 k) (whO p) rv i k), (p.2.2.1.length : Int), (fun k => pcA B n E (nmN p.2.2.1 k).1), (fun k => pcK B n E (nmN p.2.2.1 k).1), (fun k => pcV B n (nmN p.2.2.1 k).1), fun k => (nmN p.2.2.1 k).2), ptO p, whO p, rv),
   ((((rwsO p.2.2.2).length : Int)), fun r => rwV B n (rwN (rwsO p.2.2.2) r)),
   (((lwsO p.2.2.2).length : Int), (fun l => ((lwN (lwsO p.2.2.2) l).1.length : Int)), (fun l k => (nmN (lwN (lwsO p.2.2.2) l).1 k).2), (fun l => rsE (EVA B n E p.1 p.2.1 (lwN (lwsO p.2.2.2) l).1) (lwN (lwsO p.2.2.2) l).2.1 0), fun l => rsE (EVA B n E p.1 p.2.1 (lwN (lwsO p.2.2.2) l).1) (lwN (lwsO p.2.2.2) l).2.2 0),
   p.2.1, hl)
/-! kinds of an ask -/
def ksG (ks : List Int) : Prop := (1 ≤ ks.length ∧ ks.length ≤ 3) ∧ ∀ k, 0 ≤ k → k < (ks.length : Int) → 0 ≤ kL ks k ∧ kL ks k ≤ 2
theorem kL_mem {ks : List Int} {k : Int} (k0 : 0 ≤ k) (k1 : k < (ks.length : Int)) (e : kL ks k = 2) : 2 ∈ ks := by
  unfold kL at e
  rw [List.getD_eq_getElem?_getD, List.getElem?_eq_getElem (by omega)] at e
  have e' : ks[k.toNat]'(by omega) = 2 := e
  rw [← e']; exact List.getElem_mem _
theorem ap_w {ks : List Int} (m : 2 ∈ ks) : 1000 ≤ apN ks := by
  induction ks with
  | nil => cases m
  | cons k l ih =>
    show 1000 ≤ k1K k * apN l
    have a := k1K_r k
    have b := apN_1 l
    rcases List.mem_cons.mp m with z | z
    · rw [← z]
      show 1000 ≤ 1000 * apN l
      omega
    · have c := ih z
      exact Int.le_trans c (by have := Int.mul_le_mul_of_nonneg_right (show 1 ≤ k1K k by omega) (show 0 ≤ apN l by omega); omega)
theorem rw_w {ks : List Int} (g : ksG ks) (m : 2 ∈ ks) : 256 < rwT (kL ks) ks.length := by
  obtain ⟨⟨l1, l3⟩, r⟩ := g
  have key : ∀ m : Nat, (∃ k : Nat, k < m ∧ kL ks k = 2) → 100000 ≤ rwT (kL ks) m := fun m => by
    induction m with
    | zero => rintro ⟨k, k1, _⟩; omega
    | succ m ih =>
      rintro ⟨k, k1, k2⟩
      show 100000 ≤ if kL ks m = 2 then (100000 : Int) else min 100000 (rwT (kL ks) m * bsK (kL ks m))
      by_cases c : kL ks m = 2
      · rw [if_pos c]; omega
      · rw [if_neg c]
        have y := ih ⟨k, by have : k ≠ m := (fun z => c (by rw [← z]; exact k2)); omega, k2⟩
        have b := bsK_r (kL ks m)
        have := Int.mul_le_mul_of_nonneg_left (show 1 ≤ bsK (kL ks m) by omega) (show 0 ≤ rwT (kL ks) m by omega)
        omega
  obtain ⟨i, il, e⟩ := List.getElem_of_mem m
  have := key ks.length ⟨i, il, by unfold kL; rw [show ((i : Nat) : Int).toNat = i by omega, List.getD_eq_getElem?_getD, List.getElem?_eq_getElem il, e]; rfl⟩
  omega
theorem ap_rw {ks : List Int} (g : ksG ks) : (256 < apN ks ↔ 256 < rwT (kL ks) ks.length) ∧ (¬ 256 < apN ks → apN ks = rwT (kL ks) ks.length ∧ ¬ 2 ∈ ks ∧ apN ks = ptN ks) := by
  by_cases m : 2 ∈ ks
  · have a := ap_w m
    have b := rw_w g m
    exact ⟨⟨fun _ => b, fun _ => by omega⟩, fun z => by omega⟩
  · have a := apN_pt m
    have b := rwT_pt g.1.1 g.1.2 g.2 m
    exact ⟨by rw [a, b], fun z => ⟨by rw [a, b], m, a⟩⟩
theorem alT_wh {p : ASt} (g : ksG p.1) : alT p = whO p ∧ ptT p = ptO p := by
  obtain ⟨x, y⟩ := ap_rw g
  unfold alT whO ptT ptO
  by_cases c : 256 < apN p.1
  · rw [if_pos c, if_pos (x.mp c), if_pos c, if_pos (x.mp c)]; exact ⟨rfl, rfl⟩
  · rw [if_neg c, if_neg (fun z => c (x.mpr z)), if_neg c, if_neg (fun z => c (x.mpr z))]; exact ⟨rfl, (y c).1.symm⟩
/-- kinds that are no words -/
def k01 (ks : List Int) : Prop := ∀ k, 0 ≤ k → k < (ks.length : Int) → kL ks k = 0 ∨ kL ks k = 1
theorem k01_of {ks : List Int} (g : ksG ks) (m : ¬ 2 ∈ ks) : k01 ks := fun k k0 k1 => by
  have a := g.2 k k0 k1
  have : kL ks k ≠ 2 := fun z => m (kL_mem k0 k1 z)
  omega
theorem pt_b {ks : List Int} {vf : Int → Int} (g : ksG ks) (z : k01 ks) (v : ∀ k, 0 ≤ k → k < (ks.length : Int) → 0 ≤ vf k ∧ vf k < bsK (kL ks k)) : 0 ≤ ptf (kL ks) vf ks.length ∧ ptf (kL ks) vf ks.length < ptN ks := by
  obtain ⟨⟨l1, l3⟩, _⟩ := g
  match ks, l1, l3, z, v with
  | [a], _, _, z, v =>
    have v0 := v 0 (by decide) (show (0 : Int) < ((0 + 1 : Nat) : Int) by decide)
    have z0 : a = 0 ∨ a = 1 := z 0 (by decide) (show (0 : Int) < ((0 + 1 : Nat) : Int) by decide)
    have v0 : 0 ≤ vf 0 ∧ vf 0 < bsK a := v0
    show 0 ≤ (0 : Int) * bsK a + vf ((0 : Nat) : Int) ∧ (0 : Int) * bsK a + vf ((0 : Nat) : Int) < bsK a * 1
    have e : ((0 : Nat) : Int) = 0 := rfl
    rw [e]
    omega
  | [a, b], _, _, z, v =>
    have v0 : 0 ≤ vf 0 ∧ vf 0 < bsK a := v 0 (by decide) (show (0 : Int) < ((0 + 2 : Nat) : Int) by decide)
    have v1 : 0 ≤ vf 1 ∧ vf 1 < bsK b := v 1 (by decide) (show (1 : Int) < ((0 + 2 : Nat) : Int) by decide)
    have z0 : a = 0 ∨ a = 1 := z 0 (by decide) (show (0 : Int) < ((0 + 2 : Nat) : Int) by decide)
    have z1 : b = 0 ∨ b = 1 := z 1 (by decide) (show (1 : Int) < ((0 + 2 : Nat) : Int) by decide)
    show 0 ≤ ((0 : Int) * bsK a + vf 0) * bsK b + vf 1 ∧ ((0 : Int) * bsK a + vf 0) * bsK b + vf 1 < bsK a * (bsK b * 1)
    have e0 : bsK 0 = 16 := rfl
    have e1 : bsK 1 = 2 := rfl
    rcases z0 with rfl | rfl <;> rcases z1 with rfl | rfl <;> simp only [e0, e1, Int.zero_mul, Int.zero_add] at v0 v1 ⊢ <;> omega
  | [a, b, c], _, _, z, v =>
    have v0 : 0 ≤ vf 0 ∧ vf 0 < bsK a := v 0 (by decide) (show (0 : Int) < ((0 + 3 : Nat) : Int) by decide)
    have v1 : 0 ≤ vf 1 ∧ vf 1 < bsK b := v 1 (by decide) (show (1 : Int) < ((0 + 3 : Nat) : Int) by decide)
    have v2 : 0 ≤ vf 2 ∧ vf 2 < bsK c := v 2 (by decide) (show (2 : Int) < ((0 + 3 : Nat) : Int) by decide)
    have z0 : a = 0 ∨ a = 1 := z 0 (by decide) (show (0 : Int) < ((0 + 3 : Nat) : Int) by decide)
    have z1 : b = 0 ∨ b = 1 := z 1 (by decide) (show (1 : Int) < ((0 + 3 : Nat) : Int) by decide)
    have z2 : c = 0 ∨ c = 1 := z 2 (by decide) (show (2 : Int) < ((0 + 3 : Nat) : Int) by decide)
    show 0 ≤ (((0 : Int) * bsK a + vf 0) * bsK b + vf 1) * bsK c + vf 2 ∧ (((0 : Int) * bsK a + vf 0) * bsK b + vf 1) * bsK c + vf 2 < bsK a * (bsK b * (bsK c * 1))
    have e0 : bsK 0 = 16 := rfl
    have e1 : bsK 1 = 2 := rfl
    rcases z0 with rfl | rfl <;> rcases z1 with rfl | rfl <;> rcases z2 with rfl | rfl <;> simp only [e0, e1, Int.zero_mul, Int.zero_add] at v0 v1 v2 ⊢ <;> omega
/-! what does not look at the ask -/
theorem eO_c {E E' : EV} (e1 : E'.1 = E.1) {a : Int} (h : a ≠ -2) : eO E' a = eO E a := by
  unfold eO
  rw [if_neg h, if_neg h, e1]
theorem eK_c {E E' : EV} (e1 : E'.1 = E.1) {a k : Int} (h : a ≠ -2) : eK E' a k = eK E a k := by
  unfold eK
  rw [if_neg h, if_neg h, e1]
theorem tyT_c {E E' : EV} (e1 : E'.1 = E.1) {np : Int} {kp : Int → Int} : ∀ {R : TR} {j : Int}, nsT R → 0 ≤ j → tyT E' np kp R j → tyT E np kp R j
  | .leaf i, j, ns, _, t => by
    obtain ⟨t1, t2, t3⟩ := t
    refine ⟨t1, t2, ?_⟩
    rcases t3 with y | y | y | y | y
    · exact Or.inl y
    · exact Or.inr (Or.inl y)
    · exact Or.inr (Or.inr (Or.inl y))
    · obtain ⟨y1, y2, y3, y4, y5⟩ := y
      refine Or.inr (Or.inr (Or.inr (Or.inl ⟨y1, y2, by rw [← e1]; exact y3, ?_, ?_⟩)))
      · rw [← eO_c e1 (by omega)]; exact y4
      · rw [← eO_c e1 (by omega), ← eK_c e1 (by omega)]; exact y5
    · exact absurd y.1 ns
  | .branch b s r, j, ns, j0, t => by
    obtain ⟨t1, t2, t3⟩ := t
    refine ⟨tyT_c e1 ns.1 (Int.le_refl _) t1, ?_, tyT_c e1 ns.2 (by omega) t3⟩
    have nd := (tyT_nd t3).2.2
    have n0 := nk_0 r
    have i4 : (inf r).1 ≠ 4 := nsT_nd ns.2
    have ai : acI (inf r) = (inf r).2.1 := if_neg i4
    have nn : acI (inf r) ≠ -2 := by
      rw [ai]
      rcases nd with y | y | y | y | y
      · omega
      · omega
      · omega
      · omega
      · exact absurd y.1 i4
    rw [← eK_c e1 nn]; exact t2
theorem wOK_c {E E' : EV} (e1 : E'.1 = E.1) {Rf : Int → TR} {W : Int → Int → Int → VW} (w : wOK E Rf W) : wOK E' Rf W := by
  obtain ⟨w1, w2, w3⟩ := w
  refine ⟨w1, fun a a0 a1 x y f hl p p0 p1 => w2 a a0 (by rw [← e1]; exact a1) x y f hl p p0 p1, fun a x y a0 a1 hx hy => ?_⟩
  rw [eK_c e1 (by omega), eO_c e1 (by omega)]
  rw [eK_c e1 (by omega)] at hx
  rw [eO_c e1 (by omega), eK_c e1 (by omega)] at hy
  exact w3 a x y a0 (by rw [← e1]; exact a1) hx hy
theorem owT_c {E E' : EV} (e1 : E'.1 = E.1) {Rf : Int → TR} (o : owT E Rf) : owT E' Rf := fun a a0 a1 => by
  obtain ⟨o1, o2, o3⟩ := o a a0 (by rw [← e1]; exact a1)
  rw [eO_c e1 (by omega), eK_c e1 (by omega)]
  refine ⟨o1, ?_, o3⟩
  have k : (eK E' a) = eK E a := funext fun k => eK_c e1 (by omega)
  rw [k]
  exact tyT_c e1.symm (cgT_ns o1) (Int.le_refl _) o2
/-- with the function that is looked for, if there are laws -/
theorem evF_1 (E : EV) (K : AK) : (evF E K).1 = E.1 := rfl
theorem acE_c {E : EV} {K : AK} (a : acE E) (g : 1 ≤ (kA K).1 ∧ (kA K).1 ≤ 3 ∧ (∀ k, 0 ≤ k → k < (kA K).1 → 0 ≤ (kA K).2.1 k ∧ (kA K).2.1 k ≤ 2) ∧ 0 ≤ kR K ∧ kR K ≤ 2) : acE (evF E K) := by
  obtain ⟨a1, a2, a3, a4, _⟩ := a
  have O : ∀ a, 0 ≤ a → eO (evF E K) a = eO E a := fun a a0 => eO_c (E := E) (E' := evF E K) rfl (by omega)
  have Kk : ∀ a k, 0 ≤ a → eK (evF E K) a k = eK E a k := fun a k a0 => eK_c (E := E) (E' := evF E K) rfl (by omega)
  refine ⟨a1, a2, fun a a0 ha => ?_, fun a a0 ha => ?_, fun _ => ?_⟩
  · rw [O a a0]
    obtain ⟨b1, b2, b3, b4⟩ := a3 a a0 ha
    exact ⟨b1, b2, b3, fun k k0 k1 => by rw [Kk a k a0]; exact b4 k k0 k1⟩
  · rw [O a a0]
    obtain ⟨b1, b2⟩ := a4 a a0 ha
    exact ⟨b1, fun k k0 k1 => by rw [Kk a k a0]; exact b2 k k0 k1⟩
  · have ek := evF_k E K
    rw [ek.1]
    refine ⟨g.1, g.2.1, fun k k0 k1 => ?_⟩
    by_cases c : k = (kA K).1
    · have := ek.2
      rw [ek.1] at this
      rw [c, this]; exact g.2.2.2
    · have e : eK (evF E K) (-2) k = (kA K).2.1 k := by
        unfold eK
        rw [if_pos rfl]
        exact if_neg c
      rw [e]; exact g.2.2.1 k k0 (by omega)

