/-! x stands at what is asked -/
theorem tyT_ns {E : EV} (l : E.2.2.1 ≠ 1) {np : Int} {kp : Int → Int} : ∀ {R : TR} {j : Int}, tyT E np kp R j → nsT R
  | .leaf i, j, t => fun z => by
    obtain ⟨_, _, t3⟩ := t
    rcases t3 with y | y | y | y | y
    · omega
    · omega
    · omega
    · omega
    · exact l y.2.1
  | .branch b s r, j, t => ⟨tyT_ns l t.1, tyT_ns l t.2.2⟩
theorem ownX_c {h : AH} {E E' : EV} {Rf : Int → TR} (e1 : E'.1 = E.1) (l : E.2.2.1 ≠ 1) (o : ownX h E Rf) : ownX h E' Rf := by
  obtain ⟨N, c, o⟩ := o
  refine ⟨N, c, fun a a0 a1 => ?_⟩
  obtain ⟨o1, o2, o3, o4, o5⟩ := o a a0 (by rw [← e1]; exact a1)
  have k : (eK E' a) = eK E a := funext fun k => eK_c e1 (by omega)
  rw [eO_c e1 (show a ≠ -2 by omega), k, e1]
  exact ⟨o1, tyT_c e1.symm (tyT_ns l o2) (Int.le_refl _) o2, o3, o4, o5⟩
/-- what x has for good -/
def stX (h : AH) (E : EV) (Rf : Int → TR) (W : Int → Int → Int → VW) : Prop := (actX h E.1.1 E.1.2.1 E.1.2.2.1 E.1.2.2.2.1 E.1.2.2.2.2 ∧ acE E ∧ wOK E Rf W ∧ ownX h E Rf ∧ E.2.2.1 = 0 ∧ ∀ a, 26 ≤ a → 0 ≤ E.1.2.2.2.1 a) ∧ OWC h ∧ h 200 11 = -1 ∧ lnS h ∧ Od h
theorem lnS_k {h : AH} (l : lnS h) {a k n : Int} (a0 : 200 ≤ a) (a1 : a < 1078) (e1 : kd a = k) (e2 : ln a = n) : h a (-2) = k ∧ h a (-1) = n := by
  have := l a a0 a1
  rw [e1, e2] at this; exact this
theorem capT_l {h : AH} (l : lnS h) {a : Int} (LA : a = 271 ∨ a = 289) : capT h (a + 12) 2200 ∧ isX3 (a + 12) := by
  rcases LA with rfl | rfl
  · exact ⟨⟨(lnS_k l (a := 284) (by decide) (by decide) (k := 101) (by decide) (n := 2200) (by decide)).2, (lnS_k l (a := 285) (by decide) (by decide) (k := 101) (by decide) (n := 2200) (by decide)).2, (lnS_k l (a := 286) (by decide) (by decide) (k := 101) (by decide) (n := 2200) (by decide)).2, (lnS_k l (a := 287) (by decide) (by decide) (k := 101) (by decide) (n := 2200) (by decide)).2, (lnS_k l (a := 288) (by decide) (by decide) (k := 101) (by decide) (n := 6600) (by decide)).2, by decide, by decide, by decide⟩, by unfold isX3; decide⟩
  · exact ⟨⟨(lnS_k l (a := 302) (by decide) (by decide) (k := 101) (by decide) (n := 2200) (by decide)).2, (lnS_k l (a := 303) (by decide) (by decide) (k := 101) (by decide) (n := 2200) (by decide)).2, (lnS_k l (a := 304) (by decide) (by decide) (k := 101) (by decide) (n := 2200) (by decide)).2, (lnS_k l (a := 305) (by decide) (by decide) (k := 101) (by decide) (n := 2200) (by decide)).2, (lnS_k l (a := 306) (by decide) (by decide) (k := 101) (by decide) (n := 6600) (by decide)).2, by decide, by decide, by decide⟩, by unfold isX3; decide⟩
theorem sdX_of {B : Int → Int} {n w d T M : Int} {E : EV} {p : ASt} {rv hl : Int → Int} {ns : List (Int × Int)} {t : TR} {h : AH} (hB : ∀ i, 0 ≤ i → i < n → 0 ≤ B i ∧ B i < 256) (hn : n ≤ 2000) (a : acE E) (ew : ∀ a, 26 ≤ a → 0 ≤ E.1.2.2.2.1 a) (g : ksG p.1) (lr : 0 ≤ p.2.1 ∧ p.2.1 ≤ 2) (l : 0 < (lwsO p.2.2.2).length) (nr : ∀ p, p ∈ ns → 0 ≤ p.2 ∧ p.2 ≤ 1) (r : rdd B n t) (k : keyE (EVA B n E p.1 p.2.1 ns) w t = 1000000) (cp : capT h T 2200) (x3 : isX3 T) (d0 : 0 ≤ d ∧ d + sz t ≤ M ∧ M ≤ 2100) (x : rXc h T (rsE (EVA B n E p.1 p.2.1 ns) t 0) d 0 (d + 1)) : sdX h (evF E (akO B n E p rv hl)) T (ns.length : Int) (fun k => (nmN ns k).2) (rsE (EVA B n E p.1 p.2.1 ns) t 0) d := by
  obtain ⟨t1, t2, _, _, _⟩ := lw_tm hB hn a ew g lr nr r k
  have s : sz (rsE (EVA B n E p.1 p.2.1 ns) t 0) = sz t := sz_rs _ _ _ _ _ _ t 0
  have sp := sz_pos t
  exact ⟨⟨x3, cp⟩, rXc_vw (acE_A a g lr) t1 x (Int.le_refl _) d0.1 (by omega) (by omega) (by rw [s]; omega), tyT_E (E := evF E (akO B n E p rv hl)) (E' := EVA B n E p.1 p.2.1 ns) rfl (evF_A l) t1, (by have h99 : dpE E.1.2.2.2.1 (rsE (EVA B n E p.1 p.2.1 ns) t 0) ≤ 100 := (by omega); exact h99)⟩
theorem rvG_of {B : Int → Int} {n a : Int} {E : EV} {p : ASt} {h : AH} (hB : ∀ i, 0 ≤ i → i < n → 0 ≤ B i ∧ B i < 256) (ap : asP B n E p a h) (G : asG B n E p) : rvG B n p (fun s => h (a + 6) s) := fun r k r0 r1 k0 k1 => by
  have e := (rw_v hB G r0 r1 k0 k1).1
  have w := (ap.2.2.2.1.2 r.toNat (by have := G.2.1.1; omega) _ (rwN_g r0 r1)).2 k.toNat (by omega) _ e
  rw [show ((r.toNat : Nat) : Int) = r by omega, show ((k.toNat : Nat) : Int) = k by omega] at w
  exact w
theorem akX_of {B : Int → Int} {n a : Int} {E : EV} {Rf : Int → TR} {W : Int → Int → Int → VW} {p : ASt} {h : AH} (hB : ∀ i, 0 ≤ i → i < n → 0 ≤ B i ∧ B i < 256) (hn : n ≤ 2000) (ap : asP B n E p a h) (G : asG B n E p) (a16 : h 200 16 = a) (st : stX h E Rf W) : akX h E Rf W (akO B n E p (fun s => h (a + 6) s) (fun c => h 270 c)) := by
  have R := rvG_of hB ap G
  obtain ⟨⟨x1, x2, x3, x4, x5⟩, ⟨y1, y2⟩, ⟨z1, z2⟩, ⟨r1, r2⟩, ⟨l1, l2⟩, ⟨w1, w2, w3⟩, tt⟩ := ap
  obtain ⟨⟨s1, s2, s3, s4, s5, s6⟩, o1, o2, o3, o4⟩ := st
  have LA : a = 271 ∨ a = 289 := x1
  have g : ksG p.1 := ⟨⟨x3, x4⟩, fun k k0 k1 => (x5 k k0 k1).2⟩
  have G1 := G.1.1
  have G2 := G.2.1.1
  have G3 := G.2.2.1
  have l269 : h 269 (-2) = 101 ∧ h 269 (-1) = 1000 := lnS_k o3 (by decide) (by decide) (by decide) (by decide)
  have ne1 : E.2.2.1 ≠ 1 := by omega
  have a6 : h (a + 6) (-2) = 101 ∧ h (a + 6) (-1) = 36 := by
    rcases LA with rfl | rfl
    · exact lnS_k o3 (a := 277) (by decide) (by decide) (by decide) (by decide)
    · exact lnS_k o3 (a := 295) (by decide) (by decide) (by decide) (by decide)
  obtain ⟨cp, iX⟩ := capT_l o3 LA
  have AC : acE (evF E (akO B n E p (fun s => h (a + 6) s) (fun c => h 270 c))) := acE_c s2 ⟨by show 1 ≤ (p.1.length : Int); omega, by show (p.1.length : Int) ≤ 3; omega, fun k k0 k1 => g.2 k k0 k1, y2⟩
  have PT : 0 ≤ ptO p ∧ ptO p ≤ 256 ∧ (whO p = 0 → ptO p ≤ 12) := by
    unfold ptO whO
    have := apN_1 p.1
    by_cases c : 256 < apN p.1
    · rw [if_pos c, if_pos c]; exact ⟨by omega, by omega, fun _ => by omega⟩
    · rw [if_neg c, if_neg c]; exact ⟨by omega, by omega, fun z => by cases z⟩
  have e8 : h a 8 = ((rwsO p.2.2.2).length : Int) := by rw [r1]; omega
  have e11 : h a 11 = ((lwsO p.2.2.2).length : Int) := by rw [l1]; omega
  refine ⟨?_, ?_, by rw [a16]; exact y1, lnS_k o3 (by decide) (by decide) (by decide) (by decide), ⟨lnS_k o3 (by decide) (by decide) (by decide) (by decide), lnS_k o3 (by decide) (by decide) (by decide) (by decide), lnS_k o3 (by decide) (by decide) (by decide) (by decide)⟩, ⟨?_, PT.1⟩, VA_of hB s2 g G R, y2, ?_, o3, o4⟩
  · unfold seX
    rw [a16]
    refine ⟨⟨LA, ⟨s1, s2, s3, fun z => absurd z ne1, s4, fun z => absurd z ne1, l269, s6⟩, s5, o1⟩, ⟨x2, by show 1 ≤ (p.1.length : Int); omega, by show (p.1.length : Int) ≤ 3; omega, fun k k0 k1 => (x5 k k0 k1).1⟩, ⟨w1, fun z => ⟨PT.2.2 z, fun _ _ _ => rfl⟩, PT.2.1⟩, ⟨?_, by show 0 ≤ (p.2.2.1.length : Int); omega, by show (p.2.2.1.length : Int) ≤ 12; omega, fun k k0 k1 => ?_⟩, fun _ _ => rfl⟩
    · rw [z2]; show ((min p.2.2.1.length 12 : Nat) : Int) = (p.2.2.1.length : Int); omega
    · have k1 : k < (p.2.2.1.length : Int) := k1
      have e := nmN_g (ns := p.2.2.1) k0 k1
      obtain ⟨v1, v2, v3, v4⟩ := z1 k.toNat (by omega) _ e
      rw [show ((k.toNat : Nat) : Int) = k by omega] at v1 v2 v3 v4
      refine ⟨?_, v2, v3, v4⟩
      rw [v1]
      obtain ⟨v, _⟩ := G.1.2.2 k.toNat _ e
      show _ = pcA B n E (nmN p.2.2.1 k).1
      by_cases c : isVl B n (nmN p.2.2.1 k).1
      · rw [if_pos c]; exact (show pcA B n E (nmN p.2.2.1 k).1 = -1 from if_pos c).symm
      · rw [if_neg c]
        have := v.resolve_left c
        omega
  · unfold mtX
    rw [a16]
    refine ⟨⟨LA, ⟨s1, AC, wOK_c (E := E) (E' := evF E (akO B n E p (fun s => h (a + 6) s) (fun c => h 270 c))) rfl s3, ownX_c (E := E) (E' := evF E (akO B n E p (fun s => h (a + 6) s) (fun c => h 270 c))) rfl ne1 s4, l269, s6⟩, o2, fun c c0 c1 => ⟨rfl, o1.1 c c0 c1⟩, o1.2⟩, ⟨x2, by show 1 ≤ (p.1.length : Int); omega, by show (p.1.length : Int) ≤ 3; omega, fun k k0 k1 => (x5 k k0 k1).1, w1, fun c => ⟨a6.1, a6.2, fun r k r0 r1' k0 k1 => ?_⟩⟩, ⟨e8, by show 0 ≤ ((rwsO p.2.2.2).length : Int); omega, by show ((rwsO p.2.2.2).length : Int) ≤ 12; omega, fun r r0 r1' => ?_, PT.2.1⟩, ⟨e11, by show 0 ≤ ((lwsO p.2.2.2).length : Int); omega, by show ((lwsO p.2.2.2).length : Int) ≤ 4; omega, fun l q0 q1 => ?_⟩, fun lf => ?_⟩
    · have r1' : r < ((rwsO p.2.2.2).length : Int) := r1'
      have k1 : k < (p.1.length : Int) := k1
      have wh : ¬ 256 < apN p.1 := fun z => c (show whO p = 0 from if_pos z)
      have RV := R r k r0 r1' k0 k1
      have b := vlR_b (rw_v hB G r0 r1' k0 k1).2 (k01_of g ((ap_rw g).2 wh).2.1 k k0 k1)
      rw [← RV] at b
      exact ⟨rfl, b.1, b.2⟩
    · have r1' : r < ((rwsO p.2.2.2).length : Int) := r1'
      have w := (r2 r.toNat (by omega) _ (rwN_g r0 r1')).1
      rw [show ((r.toNat : Nat) : Int) = r by omega] at w
      exact ⟨w, rp_r hB g G R r0 r1'⟩
    · have q1 : l < ((lwsO p.2.2.2).length : Int) := q1
      have e := lwN_g q0 q1
      obtain ⟨v, w, e1, e2, ⟨e3, e4⟩, e5, ⟨v0, v1, u0, u1⟩, f1, f2⟩ := l2 l.toNat (by omega) _ e
      obtain ⟨d1, d2, d3, d4, _⟩ := G.2.2.2 l.toNat _ e
      rw [show ((l.toNat : Nat) : Int) = l by omega] at e1 e2 e3 e5
      unfold lwX
      rw [a16]
      refine ⟨by show 1 ≤ ((lwN (lwsO p.2.2.2) l).1.length : Int); omega, by show ((lwN (lwsO p.2.2.2) l).1.length : Int) ≤ 2; omega, e3, fun k k0 k1 => ?_, ?_, ?_⟩
      · have k1 : k < ((lwN (lwsO p.2.2.2) l).1.length : Int) := k1
        have yy := d2 _ (nmN_m k0 k1)
        exact ⟨e5 k k0 k1, yy.1, yy.2⟩
      · rw [e1]
        exact sdX_of hB hn s2 s6 g y2 (by omega) d2 d3.1 d3.2 cp iX ⟨v0, v1, tt.2⟩ f1
      · rw [e2]
        exact sdX_of hB hn s2 s6 g y2 (by omega) d2 d4.1 d4.2 cp iX ⟨u0, u1, tt.2⟩ f2
    · have lf : (if ((lwsO p.2.2.2).length : Int) = 0 then (0 : Int) else 1) = 1 := lf
      have lp : 0 < (lwsO p.2.2.2).length := by
        by_cases c : ((lwsO p.2.2.2).length : Int) = 0
        · rw [if_pos c] at lf; cases lf
        · omega
      have wh := lw_wh g G lp
      obtain ⟨pe1, pe2⟩ := ptE_r (B := B) (n := n) (E := E) (p := p) (rv := fun s => h (a + 6) s) (hl := fun c => h 270 c) g wh
      refine ⟨by rw [eO_2]; exact x2, fun k k0 k1 => ?_, pe2⟩
      obtain ⟨e, le⟩ := pe1 k k0 k1
      rw [e]
      have k1 : k < (p.1.length : Int) := by have := k1; rw [eO_2] at this; exact this
      exact ⟨(x5 k k0 k1).1, le⟩
  · rw [a16, w2]
    show (if 256 < apN p.1 then ((min (rwsO p.2.2.2).length 12 : Nat) : Int) else apN p.1) = ptO p
    unfold ptO
    rw [show min (rwsO p.2.2.2).length 12 = (rwsO p.2.2.2).length by omega]
  · show whO p = 0 ∨ whO p = 1
    unfold whO
    split
    · exact Or.inl rfl
    · exact Or.inr rfl

