/-! m: a loop is read, whole -/
def frLm (a D : Int) (h h' : AH) : Prop := ∀ b s, ¬ (b = 454 ∧ (s = 17 ∨ (26 ≤ s ∧ s ≤ 31) ∨ s = 34)) → ¬ (b = 472 ∧ (s = 6 ∨ s = 7)) → ¬ (460 ≤ b ∧ b ≤ 470 ∧ b ≠ 464 ∧ D ≤ s ∧ s < D + 1100) → ¬ (b = 464 ∧ 3 * D ≤ s ∧ s < 3 * D + 3300) → ¬ (b = a ∧ 1 ≤ s ∧ s ≤ 8) → ¬ (a + 1 ≤ b ∧ b ≤ a + 4 ∧ 0 ≤ s ∧ s < 4) → ¬ ((b = 474 ∨ b = 475) ∧ 0 ≤ s ∧ s < 3) → h' b s = h b s
theorem frL_t {a D : Int} {h h1 h2 : AH} (x : frLm a D h h1) (y : frLm a D h1 h2) : frLm a D h h2 := fun b s y1 y2 y3 y4 y5 y6 y7 => (y b s y1 y2 y3 y4 y5 y6 y7).trans (x b s y1 y2 y3 y4 y5 y6 y7)
theorem frL_p {a D : Int} {h h' : AH} (f : ∀ b s, ¬ (b = 454 ∧ 26 ≤ s ∧ s ≤ 31) → ¬ (b = 472 ∧ (s = 6 ∨ s = 7)) → h' b s = h b s) : frLm a D h h' := fun b s y1 y2 _ _ _ _ _ => f b s (by omega) y2
theorem frL_m {a D N : Int} {h h' : AH} (d : D ≤ N) (t : h' 454 17 ≤ D + 1100) (f : frM N h h') : frLm a D h h' := fun b s y1 y2 y3 y4 _ _ _ => f b s (by omega) y2 (by omega) (by omega)
theorem frL_a {a c D N : Int} {h h' : AH} (d : D ≤ N) (t : h' 454 17 ≤ D + 1100) (x : c = a + 3 ∨ c = a + 4) (f : frMa c N h h') : frLm a D h h' := fun b s y1 y2 y3 y4 _ y6 _ => f b s (by omega) y2 (by omega) (by omega) (by omega)
theorem frL_o {a D : Int} {h h' : AH} (f : ∀ b s, ¬ (b = a ∧ 1 ≤ s ∧ s ≤ 8) → ¬ (b = 454 ∧ s = 17) → h' b s = h b s) : frLm a D h h' := fun b s y1 _ _ _ y5 _ _ => f b s y5 (by omega)
theorem lsW_of {h : AH} {a D : Int} {E : EV} {l : List TR} (x : tmsM h a D l) (g : ∀ t, t ∈ l → gT t ∧ wpT t ∧ dpT t ≤ 12 ∧ hlT t = 0) (d0 : 0 ≤ D) (s : D + szL l ≤ 8800 ∧ szL l ≤ 1100) : lsW h a D E l 0 := fun i i4 t e => by
  obtain ⟨x1, x2⟩ := x i i4 t e
  obtain ⟨g1, g2, g3, g4⟩ := g t (List.mem_of_getElem? e)
  have k := szL_tk l i t e
  have k0 := szL_0 (l.take i)
  exact ⟨x1, Or.inl ⟨by omega, ⟨x2, g1, g2, by omega, by omega, by omega⟩, g4, by omega⟩⟩
/-- what m has of a loop that was read -/
def loC (h : AH) (a D : Int) (E : EV) (p : LPt) : Prop := (h a 2 = (p.1.length : Int) ∧ kC h (a + 1) p.1) ∧ (h a 4 = ((skL (EL E p.1) p.2.1).length : Int) ∧ skW h (a + 2) (EL E p.1) p.2.1 3) ∧ (∀ i : Nat, i < 3 → ∀ t, p.2.1[i]? = some t → D ≤ h (a + 3) i ∧ h (a + 3) i + sz t ≤ D + 1100 ∧ dnM h (EL E p.1) t (h (a + 3) i)) ∧ (∀ i : Nat, i < (skL (EL E p.1) p.2.1).length → ∀ t, p.2.2.2.2.1[i]? = some t → D ≤ h (a + 4) i ∧ h (a + 4) i + sz t ≤ D + 1100 ∧ dnM h (EL E (skL (EL E p.1) p.2.1)) t (h (a + 4) i)) ∧ (D ≤ h a 6 ∧ h a 6 + sz p.2.2.1 ≤ D + 1100 ∧ dnM h (EL E (skL (EL E p.1) p.2.1)) p.2.2.1 (h a 6)) ∧ (D ≤ h a 8 ∧ h a 8 + sz p.2.2.2.2.2 ≤ D + 1100 ∧ dnM h (EL E (skL (EL E p.1) p.2.1)) p.2.2.2.2.2 (h a 8))
def vLM (a D : Int) (E : EV) (P : Int ⊕ LPt) (t : Int) (h' : AH) : Prop := match P with
  | .inl z => t = 472 ∧ MF z h'
  | .inr p => resK (fkLoM E p) t h' ∧ loC h' a D E p
theorem tms_l {B : Int → Int} {n q t y v : Int} {a D : Int} {h' : AH} (tm : (t = 0 ∧ ∃ l q2, pTs B n q = .inr (l, q2) ∧ MS B n q2 h' ∧ bkT q D a l y q2 h') ∨ (t = 472 ∧ ∃ z, pTs B n q = .inl z ∧ MF z h')) : (¬ t = 0 → t = 472 ∧ ∃ z, pTs B n q = .inl z ∧ MF z h') ∧ (t = 0 → ∃ l q2, pTs B n q = .inr (l, q2) ∧ MS B n q2 h' ∧ bkT q D a l y q2 h') := by
  rcases tm with x | x
  · exact ⟨fun z => absurd x.1 z, fun _ => x.2⟩
  · exact ⟨fun _ => x, fun z => by have := x.1; omega⟩
theorem pTs_o {B : Int → Int} {n q q1 : Int} {l : List TR} (hB : ∀ i, 0 ≤ i → i < n → 0 ≤ B i ∧ B i < 256) (hn : n ≤ 2000) (q0 : 0 ≤ q) (qn : q ≤ n) (o5 : tO B n q ≠ 5) (e : pTs B n q = .inr (l, q1)) : l ≠ [] ∧ ordL q l ∧ (∀ t, t ∈ l → plT t < q1 ∧ dpT t ≤ 12 ∧ hlT t = 0) ∧ (∀ t, t ∈ l → gT t ∧ wpT t ∧ dpT t ≤ 12 ∧ hlT t = 0) ∧ q < q1 ∧ q1 ≤ n ∧ tO B n q1 ≠ 5 := by
  obtain ⟨m, m1, m2, m3, m4, m5, m6, m7⟩ := pKs_ord hB hn 2002 [] q l q1 q0 qn o5 e
  have e2 : l = m := m1
  subst e2
  exact ⟨m2, m3, m4, fun t y => ⟨(ordL_m m3 t y).1, (ordL_m m3 t y).2, (m4 t y).2.1, (m4 t y).2.2⟩, m5, m6, m7⟩
theorem toW_of {B : Int → Int} {n q q1 v : Int} {T : TR} {h : AH} (hB : ∀ i, 0 ≤ i → i < n → 0 ≤ B i ∧ B i < 256) (hn : n ≤ 2000) (q0 : 0 ≤ q) (qn : q ≤ n) (o5 : tO B n q ≠ 5) (e : pT B n false 13 q = .inr (T, q1)) (r : rawM h T v 0 (v + 1) (-1)) (v0 : 0 ≤ v) (s : v + sz T ≤ 8800 ∧ sz T ≤ 1100) : toW h T v := by
  have w := pT_wp hB 13 q T q1 q0 qn o5 e
  have k := pT_ok hB hn 13 q T q1 q0 qn o5 e
  have d : dpT T + 1 ≤ 13 := k.2
  exact ⟨⟨r, k.1, w.1, v0, s.1, by omega⟩, pT_h0 13 q T q1 e, s.2⟩
/-- what the reader of a loop has from its start -/
def rlB (B : Int → Int) (n a D : Int) (E : EV) (Rf : Int → TR) (h : AH) : Prop := (isLm a ∧ h a 0 = D ∧ 2200 ≤ D ∧ D ≤ 3300) ∧ TM B n h ∧ (actM h E ∧ ewO E ∧ ownM h E.1.1 E.1.2.2.2.1 Rf ∧ E.2.2.1 = 0 ∧ (0 ≤ h 454 35 ∧ h 454 35 ≤ 2000)) ∧ (h (a + 1) (-2) = 101 ∧ h (a + 1) (-1) = 2) ∧ (h (a + 2) (-2) = 101 ∧ h (a + 2) (-1) = 3) ∧ (h (a + 3) (-2) = 101 ∧ h (a + 3) (-1) = 4) ∧ (h (a + 4) (-2) = 101 ∧ h (a + 4) (-1) = 4)
theorem rlB_a {B : Int → Int} {n a D : Int} {E : EV} {Rf : Int → TR} {h hh : AH} (x : rlB B n a D E Rf h) (f : frLm a D h hh) : TM B n hh ∧ (hh (a + 1) (-2) = 101 ∧ hh (a + 1) (-1) = 2) ∧ (hh (a + 2) (-2) = 101 ∧ hh (a + 2) (-1) = 3) ∧ (hh (a + 3) (-2) = 101 ∧ hh (a + 3) (-1) = 4) ∧ (hh (a + 4) (-2) = 101 ∧ hh (a + 4) (-1) = 4) := by
  obtain ⟨x1, x2, x3, x4⟩ := x
  have LA : a = 805 ∨ a = 810 := x1.1
  have F : ∀ b s, s < 0 → hh b s = h b s := fun b s z => f b s (by omega) (by omega) (by omega) (by omega) (by omega) (by omega) (by omega)
  refine ⟨TM_fr x2 (f _ _ (by omega) (by omega) (by omega) (by omega) (by omega) (by omega) (by omega)) (fun s => f _ _ (by omega) (by omega) (by omega) (by omega) (by omega) (by omega) (by omega)), ?_⟩
  rw [F _ _ (by decide), F _ _ (by decide), F _ _ (by decide), F _ _ (by decide), F _ _ (by decide), F _ _ (by decide), F _ _ (by decide), F _ _ (by decide)]
  exact x4
/-- cells the rest of the reader may change -/
def frRl (a N : Int) (h h' : AH) : Prop := ∀ b s, ¬ (b = 454 ∧ (s = 17 ∨ (26 ≤ s ∧ s ≤ 29) ∨ s = 34)) → ¬ (b = 472 ∧ (s = 6 ∨ s = 7)) → ¬ (460 ≤ b ∧ b ≤ 470 ∧ b ≠ 464 ∧ N ≤ s) → ¬ (b = 464 ∧ 3 * N ≤ s) → ¬ (b = a ∧ (s = 6 ∨ s = 8)) → ¬ (b = a + 4 ∧ 0 ≤ s ∧ s < 4) → ¬ ((b = 474 ∨ b = 475) ∧ 0 ≤ s ∧ s < 3) → h' b s = h b s
theorem frRl_t {a N N' : Int} {h h1 h2 : AH} (le : N ≤ N') (x : frRl a N h h1) (y : frRl a N' h1 h2) : frRl a N h h2 := fun b s y1 y2 y3 y4 y5 y6 y7 => (y b s y1 y2 (by omega) (by omega) y5 y6 y7).trans (x b s y1 y2 y3 y4 y5 y6 y7)
/-- the terms in front of a loop, read -/
def rlS (a D : Int) (E : EV) (l : List Int) (ts : List TR) (h : AH) : Prop := (h 454 30 = 0 ∧ h 454 31 = 2147483647) ∧ (h a 2 = (l.length : Int) ∧ kC h (a + 1) l ∧ l.length ≤ 2) ∧ lsW h (a + 3) D (EL E l) ts 0 ∧ ordL 0 ts
theorem rlS_f {a D : Int} {E : EV} {l : List Int} {ts : List TR} {h h' : AH} (LA : a = 805 ∨ a = 810) (x : rlS a D E l ts h) (f : frRl a (D + szL ts) h h') : rlS a D E l ts h' := by
  obtain ⟨⟨x1, x2⟩, ⟨x3, x4, x5⟩, x6, x7⟩ := x
  refine ⟨⟨by rw [f _ _ (by omega) (by omega) (by omega) (by omega) (by omega) (by omega) (by omega)]; exact x1, by rw [f _ _ (by omega) (by omega) (by omega) (by omega) (by omega) (by omega) (by omega)]; exact x2⟩, ⟨by rw [f _ _ (by omega) (by omega) (by omega) (by omega) (by omega) (by omega) (by omega)]; exact x3, fun k k0 k1 => by rw [f _ _ (by omega) (by omega) (by omega) (by omega) (by omega) (by omega) (by omega)]; exact x4 k k0 k1, x5⟩, lsW_o x6 (fun i i0 i1 => f _ _ (by omega) (by omega) (by omega) (by omega) (by omega) (by omega) (by omega)) (fun i i4 t e => ?_), x7⟩
  have k := szL_tk ts i t e
  have k0 := szL_0 (ts.take i)
  exact ⟨fun b s _ _ _ _ _ _ => f _ _ (by omega) (by omega) (by omega) (by omega) (by omega) (by omega) (by omega), fun s _ _ => f _ _ (by omega) (by omega) (by omega) (by omega) (by omega) (by omega) (by omega), fun s _ _ => f _ _ (by omega) (by omega) (by omega) (by omega) (by omega) (by omega) (by omega)⟩
theorem toW_r {a N v : Int} {T : TR} {h h' : AH} (LA : a = 805 ∨ a = 810) (x : toW h T v) (le : v + sz T ≤ N) (f : frRl a N h h') : toW h' T v := toW_f x ⟨fun b s _ _ _ _ _ _ => f _ _ (by omega) (by omega) (by omega) (by omega) (by omega) (by omega) (by omega), fun s _ _ => f _ _ (by omega) (by omega) (by omega) (by omega) (by omega) (by omega) (by omega), fun s _ _ => f _ _ (by omega) (by omega) (by omega) (by omega) (by omega) (by omega) (by omega)⟩
theorem lsW_r {a c D N : Int} {E : EV} {l : List TR} {h h' : AH} (LA : a = 805 ∨ a = 810) (x : lsW h c D E l 0) (ec : ∀ i, 0 ≤ i → i < 4 → h' c i = h c i) (le : D + szL l ≤ N) (f : frRl a N h h') : lsW h' c D E l 0 := lsW_o x ec (fun i i4 t e => by
  have k := szL_tk l i t e
  have k0 := szL_0 (l.take i)
  exact ⟨fun b s _ _ _ _ _ _ => f _ _ (by omega) (by omega) (by omega) (by omega) (by omega) (by omega) (by omega), fun s _ _ => f _ _ (by omega) (by omega) (by omega) (by omega) (by omega) (by omega) (by omega), fun s _ _ => f _ _ (by omega) (by omega) (by omega) (by omega) (by omega) (by omega) (by omega)⟩)
theorem pN_s {B : Int → Int} {n w q q1 : Int} (e : pN B n w q = .inr q1) : isN B n q w ∧ nx B n q = .inr q1 := by
  have g : isN B n q w := Classical.byContradiction (fun z => by unfold pN at e; rw [if_neg z] at e; cases e)
  unfold pN at e
  rw [if_pos g] at e
  exact ⟨g, e⟩
noncomputable def gX14_readLoop_k3 (a1 : Int) (v25 : Int) (x39 : Int) (v47 : Int) (h : AH) : Option (Int × AH) := if h 454 27 = 0 then (jb (gX14_parameters (a1 + 1) 0 (h a1 2) h) fun h63 => jb (gX14_readLoop_l138 a1 v25 x39 v47 0 h63) fun o64 => gX14_readLoop_j232 a1 v25 x39 v47 o64) else (jb2 (gX14_fail 1 (h 454 29) h) fun v67 h68 => jg (¬ v67 = 0 ∧ v67 = 472) <| some (472, h68))
noncomputable def gX14_readLoop_k2 (a1 : Int) (v25 : Int) (x39 : Int) (v47 : Int) (h : AH) : Option (Int × AH) := jb2 (gX14_passName 144941 h) fun t51 h53 => jq t51 (some (t51, h53)) <| jb3 (gX14_takeTerm 0 0 h53) fun t56 v57 h58 => jq t56 (some (t56, h58)) <| jl (jst h58 a1 8 v57) fun h60 => gX14_readLoop_k3 a1 v25 x39 v47 h60
noncomputable def gX14_readLoop_k1 (a1 : Int) (v25 : Int) (h : AH) : Option (Int × AH) := jb2 (gX14_passName 12387497 h) fun t29 h31 => jq t29 (some (t29, h31)) <| jb3 (gX14_takeTerm 0 0 h31) fun t34 v35 h36 => jq t34 (some (t34, h36)) <| jl (jst h36 a1 6 v35) fun h38 => jl (h38 454 29) fun x39 => jb2 (gX14_passName 123 h38) fun t41 h43 => jq t41 (some (t41, h43)) <| jb3 (gX14_terms (a1 + 4) h43) fun t46 v47 h48 => jq t46 (some (t46, h48)) <| gX14_readLoop_k2 a1 v25 x39 v47 h48
theorem wg63 {B : Int → Int} {n a D : Int} {E : EV} {Rf : Int → TR} {l : List Int} {h0 h h63 : AH} (bb : rlB B n a D E Rf h0) (F63 : frLm a D h0 h63) (V63 : h63 454 30 = 0 ∧ h63 454 31 = 2147483647) (l2 : l.length ≤ 2) (pp : h63 454 34 = (l.length : Int) ∧ ∀ k, 0 ≤ k → k < (l.length : Int) → h63 474 k = k + 1 ∧ h63 475 k = h (a + 1) (0 + k)) (kc : ∀ k, 0 ≤ k → k < (l.length : Int) → h (a + 1) k = kch (kL l k) ∧ 0 ≤ kL l k ∧ kL l k ≤ 2) : wgM h63 E Rf l := by
  obtain ⟨lo, t, en, ar⟩ := bb
  have LA : a = 805 ∨ a = 810 := lo.1
  have G63 : ∀ b s, ¬ (b = 454 ∧ (s = 17 ∨ (26 ≤ s ∧ s ≤ 31) ∨ s = 34)) → ¬ (b = 472 ∧ (s = 6 ∨ s = 7)) → ¬ (460 ≤ b ∧ b ≤ 470 ∧ 2200 ≤ s) → ¬ (805 ≤ b ∧ b ≤ 814) → ¬ ((b = 474 ∨ b = 475) ∧ 0 ≤ s ∧ s < 3) → h63 b s = h0 b s := fun b s y1 y2 y3 y4 y5 => F63 b s y1 y2 (by omega) (by omega) (by omega) (by omega) y5
  refine ⟨Or.inl V63, by rw [G63 _ _ (by omega) (by omega) (by omega) (by omega) (by omega)]; exact en.2.2.2.2, actM_fr en.1 (G63 _ _ (by omega) (by omega) (by omega) (by omega) (by omega)) (fun b s a0 a1 => G63 _ _ (by omega) (by omega) (by omega) (by omega) (by omega)), ⟨pp.1, by show 0 ≤ (l.length : Int); omega, by show (l.length : Int) ≤ 3; omega, fun k k0 k1 => ?_⟩, en.2.2.2.1, en.2.1, ownM_fr en.2.2.1 ⟨fun b s a0 a1 a2 s0 s1 => F63 _ _ (by omega) (by omega) (by omega) (by omega) (by omega) (by omega) (by omega), fun s s0 s1 => F63 _ _ (by omega) (by omega) (by omega) (by omega) (by omega) (by omega) (by omega)⟩ (fun b a0 a1 => G63 _ _ (by omega) (by omega) (by omega) (by omega) (by omega))⟩
  have k1' : k < (l.length : Int) := k1
  have p := pp.2 k k0 k1'
  have y := kc k k0 k1'
  rw [Int.zero_add, y.1] at p
  exact ⟨p.1, p.2, by show -1 ≤ kL l k; omega, y.2.2⟩
theorem rl_fin {a D v25 v47 x39 t : Int} {E : EV} {l : List Int} {ts gs : List TR} {c g : TR} {h h63 o64 y2 : AH} (LA : a = 805 ∨ a = 810) (D0 : 2200 ≤ D) (ln : (ts.length : Int) = v25 ∧ (gs.length : Int) = v47 ∧ D + szL ts + sz c + szL gs + sz g ≤ D + 1100) (SL : (skL (EL E l) ts).length = min 3 ts.length) (OT : ordL 0 ts) (K60 : h a 2 = (l.length : Int) ∧ kC h (a + 1) l ∧ l.length ≤ 2) (MK63 : MK h63 = 1000000) (mk : MK o64 = min (MK h63) (fkF (EL E l) (ts.take 4) 0)) (ls : lsW o64 (a + 3) D (EL E l) ts v25 ∧ skW o64 (a + 2) (EL E l) ts v25)
    (R64 : ∀ b s, ¬ (b = 454 ∧ (s = 30 ∨ s = 31)) → ¬ (461 ≤ b ∧ b ≤ 463 ∧ D ≤ s ∧ s < D + szL ts) → ¬ (b = a + 2 ∧ 0 ≤ s ∧ s < 3) → o64 b s = h63 b s) (C60 : ∀ b s, ¬ (b = 454 ∧ s = 34) → ¬ ((b = 474 ∨ b = 475) ∧ 0 ≤ s ∧ s < 3) → h63 b s = h b s)
    (rk : resK (min (MK o64) (min (min (keyE (EL E (skL (EL E l) ts)) 1 c) (if gs.length = ts.length then 1000000 else x39 * 8 + 4)) (min (fkG (EL E (skL (EL E l) ts)) (skL (EL E l) ts) (gs.take (skL (EL E l) ts).length) 0) (keyE (EL E (skL (EL E l) ts)) (-1) g)))) t y2)
    (ld : loD y2 a (D + szL ts + sz c) E (skL (EL E l) ts) gs g ∧ y2 a 6 = D + szL ts ∧ dnM y2 (EL E (skL (EL E l) ts)) c (D + szL ts) ∧ y2 a 4 = ((skL (EL E l) ts).length : Int))
    (Q12 : ∀ b s, ¬ (b = 454 ∧ (s = 30 ∨ s = 31 ∨ s = 34)) → ¬ (b = 472 ∧ (s = 6 ∨ s = 7)) → ¬ (461 ≤ b ∧ b ≤ 463 ∧ D + szL ts ≤ s ∧ s < D + szL ts + sz c + szL gs + sz g) → ¬ ((b = 474 ∨ b = 475) ∧ 0 ≤ s ∧ s < 3) → ¬ (b = a ∧ s = 4) → y2 b s = o64 b s) : vLM a D E (.inr (l, ts, c, x39, gs, g)) t y2 := by
  have S1 := szL_0 ts
  have S2 := szL_0 gs
  have sc := sz_pos c
  have sg := sz_pos g
  refine ⟨?_, ⟨?_, ?_⟩, ⟨ld.2.2.2, ?_⟩, ?_, ?_, ?_, ?_⟩
  · rw [mk, MK63] at rk
    have ee : fkLoM E (l, ts, c, x39, gs, g) = min (min 1000000 (fkF (EL E l) (ts.take 4) 0)) (min (min (keyE (EL E (skL (EL E l) ts)) 1 c) (if gs.length = ts.length then 1000000 else x39 * 8 + 4)) (min (fkG (EL E (skL (EL E l) ts)) (skL (EL E l) ts) (gs.take (skL (EL E l) ts).length) 0) (keyE (EL E (skL (EL E l) ts)) (-1) g))) := by
      have fb := fkF_b (E := EL E l) (l := ts.take 4) (lo := 0) (i := 0) (by decide) (by decide) (ordL_take 4 OT)
      unfold fkLoM
      dsimp only
      omega
    rw [ee]; exact rk
  · show y2 a 2 = (l.length : Int)
    rw [Q12 _ _ (by omega) (by omega) (by omega) (by omega) (by omega), R64 _ _ (by omega) (by omega) (by omega), C60 _ _ (by omega) (by omega)]; exact K60.1
  · intro k k0 k1
    rw [Q12 _ _ (by omega) (by omega) (by omega) (by omega) (by omega), R64 _ _ (by omega) (by omega) (by omega), C60 _ _ (by omega) (by omega)]; exact K60.2.1 k k0 k1
  · intro i i3 _ u e
    have il : i < ts.length := (List.getElem?_eq_some_iff.mp e).1
    rw [Q12 _ _ (by omega) (by omega) (by omega) (by omega) (by omega)]; exact ls.2 i i3 (by omega) u e
  · intro i i3 u e
    have il : i < ts.length := (List.getElem?_eq_some_iff.mp e).1
    have k := szL_tk ts i u e
    have k0 := szL_0 (ts.take i)
    obtain ⟨x1, x2⟩ := ls.1 i (by omega) u e
    have x3 : dnM o64 (EL E l) u (o64 (a + 3) i) := by
      rcases x2 with y | y
      · omega
      · exact y.2
    show D ≤ y2 (a + 3) i ∧ y2 (a + 3) i + sz u ≤ D + 1100 ∧ dnM y2 (EL E l) u (y2 (a + 3) i)
    rw [Q12 (a + 3) i (by omega) (by omega) (by omega) (by omega) (by omega), x1]
    rw [x1] at x3
    exact ⟨by omega, by omega, dnM_f x3 ⟨fun b s _ _ _ _ _ => Q12 _ _ (by omega) (by omega) (by omega) (by omega) (by omega), fun s _ _ => Q12 _ _ (by omega) (by omega) (by omega) (by omega) (by omega)⟩⟩
  · intro i i3 u e
    have k := szL_tk gs i u e
    have k0 := szL_0 (gs.take i)
    have i3' : i < (skL (EL E l) ts).length := i3
    obtain ⟨x1, x2⟩ := ld.1.1 i (by omega) u e i3'
    show D ≤ y2 (a + 4) i ∧ y2 (a + 4) i + sz u ≤ D + 1100 ∧ dnM y2 (EL E (skL (EL E l) ts)) u (y2 (a + 4) i)
    rw [x1]; exact ⟨by omega, by omega, x2⟩
  · show D ≤ y2 a 6 ∧ y2 a 6 + sz c ≤ D + 1100 ∧ dnM y2 (EL E (skL (EL E l) ts)) c (y2 a 6)
    rw [ld.2.1]; exact ⟨by omega, by omega, ld.2.2.1⟩
  · show D ≤ y2 a 8 ∧ y2 a 8 + sz g ≤ D + 1100 ∧ dnM y2 (EL E (skL (EL E l) ts)) g (y2 a 8)
    rw [ld.1.2.1]; exact ⟨by omega, by omega, ld.1.2.2⟩
theorem vX14_readLoop_k3 (a1 : Int) (v25 : Int) (x39 : Int) (v47 : Int) {h : AH} {B : Int → Int} {n D q10 : Int} {E : EV} {Rf : Int → TR} {h0 : AH} {l : List Int} {ts gs : List TR} {c g : TR} (hB : ∀ i, 0 ≤ i → i < n → 0 ≤ B i ∧ B i < 256) (bb : rlB B n a1 D E Rf h0) (fr0 : frLm a1 D h0 h) (ms : MS B n q10 h) (rs : rlS a1 D E l ts h) (tc : toW h c (D + szL ts) ∧ h a1 6 = D + szL ts) (lg : lsW h (a1 + 4) (D + szL ts + sz c) (EL E l) gs 0) (tg : toW h g (D + szL ts + sz c + szL gs) ∧ h a1 8 = D + szL ts + sz c + szL gs) (ln : (ts.length : Int) = v25 ∧ (gs.length : Int) = v47 ∧ D + szL ts + sz c + szL gs + sz g ≤ D + 1100 ∧ 0 ≤ x39 ∧ x39 ≤ 2001) : OK (gX14_readLoop_k3 a1 v25 x39 v47 h) (fun r => jt2 r fun t h' => (vLM a1 D E (bS (pE B n q10) fun _ => .inr (l, ts, c, x39, gs, g)) t h') ∧ (frLm a1 D h0 h')) := by
  obtain ⟨TR0, AR1, AR2, AR3, AR4⟩ := rlB_a bb fr0
  have LO : isLm a1 ∧ 2200 ≤ D ∧ D ≤ 3300 := ⟨bb.1.1, bb.1.2.2⟩
  have LA : a1 = 805 ∨ a1 = 810 := LO.1
  have OM : h 454 27 = tO B n q10 := ms.1.2.1
  obtain ⟨V26, K60, LS, OT⟩ := id rs
  have S1 := szL_0 ts
  have S2 := szL_0 gs
  have sc := sz_pos c
  have sg := sz_pos g
  unfold gX14_readLoop_k3
  refine OK_if (fun c1 => ?_) (fun c1 => ?_)
  · skip
    try simp (disch := omega) only [jst_eq, jst_ne, jst_ni, jI_i, jcmp_lt, jcmp_gt, w32_id, jcpy_out, Sum.elim_inl, Sum.elim_inr, jt2, jt3, jt4, jt5, jt6, jt7, jt8] at c1
    have O10 : tO B n q10 = 0 := by { rw [← OM]; exact c1 }
    have PO12 : (bS (pE B n q10) fun _ => (.inr (l, ts, c, x39, gs, g) : Int ⊕ LPt)) = .inr (l, ts, c, x39, gs, g) := by { have e : pE B n q10 = .inr q10 := if_pos O10; rw [e]; rfl }
    rw [K60.1]
    refine OK_jb (vX14_parameters _ _ _ (by omega) (by exact ⟨AR1.1, by omega, by omega, by omega, by omega⟩)) (fun h63 r1 => ?_)
    try dsimp only [Sum.elim_inl, Sum.elim_inr, jt2, jt3, jt4, jt5, jt6, jt7, jt8] at r1
    obtain ⟨pp1, fr1⟩ := r1
    try simp (disch := omega) only [jst_eq, jst_ne, jst_ni, jI_i, jcmp_lt, jcmp_gt, w32_id, jcpy_out, Sum.elim_inl, Sum.elim_inr, jt2, jt3, jt4, jt5, jt6, jt7, jt8] at pp1
    try simp (disch := omega) only [jst_eq, jst_ne, jst_ni, jI_i, jcmp_lt, jcmp_gt, w32_id, jcpy_out, Sum.elim_inl, Sum.elim_inr, jt2, jt3, jt4, jt5, jt6, jt7, jt8] at fr1
    have C60 : ∀ b s, ¬ (b = 454 ∧ s = 34) → ¬ ((b = 474 ∨ b = 475) ∧ 0 ≤ s ∧ s < 3) → h63 b s = h b s := fr1
    have F63 : frLm a1 D h0 h63 := frL_t fr0 (fun b s y1 _ _ _ _ _ y7 => C60 b s (by omega) y7)
    have R60 : ∀ N, frRl a1 N h h63 := fun N b s y1 _ _ _ _ _ y7 => C60 b s (by omega) y7
    have V63 : h63 454 30 = 0 ∧ h63 454 31 = 2147483647 := by { rw [C60 _ _ (by omega) (by omega), C60 _ _ (by omega) (by omega)]; exact V26 }
    have MK63 : MK h63 = 1000000 := by { unfold MK; rw [if_pos (by omega)] }
    have WG63 : wgM h63 E Rf l := wg63 bb F63 V63 K60.2.2 pp1 (fun k k0 k1 => by { have y := K60.2.1 k k0 k1; exact y })
    have LS63 := (rlS_f LA rs (R60 _)).2.2.1
    refine OK_jb (vX14_readLoop_l138 (D := D) (E := E) (Rf := Rf) (l := l) (ts := ts) _ _ _ _ _ (by exact LO.1) (by exact WG63) (by exact LS63) (by omega) (by rfl)) (fun o64 r2 => ?_)
    try dsimp only [Sum.elim_inl, Sum.elim_inr, jt2, jt3, jt4, jt5, jt6, jt7, jt8] at r2
    obtain ⟨wg2, mk2, ls2, fr2⟩ := r2
    try simp (disch := omega) only [jst_eq, jst_ne, jst_ni, jI_i, jcmp_lt, jcmp_gt, w32_id, jcpy_out, Sum.elim_inl, Sum.elim_inr, jt2, jt3, jt4, jt5, jt6, jt7, jt8] at wg2
    try simp (disch := omega) only [jst_eq, jst_ne, jst_ni, jI_i, jcmp_lt, jcmp_gt, w32_id, jcpy_out, Sum.elim_inl, Sum.elim_inr, jt2, jt3, jt4, jt5, jt6, jt7, jt8] at mk2
    try simp (disch := omega) only [jst_eq, jst_ne, jst_ni, jI_i, jcmp_lt, jcmp_gt, w32_id, jcpy_out, Sum.elim_inl, Sum.elim_inr, jt2, jt3, jt4, jt5, jt6, jt7, jt8] at ls2
    try simp (disch := omega) only [jst_eq, jst_ne, jst_ni, jI_i, jcmp_lt, jcmp_gt, w32_id, jcpy_out, Sum.elim_inl, Sum.elim_inr, jt2, jt3, jt4, jt5, jt6, jt7, jt8] at fr2
    have SL := skL_len (E := EL E l) (ts := ts)
    have R64 : ∀ b s, ¬ (b = 454 ∧ (s = 30 ∨ s = 31)) → ¬ (461 ≤ b ∧ b ≤ 463 ∧ D ≤ s ∧ s < D + szL ts) → ¬ (b = a1 + 2 ∧ 0 ≤ s ∧ s < 3) → o64 b s = h63 b s := fr2
    have AG : ∀ lo hi, D + szL ts ≤ lo → agM lo hi h o64 := fun lo hi le => ⟨fun b s _ _ _ _ _ _ => by rw [R64 _ _ (by omega) (by omega) (by omega)]; exact C60 _ _ (by omega) (by omega), fun s _ _ => by rw [R64 _ _ (by omega) (by omega) (by omega)]; exact C60 _ _ (by omega) (by omega), fun s _ _ => by rw [R64 _ _ (by omega) (by omega) (by omega)]; exact C60 _ _ (by omega) (by omega)⟩
    have LG64 : lsW o64 (a1 + 4) (D + szL ts + sz c) (EL E l) gs 0 := lsW_o lg (fun i i0 i1 => by rw [R64 _ _ (by omega) (by omega) (by omega)]; exact C60 _ _ (by omega) (by omega)) (fun i i4 t e => by { have k0 := szL_0 (gs.take i); exact AG _ _ (by omega) })
    have TC64 : toW o64 c (D + szL ts) := toW_f tc.1 (AG _ _ (Int.le_refl _))
    have TG64 : toW o64 g (D + szL ts + sz c + szL gs) := toW_f tg.1 (AG _ _ (by omega))
    have E6 : o64 a1 6 = D + szL ts := by { rw [R64 _ _ (by omega) (by omega) (by omega), C60 _ _ (by omega) (by omega)]; exact tc.2 }
    have E8 : o64 a1 8 = D + szL ts + sz c + szL gs := by { rw [R64 _ _ (by omega) (by omega) (by omega), C60 _ _ (by omega) (by omega)]; exact tg.2 }
    have SK : ∀ k, 0 ≤ k → k < ((skL (EL E l) ts).length : Int) → o64 (a1 + 2) k = kch (kL (skL (EL E l) ts) k) ∧ -1 ≤ kL (skL (EL E l) ts) k ∧ kL (skL (EL E l) ts) k ≤ 2 := fun k k0 k1 => by { obtain ⟨t, t1, t2, t3⟩ := skL_k k0 k1; have il : k.toNat < ts.length := (List.getElem?_eq_some_iff.mp t1).1; have y := ls2.2 k.toNat t2 (by omega) t t1; rw [t3]; rw [show ((k.toNat : Nat) : Int) = k by omega] at y; exact y }
    refine OK_mono (vX14_readLoop_j232 (B := B) (n := n) (q := q10) (D := D + szL ts + sz c) (Dc := D + szL ts) (E := E) (Rf := Rf) (l := l) (sk := skL (EL E l) ts) (ts := ts) (gs := gs) (c := c) (g := g) _ _ _ _ (by exact LO.1) (by exact wg2) (by omega) (by exact LG64) (by exact ⟨by omega, by omega, SK, by rw [R64 _ _ (by omega) (by omega) (by omega), C60 _ _ (by omega) (by omega)]; exact AR2.1, by rw [R64 _ _ (by omega) (by omega) (by omega), C60 _ _ (by omega) (by omega)]; exact AR2.2⟩) (by exact ⟨TC64, E6⟩) (by exact ⟨TG64, E8⟩) (by exact ⟨MS_fr ms (fun s s0 s1 => by rw [R64 _ _ (by omega) (by omega) (by omega)]; exact C60 _ _ (by omega) (by omega)), O10⟩)) (fun r r3 => ?_)
    obtain ⟨y1, y2⟩ := r
    try dsimp only [Sum.elim_inl, Sum.elim_inr, jt2, jt3, jt4, jt5, jt6, jt7, jt8] at r3
    obtain ⟨rk3, ld3, fr3⟩ := r3
    try simp (disch := omega) only [jst_eq, jst_ne, jst_ni, jI_i, jcmp_lt, jcmp_gt, w32_id, jcpy_out, Sum.elim_inl, Sum.elim_inr, jt2, jt3, jt4, jt5, jt6, jt7, jt8] at rk3
    try simp (disch := omega) only [jst_eq, jst_ne, jst_ni, jI_i, jcmp_lt, jcmp_gt, w32_id, jcpy_out, Sum.elim_inl, Sum.elim_inr, jt2, jt3, jt4, jt5, jt6, jt7, jt8] at ld3
    try simp (disch := omega) only [jst_eq, jst_ne, jst_ni, jI_i, jcmp_lt, jcmp_gt, w32_id, jcpy_out, Sum.elim_inl, Sum.elim_inr, jt2, jt3, jt4, jt5, jt6, jt7, jt8] at fr3
    try dsimp only [Sum.elim_inl, Sum.elim_inr, jt2, jt3, jt4, jt5, jt6, jt7, jt8]
    try dsimp only [Sum.elim_inl, Sum.elim_inr, jt2, jt3, jt4, jt5, jt6, jt7, jt8]
    refine ⟨?_, ?_⟩
    · (rw [PO12]; exact rl_fin LA LO.2.1 ⟨ln.1, ln.2.1, ln.2.2.1⟩ SL OT K60 MK63 mk2 ls2 R64 C60 rk3 ld3 fr3) -- o16 e1.1
    · exact frL_t F63 (fun b s y1 y2 y3 y4 y5 y6 y7 => by rw [fr3 b s (by omega) y2 (by omega) y7 (by omega)]; exact R64 b s (by omega) (by omega) (by omega)) -- o17 e1.2
  · skip
    try simp (disch := omega) only [jst_eq, jst_ne, jst_ni, jI_i, jcmp_lt, jcmp_gt, w32_id, jcpy_out, Sum.elim_inl, Sum.elim_inr, jt2, jt3, jt4, jt5, jt6, jt7, jt8] at c1
    refine OK_jb2 (vX14_fail _ _) (fun v67 h68 r4 => ?_)
    try dsimp only [Sum.elim_inl, Sum.elim_inr, jt2, jt3, jt4, jt5, jt6, jt7, jt8] at r4
    obtain ⟨fv4, fh4⟩ := r4
    try simp (disch := omega) only [jst_eq, jst_ne, jst_ni, jI_i, jcmp_lt, jcmp_gt, w32_id, jcpy_out, Sum.elim_inl, Sum.elim_inr, jt2, jt3, jt4, jt5, jt6, jt7, jt8] at fv4
    try simp (disch := omega) only [jst_eq, jst_ne, jst_ni, jI_i, jcmp_lt, jcmp_gt, w32_id, jcpy_out, Sum.elim_inl, Sum.elim_inr, jt2, jt3, jt4, jt5, jt6, jt7, jt8] at fh4
    refine OK_jg (by (first | assumption | omega | ((try dsimp only [jt2, jt3, jt4]); first | omega | (simp (disch := omega) only [jst_eq, jst_ne, jst_ni, jst_o, jI_i, jcpy_out, w32_id, jdiv_nn, jshr_k, jand_255] <;> first | done | omega | assumption)) | (intros; simp (disch := omega) only [jst_eq, jst_ne, jst_ni, jst_o, jI_i, jcpy_out, w32_id, jdiv_nn, *] <;> first | done | omega) | (intros; simp (disch := omega) only [jst_eq, jst_ne, jst_ni, jst_o, jI_i, jcpy_out, w32_id, jdiv_nn] at * <;> first | done | omega | assumption) | (intros; first | rfl | (exfalso; omega) | ((repeat' apply And.intro) <;> first | assumption | rfl | omega | trivial)))) ?_ -- o18
    refine OK_some ?_
    try dsimp only [Sum.elim_inl, Sum.elim_inr, jt2, jt3, jt4, jt5, jt6, jt7, jt8]
    try dsimp only [Sum.elim_inl, Sum.elim_inr, jt2, jt3, jt4, jt5, jt6, jt7, jt8]
    refine ⟨?_, ?_⟩
    · (have e : pE B n q10 = .inl (tS B n q10) := if_neg (fun z => c1 (by rw [OM]; exact z)); rw [e]; refine ⟨rfl, ?_, ?_⟩; { rw [fh4]; (try simp (disch := omega) only [jst_eq, jst_ne, jst_ni, jI_i, jcmp_lt, jcmp_gt, w32_id, jcpy_out, Sum.elim_inl, Sum.elim_inr, jt2, jt3, jt4, jt5, jt6, jt7, jt8]) }; { rw [fh4]; (try simp (disch := omega) only [jst_eq, jst_ne, jst_ni, jI_i, jcmp_lt, jcmp_gt, w32_id, jcpy_out, Sum.elim_inl, Sum.elim_inr, jt2, jt3, jt4, jt5, jt6, jt7, jt8]); exact ms.1.1 }) -- o19 e2.1
    · (rw [fh4]; exact frL_t fr0 (frL_p (fun b s y1 y2 => by rw [jst_o (by omega), jst_o (by omega)]))) -- o20 e2.2
theorem vX14_readLoop_k2 (a1 : Int) (v25 : Int) (x39 : Int) (v47 : Int) {h : AH} {B : Int → Int} {n D q8 : Int} {E : EV} {Rf : Int → TR} {h0 : AH} {l : List Int} {ts gs : List TR} {c : TR} (hB : ∀ i, 0 ≤ i → i < n → 0 ≤ B i ∧ B i < 256) (bb : rlB B n a1 D E Rf h0) (fr0 : frLm a1 D h0 h) (ms8 : MS B n q8 h) (s1 : h 454 17 = D + szL ts + sz c + szL gs ∧ 2 * (szL ts + sz c + szL gs) ≤ q8 + 1) (rs : rlS a1 D E l ts h) (tc : toW h c (D + szL ts) ∧ h a1 6 = D + szL ts) (lg : lsW h (a1 + 4) (D + szL ts + sz c) (EL E l) gs 0) (ln : (ts.length : Int) = v25 ∧ (gs.length : Int) = v47 ∧ 0 ≤ x39 ∧ x39 ≤ 2001) : OK (gX14_readLoop_k2 a1 v25 x39 v47 h) (fun r => jt2 r fun t h' => (vLM a1 D E (bS (pN B n 144941 q8) fun q9 => bS (pT B n false 13 q9) fun x10 => bS (pE B n x10.2) fun _ => .inr (l, ts, c, x39, gs, x10.1)) t h') ∧ (frLm a1 D h0 h')) := by
  have RA := rlB_a bb fr0
  have LA : a1 = 805 ∨ a1 = 810 := bb.1.1
  have LD := bb.1.2.2
  have n2 := RA.1.2.2.1
  have S1 := szL_0 ts
  have S2 := szL_0 gs
  have sc := sz_pos c
  have q80 := ms8.2.2
  unfold gX14_readLoop_k2
  refine OK_jb2 (vX14_passName (B := B) (n := n) _ (by exact RA.1) (by (first | assumption | omega | ((try dsimp only [jt2, jt3, jt4]); first | omega | (simp (disch := omega) only [jst_eq, jst_ne, jst_ni, jst_o, jI_i, jcpy_out, w32_id, jdiv_nn, jshr_k, jand_255] <;> first | done | omega | assumption)) | (intros; simp (disch := omega) only [jst_eq, jst_ne, jst_ni, jst_o, jI_i, jcpy_out, w32_id, jdiv_nn, *] <;> first | done | omega) | (intros; simp (disch := omega) only [jst_eq, jst_ne, jst_ni, jst_o, jI_i, jcpy_out, w32_id, jdiv_nn] at * <;> first | done | omega | assumption) | (intros; first | rfl | (exfalso; omega) | ((repeat' apply And.intro) <;> first | assumption | rfl | omega | trivial)))) (by exact ms8)) (fun t51 h53 r1 => ?_)
  try dsimp only [Sum.elim_inl, Sum.elim_inr, jt2, jt3, jt4, jt5, jt6, jt7, jt8] at r1
  obtain ⟨r1, fr1⟩ := r1
  try simp (disch := omega) only [jst_eq, jst_ne, jst_ni, jI_i, jcmp_lt, jcmp_gt, w32_id, jcpy_out, Sum.elim_inl, Sum.elim_inr, jt2, jt3, jt4, jt5, jt6, jt7, jt8] at r1
  try simp (disch := omega) only [jst_eq, jst_ne, jst_ni, jI_i, jcmp_lt, jcmp_gt, w32_id, jcpy_out, Sum.elim_inl, Sum.elim_inr, jt2, jt3, jt4, jt5, jt6, jt7, jt8] at fr1
  have F53 : frLm a1 D h0 h53 := frL_t fr0 (frL_p (fun b s y1 y2 => fr1 b s (by omega) y2))
  refine OK_jq (fun c1 => ?_) (fun c1 => ?_)
  · skip
    refine OK_some ?_
    try dsimp only [Sum.elim_inl, Sum.elim_inr, jt2, jt3, jt4, jt5, jt6, jt7, jt8]
    try dsimp only [Sum.elim_inl, Sum.elim_inr, jt2, jt3, jt4, jt5, jt6, jt7, jt8]
    refine ⟨?_, ?_⟩
    · (obtain ⟨z, e, t1, t2⟩ := rM_l r1 c1; rw [e]; exact ⟨t1, t2⟩) -- o4 e1.1
    · exact F53 -- o5 e1.2
  · skip
    obtain ⟨q9, e9, ms9⟩ := rM_r r1 c1
    have PO10 : (bS (pN B n 144941 q8) fun q9 => bS (pT B n false 13 q9) fun x10 => bS (pE B n x10.2) fun _ => (.inr (l, ts, c, x39, gs, x10.1) : Int ⊕ LPt)) = bS (pT B n false 13 q9) fun x10 => bS (pE B n x10.2) fun _ => .inr (l, ts, c, x39, gs, x10.1) := by { rw [e9]; rfl }
    clear r1
    have q90 := ms9.2.2
    have q89 : q8 < q9 := by { obtain ⟨g, e⟩ := pN_s e9; exact (nx_r hB q80.1 q80.2 ms8.2.1 (by rw [g.1]; decide) e).2.1 }
    have N53 : h53 454 17 = D + szL ts + sz c + szL gs := by { rw [fr1 _ _ (by omega) (by omega)]; exact s1.1 }
    refine OK_jb3 (vX14_takeTerm (B := B) (n := n) (sk := false) _ _ (by (first | assumption | omega | ((try dsimp only [jt2, jt3, jt4]); first | omega | (simp (disch := omega) only [jst_eq, jst_ne, jst_ni, jst_o, jI_i, jcpy_out, w32_id, jdiv_nn, jshr_k, jand_255] <;> first | done | omega | assumption)) | (intros; simp (disch := omega) only [jst_eq, jst_ne, jst_ni, jst_o, jI_i, jcpy_out, w32_id, jdiv_nn, *] <;> first | done | omega) | (intros; simp (disch := omega) only [jst_eq, jst_ne, jst_ni, jst_o, jI_i, jcpy_out, w32_id, jdiv_nn] at * <;> first | done | omega | assumption) | (intros; first | rfl | (exfalso; omega) | ((repeat' apply And.intro) <;> first | assumption | rfl | omega | trivial)))) (by exact ⟨rfl, rfl⟩) (by exact (rlB_a bb F53).1) (by exact ms9) (by omega)) (fun t56 v57 h58 r2 => ?_)
    try dsimp only [Sum.elim_inl, Sum.elim_inr, jt2, jt3, jt4, jt5, jt6, jt7, jt8] at r2
    have pm2 := r2
    clear r2
    try simp (disch := omega) only [jst_eq, jst_ne, jst_ni, jI_i, jcmp_lt, jcmp_gt, w32_id, jcpy_out, Sum.elim_inl, Sum.elim_inr, jt2, jt3, jt4, jt5, jt6, jt7, jt8] at pm2
    refine OK_jq (fun c2 => ?_) (fun c2 => ?_)
    · skip
      refine OK_some ?_
      try dsimp only [Sum.elim_inl, Sum.elim_inr, jt2, jt3, jt4, jt5, jt6, jt7, jt8]
      try dsimp only [Sum.elim_inl, Sum.elim_inr, jt2, jt3, jt4, jt5, jt6, jt7, jt8]
      refine ⟨?_, ?_⟩
      · (obtain ⟨z, e, t1, t2, _⟩ := pm_l pm2 c2; rw [PO10, e]; exact ⟨t1, t2⟩) -- o11 e2.1
      · (obtain ⟨z, e, t1, t2, f, g1, g2⟩ := pm_l pm2 c2; exact frL_t F53 (frL_m (by omega) (by omega) f)) -- o12 e2.2
    · skip
      obtain ⟨g, q10, eg, g1, ms10, g3, g4, g5, g6, g7⟩ := pm_r pm2 c2
      have PO11 : (bS (pN B n 144941 q8) fun q9 => bS (pT B n false 13 q9) fun x10 => bS (pE B n x10.2) fun _ => (.inr (l, ts, c, x39, gs, x10.1) : Int ⊕ LPt)) = bS (pE B n q10) fun _ => .inr (l, ts, c, x39, gs, g) := by { rw [PO10, eg]; rfl }
      clear PO10 pm2
      have sg := sz_pos g
      have q100 := ms10.2.2
      have F58 : frLm a1 D h0 h58 := frL_t F53 (frL_m (by omega) (by omega) g1)
      have VG : v57 = D + szL ts + sz c + szL gs := by omega
      have NG : D + szL ts + sz c + szL gs + sz g ≤ D + 1100 := by omega
      have TG58 : toW h58 g (D + szL ts + sz c + szL gs) := toW_of hB n2 q90.1 q90.2 ms9.2.1 eg (by rw [VG] at g7; exact g7) (by omega) (by omega)
      refine OK_jl ?_
      have J60 : ∀ b s, ¬ (b = a1 ∧ s = 8) → jst h58 a1 8 v57 b s = h58 b s := fun b s y => jst_o y
      have V60 : jst h58 a1 8 v57 a1 8 = D + szL ts + sz c + szL gs := by { rw [jst_eq]; exact VG }
      generalize jst h58 a1 8 v57 = g60 at *
      have W60 : frRl a1 (D + szL ts + sz c + szL gs) h g60 := fun b s y1 y2 y3 y4 y5 y6 y7 => by { rw [J60 b s (by omega), g1 b s (by omega) y2 (by omega) (by omega)]; exact fr1 b s (by omega) y2 }
      have F60 : frLm a1 D h0 g60 := frL_t F58 (frL_o (fun b s y1 _ => J60 b s (by omega)))
      refine OK_mono (vX14_readLoop_k3 (B := B) (n := n) (D := D) (q10 := q10) (E := E) (Rf := Rf) (h0 := h0) (l := l) (ts := ts) (gs := gs) (c := c) (g := g) _ _ _ _ (by exact hB) (by exact bb) (by exact F60) (by exact MS_fr ms10 (fun s s0 s1 => J60 _ _ (by omega))) (by exact rlS_f LA rs (frRl_t (by omega) (fun b s _ _ _ _ _ _ _ => rfl) W60)) (by exact ⟨toW_r LA tc.1 (by omega) W60, by rw [J60 _ _ (by omega), g1 _ _ (by omega) (by omega) (by omega) (by omega), fr1 _ _ (by omega) (by omega)]; exact tc.2⟩) (by exact lsW_r LA lg (fun i i0 i4 => by (rw [J60 _ _ (by omega), g1 _ _ (by omega) (by omega) (by omega) (by omega)]; exact fr1 _ _ (by omega) (by omega))) (Int.le_refl _) W60) (by exact ⟨toW_f TG58 ⟨fun b s _ _ _ _ _ _ => J60 _ _ (by omega), fun s _ _ => J60 _ _ (by omega), fun s _ _ => J60 _ _ (by omega)⟩, V60⟩) (by exact ⟨ln.1, ln.2.1, NG, ln.2.2⟩)) (fun r r3 => ?_)
      obtain ⟨y1, y2⟩ := r
      try dsimp only [Sum.elim_inl, Sum.elim_inr, jt2, jt3, jt4, jt5, jt6, jt7, jt8] at r3
      obtain ⟨lm3, fr3⟩ := r3
      try simp (disch := omega) only [jst_eq, jst_ne, jst_ni, jI_i, jcmp_lt, jcmp_gt, w32_id, jcpy_out, Sum.elim_inl, Sum.elim_inr, jt2, jt3, jt4, jt5, jt6, jt7, jt8] at lm3
      try simp (disch := omega) only [jst_eq, jst_ne, jst_ni, jI_i, jcmp_lt, jcmp_gt, w32_id, jcpy_out, Sum.elim_inl, Sum.elim_inr, jt2, jt3, jt4, jt5, jt6, jt7, jt8] at fr3
      try dsimp only [Sum.elim_inl, Sum.elim_inr, jt2, jt3, jt4, jt5, jt6, jt7, jt8]
      try dsimp only [Sum.elim_inl, Sum.elim_inr, jt2, jt3, jt4, jt5, jt6, jt7, jt8]
      refine ⟨?_, ?_⟩
      · (rw [PO11]; exact lm3) -- o22 e3.1
      · exact fr3 -- o23 e3.2
theorem vX14_readLoop_k1 (a1 : Int) (v25 : Int) {h : AH} {B : Int → Int} {n D q4 : Int} {E : EV} {Rf : Int → TR} {h0 : AH} {l : List Int} {ts : List TR} (hB : ∀ i, 0 ≤ i → i < n → 0 ≤ B i ∧ B i < 256) (bb : rlB B n a1 D E Rf h0) (fr0 : frLm a1 D h0 h) (ms4 : MS B n q4 h) (s1 : h 454 17 = D + szL ts ∧ 2 * szL ts ≤ q4 + 1) (rs : rlS a1 D E l ts h) (ln : (ts.length : Int) = v25) : OK (gX14_readLoop_k1 a1 v25 h) (fun r => jt2 r fun t h' => (vLM a1 D E (pLo4 B n l ts q4) t h') ∧ (frLm a1 D h0 h')) := by
  have RA := rlB_a bb fr0
  have LA : a1 = 805 ∨ a1 = 810 := bb.1.1
  have LD := bb.1.2.2
  have n2 := RA.1.2.2.1
  have S1 := szL_0 ts
  have q40 := ms4.2.2
  unfold gX14_readLoop_k1
  refine OK_jb2 (vX14_passName (B := B) (n := n) _ (by exact RA.1) (by (first | assumption | omega | ((try dsimp only [jt2, jt3, jt4]); first | omega | (simp (disch := omega) only [jst_eq, jst_ne, jst_ni, jst_o, jI_i, jcpy_out, w32_id, jdiv_nn, jshr_k, jand_255] <;> first | done | omega | assumption)) | (intros; simp (disch := omega) only [jst_eq, jst_ne, jst_ni, jst_o, jI_i, jcpy_out, w32_id, jdiv_nn, *] <;> first | done | omega) | (intros; simp (disch := omega) only [jst_eq, jst_ne, jst_ni, jst_o, jI_i, jcpy_out, w32_id, jdiv_nn] at * <;> first | done | omega | assumption) | (intros; first | rfl | (exfalso; omega) | ((repeat' apply And.intro) <;> first | assumption | rfl | omega | trivial)))) (by exact ms4)) (fun t29 h31 r1 => ?_)
  try dsimp only [Sum.elim_inl, Sum.elim_inr, jt2, jt3, jt4, jt5, jt6, jt7, jt8] at r1
  obtain ⟨r1, fr1⟩ := r1
  try simp (disch := omega) only [jst_eq, jst_ne, jst_ni, jI_i, jcmp_lt, jcmp_gt, w32_id, jcpy_out, Sum.elim_inl, Sum.elim_inr, jt2, jt3, jt4, jt5, jt6, jt7, jt8] at r1
  try simp (disch := omega) only [jst_eq, jst_ne, jst_ni, jI_i, jcmp_lt, jcmp_gt, w32_id, jcpy_out, Sum.elim_inl, Sum.elim_inr, jt2, jt3, jt4, jt5, jt6, jt7, jt8] at fr1
  have F31 : frLm a1 D h0 h31 := frL_t fr0 (frL_p (fun b s y1 y2 => fr1 b s (by omega) y2))
  refine OK_jq (fun c1 => ?_) (fun c1 => ?_)
  · skip
    refine OK_some ?_
    try dsimp only [Sum.elim_inl, Sum.elim_inr, jt2, jt3, jt4, jt5, jt6, jt7, jt8]
    try dsimp only [Sum.elim_inl, Sum.elim_inr, jt2, jt3, jt4, jt5, jt6, jt7, jt8]
    refine ⟨?_, ?_⟩
    · (obtain ⟨z, e, t1, t2⟩ := rM_l r1 c1; show vLM a1 D E (bS (pN B n 12387497 q4) _) _ _; rw [e]; exact ⟨t1, t2⟩) -- o4 e1.1
    · exact F31 -- o5 e1.2
  · skip
    obtain ⟨q5, e5, ms5⟩ := rM_r r1 c1
    have PO6 : pLo4 B n l ts q4 = bS (pT B n false 13 q5) fun x6 => bS (pN B n 123 x6.2) fun q7 => pLo6 B n l ts x6.1 (tS B n x6.2) q7 := by { unfold pLo4; rw [e5]; rfl }
    clear r1
    have q50 := ms5.2.2
    have q45 : q4 < q5 := by { obtain ⟨g, e⟩ := pN_s e5; exact (nx_r hB q40.1 q40.2 ms4.2.1 (by rw [g.1]; decide) e).2.1 }
    have N31 : h31 454 17 = D + szL ts := by { rw [fr1 _ _ (by omega) (by omega)]; exact s1.1 }
    refine OK_jb3 (vX14_takeTerm (B := B) (n := n) (sk := false) _ _ (by (first | assumption | omega | ((try dsimp only [jt2, jt3, jt4]); first | omega | (simp (disch := omega) only [jst_eq, jst_ne, jst_ni, jst_o, jI_i, jcpy_out, w32_id, jdiv_nn, jshr_k, jand_255] <;> first | done | omega | assumption)) | (intros; simp (disch := omega) only [jst_eq, jst_ne, jst_ni, jst_o, jI_i, jcpy_out, w32_id, jdiv_nn, *] <;> first | done | omega) | (intros; simp (disch := omega) only [jst_eq, jst_ne, jst_ni, jst_o, jI_i, jcpy_out, w32_id, jdiv_nn] at * <;> first | done | omega | assumption) | (intros; first | rfl | (exfalso; omega) | ((repeat' apply And.intro) <;> first | assumption | rfl | omega | trivial)))) (by exact ⟨rfl, rfl⟩) (by exact (rlB_a bb F31).1) (by exact ms5) (by omega)) (fun t34 v35 h36 r2 => ?_)
    try dsimp only [Sum.elim_inl, Sum.elim_inr, jt2, jt3, jt4, jt5, jt6, jt7, jt8] at r2
    have pm2 := r2
    clear r2
    try simp (disch := omega) only [jst_eq, jst_ne, jst_ni, jI_i, jcmp_lt, jcmp_gt, w32_id, jcpy_out, Sum.elim_inl, Sum.elim_inr, jt2, jt3, jt4, jt5, jt6, jt7, jt8] at pm2
    refine OK_jq (fun c2 => ?_) (fun c2 => ?_)
    · skip
      refine OK_some ?_
      try dsimp only [Sum.elim_inl, Sum.elim_inr, jt2, jt3, jt4, jt5, jt6, jt7, jt8]
      try dsimp only [Sum.elim_inl, Sum.elim_inr, jt2, jt3, jt4, jt5, jt6, jt7, jt8]
      refine ⟨?_, ?_⟩
      · (obtain ⟨z, e, t1, t2, _⟩ := pm_l pm2 c2; rw [PO6, e]; exact ⟨t1, t2⟩) -- o11 e2.1
      · (obtain ⟨z, e, t1, t2, f, g1, g2⟩ := pm_l pm2 c2; exact frL_t F31 (frL_m (by omega) (by omega) f)) -- o12 e2.2
    · skip
      obtain ⟨c, q6, e6, p1, ms6, p3, p4, p5, p6, p7⟩ := pm_r pm2 c2
      have PO7 : pLo4 B n l ts q4 = bS (pN B n 123 q6) fun q7 => pLo6 B n l ts c (tS B n q6) q7 := by { rw [PO6, e6]; rfl }
      clear PO6 pm2
      have sc := sz_pos c
      have q60 := ms6.2.2
      have F36 : frLm a1 D h0 h36 := frL_t F31 (frL_m (by omega) (by omega) p1)
      have VC : v35 = D + szL ts := by omega
      have TC36 : toW h36 c (D + szL ts) := toW_of hB n2 q50.1 q50.2 ms5.2.1 e6 (by rw [VC] at p7; exact p7) (by omega) (by omega)
      refine OK_jl ?_
      have J38 : ∀ b s, ¬ (b = a1 ∧ s = 6) → jst h36 a1 6 v35 b s = h36 b s := fun b s y => jst_o y
      have V38 : jst h36 a1 6 v35 a1 6 = D + szL ts := by { rw [jst_eq]; exact VC }
      generalize jst h36 a1 6 v35 = g38 at *
      have F38 : frLm a1 D h0 g38 := frL_t F36 (frL_o (fun b s y1 _ => J38 b s (by omega)))
      have M38 : MS B n q6 g38 := MS_fr ms6 (fun s s0 s1 => J38 _ _ (by omega))
      have N38 : g38 454 17 = D + szL ts + sz c := by { rw [J38 _ _ (by omega)]; omega }
      have W38 : frRl a1 (D + szL ts) h g38 := fun b s y1 y2 y3 y4 y5 y6 y7 => by { rw [J38 b s (by omega), p1 b s (by omega) y2 (by omega) (by omega)]; exact fr1 b s (by omega) y2 }
      refine OK_jlx (fun x39 ex39 => ?_)
      try simp (disch := omega) only [jst_eq, jst_ne, jst_ni, jI_i, jcmp_lt, jcmp_gt, w32_id, jcpy_out, Sum.elim_inl, Sum.elim_inr, jt2, jt3, jt4, jt5, jt6, jt7, jt8] at ex39
      have X39 : x39 = tS B n q6 := by { rw [ex39]; exact M38.1.1 }
      have PX39 : 0 ≤ x39 ∧ x39 ≤ 2001 := by { have := tS_r (B := B) q60.2; omega }
      refine OK_jb2 (vX14_passName (B := B) (n := n) _ (by exact (rlB_a bb F38).1) (by (first | assumption | omega | ((try dsimp only [jt2, jt3, jt4]); first | omega | (simp (disch := omega) only [jst_eq, jst_ne, jst_ni, jst_o, jI_i, jcpy_out, w32_id, jdiv_nn, jshr_k, jand_255] <;> first | done | omega | assumption)) | (intros; simp (disch := omega) only [jst_eq, jst_ne, jst_ni, jst_o, jI_i, jcpy_out, w32_id, jdiv_nn, *] <;> first | done | omega) | (intros; simp (disch := omega) only [jst_eq, jst_ne, jst_ni, jst_o, jI_i, jcpy_out, w32_id, jdiv_nn] at * <;> first | done | omega | assumption) | (intros; first | rfl | (exfalso; omega) | ((repeat' apply And.intro) <;> first | assumption | rfl | omega | trivial)))) (by exact M38)) (fun t41 h43 r3 => ?_)
      try dsimp only [Sum.elim_inl, Sum.elim_inr, jt2, jt3, jt4, jt5, jt6, jt7, jt8] at r3
      obtain ⟨r3, fr3⟩ := r3
      try simp (disch := omega) only [jst_eq, jst_ne, jst_ni, jI_i, jcmp_lt, jcmp_gt, w32_id, jcpy_out, Sum.elim_inl, Sum.elim_inr, jt2, jt3, jt4, jt5, jt6, jt7, jt8] at r3
      try simp (disch := omega) only [jst_eq, jst_ne, jst_ni, jI_i, jcmp_lt, jcmp_gt, w32_id, jcpy_out, Sum.elim_inl, Sum.elim_inr, jt2, jt3, jt4, jt5, jt6, jt7, jt8] at fr3
      have F43 : frLm a1 D h0 h43 := frL_t F38 (frL_p (fun b s y1 y2 => fr3 b s (by omega) y2))
      refine OK_jq (fun c3 => ?_) (fun c3 => ?_)
      · skip
        refine OK_some ?_
        try dsimp only [Sum.elim_inl, Sum.elim_inr, jt2, jt3, jt4, jt5, jt6, jt7, jt8]
        try dsimp only [Sum.elim_inl, Sum.elim_inr, jt2, jt3, jt4, jt5, jt6, jt7, jt8]
        refine ⟨?_, ?_⟩
        · (obtain ⟨z, e, t1, t2⟩ := rM_l r3 c3; rw [PO7, e]; exact ⟨t1, t2⟩) -- o16 e3.1
        · exact F43 -- o17 e3.2
      · skip
        obtain ⟨q7, e7, ms7⟩ := rM_r r3 c3
        have PO8 : pLo4 B n l ts q4 = bS (pTs B n q7) fun x8 => bS (pN B n 144941 x8.2) fun q9 => bS (pT B n false 13 q9) fun x10 => bS (pE B n x10.2) fun _ => .inr (l, ts, c, x39, x8.1, x10.1) := by { rw [PO7, e7, X39]; rfl }
        clear PO7 r3
        have q70 := ms7.2.2
        have q67 : q6 < q7 := by { obtain ⟨g, e⟩ := pN_s e7; exact (nx_r hB q60.1 q60.2 ms6.2.1 (by rw [g.1]; decide) e).2.1 }
        have N43 : h43 454 17 = D + szL ts + sz c := by { rw [fr3 _ _ (by omega) (by omega)]; exact N38 }
        refine OK_jb3 (vX14_terms (B := B) (n := n) _ (by (first | assumption | omega | ((try dsimp only [jt2, jt3, jt4]); first | omega | (simp (disch := omega) only [jst_eq, jst_ne, jst_ni, jst_o, jI_i, jcpy_out, w32_id, jdiv_nn, jshr_k, jand_255] <;> first | done | omega | assumption)) | (intros; simp (disch := omega) only [jst_eq, jst_ne, jst_ni, jst_o, jI_i, jcpy_out, w32_id, jdiv_nn, *] <;> first | done | omega) | (intros; simp (disch := omega) only [jst_eq, jst_ne, jst_ni, jst_o, jI_i, jcpy_out, w32_id, jdiv_nn] at * <;> first | done | omega | assumption) | (intros; first | rfl | (exfalso; omega) | ((repeat' apply And.intro) <;> first | assumption | rfl | omega | trivial)))) (by exact (rlB_a bb F43).1) (by exact ms7) (by exact ⟨by omega, (rlB_a bb F43).2.2.2.2⟩) (by omega)) (fun t46 v47 h48 r4 => ?_)
        try dsimp only [Sum.elim_inl, Sum.elim_inr, jt2, jt3, jt4, jt5, jt6, jt7, jt8] at r4
        obtain ⟨tm4, fr4⟩ := r4
        try simp (disch := omega) only [jst_eq, jst_ne, jst_ni, jI_i, jcmp_lt, jcmp_gt, w32_id, jcpy_out, Sum.elim_inl, Sum.elim_inr, jt2, jt3, jt4, jt5, jt6, jt7, jt8] at tm4
        try simp (disch := omega) only [jst_eq, jst_ne, jst_ni, jI_i, jcmp_lt, jcmp_gt, w32_id, jcpy_out, Sum.elim_inl, Sum.elim_inr, jt2, jt3, jt4, jt5, jt6, jt7, jt8] at fr4
        have TM9 := tms_l (v := 0) tm4
        rw [N43] at TM9 fr4
        have N48 : h48 454 17 ≤ D + 1100 := by { have x := fr4.2; omega }
        have F48 : frLm a1 D h0 h48 := frL_t F43 (frL_a (by omega) N48 (Or.inr rfl) fr4.1)
        refine OK_jq (fun c4 => ?_) (fun c4 => ?_)
        · skip
          refine OK_some ?_
          try dsimp only [Sum.elim_inl, Sum.elim_inr, jt2, jt3, jt4, jt5, jt6, jt7, jt8]
          try dsimp only [Sum.elim_inl, Sum.elim_inr, jt2, jt3, jt4, jt5, jt6, jt7, jt8]
          refine ⟨?_, ?_⟩
          · (obtain ⟨t1, z, e, t2⟩ := TM9.1 c4; rw [PO8, e]; exact ⟨t1, t2⟩) -- o23 e4.1
          · exact F48 -- o24 e4.2
        · skip
          obtain ⟨gs, q8, e8, ms8, d1, d2, d3, d4, d5⟩ := TM9.2 c4
          clear TM9 tm4
          have PO9 : pLo4 B n l ts q4 = bS (pN B n 144941 q8) fun q9 => bS (pT B n false 13 q9) fun x10 => bS (pE B n x10.2) fun _ => .inr (l, ts, c, x39, gs, x10.1) := by { rw [PO8, e8]; rfl }
          clear PO8
          have OG := pTs_o hB n2 q70.1 q70.2 ms7.2.1 e8
          have S2 := szL_0 gs
          have q80 := ms8.2.2
          have LG48 : lsW h48 (a1 + 4) (D + szL ts + sz c) (EL E l) gs 0 := lsW_of d3 OG.2.2.2.1 (by omega) (by omega)
          have W48 : frRl a1 (D + szL ts + sz c) g38 h48 := fun b s y1 y2 y3 y4 y5 y6 y7 => by { rw [fr4.1 b s (by omega) y2 (by omega) (by omega) y6]; exact fr3 b s (by omega) y2 }
          refine OK_mono (vX14_readLoop_k2 (B := B) (n := n) (D := D) (q8 := q8) (E := E) (Rf := Rf) (h0 := h0) (l := l) (ts := ts) (gs := gs) (c := c) _ _ _ _ (by exact hB) (by exact bb) (by exact F48) (by exact ms8) (by exact ⟨d1, by omega⟩) (by exact rlS_f LA rs (frRl_t (by omega) W38 W48)) (by exact ⟨toW_r LA (toW_f TC36 ⟨fun b s _ _ _ _ _ _ => J38 _ _ (by omega), fun s _ _ => J38 _ _ (by omega), fun s _ _ => J38 _ _ (by omega)⟩) (Int.le_refl _) W48, by rw [fr4.1 _ _ (by omega) (by omega) (by omega) (by omega) (by omega), fr3 _ _ (by omega) (by omega)]; exact V38⟩) (by exact LG48) (by exact ⟨ln, d4, PX39⟩)) (fun r r5 => ?_)
          obtain ⟨y1, y2⟩ := r
          try dsimp only [Sum.elim_inl, Sum.elim_inr, jt2, jt3, jt4, jt5, jt6, jt7, jt8] at r5
          obtain ⟨lm5, fr5⟩ := r5
          try simp (disch := omega) only [jst_eq, jst_ne, jst_ni, jI_i, jcmp_lt, jcmp_gt, w32_id, jcpy_out, Sum.elim_inl, Sum.elim_inr, jt2, jt3, jt4, jt5, jt6, jt7, jt8] at lm5
          try simp (disch := omega) only [jst_eq, jst_ne, jst_ni, jI_i, jcmp_lt, jcmp_gt, w32_id, jcpy_out, Sum.elim_inl, Sum.elim_inr, jt2, jt3, jt4, jt5, jt6, jt7, jt8] at fr5
          try dsimp only [Sum.elim_inl, Sum.elim_inr, jt2, jt3, jt4, jt5, jt6, jt7, jt8]
          try dsimp only [Sum.elim_inl, Sum.elim_inr, jt2, jt3, jt4, jt5, jt6, jt7, jt8]
          refine ⟨?_, ?_⟩
          · (rw [PO9]; exact lm5) -- o34 e5.1
          · exact fr5 -- o35 e5.2
theorem vX14_readLoop (a1 : Int) {h : AH} {B : Int → Int} {n D : Int} {E : EV} {Rf : Int → TR} (hB : ∀ i, 0 ≤ i → i < n → 0 ≤ B i ∧ B i < 256) (lo : isLm a1 ∧ h a1 0 = D ∧ 2200 ≤ D ∧ D ≤ 3300) (t : TM B n h) (en : actM h E ∧ ewO E ∧ ownM h E.1.1 E.1.2.2.2.1 Rf ∧ E.2.2.1 = 0 ∧ (0 ≤ h 454 35 ∧ h 454 35 ≤ 2000)) (ar : (h (a1 + 1) (-2) = 101 ∧ h (a1 + 1) (-1) = 2) ∧ (h (a1 + 2) (-2) = 101 ∧ h (a1 + 2) (-1) = 3) ∧ (h (a1 + 3) (-2) = 101 ∧ h (a1 + 3) (-1) = 4) ∧ (h (a1 + 4) (-2) = 101 ∧ h (a1 + 4) (-1) = 4)) : OK (gX14_readLoop a1 h) (fun r => jt2 r fun t h' => (vLM a1 D E (bS (beg B n) (pLo B n)) t h') ∧ (frLm a1 D h h')) := by
  have LA : a1 = 805 ∨ a1 = 810 := lo.1
  have n2 := t.2.2.1
  have n0 := t.2.1
  have AL : ∀ hh : AH, (∀ b s, s < 0 → hh b s = h b s) → (hh (a1 + 1) (-2) = 101 ∧ hh (a1 + 1) (-1) = 2) ∧ (hh (a1 + 2) (-2) = 101 ∧ hh (a1 + 2) (-1) = 3) ∧ (hh (a1 + 3) (-2) = 101 ∧ hh (a1 + 3) (-1) = 4) ∧ (hh (a1 + 4) (-2) = 101 ∧ hh (a1 + 4) (-1) = 4) := fun hh f => by { rw [f _ _ (by decide), f _ _ (by decide), f _ _ (by decide), f _ _ (by decide), f _ _ (by decide), f _ _ (by decide), f _ _ (by decide), f _ _ (by decide)]; exact ar }
  have AR : ∀ hh : AH, frLm a1 D h hh → (hh (a1 + 1) (-2) = 101 ∧ hh (a1 + 1) (-1) = 2) ∧ (hh (a1 + 2) (-2) = 101 ∧ hh (a1 + 2) (-1) = 3) ∧ (hh (a1 + 3) (-2) = 101 ∧ hh (a1 + 3) (-1) = 4) ∧ (hh (a1 + 4) (-2) = 101 ∧ hh (a1 + 4) (-1) = 4) := fun hh f => AL hh (fun b s z => f b s (by omega) (by omega) (by omega) (by omega) (by omega) (by omega) (by omega))
  have TR0 : ∀ hh : AH, frLm a1 D h hh → TM B n hh := fun hh f => TM_fr t (f _ _ (by omega) (by omega) (by omega) (by omega) (by omega) (by omega) (by omega)) (fun s => f _ _ (by omega) (by omega) (by omega) (by omega) (by omega) (by omega) (by omega))
  unfold gX14_readLoop
  refine OK_jb2 (vX14_begin (B := B) (n := n) (by (first | assumption | omega | ((try dsimp only [jt2, jt3, jt4]); first | omega | (simp (disch := omega) only [jst_eq, jst_ne, jst_ni, jst_o, jI_i, jcpy_out, w32_id, jdiv_nn, jshr_k, jand_255] <;> first | done | omega | assumption)) | (intros; simp (disch := omega) only [jst_eq, jst_ne, jst_ni, jst_o, jI_i, jcpy_out, w32_id, jdiv_nn, *] <;> first | done | omega) | (intros; simp (disch := omega) only [jst_eq, jst_ne, jst_ni, jst_o, jI_i, jcpy_out, w32_id, jdiv_nn] at * <;> first | done | omega | assumption) | (intros; first | rfl | (exfalso; omega) | ((repeat' apply And.intro) <;> first | assumption | rfl | omega | trivial)))) (by (first | assumption | omega | ((try dsimp only [jt2, jt3, jt4]); first | omega | (simp (disch := omega) only [jst_eq, jst_ne, jst_ni, jst_o, jI_i, jcpy_out, w32_id, jdiv_nn, jshr_k, jand_255] <;> first | done | omega | assumption)) | (intros; simp (disch := omega) only [jst_eq, jst_ne, jst_ni, jst_o, jI_i, jcpy_out, w32_id, jdiv_nn, *] <;> first | done | omega) | (intros; simp (disch := omega) only [jst_eq, jst_ne, jst_ni, jst_o, jI_i, jcpy_out, w32_id, jdiv_nn] at * <;> first | done | omega | assumption) | (intros; first | rfl | (exfalso; omega) | ((repeat' apply And.intro) <;> first | assumption | rfl | omega | trivial))))) (fun t2 h4 r1 => ?_)
  try dsimp only [Sum.elim_inl, Sum.elim_inr, jt2, jt3, jt4, jt5, jt6, jt7, jt8] at r1
  obtain ⟨rm1, ce1, fr1⟩ := r1
  try simp (disch := omega) only [jst_eq, jst_ne, jst_ni, jI_i, jcmp_lt, jcmp_gt, w32_id, jcpy_out, Sum.elim_inl, Sum.elim_inr, jt2, jt3, jt4, jt5, jt6, jt7, jt8] at rm1
  try simp (disch := omega) only [jst_eq, jst_ne, jst_ni, jI_i, jcmp_lt, jcmp_gt, w32_id, jcpy_out, Sum.elim_inl, Sum.elim_inr, jt2, jt3, jt4, jt5, jt6, jt7, jt8] at ce1
  try simp (disch := omega) only [jst_eq, jst_ne, jst_ni, jI_i, jcmp_lt, jcmp_gt, w32_id, jcpy_out, Sum.elim_inl, Sum.elim_inr, jt2, jt3, jt4, jt5, jt6, jt7, jt8] at fr1
  have F4 : frLm a1 D h h4 := frL_p (fun b s y1 y2 => fr1 b s (by omega) y2)
  refine OK_jq (fun c1 => ?_) (fun c1 => ?_)
  · skip
    refine OK_some ?_
    try dsimp only [Sum.elim_inl, Sum.elim_inr, jt2, jt3, jt4, jt5, jt6, jt7, jt8]
    try dsimp only [Sum.elim_inl, Sum.elim_inr, jt2, jt3, jt4, jt5, jt6, jt7, jt8]
    refine ⟨?_, ?_⟩
    · (obtain ⟨z, e, r1, r2⟩ := rM_l rm1 c1; rw [e]; exact ⟨r1, r2⟩) -- o3 e1.1
    · exact F4 -- o4 e1.2
  · skip
    obtain ⟨q, eq, ms⟩ := rM_r rm1 c1
    have PO1 : bS (beg B n) (pLo B n) = bS (pN B n 247552 q) fun q1 => bS (pKK B n false 2 [] q1) fun x2 => pLo2 B n x2.1 x2.2 := by { rw [eq]; rfl }
    have E4 : h4 a1 0 = D := by { rw [fr1 _ _ (by omega) (by omega)]; exact lo.2.1 }
    refine OK_jl ?_
    rw [E4]
    have F6 : frLm a1 D h (jst h4 454 17 D) := frL_t F4 (frL_o (fun b s _ y2 => jst_o y2))
    have V6 : jst h4 454 17 D 454 17 = D ∧ jst h4 454 17 D 454 30 = 0 ∧ jst h4 454 17 D 454 31 = 2147483647 := ⟨jst_eq, by { rw [jst_o (by omega)]; exact ce1.1 }, by { rw [jst_o (by omega)]; exact ce1.2 }⟩
    have M6 : MS B n q (jst h4 454 17 D) := MS_fr ms (fun s s0 s1 => jst_o (by omega))
    generalize jst h4 454 17 D = g6 at *
    refine OK_jb2 (vX14_passName (B := B) (n := n) _ (by exact TR0 _ F6) (by (first | assumption | omega | ((try dsimp only [jt2, jt3, jt4]); first | omega | (simp (disch := omega) only [jst_eq, jst_ne, jst_ni, jst_o, jI_i, jcpy_out, w32_id, jdiv_nn, jshr_k, jand_255] <;> first | done | omega | assumption)) | (intros; simp (disch := omega) only [jst_eq, jst_ne, jst_ni, jst_o, jI_i, jcpy_out, w32_id, jdiv_nn, *] <;> first | done | omega) | (intros; simp (disch := omega) only [jst_eq, jst_ne, jst_ni, jst_o, jI_i, jcpy_out, w32_id, jdiv_nn] at * <;> first | done | omega | assumption) | (intros; first | rfl | (exfalso; omega) | ((repeat' apply And.intro) <;> first | assumption | rfl | omega | trivial)))) (by exact M6)) (fun t8 h10 r2 => ?_)
    try dsimp only [Sum.elim_inl, Sum.elim_inr, jt2, jt3, jt4, jt5, jt6, jt7, jt8] at r2
    obtain ⟨r2, fr2⟩ := r2
    try simp (disch := omega) only [jst_eq, jst_ne, jst_ni, jI_i, jcmp_lt, jcmp_gt, w32_id, jcpy_out, Sum.elim_inl, Sum.elim_inr, jt2, jt3, jt4, jt5, jt6, jt7, jt8] at r2
    try simp (disch := omega) only [jst_eq, jst_ne, jst_ni, jI_i, jcmp_lt, jcmp_gt, w32_id, jcpy_out, Sum.elim_inl, Sum.elim_inr, jt2, jt3, jt4, jt5, jt6, jt7, jt8] at fr2
    have F10 : frLm a1 D h h10 := frL_t F6 (frL_p (fun b s y1 y2 => fr2 b s (by omega) y2))
    have V10 : h10 454 17 = D ∧ h10 454 30 = 0 ∧ h10 454 31 = 2147483647 := by { rw [fr2 _ _ (by omega) (by omega), fr2 _ _ (by omega) (by omega), fr2 _ _ (by omega) (by omega)]; exact V6 }
    refine OK_jq (fun c2 => ?_) (fun c2 => ?_)
    · skip
      refine OK_some ?_
      try dsimp only [Sum.elim_inl, Sum.elim_inr, jt2, jt3, jt4, jt5, jt6, jt7, jt8]
      try dsimp only [Sum.elim_inl, Sum.elim_inr, jt2, jt3, jt4, jt5, jt6, jt7, jt8]
      refine ⟨?_, ?_⟩
      · (obtain ⟨z, e, t1, t2⟩ := rM_l r2 c2; rw [PO1, e]; exact ⟨t1, t2⟩) -- o8 e2.1
      · exact F10 -- o9 e2.2
    · skip
      obtain ⟨q1, e1, ms1⟩ := rM_r r2 c2
      have PO2 : bS (beg B n) (pLo B n) = bS (pKK B n false 2 [] q1) fun x2 => pLo2 B n x2.1 x2.2 := by { rw [PO1, e1]; rfl }
      clear PO1 rm1 r2
      refine OK_jb3 (vX14_takeKinds (B := B) (n := n) (b := false) _ _ _ (by exact TR0 _ F10) (by (first | assumption | omega | ((try dsimp only [jt2, jt3, jt4]); first | omega | (simp (disch := omega) only [jst_eq, jst_ne, jst_ni, jst_o, jI_i, jcpy_out, w32_id, jdiv_nn, jshr_k, jand_255] <;> first | done | omega | assumption)) | (intros; simp (disch := omega) only [jst_eq, jst_ne, jst_ni, jst_o, jI_i, jcpy_out, w32_id, jdiv_nn, *] <;> first | done | omega) | (intros; simp (disch := omega) only [jst_eq, jst_ne, jst_ni, jst_o, jI_i, jcpy_out, w32_id, jdiv_nn] at * <;> first | done | omega | assumption) | (intros; first | rfl | (exfalso; omega) | ((repeat' apply And.intro) <;> first | assumption | rfl | omega | trivial)))) (by exact ms1) (by (have x := (AR _ F10).1; exact ⟨x.1, by omega, by omega, by omega, by omega, by omega, rfl⟩)) (by rfl)) (fun t13 v14 h15 r3 => ?_)
      try dsimp only [Sum.elim_inl, Sum.elim_inr, jt2, jt3, jt4, jt5, jt6, jt7, jt8] at r3
      obtain ⟨kl3, fr3⟩ := r3
      try simp (disch := omega) only [jst_eq, jst_ne, jst_ni, jI_i, jcmp_lt, jcmp_gt, w32_id, jcpy_out, Sum.elim_inl, Sum.elim_inr, jt2, jt3, jt4, jt5, jt6, jt7, jt8] at kl3
      try simp (disch := omega) only [jst_eq, jst_ne, jst_ni, jI_i, jcmp_lt, jcmp_gt, w32_id, jcpy_out, Sum.elim_inl, Sum.elim_inr, jt2, jt3, jt4, jt5, jt6, jt7, jt8] at fr3
      have F15 : frLm a1 D h h15 := frL_t F10 (fun b s y1 y2 y3 y4 y5 y6 y7 => fr3 b s (by omega) y2 (by omega))
      have V15 : h15 454 17 = D ∧ h15 454 30 = 0 ∧ h15 454 31 = 2147483647 := by { rw [fr3 _ _ (by omega) (by omega) (by omega), fr3 _ _ (by omega) (by omega) (by omega), fr3 _ _ (by omega) (by omega) (by omega)]; exact V10 }
      refine OK_jq (fun c3 => ?_) (fun c3 => ?_)
      · skip
        refine OK_some ?_
        try dsimp only [Sum.elim_inl, Sum.elim_inr, jt2, jt3, jt4, jt5, jt6, jt7, jt8]
        try dsimp only [Sum.elim_inl, Sum.elim_inr, jt2, jt3, jt4, jt5, jt6, jt7, jt8]
        refine ⟨?_, ?_⟩
        · (rcases kl3 with ⟨z, e, t1, t2⟩ | ⟨l, q', e, t1, _⟩; { rw [PO2, e]; exact ⟨t1, t2⟩ }; { exact absurd t1 c3 }) -- o15 e3.1
        · exact F15 -- o16 e3.2
      · skip
        obtain ⟨l, q2, ek, _, ms2, ll, kc⟩ := kl3.resolve_left (fun ⟨z, _, y, _⟩ => by omega)
        have PO3 : bS (beg B n) (pLo B n) = bS (pN B n 131638 q2) fun q3 => bS (pTs B n q3) fun x4 => pLo4 B n l x4.1 x4.2 := by { rw [PO2, ek]; rfl }
        have L2 : (l.length : Int) ≤ 2 := by { have := pKK_len 2 [] q1 l q2 ek; have : ([] : List Int).length = 0 := rfl; omega }
        clear PO2 kl3
        refine OK_jl ?_
        have F17 : frLm a1 D h (jst h15 a1 2 v14) := frL_t F15 (frL_o (fun b s y1 _ => jst_o (by omega)))
        have V17 : jst h15 a1 2 v14 454 17 = D ∧ jst h15 a1 2 v14 454 30 = 0 ∧ jst h15 a1 2 v14 454 31 = 2147483647 := by { rw [jst_o (by omega), jst_o (by omega), jst_o (by omega)]; exact V15 }
        have K17 : jst h15 a1 2 v14 a1 2 = (l.length : Int) ∧ kC (jst h15 a1 2 v14) (a1 + 1) l := ⟨by { rw [jst_eq]; exact ll.symm }, fun k k0 k1 => by { rw [jst_o (by omega)]; exact kc k k0 k1 }⟩
        have M17 : MS B n q2 (jst h15 a1 2 v14) := MS_fr ms2 (fun s s0 s1 => jst_o (by omega))
        generalize jst h15 a1 2 v14 = g17 at *
        refine OK_jb2 (vX14_passName (B := B) (n := n) _ (by exact TR0 _ F17) (by (first | assumption | omega | ((try dsimp only [jt2, jt3, jt4]); first | omega | (simp (disch := omega) only [jst_eq, jst_ne, jst_ni, jst_o, jI_i, jcpy_out, w32_id, jdiv_nn, jshr_k, jand_255] <;> first | done | omega | assumption)) | (intros; simp (disch := omega) only [jst_eq, jst_ne, jst_ni, jst_o, jI_i, jcpy_out, w32_id, jdiv_nn, *] <;> first | done | omega) | (intros; simp (disch := omega) only [jst_eq, jst_ne, jst_ni, jst_o, jI_i, jcpy_out, w32_id, jdiv_nn] at * <;> first | done | omega | assumption) | (intros; first | rfl | (exfalso; omega) | ((repeat' apply And.intro) <;> first | assumption | rfl | omega | trivial)))) (by exact M17)) (fun t19 h21 r4 => ?_)
        try dsimp only [Sum.elim_inl, Sum.elim_inr, jt2, jt3, jt4, jt5, jt6, jt7, jt8] at r4
        obtain ⟨r4, fr4⟩ := r4
        try simp (disch := omega) only [jst_eq, jst_ne, jst_ni, jI_i, jcmp_lt, jcmp_gt, w32_id, jcpy_out, Sum.elim_inl, Sum.elim_inr, jt2, jt3, jt4, jt5, jt6, jt7, jt8] at r4
        try simp (disch := omega) only [jst_eq, jst_ne, jst_ni, jI_i, jcmp_lt, jcmp_gt, w32_id, jcpy_out, Sum.elim_inl, Sum.elim_inr, jt2, jt3, jt4, jt5, jt6, jt7, jt8] at fr4
        have F21 : frLm a1 D h h21 := frL_t F17 (frL_p (fun b s y1 y2 => fr4 b s (by omega) y2))
        have V21 : h21 454 17 = D ∧ h21 454 30 = 0 ∧ h21 454 31 = 2147483647 := by { rw [fr4 _ _ (by omega) (by omega), fr4 _ _ (by omega) (by omega), fr4 _ _ (by omega) (by omega)]; exact V17 }
        have K21 : h21 a1 2 = (l.length : Int) ∧ kC h21 (a1 + 1) l := ⟨by { rw [fr4 _ _ (by omega) (by omega)]; exact K17.1 }, fun k k0 k1 => by { rw [fr4 _ _ (by omega) (by omega)]; exact K17.2 k k0 k1 }⟩
        refine OK_jq (fun c4 => ?_) (fun c4 => ?_)
        · skip
          refine OK_some ?_
          try dsimp only [Sum.elim_inl, Sum.elim_inr, jt2, jt3, jt4, jt5, jt6, jt7, jt8]
          try dsimp only [Sum.elim_inl, Sum.elim_inr, jt2, jt3, jt4, jt5, jt6, jt7, jt8]
          refine ⟨?_, ?_⟩
          · (obtain ⟨z, e, t1, t2⟩ := rM_l r4 c4; rw [PO3, e]; exact ⟨t1, t2⟩) -- o20 e4.1
          · exact F21 -- o21 e4.2
        · skip
          obtain ⟨q3, e3, ms3⟩ := rM_r r4 c4
          have PO4 : bS (beg B n) (pLo B n) = bS (pTs B n q3) fun x4 => pLo4 B n l x4.1 x4.2 := by { rw [PO3, e3]; rfl }
          clear PO3 r4
          have q30 := ms3.2.2
          refine OK_jb3 (vX14_terms (B := B) (n := n) _ (by (first | assumption | omega | ((try dsimp only [jt2, jt3, jt4]); first | omega | (simp (disch := omega) only [jst_eq, jst_ne, jst_ni, jst_o, jI_i, jcpy_out, w32_id, jdiv_nn, jshr_k, jand_255] <;> first | done | omega | assumption)) | (intros; simp (disch := omega) only [jst_eq, jst_ne, jst_ni, jst_o, jI_i, jcpy_out, w32_id, jdiv_nn, *] <;> first | done | omega) | (intros; simp (disch := omega) only [jst_eq, jst_ne, jst_ni, jst_o, jI_i, jcpy_out, w32_id, jdiv_nn] at * <;> first | done | omega | assumption) | (intros; first | rfl | (exfalso; omega) | ((repeat' apply And.intro) <;> first | assumption | rfl | omega | trivial)))) (by exact TR0 _ F21) (by exact ms3) (by exact ⟨by omega, (AR _ F21).2.2.1⟩) (by (rw [V21.1]; omega))) (fun t24 v25 h26 r5 => ?_)
          try dsimp only [Sum.elim_inl, Sum.elim_inr, jt2, jt3, jt4, jt5, jt6, jt7, jt8] at r5
          obtain ⟨tm5, fr5⟩ := r5
          try simp (disch := omega) only [jst_eq, jst_ne, jst_ni, jI_i, jcmp_lt, jcmp_gt, w32_id, jcpy_out, Sum.elim_inl, Sum.elim_inr, jt2, jt3, jt4, jt5, jt6, jt7, jt8] at tm5
          try simp (disch := omega) only [jst_eq, jst_ne, jst_ni, jI_i, jcmp_lt, jcmp_gt, w32_id, jcpy_out, Sum.elim_inl, Sum.elim_inr, jt2, jt3, jt4, jt5, jt6, jt7, jt8] at fr5
          have TM5 := tms_l (v := 0) tm5
          have N26 : D ≤ h26 454 17 ∧ h26 454 17 ≤ D + 1100 := by { have x := fr5.2; rw [V21.1] at x; omega }
          have F26 : frLm a1 D h h26 := frL_t F21 (frL_a (by rw [V21.1]; exact Int.le_refl _) N26.2 (Or.inl rfl) fr5.1)
          refine OK_jq (fun c5 => ?_) (fun c5 => ?_)
          · skip
            refine OK_some ?_
            try dsimp only [Sum.elim_inl, Sum.elim_inr, jt2, jt3, jt4, jt5, jt6, jt7, jt8]
            try dsimp only [Sum.elim_inl, Sum.elim_inr, jt2, jt3, jt4, jt5, jt6, jt7, jt8]
            refine ⟨?_, ?_⟩
            · (obtain ⟨t1, z, e, t2⟩ := TM5.1 c5; rw [PO4, e]; exact ⟨t1, t2⟩) -- o27 e5.1
            · exact F26 -- o28 e5.2
          · skip
            obtain ⟨ts, q4, e4, ms4, b1, b2, b3, b4, b5⟩ := TM5.2 c5
            rw [V21.1] at b1 b3 fr5
            clear TM5 tm5
            have PO5 : bS (beg B n) (pLo B n) = pLo4 B n l ts q4 := by { rw [PO4, e4]; rfl }
            clear PO4
            have OT := pTs_o hB n2 q30.1 q30.2 ms3.2.1 e4
            have S1 := szL_0 ts
            have V26 : h26 454 30 = 0 ∧ h26 454 31 = 2147483647 := by { rw [fr5.1 454 30 (by omega) (by omega) (by omega) (by omega) (by omega), fr5.1 454 31 (by omega) (by omega) (by omega) (by omega) (by omega)]; exact V21.2 }
            have K26 : h26 a1 2 = (l.length : Int) ∧ kC h26 (a1 + 1) l := ⟨by { rw [fr5.1 _ _ (by omega) (by omega) (by omega) (by omega) (by omega)]; exact K21.1 }, fun k k0 k1 => by { rw [fr5.1 _ _ (by omega) (by omega) (by omega) (by omega) (by omega)]; exact K21.2 k k0 k1 }⟩
            have q40 := ms4.2.2
            have LS26 : lsW h26 (a1 + 3) D (EL E l) ts 0 := lsW_of b3 OT.2.2.2.1 (by omega) (by omega)
            refine OK_mono (vX14_readLoop_k1 (B := B) (n := n) (D := D) (q4 := q4) (E := E) (Rf := Rf) (h0 := h) (l := l) (ts := ts) _ _ (by exact hB) (by exact ⟨lo, t, en, ar⟩) (by exact F26) (by exact ms4) (by exact ⟨b1, by omega⟩) (by exact ⟨V26, ⟨K26.1, K26.2, by omega⟩, LS26, ordL_w (by omega) OT.2.1⟩) (by exact b4)) (fun r r6 => ?_)
            obtain ⟨y1, y2⟩ := r
            try dsimp only [Sum.elim_inl, Sum.elim_inr, jt2, jt3, jt4, jt5, jt6, jt7, jt8] at r6
            obtain ⟨lm6, fr6⟩ := r6
            try simp (disch := omega) only [jst_eq, jst_ne, jst_ni, jI_i, jcmp_lt, jcmp_gt, w32_id, jcpy_out, Sum.elim_inl, Sum.elim_inr, jt2, jt3, jt4, jt5, jt6, jt7, jt8] at lm6
            try simp (disch := omega) only [jst_eq, jst_ne, jst_ni, jI_i, jcmp_lt, jcmp_gt, w32_id, jcpy_out, Sum.elim_inl, Sum.elim_inr, jt2, jt3, jt4, jt5, jt6, jt7, jt8] at fr6
            try dsimp only [Sum.elim_inl, Sum.elim_inr, jt2, jt3, jt4, jt5, jt6, jt7, jt8]
            try dsimp only [Sum.elim_inl, Sum.elim_inr, jt2, jt3, jt4, jt5, jt6, jt7, jt8]
            refine ⟨?_, ?_⟩
            · (rw [PO5]; exact lm6) -- o36 e6.1
            · exact fr6 -- o37 e6.2

