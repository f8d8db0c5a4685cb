/-! m: an ask is read, whole -/
theorem pcsM_le {B : Int → Int} {n a D N N' : Int} {E : EV} {h : AH} {l : List (Int × Int)} (x : pcsM B n E h a D N l) (le : N ≤ N') : pcsM B n E h a D N' l := fun i i12 u eu => by
  obtain ⟨z1, z2, z3⟩ := x i i12 u eu
  refine ⟨z1, z2, ?_⟩
  rcases z3 with z | z
  · obtain ⟨w1, w2⟩ := z.2
    exact Or.inl ⟨z.1, ⟨w1.1, by omega⟩, w2⟩
  · exact Or.inr z
def alT (p : ASt) : Int := if 256 < rwT (kL p.1) p.1.length then 0 else 1
def ptT (p : ASt) : Int := if 256 < rwT (kL p.1) p.1.length then ((rwsO p.2.2.2).length : Int) else rwT (kL p.1) p.1.length
/-- an ask as m keeps it for long -/
def apM (B : Int → Int) (n a D : Int) (E : EV) (p : ASt) (h : AH) : Prop := (isX16 a ∧ h a 3 = (p.1.length : Int) ∧ 1 ≤ p.1.length ∧ p.1.length ≤ 3 ∧ kC h (a + 1) p.1) ∧ (h a 4 = kch p.2.1 ∧ 0 ≤ p.2.1 ∧ p.2.1 ≤ 2) ∧ (pcsM B n E h a D (h 454 17) p.2.2.1 ∧ h a 5 = (p.2.2.1.length : Int)) ∧ (h a 9 = ((rwsO p.2.2.2).length : Int) ∧ (rwsO p.2.2.2).length ≤ 12 ∧ ∀ i : Nat, i < 12 → ∀ r, (rwsO p.2.2.2)[i]? = some r → rwkM B n a i p.1 r h) ∧ (h a 12 = ((lwsO p.2.2.2).length : Int) ∧ (lwsO p.2.2.2).length ≤ 4 ∧ ∀ i : Nat, i < 4 → ∀ r, (lwsO p.2.2.2)[i]? = some r → lwkM B n a D E p.1 p.2.1 i r h) ∧ (h a 17 = alT p ∧ h a 18 = ptT p ∧ 0 ≤ ptT p ∧ ptT p ≤ 256 ∧ ∀ i q, 0 ≤ i → i < ptT p → 0 ≤ q → q < 3 → h (a + 11) (3 * i + q) = if alT p = 0 then h (a + 5) (3 * i + q) else vaT (kL p.1) (p.1.length : Int) i q) ∧ (h a 20 = 0 ∧ h a 26 = 0 ∧ h a 27 = 100) ∧ (D ≤ h 454 17 ∧ h 454 17 ≤ D + 1000)
def vAM (B : Int → Int) (n a D : Int) (E : EV) (P : Int ⊕ ASt) (t : Int) (h' : AH) : Prop := match P with
  | .inl z => t = 472 ∧ MF z h'
  | .inr p => resK (fkAs B n E p) t h' ∧ (fkAs B n E p = 1000000 → apM B n a D E p h')
/-- cells that m's reader of an ask may change -/
def frAk (a D : Int) (h h' : AH) : Prop := ∀ b s, ¬ (b = 454 ∧ (s = 17 ∨ (26 ≤ s ∧ s ≤ 31) ∨ s = 34)) → ¬ (b = 472 ∧ (s = 6 ∨ s = 7)) → ¬ (460 ≤ b ∧ b ≤ 470 ∧ b ≠ 464 ∧ D ≤ s ∧ s < D + 1100) → ¬ (b = 464 ∧ 3 * D ≤ s ∧ s < 3 * D + 3300) → ¬ ((b = 474 ∨ b = 475) ∧ 0 ≤ s ∧ s < 3) → ¬ (b = a ∧ (s = 3 ∨ s = 4 ∨ s = 5 ∨ s = 9 ∨ s = 12 ∨ s = 17 ∨ s = 18 ∨ s = 20 ∨ s = 26 ∨ s = 27)) → ¬ (a + 1 ≤ b ∧ b ≤ a + 11 ∧ 0 ≤ s) → h' b s = h b s
theorem frAk_t {a D : Int} {h h1 h2 : AH} (x : frAk a D h h1) (y : frAk a D h1 h2) : frAk a D h h2 := fun b s y1 y2 y3 y4 y5 y6 y7 => (y b s y1 y2 y3 y4 y5 y6 y7).trans (x b s y1 y2 y3 y4 y5 y6 y7)
theorem frAk_i {a N D : Int} {h h' : AH} (d : D ≤ N) (f : frIm a N D h h') : frAk a D h h' := fun b s y1 y2 y3 y4 y5 y6 y7 => f b s y1 y2 (by omega) (by omega) y5 (by omega) (by omega)
theorem frAk_p {a D : Int} {h h' : AH} (f : frPm a D h h') : frAk a D h h' := fun b s y1 y2 y3 y4 y5 y6 y7 => f b s (by omega) y2 (by omega) (by omega) (by omega)
theorem frAk_n {a D : Int} {h h' : AH} (f : ∀ b s, ¬ (b = 454 ∧ 26 ≤ s ∧ s ≤ 29) → ¬ (b = 472 ∧ (s = 6 ∨ s = 7)) → h' b s = h b s) : frAk a D h h' := fun b s y1 y2 _ _ _ _ _ => f b s (by omega) y2
theorem frAk_q {a D : Int} {h h' : AH} (f : frPt a h h') : frAk a D h h' := fun b s _ _ _ _ _ y6 y7 => f b s (by omega) (by omega)
theorem rk_fin {B : Int → Int} {n a D t t1 : Int} {E : EV} {Rf : Int → TR} {p : ASt} {h h58 h' : AH} (it : aiM B n a D E Rf p.1 p.2.1 p.2.2.2 h) (R12 : (rwsO p.2.2.2).length ≤ 12) (L4 : (lwsO p.2.2.2).length ≤ 4) (pc : pcsM B n E h a D (h 454 17) p.2.2.1 ∧ h a 5 = (p.2.2.1.length : Int)) (dd : 0 ≤ D ∧ D ≤ 1100 ∧ D ≤ h 454 17 ∧ h 454 17 ≤ D + 1000) (KB : fkAs B n E p = 1000000) (f58 : ∀ b s, ¬ (b = 472 ∧ (s = 6 ∨ s = 7)) → h58 b s = h b s) (pt : ptM h58 h' a p.1 t1 (if t1 = 0 then ((rwsO p.2.2.2).length : Int) else rwT (kL p.1) p.1.length)) (te : t1 = alT p) (f : frPt a h58 h') (z : t = 0) : vAM B n a D E (.inr p) t h' := by
  obtain ⟨⟨⟨x1, x2, x3, ⟨x4, x5, x6, x7⟩, x8, x9, x10⟩, y1, y2⟩, i2, i3, i4⟩ := it
  have LA : a = 476 ∨ a = 615 := x3
  have F : ∀ b s, ¬ (b = 472 ∧ (s = 6 ∨ s = 7)) → ¬ (b = a ∧ (s = 17 ∨ s = 18 ∨ s = 20 ∨ s = 26 ∨ s = 27)) → ¬ (b = a + 11 ∧ 0 ≤ s) → h' b s = h b s := fun b s z1 z2 z3 => (f b s z2 z3).trans (f58 b s z1)
  have PT : (if t1 = 0 then ((rwsO p.2.2.2).length : Int) else rwT (kL p.1) p.1.length) = ptT p := by
    unfold alT at te
    unfold ptT
    split at te
    · rename_i g; rw [if_pos te, if_pos g]
    · rename_i g; rw [if_neg (by omega), if_neg g]
  have PR : 0 ≤ ptT p ∧ ptT p ≤ 256 := by
    have := (rwT_r (kf := kL p.1) p.1.length).1
    unfold ptT
    split <;> omega
  rw [PT, te] at pt
  obtain ⟨p1, p2, p3, p4⟩ := pt
  have G : ∀ lo hi, agR lo hi h h' := fun lo hi => ⟨fun b s b0 b1 b2 _ _ => F b s (by omega) (by omega) (by omega), fun s _ _ => F _ s (by omega) (by omega) (by omega)⟩
  have E17 : h' 454 17 = h 454 17 := F _ _ (by omega) (by omega) (by omega)
  refine ⟨⟨fun _ => z, fun w => absurd KB w⟩, fun _ => ⟨⟨x3, by rw [F _ _ (by omega) (by omega) (by omega)]; exact x4, x5, x6, fun k k0 k1 => by rw [F _ _ (by omega) (by omega) (by omega)]; exact x7 k k0 k1⟩, by rw [F _ _ (by omega) (by omega) (by omega)]; exact x8, ⟨?_, by rw [F _ _ (by omega) (by omega) (by omega)]; exact pc.2⟩, ⟨by rw [F _ _ (by omega) (by omega) (by omega)]; exact x9.1, R12, fun i i12 r er => rwkM_f (i3 i i12 r er) x6 (fun s s0 s1 => F _ _ (by omega) (by omega) (by omega)) (F _ _ (by omega) (by omega) (by omega))⟩, ⟨by rw [F _ _ (by omega) (by omega) (by omega)]; exact y1.1, L4, fun i il r er => lwkM_f (i4 i il r er) (Int.le_refl _) (fun b s y => F b s (by omega) (by omega) (by omega)) (by omega) (G _ _)⟩, ⟨p1, p2, PR.1, PR.2, fun i q i0 i1 q0 q1 => ?_⟩, p4, by rw [E17]; exact dd.2.2⟩⟩
  · rw [E17]
    exact pcsM_f pc.1 (fun b s y => F b s (by omega) (by omega) (by omega))
  · rw [p3 i q i0 i1 q0 q1, F (a + 5) _ (by omega) (by omega) (by omega), f58 _ _ (by omega)]
noncomputable def gX14_readAsk_k3 (a1 : Int) (h : AH) : Option (Int × AH) := jb2 (gX14_finish h) fun t56 h58 => jq t56 (some (t56, h58)) <| jb (gX14_rowsOf (a1 + 1) 0 (h58 a1 3) h58) fun v61 => if 256 < v61 then (gX14_readAsk_j175 a1 v61 a1 0 h58) else (gX14_readAsk_j175 a1 v61 a1 1 h58)
noncomputable def gX14_readAsk_k2 (a1 : Int) (h : AH) : Option (Int × AH) := jb (gX14_readAsk_l92 a1 h) fun o46 => jm o46 (fun o48 => jb2 (gX14_fail 1 (o48 454 29) o48) fun v51 h52 => jg (¬ v51 = 0 ∧ v51 = 472) <| some (472, h52)) (fun o49 => jm o49 (fun o53 => gX14_readAsk_k3 a1 o53) (fun o54 => jt2 o54 fun y63 h64 => jg (¬ y63 = 0) <| some (y63, h64)))
noncomputable def gX14_readAsk_k1 (a1 : Int) (h : AH) : Option (Int × AH) := jb (gX14_readAsk_l72 a1 h) fun o37 => jm o37 (fun o39 => jb2 (gX14_passSign 59 o39) fun t42 h44 => jq t42 (some (t42, h44)) <| gX14_readAsk_k2 a1 h44) (fun o40 => jt2 o40 fun y65 h66 => jg (¬ y65 = 0) <| some (y65, h66))
theorem vX14_readAsk_k3 (a1 : Int) {h : AH} {B : Int → Int} {n D q : Int} {E : EV} {Rf : Int → TR} {p : ASt} {N : Int} (it : aiM B n a1 D E Rf p.1 p.2.1 p.2.2.2 h) (ms : MS B n q h) (o0 : tO B n q = 0) (mk : MK h = fkAs B n E p) (tp : (0 ≤ D ∧ D ≤ 1100 ∧ D ≤ h 454 17 ∧ 2 * (h 454 17 - D) ≤ q) ∧ (12 < (rwsO p.2.2.2).length → MK h ≤ 20000) ∧ (4 < (lwsO p.2.2.2).length → MK h ≤ 20000)) (pc : pcsM B n E h a1 D (h 454 17) p.2.2.1 ∧ h a1 5 = (p.2.2.1.length : Int)) (ar : h (a1 + 11) (-2) = 101 ∧ h (a1 + 11) (-1) = 768) : OK (gX14_readAsk_k3 a1 h) (fun r => jt2 r fun t h' => (vAM B n a1 D E (.inr p) t h') ∧ (frAk a1 D h h')) := by
  obtain ⟨x1, x2, x3, ⟨x4, x5, x6, x7⟩, x8, x9, x10⟩ := it.1.1
  have LA : a1 = 476 ∨ a1 = 615 := x3
  have n2 := x1.2.2.1
  have qb := ms.2
  unfold gX14_readAsk_k3
  refine OK_jb2 (vX14_finish (B := B) (n := n) (q := q) (by exact ms) (by exact x2)) (fun t56 h58 r1 => ?_)
  try dsimp only [Sum.elim_inl, Sum.elim_inr, jt2, jt3, jt4, jt5, jt6, jt7, jt8] at r1
  obtain ⟨bad1, good1, flt1, fr1⟩ := r1
  try simp (disch := omega) only [jst_eq, jst_ne, jst_ni, jI_i, jcmp_lt, jcmp_gt, w32_id, jcpy_out, Sum.elim_inl, Sum.elim_inr, jt2, jt3, jt4, jt5, jt6, jt7, jt8] at bad1
  try simp (disch := omega) only [jst_eq, jst_ne, jst_ni, jI_i, jcmp_lt, jcmp_gt, w32_id, jcpy_out, Sum.elim_inl, Sum.elim_inr, jt2, jt3, jt4, jt5, jt6, jt7, jt8] at good1
  try simp (disch := omega) only [jst_eq, jst_ne, jst_ni, jI_i, jcmp_lt, jcmp_gt, w32_id, jcpy_out, Sum.elim_inl, Sum.elim_inr, jt2, jt3, jt4, jt5, jt6, jt7, jt8] at flt1
  try simp (disch := omega) only [jst_eq, jst_ne, jst_ni, jI_i, jcmp_lt, jcmp_gt, w32_id, jcpy_out, Sum.elim_inl, Sum.elim_inr, jt2, jt3, jt4, jt5, jt6, jt7, jt8] at fr1
  have RK : resK (fkAs B n E p) t56 h58 := by { rw [← mk]; exact ⟨good1 o0, flt1 o0⟩ }
  refine OK_jq (fun c1 => ?_) (fun c1 => ?_)
  · skip
    refine OK_some ?_
    try dsimp only [Sum.elim_inl, Sum.elim_inr, jt2, jt3, jt4, jt5, jt6, jt7, jt8]
    try dsimp only [Sum.elim_inl, Sum.elim_inr, jt2, jt3, jt4, jt5, jt6, jt7, jt8]
    refine ⟨?_, ?_⟩
    · exact ⟨RK, fun z => absurd (RK.1 z) c1⟩ -- o3 e1.1
    · exact frAk_n (fun b s y1 y2 => fr1 b s y2) -- o4 e1.2
  · skip
    have KB : fkAs B n E p = 1000000 := Classical.byContradiction fun z => by { have := (RK.2 z).1; omega }
    have R12 : (rwsO p.2.2.2).length ≤ 12 := by { have := tp.2.1; omega }
    have L4 : (lwsO p.2.2.2).length ≤ 4 := by { have := tp.2.2; omega }
    have KC : kC h58 (a1 + 1) p.1 := fun k k0 k1 => by { rw [fr1 _ _ (by omega)]; exact x7 k k0 k1 }
    have KD : (h58 (a1 + 1) (-2) = 101 ∧ h58 (a1 + 1) (-1) = 3) ∧ (h58 (a1 + 11) (-2) = 101 ∧ h58 (a1 + 11) (-1) = 768) ∧ h58 a1 3 = (p.1.length : Int) ∧ p.1.length ≤ 3 ∧ kC h58 (a1 + 1) p.1 := by { refine ⟨?_, ?_, ?_, x6, KC⟩; { rw [fr1 _ _ (by omega), fr1 _ _ (by omega)]; exact it.2.1 }; { rw [fr1 _ _ (by omega), fr1 _ _ (by omega)]; exact ar }; { rw [fr1 _ _ (by omega)]; exact x4 } }
    have E9 : h58 a1 9 = ((rwsO p.2.2.2).length : Int) := (fr1 _ _ (by omega)).trans x9.1
    refine OK_jb (vX14_rowsOf (n := (p.1.length : Int)) (kf := kL p.1) _ _ _ (by exact ⟨KD.1.1, by decide, by decide, by rw [KD.1.2]; omega, KD.2.2.1, by omega, by omega⟩) (by (intro k k0 k1; rw [Int.zero_add]; exact KC k k0 k1))) (fun v61 r2 => ?_)
    try dsimp only [Sum.elim_inl, Sum.elim_inr, jt2, jt3, jt4, jt5, jt6, jt7, jt8] at r2
    have pv2 := r2
    clear r2
    try simp (disch := omega) only [jst_eq, jst_ne, jst_ni, jI_i, jcmp_lt, jcmp_gt, w32_id, jcpy_out, Sum.elim_inl, Sum.elim_inr, jt2, jt3, jt4, jt5, jt6, jt7, jt8] at pv2
    have V61 : v61 = rwT (kL p.1) p.1.length := by { rw [pv2, show (p.1.length : Int).toNat = p.1.length by omega] }
    have V0 : 0 ≤ v61 := by { rw [V61]; exact (rwT_r _).1 }
    have FIN : ∀ (t1 : Int) (t : Int) (h' : AH), t1 = alT p → t = 0 → ptM h58 h' a1 p.1 t1 (if t1 = 0 then ((rwsO p.2.2.2).length : Int) else v61) → frPt a1 h58 h' → vAM B n a1 D E (.inr p) t h' ∧ frAk a1 D h h' := fun t1 t h' te z pt f => ⟨rk_fin it R12 L4 pc ⟨tp.1.1, tp.1.2.1, tp.1.2.2.1, by omega⟩ KB fr1 (by rw [V61] at pt; exact pt) te f z, frAk_t (frAk_n (fun b s y1 y2 => fr1 b s y2)) (frAk_q f)⟩
    refine OK_if (fun c2 => ?_) (fun c2 => ?_)
    · skip
      try simp (disch := omega) only [jst_eq, jst_ne, jst_ni, jI_i, jcmp_lt, jcmp_gt, w32_id, jcpy_out, Sum.elim_inl, Sum.elim_inr, jt2, jt3, jt4, jt5, jt6, jt7, jt8] at c2
      refine OK_mono (vX14_readAsk_j175 (ks := p.1) (m := ((rwsO p.2.2.2).length : Int)) _ _ _ _ (by exact ⟨x3, rfl, Or.inl rfl, E9, by omega, by omega, V0, fun z => by omega⟩) (by exact KD)) (fun r r3 => ?_)
      obtain ⟨y1, y2⟩ := r
      try dsimp only [Sum.elim_inl, Sum.elim_inr, jt2, jt3, jt4, jt5, jt6, jt7, jt8] at r3
      obtain ⟨t03, pt3, fr3⟩ := r3
      try simp (disch := omega) only [jst_eq, jst_ne, jst_ni, jI_i, jcmp_lt, jcmp_gt, w32_id, jcpy_out, Sum.elim_inl, Sum.elim_inr, jt2, jt3, jt4, jt5, jt6, jt7, jt8] at t03
      try simp (disch := omega) only [jst_eq, jst_ne, jst_ni, jI_i, jcmp_lt, jcmp_gt, w32_id, jcpy_out, Sum.elim_inl, Sum.elim_inr, jt2, jt3, jt4, jt5, jt6, jt7, jt8] at pt3
      try simp (disch := omega) only [jst_eq, jst_ne, jst_ni, jI_i, jcmp_lt, jcmp_gt, w32_id, jcpy_out, Sum.elim_inl, Sum.elim_inr, jt2, jt3, jt4, jt5, jt6, jt7, jt8] at fr3
      try dsimp only [Sum.elim_inl, Sum.elim_inr, jt2, jt3, jt4, jt5, jt6, jt7, jt8]
      try dsimp only [Sum.elim_inl, Sum.elim_inr, jt2, jt3, jt4, jt5, jt6, jt7, jt8]
      refine ⟨?_, ?_⟩
      · exact (FIN 0 _ _ (by unfold alT; rw [if_pos (by omega)]) t03 pt3 fr3).1 -- o9 e2.1
      · exact (FIN 0 _ _ (by unfold alT; rw [if_pos (by omega)]) t03 pt3 fr3).2 -- o10 e2.2
    · skip
      try simp (disch := omega) only [jst_eq, jst_ne, jst_ni, jI_i, jcmp_lt, jcmp_gt, w32_id, jcpy_out, Sum.elim_inl, Sum.elim_inr, jt2, jt3, jt4, jt5, jt6, jt7, jt8] at c2
      refine OK_mono (vX14_readAsk_j175 (ks := p.1) (m := ((rwsO p.2.2.2).length : Int)) _ _ _ _ (by exact ⟨x3, rfl, Or.inr rfl, E9, by omega, by omega, V0, fun _ => by omega⟩) (by exact KD)) (fun r r4 => ?_)
      obtain ⟨y3, y4⟩ := r
      try dsimp only [Sum.elim_inl, Sum.elim_inr, jt2, jt3, jt4, jt5, jt6, jt7, jt8] at r4
      obtain ⟨t04, pt4, fr4⟩ := r4
      try simp (disch := omega) only [jst_eq, jst_ne, jst_ni, jI_i, jcmp_lt, jcmp_gt, w32_id, jcpy_out, Sum.elim_inl, Sum.elim_inr, jt2, jt3, jt4, jt5, jt6, jt7, jt8] at t04
      try simp (disch := omega) only [jst_eq, jst_ne, jst_ni, jI_i, jcmp_lt, jcmp_gt, w32_id, jcpy_out, Sum.elim_inl, Sum.elim_inr, jt2, jt3, jt4, jt5, jt6, jt7, jt8] at pt4
      try simp (disch := omega) only [jst_eq, jst_ne, jst_ni, jI_i, jcmp_lt, jcmp_gt, w32_id, jcpy_out, Sum.elim_inl, Sum.elim_inr, jt2, jt3, jt4, jt5, jt6, jt7, jt8] at fr4
      try dsimp only [Sum.elim_inl, Sum.elim_inr, jt2, jt3, jt4, jt5, jt6, jt7, jt8]
      try dsimp only [Sum.elim_inl, Sum.elim_inr, jt2, jt3, jt4, jt5, jt6, jt7, jt8]
      refine ⟨?_, ?_⟩
      · exact (FIN 1 _ _ (by unfold alT; rw [if_neg (by omega)]) t04 pt4 fr4).1 -- o13 e3.1
      · exact (FIN 1 _ _ (by unfold alT; rw [if_neg (by omega)]) t04 pt4 fr4).2 -- o14 e3.2
theorem vX14_readAsk_k2 (a1 : Int) {h : AH} {B : Int → Int} {n D q la N : Int} {E : EV} {Rf : Int → TR} {ks : List Int} {ps : List (Int × Int)} (hB : ∀ i, 0 ≤ i → i < n → 0 ≤ B i ∧ B i < 256) (ni : itN B n a1 D (pkL B n E [] ps) E Rf ks la (pIts B n 2002 [] q) [] q h) (dd : 0 ≤ D ∧ D ≤ 1100 ∧ h 454 17 = N) (pc : pcsM B n E h a1 D N ps ∧ h a1 5 = (ps.length : Int)) (ar : h (a1 + 11) (-2) = 101 ∧ h (a1 + 11) (-1) = 768) : OK (gX14_readAsk_k2 a1 h) (fun r => jt2 r fun t h' => (vAM B n a1 D E (bS (pIts B n 2002 [] q) fun its => .inr (ks, la, ps, its)) t h') ∧ (frAk a1 D h h')) := by
  have LA : a1 = 476 ∨ a1 = 615 := ni.1.1.1.2.2.1
  have n2 := ni.1.1.1.1.2.2.1
  have R5 := ni.2.2.2.2.1
  have qb := ni.2.1.2
  unfold gX14_readAsk_k2
  refine OK_jb (vX14_readAsk_l92 (B := B) (n := n) (D := D) (K := pkL B n E [] ps) (q0 := q) (la := la) (N := N) (E := E) (Rf := Rf) (ks := ks) (WV := pIts B n 2002 [] q) _ (by exact hB) (by exact ni) (by exact dd)) (fun o46 r1 => ?_)
  rcases o46 with o48 | o49
  · skip
    have r2 := r1; clear r1
    dsimp only [Sum.elim_inl, Sum.elim_inr] at r2
    try dsimp only [Sum.elim_inl, Sum.elim_inr, jt2, jt3, jt4, jt5, jt6, jt7, jt8] at r2
    obtain ⟨ok1, fr1⟩ := r2
    try simp (disch := omega) only [jst_eq, jst_ne, jst_ni, jI_i, jcmp_lt, jcmp_gt, w32_id, jcpy_out, Sum.elim_inl, Sum.elim_inr, jt2, jt3, jt4, jt5, jt6, jt7, jt8] at ok1
    try simp (disch := omega) only [jst_eq, jst_ne, jst_ni, jI_i, jcmp_lt, jcmp_gt, w32_id, jcpy_out, Sum.elim_inl, Sum.elim_inr, jt2, jt3, jt4, jt5, jt6, jt7, jt8] at fr1
    refine OK_jml ?_
    obtain ⟨q1, w1, ms1⟩ := ok1
    refine OK_jb2 (vX14_fail _ _) (fun v51 h52 r3 => ?_)
    try dsimp only [Sum.elim_inl, Sum.elim_inr, jt2, jt3, jt4, jt5, jt6, jt7, jt8] at r3
    obtain ⟨fv2, fh2⟩ := r3
    try simp (disch := omega) only [jst_eq, jst_ne, jst_ni, jI_i, jcmp_lt, jcmp_gt, w32_id, jcpy_out, Sum.elim_inl, Sum.elim_inr, jt2, jt3, jt4, jt5, jt6, jt7, jt8] at fv2
    try simp (disch := omega) only [jst_eq, jst_ne, jst_ni, jI_i, jcmp_lt, jcmp_gt, w32_id, jcpy_out, Sum.elim_inl, Sum.elim_inr, jt2, jt3, jt4, jt5, jt6, jt7, jt8] at fh2
    refine OK_jg (by (first | assumption | omega | ((try dsimp only [jt2, jt3, jt4]); first | omega | (simp (disch := omega) only [jst_eq, jst_ne, jst_ni, jst_o, jI_i, jcpy_out, w32_id, jdiv_nn, jshr_k, jand_255] <;> first | done | omega | assumption)) | (intros; simp (disch := omega) only [jst_eq, jst_ne, jst_ni, jst_o, jI_i, jcpy_out, w32_id, jdiv_nn, *] <;> first | done | omega) | (intros; simp (disch := omega) only [jst_eq, jst_ne, jst_ni, jst_o, jI_i, jcpy_out, w32_id, jdiv_nn] at * <;> first | done | omega | assumption) | (intros; first | rfl | (exfalso; omega) | ((repeat' apply And.intro) <;> first | assumption | rfl | omega | trivial)))) ?_ -- o4
    refine OK_some ?_
    try dsimp only [Sum.elim_inl, Sum.elim_inr, jt2, jt3, jt4, jt5, jt6, jt7, jt8]
    try dsimp only [Sum.elim_inl, Sum.elim_inr, jt2, jt3, jt4, jt5, jt6, jt7, jt8]
    refine ⟨?_, ?_⟩
    · (rw [w1]; refine ⟨rfl, ?_, ?_⟩; { rw [fh2]; (try simp (disch := omega) only [jst_eq, jst_ne, jst_ni, jI_i, jcmp_lt, jcmp_gt, w32_id, jcpy_out, Sum.elim_inl, Sum.elim_inr, jt2, jt3, jt4, jt5, jt6, jt7, jt8]) }; { rw [fh2, jst_eq]; exact ms1.1.1 }) -- o5 e1.1
    · (rw [fh2]; exact frAk_t (frAk_i (by omega) fr1) (fun b s y1 y2 _ _ _ _ _ => by (rw [jst_o (by omega), jst_o (by omega)]))) -- o6 e1.2
  · skip
    have r4 := r1; clear r1
    dsimp only [Sum.elim_inl, Sum.elim_inr] at r4
    refine OK_jmr ?_
    rcases o49 with o53 | o54
    · skip
      have r5 := r4; clear r4
      dsimp only [Sum.elim_inl, Sum.elim_inr] at r5
      try dsimp only [Sum.elim_inl, Sum.elim_inr, jt2, jt3, jt4, jt5, jt6, jt7, jt8] at r5
      obtain ⟨ok3, tn3, fr3⟩ := r5
      try simp (disch := omega) only [jst_eq, jst_ne, jst_ni, jI_i, jcmp_lt, jcmp_gt, w32_id, jcpy_out, Sum.elim_inl, Sum.elim_inr, jt2, jt3, jt4, jt5, jt6, jt7, jt8] at ok3
      try simp (disch := omega) only [jst_eq, jst_ne, jst_ni, jI_i, jcmp_lt, jcmp_gt, w32_id, jcpy_out, Sum.elim_inl, Sum.elim_inr, jt2, jt3, jt4, jt5, jt6, jt7, jt8] at tn3
      try simp (disch := omega) only [jst_eq, jst_ne, jst_ni, jI_i, jcmp_lt, jcmp_gt, w32_id, jcpy_out, Sum.elim_inl, Sum.elim_inr, jt2, jt3, jt4, jt5, jt6, jt7, jt8] at fr3
      refine OK_jml ?_
      obtain ⟨its, q1, w1, it1, ms1, mk1, tp1, o1, r12, l4⟩ := ok3
      refine OK_mono (vX14_readAsk_k3 (B := B) (n := n) (D := D) (q := q1) (E := E) (Rf := Rf) (p := (ks, la, ps, its)) (N := N) _ (by exact it1) (by exact ms1) (by exact o1) (by exact mk1) (by exact ⟨⟨dd.1, dd.2.1, tp1.1, tp1.2⟩, r12, l4⟩) (by exact ⟨pcsM_le (pcsM_f pc.1 (fun b s y => fr3 b s (by omega) (by omega) (by omega) (by omega) (by omega) (by omega) (by omega))) tn3, by rw [fr3 _ _ (by omega) (by omega) (by omega) (by omega) (by omega) (by omega) (by omega)]; exact pc.2⟩) (by (rw [fr3 _ _ (by omega) (by omega) (by omega) (by omega) (by omega) (by omega) (by omega), fr3 _ _ (by omega) (by omega) (by omega) (by omega) (by omega) (by omega) (by omega)]; exact ar))) (fun r r6 => ?_)
      obtain ⟨y1, y2⟩ := r
      try dsimp only [Sum.elim_inl, Sum.elim_inr, jt2, jt3, jt4, jt5, jt6, jt7, jt8] at r6
      obtain ⟨ok4, fr4⟩ := r6
      try simp (disch := omega) only [jst_eq, jst_ne, jst_ni, jI_i, jcmp_lt, jcmp_gt, w32_id, jcpy_out, Sum.elim_inl, Sum.elim_inr, jt2, jt3, jt4, jt5, jt6, jt7, jt8] at ok4
      try simp (disch := omega) only [jst_eq, jst_ne, jst_ni, jI_i, jcmp_lt, jcmp_gt, w32_id, jcpy_out, Sum.elim_inl, Sum.elim_inr, jt2, jt3, jt4, jt5, jt6, jt7, jt8] at fr4
      try dsimp only [Sum.elim_inl, Sum.elim_inr, jt2, jt3, jt4, jt5, jt6, jt7, jt8]
      try dsimp only [Sum.elim_inl, Sum.elim_inr, jt2, jt3, jt4, jt5, jt6, jt7, jt8]
      refine ⟨?_, ?_⟩
      · (rw [w1]; exact ok4) -- o14 e2.1
      · exact frAk_t (frAk_i (by omega) fr3) fr4 -- o15 e2.2
    · skip
      have r7 := r4; clear r4
      dsimp only [Sum.elim_inl, Sum.elim_inr] at r7
      refine OK_jmr ?_
      obtain ⟨y63, h64⟩ := o54
      refine OK_jt2 ?_
      try dsimp only [Sum.elim_inl, Sum.elim_inr, jt2, jt3, jt4, jt5, jt6, jt7, jt8] at r7
      obtain ⟨ok5, fr5⟩ := r7
      try simp (disch := omega) only [jst_eq, jst_ne, jst_ni, jI_i, jcmp_lt, jcmp_gt, w32_id, jcpy_out, Sum.elim_inl, Sum.elim_inr, jt2, jt3, jt4, jt5, jt6, jt7, jt8] at ok5
      try simp (disch := omega) only [jst_eq, jst_ne, jst_ni, jI_i, jcmp_lt, jcmp_gt, w32_id, jcpy_out, Sum.elim_inl, Sum.elim_inr, jt2, jt3, jt4, jt5, jt6, jt7, jt8] at fr5
      refine OK_jg (by (first | assumption | omega | ((try dsimp only [jt2, jt3, jt4]); first | omega | (simp (disch := omega) only [jst_eq, jst_ne, jst_ni, jst_o, jI_i, jcpy_out, w32_id, jdiv_nn, jshr_k, jand_255] <;> first | done | omega | assumption)) | (intros; simp (disch := omega) only [jst_eq, jst_ne, jst_ni, jst_o, jI_i, jcpy_out, w32_id, jdiv_nn, *] <;> first | done | omega) | (intros; simp (disch := omega) only [jst_eq, jst_ne, jst_ni, jst_o, jI_i, jcpy_out, w32_id, jdiv_nn] at * <;> first | done | omega | assumption) | (intros; first | rfl | (exfalso; omega) | ((repeat' apply And.intro) <;> first | assumption | rfl | omega | trivial)))) ?_ -- o16
      refine OK_some ?_
      try dsimp only [Sum.elim_inl, Sum.elim_inr, jt2, jt3, jt4, jt5, jt6, jt7, jt8]
      try dsimp only [Sum.elim_inl, Sum.elim_inr, jt2, jt3, jt4, jt5, jt6, jt7, jt8]
      refine ⟨?_, ?_⟩
      · (obtain ⟨z, e, t1, mf⟩ := ok5; rw [e]; exact ⟨t1, mf⟩) -- o17 e3.1
      · exact frAk_i (by omega) fr5 -- o18 e3.2
theorem vX14_readAsk_k1 (a1 : Int) {h : AH} {B : Int → Int} {n D q la : Int} {E : EV} {Rf : Int → TR} {ks : List Int} (hB : ∀ i, 0 ≤ i → i < n → 0 ≤ B i ∧ B i < 256) (lr : lmR B n a1 ks la 0 0 E Rf h) (c5 : h a1 5 = 0 ∧ h 454 17 = D ∧ 0 ≤ D ∧ D ≤ 1100 ∧ MK h = 1000000) (ms : MS B n q h) (ar : (h (a1 + 1) (-2) = 101 ∧ h (a1 + 1) (-1) = 3) ∧ h (a1 + 11) (-2) = 101 ∧ h (a1 + 11) (-1) = 768) : OK (gX14_readAsk_k1 a1 h) (fun r => jt2 r fun t h' => (vAM B n a1 D E (bS (pPcs B n 2002 [] q) fun x => bS (bS (pW B n 59 x.2) (pIts B n 2002 [])) fun its => .inr (ks, la, x.1, its)) t h') ∧ (frAk a1 D h h')) := by
  obtain ⟨x1, x2, x3, ⟨x4, x5, x6, x7⟩, x8, x9, x10⟩ := lr.1
  have LA : a1 = 476 ∨ a1 = 615 := x3
  have n2 := x1.2.2.1
  have qb := ms.2
  unfold gX14_readAsk_k1
  refine OK_jb (vX14_readAsk_l72 (B := B) (n := n) (D := D) (K := 1000000) (q0 := q) (E := E) (WV := pPcs B n 2002 [] q) _ (by exact hB) (by exact ⟨⟨x1, x2, lr.2.2.1, ⟨x3, c5.1, by decide⟩, ⟨by omega, by omega, by omega⟩, fun i i12 p e => by cases e⟩, ms, ⟨2002, rfl, by omega⟩, by rw [c5.2.2.2.2]; rfl, by omega, by show (0 : Int) ≤ q; omega, fun z => by cases z⟩) (by omega)) (fun o37 r1 => ?_)
  rcases o37 with o39 | o40
  · skip
    have r2 := r1; clear r1
    dsimp only [Sum.elim_inl, Sum.elim_inr] at r2
    try dsimp only [Sum.elim_inl, Sum.elim_inr, jt2, jt3, jt4, jt5, jt6, jt7, jt8] at r2
    obtain ⟨ok1, fr1⟩ := r2
    try simp (disch := omega) only [jst_eq, jst_ne, jst_ni, jI_i, jcmp_lt, jcmp_gt, w32_id, jcpy_out, Sum.elim_inl, Sum.elim_inr, jt2, jt3, jt4, jt5, jt6, jt7, jt8] at ok1
    try simp (disch := omega) only [jst_eq, jst_ne, jst_ni, jI_i, jcmp_lt, jcmp_gt, w32_id, jcpy_out, Sum.elim_inl, Sum.elim_inr, jt2, jt3, jt4, jt5, jt6, jt7, jt8] at fr1
    refine OK_jml ?_
    obtain ⟨ps, q1, w1, PQ, ms1, mk1, r1⟩ := ok1
    have F39 : ∀ b s, ¬ lmC a1 b s → o39 b s = h b s := fun b s y => by { unfold lmC at y; exact fr1 b s (by omega) (by omega) (by omega) (by omega) (by omega) }
    have LR1 : lmR B n a1 ks la 0 0 E Rf o39 := lmR_f lr F39 PQ.2.1 ⟨(fr1 _ _ (by omega) (by omega) (by omega) (by omega) (by omega)).trans x9.1, x9.2⟩ ⟨(fr1 _ _ (by omega) (by omega) (by omega) (by omega) (by omega)).trans lr.2.1.1, lr.2.1.2⟩ ⟨by have := PQ.2.2.2.2.1; omega, PQ.2.2.2.2.1.2.2⟩
    have TP := PQ.2.2.2.2.1
    have qb1 := ms1.2
    refine OK_jb2 (vX14_passSign _ (by exact PQ.1) (by exact hB) (by exact ms1)) (fun t42 h44 r3 => ?_)
    try dsimp only [Sum.elim_inl, Sum.elim_inr, jt2, jt3, jt4, jt5, jt6, jt7, jt8] at r3
    obtain ⟨r2, fr2⟩ := r3
    try simp (disch := omega) only [jst_eq, jst_ne, jst_ni, jI_i, jcmp_lt, jcmp_gt, w32_id, jcpy_out, Sum.elim_inl, Sum.elim_inr, jt2, jt3, jt4, jt5, jt6, jt7, jt8] at r2
    try simp (disch := omega) only [jst_eq, jst_ne, jst_ni, jI_i, jcmp_lt, jcmp_gt, w32_id, jcpy_out, Sum.elim_inl, Sum.elim_inr, jt2, jt3, jt4, jt5, jt6, jt7, jt8] at fr2
    refine OK_jq (fun c1 => ?_) (fun c1 => ?_)
    · skip
      refine OK_some ?_
      try dsimp only [Sum.elim_inl, Sum.elim_inr, jt2, jt3, jt4, jt5, jt6, jt7, jt8]
      try dsimp only [Sum.elim_inl, Sum.elim_inr, jt2, jt3, jt4, jt5, jt6, jt7, jt8]
      refine ⟨?_, ?_⟩
      · (rw [w1]; obtain ⟨z, e, t1, mf⟩ := rM_l r2 c1; show vAM B n a1 D E (bS (bS (pW B n 59 q1) (pIts B n 2002 [])) _) _ _; rw [e]; exact ⟨t1, mf⟩) -- o7 e1.1
      · exact frAk_t (frAk_p fr1) (frAk_n fr2) -- o8 e1.2
    · skip
      obtain ⟨q2, e2, ms2⟩ := rM_r r2 c1
      have L2 := pW_r hB qb1.2.1 qb1.2.2 qb1.1 e2
      have E17 : h44 454 17 = o39 454 17 := fr2 _ _ (by omega) (by omega)
      have PQ2 := pcQM_n PQ fr2
      have LR2 : lmR B n a1 ks la 0 0 E Rf h44 := lmR_f LR1 (fun b s y => by (unfold lmC at y; exact fr2 b s (by omega) (by omega))) PQ2.2.1 ⟨(fr2 _ _ (by omega) (by omega)).trans LR1.1.2.2.2.2.2.1.1, by decide, by decide⟩ ⟨(fr2 _ _ (by omega) (by omega)).trans LR1.2.1.1, by decide, by decide⟩ (by rw [E17]; omega)
      have A1 : (h44 (a1 + 1) (-2) = 101 ∧ h44 (a1 + 1) (-1) = 3) ∧ h44 (a1 + 11) (-2) = 101 ∧ h44 (a1 + 11) (-1) = 768 := by { have G : ∀ b s, s < 0 → ¬ (b = 454 ∨ b = 472) → h44 b s = h b s := (fun b s z1 z2 => (fr2 b s (by omega) (by omega)).trans (fr1 b s (by omega) (by omega) (by omega) (by omega) (by omega))); rw [G _ _ (by omega) (by omega), G _ _ (by omega) (by omega), G _ _ (by omega) (by omega), G _ _ (by omega) (by omega)]; exact ar }
      refine OK_mono (vX14_readAsk_k2 (B := B) (n := n) (D := D) (q := q2) (la := la) (N := h44 454 17) (E := E) (Rf := Rf) (ks := ks) (ps := ps) _ (by exact hB) (by exact ⟨⟨LR2, A1.1, fun i _ r er => (by cases er), fun i _ r er => by cases er⟩, ms2, ⟨2002, rfl, by omega⟩, by rw [MK_fr (fr2 _ _ (by omega) (by omega)) (fr2 _ _ (by omega) (by omega)), mk1]; show min 1000000 _ = min _ 1000000; omega, ⟨by rw [E17]; exact TP.2.1, by rw [E17]; omega⟩, by show (0 : Int) + 0 ≤ q2; omega, fun z => (by cases z), fun z => by cases z⟩) (by omega) (by exact ⟨PQ2.2.2.2.2.2, PQ2.2.2.2.1.2.1⟩) (by exact A1.2)) (fun r r4 => ?_)
      obtain ⟨y1, y2⟩ := r
      try dsimp only [Sum.elim_inl, Sum.elim_inr, jt2, jt3, jt4, jt5, jt6, jt7, jt8] at r4
      obtain ⟨ok3, fr3⟩ := r4
      try simp (disch := omega) only [jst_eq, jst_ne, jst_ni, jI_i, jcmp_lt, jcmp_gt, w32_id, jcpy_out, Sum.elim_inl, Sum.elim_inr, jt2, jt3, jt4, jt5, jt6, jt7, jt8] at ok3
      try simp (disch := omega) only [jst_eq, jst_ne, jst_ni, jI_i, jcmp_lt, jcmp_gt, w32_id, jcpy_out, Sum.elim_inl, Sum.elim_inr, jt2, jt3, jt4, jt5, jt6, jt7, jt8] at fr3
      try dsimp only [Sum.elim_inl, Sum.elim_inr, jt2, jt3, jt4, jt5, jt6, jt7, jt8]
      try dsimp only [Sum.elim_inl, Sum.elim_inr, jt2, jt3, jt4, jt5, jt6, jt7, jt8]
      refine ⟨?_, ?_⟩
      · (rw [w1]; show vAM B n a1 D E (bS (bS (pW B n 59 q1) (pIts B n 2002 [])) _) _ _; rw [e2]; exact ok3) -- o14 e2.1
      · exact frAk_t (frAk_p fr1) (frAk_t (frAk_n fr2) fr3) -- o15 e2.2
  · skip
    have r5 := r1; clear r1
    dsimp only [Sum.elim_inl, Sum.elim_inr] at r5
    refine OK_jmr ?_
    obtain ⟨y65, h66⟩ := o40
    refine OK_jt2 ?_
    try dsimp only [Sum.elim_inl, Sum.elim_inr, jt2, jt3, jt4, jt5, jt6, jt7, jt8] at r5
    obtain ⟨ok4, fr4⟩ := r5
    try simp (disch := omega) only [jst_eq, jst_ne, jst_ni, jI_i, jcmp_lt, jcmp_gt, w32_id, jcpy_out, Sum.elim_inl, Sum.elim_inr, jt2, jt3, jt4, jt5, jt6, jt7, jt8] at ok4
    try simp (disch := omega) only [jst_eq, jst_ne, jst_ni, jI_i, jcmp_lt, jcmp_gt, w32_id, jcpy_out, Sum.elim_inl, Sum.elim_inr, jt2, jt3, jt4, jt5, jt6, jt7, jt8] at fr4
    refine OK_jg (by (first | assumption | omega | ((try dsimp only [jt2, jt3, jt4]); first | omega | (simp (disch := omega) only [jst_eq, jst_ne, jst_ni, jst_o, jI_i, jcpy_out, w32_id, jdiv_nn, jshr_k, jand_255] <;> first | done | omega | assumption)) | (intros; simp (disch := omega) only [jst_eq, jst_ne, jst_ni, jst_o, jI_i, jcpy_out, w32_id, jdiv_nn, *] <;> first | done | omega) | (intros; simp (disch := omega) only [jst_eq, jst_ne, jst_ni, jst_o, jI_i, jcpy_out, w32_id, jdiv_nn] at * <;> first | done | omega | assumption) | (intros; first | rfl | (exfalso; omega) | ((repeat' apply And.intro) <;> first | assumption | rfl | omega | trivial)))) ?_ -- o16
    refine OK_some ?_
    try dsimp only [Sum.elim_inl, Sum.elim_inr, jt2, jt3, jt4, jt5, jt6, jt7, jt8]
    try dsimp only [Sum.elim_inl, Sum.elim_inr, jt2, jt3, jt4, jt5, jt6, jt7, jt8]
    refine ⟨?_, ?_⟩
    · (obtain ⟨z, e, t1, mf⟩ := ok4; rw [e]; exact ⟨t1, mf⟩) -- o17 e3.1
    · exact frAk_p fr4 -- o18 e3.2
theorem bS_b {α β γ : Type} (r : Int ⊕ α) (f : α → Int ⊕ β) (g : β → Int ⊕ γ) : bS r (fun x => bS (f x) g) = bS (bS r f) g := by cases r <;> rfl
/-- what m's reader of an ask needs -/
def raB (B : Int → Int) (n a D : Int) (E : EV) (Rf : Int → TR) (h : AH) : Prop := (isX16 a ∧ h a 0 = D ∧ 0 ≤ D ∧ D ≤ 1100) ∧ TM B n h ∧ actM h E ∧ ewO E ∧ ownM h E.1.1 E.1.2.2.2.1 Rf ∧ (0 ≤ h 454 35 ∧ h 454 35 ≤ 2000) ∧ (h (a + 1) (-2) = 101 ∧ h (a + 1) (-1) = 3) ∧ h (a + 11) (-2) = 101 ∧ h (a + 11) (-1) = 768
theorem pKK_n {B : Int → Int} {n : Int} {b : Bool} (hB : ∀ i, 0 ≤ i → i < n → 0 ≤ B i ∧ B i < 256) : ∀ (k : Nat) (l : List Int) (q : Int) (l' : List Int) (q1 : Int), pKK B n b (k + 1) l q = .inr (l', q1) → l.length + 1 ≤ l'.length ∧ l'.length ≤ l.length + k + 1
  | k, l, q, l', q1, w => by
    unfold pKK at w
    by_cases g : isKd B n q ∧ (b = true ∨ ¬ isN B n q 19)
    · rw [if_pos g] at w
      cases e : nx B n q with
      | inl z => rw [e] at w; cases w
      | inr q2 =>
        rw [e] at w
        have w : (if k = 0 ∨ ¬ isKd B n q2 then Sum.inr (l ++ [kdv B n q], q2) else pKK B n b k (l ++ [kdv B n q]) q2) = (.inr (l', q1) : Int ⊕ (List Int × Int)) := w
        have LL : (l ++ [kdv B n q]).length = l.length + 1 := by rw [List.length_append]; rfl
        by_cases c : k = 0 ∨ ¬ isKd B n q2
        · rw [if_pos c] at w
          cases w
          omega
        · rw [if_neg c] at w
          cases k with
          | zero => exact absurd (Or.inl rfl) c
          | succ k =>
            have ih := pKK_n hB k _ _ _ _ w
            omega
    · rw [if_neg g] at w; cases w
theorem c3_T {B : Int → Int} {n a : Int} {g12 g23 : AH} (LA : a = 476 ∨ a = 615) (t : TM B n g12) (C3 : ∀ b s, ¬ (b = 454 ∧ (26 ≤ s ∧ s ≤ 29)) → ¬ (b = 472 ∧ (s = 6 ∨ s = 7)) → ¬ (b = a ∧ s = 4) → g23 b s = g12 b s) : TM B n g23 := TM_fr t (C3 _ _ (by omega) (by omega) (by omega)) (fun s => C3 _ _ (by omega) (by omega) (by omega))
theorem ra_lr {B : Int → Int} {n a D la : Int} {E : EV} {Rf : Int → TR} {ks : List Int} {h g : AH} (bb : raB B n a D E Rf h) (C5 : ∀ b s, ¬ (b = 454 ∧ (s = 17 ∨ (26 ≤ s ∧ s ≤ 29))) → ¬ (b = 472 ∧ (s = 6 ∨ s = 7)) → ¬ (b = a + 1 ∧ 0 ≤ s ∧ s < 3) → ¬ (b = a ∧ (s = 3 ∨ s = 4 ∨ s = 5 ∨ s = 9 ∨ s = 12)) → g b s = h b s) (K36 : g 454 30 = 0 ∧ g 454 31 = 2147483647) (KN : 1 ≤ ks.length ∧ ks.length ≤ 3) (e3 : g a 3 = (ks.length : Int)) (kc : kC g (a + 1) ks) (e4 : g a 4 = kch la ∧ 0 ≤ la ∧ la ≤ 2) (e9 : g a 9 = 0) (e12 : g a 12 = 0) (e17 : g 454 17 = D) : lmR B n a ks la 0 0 E Rf g := by
  obtain ⟨b1, b2, b3, b4, b5, b6, b7, b8⟩ := bb
  have LA : a = 476 ∨ a = 615 := b1.1
  exact ⟨⟨TM_fr b2 (C5 _ _ (by omega) (by omega) (by omega) (by omega)) (fun s => C5 _ _ (by omega) (by omega) (by omega) (by omega)), Or.inl K36, b1.1, ⟨e3, KN.1, KN.2, kc⟩, e4, ⟨e9, by decide, by decide⟩, by omega, by omega⟩, ⟨e12, by decide, by decide⟩, actM_fr b3 (C5 _ _ (by omega) (by omega) (by omega) (by omega)) (fun b s z0 z1 => C5 _ _ (by omega) (by omega) (by omega) (by omega)), b4, ownM_fr b5 ⟨fun b s z0 z1 z2 _ _ => C5 _ _ (by omega) (by omega) (by omega) (by omega), fun s _ _ => C5 _ _ (by omega) (by omega) (by omega) (by omega)⟩ (fun b z0 z1 => C5 _ _ (by omega) (by omega) (by omega) (by omega)), by rw [C5 _ _ (by omega) (by omega) (by omega) (by omega)]; exact b6⟩
theorem vX14_readAsk (a1 : Int) {h : AH} {B : Int → Int} {n D : Int} {E : EV} {Rf : Int → TR} {q : Int} (hB : ∀ i, 0 ≤ i → i < n → 0 ≤ B i ∧ B i < 256) (bb : raB B n a1 D E Rf h) (ce : h 454 30 = 0 ∧ h 454 31 = 2147483647) (ms : MS B n q h) : OK (gX14_readAsk a1 h) (fun r => jt2 r fun t h' => (vAM B n a1 D E (pAsk B n q) t h') ∧ (frAk a1 D h h')) := by
  obtain ⟨b1, b2, b3, b4, b5, b6, b7, b8⟩ := id bb
  have LA : a1 = 476 ∨ a1 = 615 := b1.1
  have n2 := b2.2.2.1
  unfold gX14_readAsk
  refine OK_jl ?_
  have F1 : ∀ b s, ¬ (b = 454 ∧ s = 17) → jst h 454 17 (h a1 0) b s = h b s := fun b s y => jst_o y
  have V1 : jst h 454 17 (h a1 0) 454 17 = D := jst_eq.trans b1.2.1
  generalize jst h 454 17 (h a1 0) = g1 at *
  have W0 : pAsk B n q = bS (pN B n 125041 q) fun q1 => bS (pKK B n true 3 [] q1) fun x2 => bS (pW B n 256 x2.2) fun q3 => if isKd B n q3 then bS (nx B n q3) fun q4 => bS (pW B n 59 q4) fun q5 => bS (pN B n 15827 q5) fun q6 => bS (pPcs B n 2002 [] q6) fun x7 => bS (pW B n 59 x7.2) fun q8 => bS (pIts B n 2002 [] q8) fun its => .inr (x2.1, kdv B n q3, x7.1, its) else .inl (tS B n q3) := rfl
  refine OK_jb2 (vX14_passName _ (by exact TM_fr b2 (F1 _ _ (by omega)) (fun s => F1 _ _ (by omega))) (by exact hB) (by exact MS_fr ms (fun s s0 s1 => F1 _ _ (by omega)))) (fun t3 h5 r1 => ?_)
  try dsimp only [Sum.elim_inl, Sum.elim_inr, jt2, jt3, jt4, jt5, jt6, jt7, jt8] at r1
  obtain ⟨r1, fr1⟩ := r1
  try simp (disch := omega) only [jst_eq, jst_ne, jst_ni, jI_i, jcmp_lt, jcmp_gt, w32_id, jcpy_out, Sum.elim_inl, Sum.elim_inr, jt2, jt3, jt4, jt5, jt6, jt7, jt8] at r1
  try simp (disch := omega) only [jst_eq, jst_ne, jst_ni, jI_i, jcmp_lt, jcmp_gt, w32_id, jcpy_out, Sum.elim_inl, Sum.elim_inr, jt2, jt3, jt4, jt5, jt6, jt7, jt8] at fr1
  refine OK_jq (fun c1 => ?_) (fun c1 => ?_)
  · skip
    refine OK_some ?_
    try dsimp only [Sum.elim_inl, Sum.elim_inr, jt2, jt3, jt4, jt5, jt6, jt7, jt8]
    try dsimp only [Sum.elim_inl, Sum.elim_inr, jt2, jt3, jt4, jt5, jt6, jt7, jt8]
    refine ⟨?_, ?_⟩
    · (obtain ⟨z, e, t1, mf⟩ := rM_l r1 c1; rw [W0, e]; exact ⟨t1, mf⟩) -- o4 e1.1
    · exact frAk_t (fun b s y1 _ _ _ _ _ _ => F1 b s (by omega)) (frAk_n fr1) -- o5 e1.2
  · skip
    obtain ⟨q1, e1, ms1⟩ := rM_r r1 c1
    have C1 : ∀ b s, ¬ (b = 454 ∧ (s = 17 ∨ (26 ≤ s ∧ s ≤ 29))) → ¬ (b = 472 ∧ (s = 6 ∨ s = 7)) → h5 b s = h b s := fun b s y1 y2 => (fr1 b s (by omega) y2).trans (F1 b s (by omega))
    refine OK_jb3 (vX14_takeKinds_3 (B := B) (n := n) (q := q1) (b := true) _ _ _ (by exact TM_fr b2 (C1 _ _ (by omega) (by omega)) (fun s => C1 _ _ (by omega) (by omega))) (by exact hB) (by exact ms1) (by (rw [C1 _ _ (by omega) (by omega), C1 _ _ (by omega) (by omega)]; exact ⟨b7.1, by rw [b7.2]; decide, by omega, by omega, by omega, by omega, rfl⟩)) (by rfl)) (fun t8 v9 h10 r2 => ?_)
    try dsimp only [Sum.elim_inl, Sum.elim_inr, jt2, jt3, jt4, jt5, jt6, jt7, jt8] at r2
    obtain ⟨kl2, fr2⟩ := r2
    try simp (disch := omega) only [jst_eq, jst_ne, jst_ni, jI_i, jcmp_lt, jcmp_gt, w32_id, jcpy_out, Sum.elim_inl, Sum.elim_inr, jt2, jt3, jt4, jt5, jt6, jt7, jt8] at kl2
    try simp (disch := omega) only [jst_eq, jst_ne, jst_ni, jI_i, jcmp_lt, jcmp_gt, w32_id, jcpy_out, Sum.elim_inl, Sum.elim_inr, jt2, jt3, jt4, jt5, jt6, jt7, jt8] at fr2
    refine OK_jq (fun c2 => ?_) (fun c2 => ?_)
    · skip
      have KZ : ∃ z, pKK B n true 3 [] q1 = .inl z ∧ t8 = 472 ∧ MF z h10 := by { rcases kl2 with y | ⟨_, _, _, y, _⟩; { exact y }; { exact absurd y c2 } }
      refine OK_some ?_
      try dsimp only [Sum.elim_inl, Sum.elim_inr, jt2, jt3, jt4, jt5, jt6, jt7, jt8]
      try dsimp only [Sum.elim_inl, Sum.elim_inr, jt2, jt3, jt4, jt5, jt6, jt7, jt8]
      refine ⟨?_, ?_⟩
      · (obtain ⟨z, e, t1, mf⟩ := KZ; rw [W0, e1]; show vAM B n a1 D E (bS (pKK B n true 3 [] q1) _) _ _; rw [e]; exact ⟨t1, mf⟩) -- o11 e2.1
      · exact frAk_t (fun b s y1 y2 _ _ _ _ _ => C1 b s (by omega) y2) (fun b s y1 y2 _ _ _ _ y7 => fr2 b s (by omega) y2 (by omega)) -- o12 e2.2
    · skip
      obtain ⟨ks, q2, e2, ms2, lk, kc⟩ : ∃ ks q2, pKK B n true 3 [] q1 = .inr (ks, q2) ∧ MS B n q2 h10 ∧ (ks.length : Int) = v9 ∧ kC h10 (a1 + 1) ks := by { rcases kl2 with ⟨_, _, y, _⟩ | ⟨l, q', y1, _, y2, y3, y4⟩; { omega }; { exact ⟨l, q', y1, y2, y3, y4⟩ } }
      have KN := pKK_n hB 2 [] q1 ks q2 e2
      have KN1 : 1 ≤ ks.length ∧ ks.length ≤ 3 := by { have x := KN.1; have y := KN.2; simp only [List.length_nil] at x y; omega }
      clear KN
      refine OK_jl ?_
      have F12 : ∀ b s, ¬ (b = a1 ∧ s = 3) → jst h10 a1 3 v9 b s = h10 b s := fun b s y => jst_o y
      have V12 : jst h10 a1 3 v9 a1 3 = (ks.length : Int) := jst_eq.trans lk.symm
      generalize jst h10 a1 3 v9 = g12 at *
      have C2 : ∀ b s, ¬ (b = 454 ∧ (s = 17 ∨ (26 ≤ s ∧ s ≤ 29))) → ¬ (b = 472 ∧ (s = 6 ∨ s = 7)) → ¬ (b = a1 + 1 ∧ 0 ≤ s ∧ s < 3) → ¬ (b = a1 ∧ s = 3) → g12 b s = h b s := fun b s y1 y2 y3 y4 => (F12 b s y4).trans ((fr2 b s (by omega) y2 y3).trans (C1 b s y1 y2))
      have T12 : TM B n g12 := TM_fr b2 (C2 _ _ (by omega) (by omega) (by omega) (by omega)) (fun s => C2 _ _ (by omega) (by omega) (by omega) (by omega))
      have D12 : g12 454 17 = D := (F12 _ _ (by omega)).trans ((fr2 _ _ (by omega) (by omega) (by omega)).trans ((fr1 _ _ (by omega) (by omega)).trans V1))
      have A12 : frAk a1 D h g12 := fun b s y1 y2 _ _ _ y6 y7 => C2 b s (by omega) y2 (by omega) (by omega)
      have W2 : pAsk B n q = bS (pW B n 256 q2) fun q3 => if isKd B n q3 then bS (nx B n q3) fun q4 => bS (pW B n 59 q4) fun q5 => bS (pN B n 15827 q5) fun q6 => bS (pPcs B n 2002 [] q6) fun x7 => bS (pW B n 59 x7.2) fun q8 => bS (pIts B n 2002 [] q8) fun its => .inr (ks, kdv B n q3, x7.1, its) else .inl (tS B n q3) := by { rw [W0, e1]; show bS (pKK B n true 3 [] q1) _ = _; rw [e2]; rfl }
      clear W0
      refine OK_jb2 (vX14_passSign _ (by exact T12) (by exact hB) (by exact MS_fr ms2 (fun s s0 s1 => F12 _ _ (by omega)))) (fun t14 h16 r3 => ?_)
      try dsimp only [Sum.elim_inl, Sum.elim_inr, jt2, jt3, jt4, jt5, jt6, jt7, jt8] at r3
      obtain ⟨r3, fr3⟩ := r3
      try simp (disch := omega) only [jst_eq, jst_ne, jst_ni, jI_i, jcmp_lt, jcmp_gt, w32_id, jcpy_out, Sum.elim_inl, Sum.elim_inr, jt2, jt3, jt4, jt5, jt6, jt7, jt8] at r3
      try simp (disch := omega) only [jst_eq, jst_ne, jst_ni, jI_i, jcmp_lt, jcmp_gt, w32_id, jcpy_out, Sum.elim_inl, Sum.elim_inr, jt2, jt3, jt4, jt5, jt6, jt7, jt8] at fr3
      refine OK_jq (fun c3 => ?_) (fun c3 => ?_)
      · skip
        refine OK_some ?_
        try dsimp only [Sum.elim_inl, Sum.elim_inr, jt2, jt3, jt4, jt5, jt6, jt7, jt8]
        try dsimp only [Sum.elim_inl, Sum.elim_inr, jt2, jt3, jt4, jt5, jt6, jt7, jt8]
        refine ⟨?_, ?_⟩
        · (obtain ⟨z, e, t1, mf⟩ := rM_l r3 c3; rw [W2, e]; exact ⟨t1, mf⟩) -- o16 e3.1
        · exact frAk_t A12 (frAk_n fr3) -- o17 e3.2
      · skip
        obtain ⟨q3, e3, ms3⟩ := rM_r r3 c3
        refine OK_jb3 (vX14_takeKind (B := B) (n := n) (q := q3) (by exact TM_fr T12 (fr3 _ _ (by omega) (by omega)) (fun s => fr3 _ _ (by omega) (by omega))) (by exact hB) (by exact ms3)) (fun t19 v20 h21 r4 => ?_)
        try dsimp only [Sum.elim_inl, Sum.elim_inr, jt2, jt3, jt4, jt5, jt6, jt7, jt8] at r4
        obtain ⟨no4, r4, vk4, fr4⟩ := r4
        try simp (disch := omega) only [jst_eq, jst_ne, jst_ni, jI_i, jcmp_lt, jcmp_gt, w32_id, jcpy_out, Sum.elim_inl, Sum.elim_inr, jt2, jt3, jt4, jt5, jt6, jt7, jt8] at no4
        try simp (disch := omega) only [jst_eq, jst_ne, jst_ni, jI_i, jcmp_lt, jcmp_gt, w32_id, jcpy_out, Sum.elim_inl, Sum.elim_inr, jt2, jt3, jt4, jt5, jt6, jt7, jt8] at r4
        try simp (disch := omega) only [jst_eq, jst_ne, jst_ni, jI_i, jcmp_lt, jcmp_gt, w32_id, jcpy_out, Sum.elim_inl, Sum.elim_inr, jt2, jt3, jt4, jt5, jt6, jt7, jt8] at vk4
        try simp (disch := omega) only [jst_eq, jst_ne, jst_ni, jI_i, jcmp_lt, jcmp_gt, w32_id, jcpy_out, Sum.elim_inl, Sum.elim_inr, jt2, jt3, jt4, jt5, jt6, jt7, jt8] at fr4
        refine OK_jq (fun c4 => ?_) (fun c4 => ?_)
        · skip
          have W3 : pAsk B n q = if isKd B n q3 then bS (nx B n q3) fun q4 => bS (pW B n 59 q4) fun q5 => bS (pN B n 15827 q5) fun q6 => bS (pPcs B n 2002 [] q6) fun x7 => bS (pW B n 59 x7.2) fun q8 => bS (pIts B n 2002 [] q8) fun its => .inr (ks, kdv B n q3, x7.1, its) else .inl (tS B n q3) := by { rw [W2, e3]; rfl }
          refine OK_some ?_
          try dsimp only [Sum.elim_inl, Sum.elim_inr, jt2, jt3, jt4, jt5, jt6, jt7, jt8]
          try dsimp only [Sum.elim_inl, Sum.elim_inr, jt2, jt3, jt4, jt5, jt6, jt7, jt8]
          refine ⟨?_, ?_⟩
          · (by_cases g : isKd B n q3; { obtain ⟨z, e, t1, mf⟩ := rM_l (r4 g) c4; rw [W3, if_pos g, e]; exact ⟨t1, mf⟩ }; { rw [W3, if_neg g]; exact no4 g }) -- o21 e4.1
          · exact frAk_t A12 (frAk_t (frAk_n fr3) (frAk_n fr4)) -- o22 e4.2
        · skip
          have g : isKd B n q3 := Classical.byContradiction fun z => by { have := (no4 z).1; omega }
          obtain ⟨q4, e4, ms4⟩ := rM_r (r4 g) c4
          have V20 := vk4 g c4
          have W4 : pAsk B n q = bS (pW B n 59 q4) fun q5 => bS (pN B n 15827 q5) fun q6 => bS (pPcs B n 2002 [] q6) fun x7 => bS (pW B n 59 x7.2) fun q8 => bS (pIts B n 2002 [] q8) fun its => .inr (ks, kdv B n q3, x7.1, its) := by { rw [W2, e3]; show (if isKd B n q3 then _ else _) = _; rw [if_pos g, e4]; rfl }
          have KR : 0 ≤ kdv B n q3 ∧ kdv B n q3 ≤ 2 := by { unfold kdv; split <;> (try split) <;> omega }
          refine OK_jl ?_
          have F23 : ∀ b s, ¬ (b = a1 ∧ s = 4) → jst h21 a1 4 v20 b s = h21 b s := fun b s y => jst_o y
          have V23 : jst h21 a1 4 v20 a1 4 = kch (kdv B n q3) := jst_eq.trans V20
          generalize jst h21 a1 4 v20 = g23 at *
          have C3 : ∀ b s, ¬ (b = 454 ∧ (26 ≤ s ∧ s ≤ 29)) → ¬ (b = 472 ∧ (s = 6 ∨ s = 7)) → ¬ (b = a1 ∧ s = 4) → g23 b s = g12 b s := fun b s y1 y2 y3 => (F23 b s y3).trans ((fr4 b s y1 y2).trans (fr3 b s y1 y2))
          have T23 : TM B n g23 := c3_T LA T12 C3
          have A23 : frAk a1 D h g23 := frAk_t A12 (fun b s y1 y2 _ _ _ y6 _ => C3 b s (by omega) y2 (by omega))
          refine OK_jb2 (vX14_passSign _ (by exact T23) (by exact hB) (by exact MS_fr ms4 (fun s s0 s1 => F23 _ _ (by omega)))) (fun t25 h27 r5 => ?_)
          try dsimp only [Sum.elim_inl, Sum.elim_inr, jt2, jt3, jt4, jt5, jt6, jt7, jt8] at r5
          obtain ⟨r5, fr5⟩ := r5
          try simp (disch := omega) only [jst_eq, jst_ne, jst_ni, jI_i, jcmp_lt, jcmp_gt, w32_id, jcpy_out, Sum.elim_inl, Sum.elim_inr, jt2, jt3, jt4, jt5, jt6, jt7, jt8] at r5
          try simp (disch := omega) only [jst_eq, jst_ne, jst_ni, jI_i, jcmp_lt, jcmp_gt, w32_id, jcpy_out, Sum.elim_inl, Sum.elim_inr, jt2, jt3, jt4, jt5, jt6, jt7, jt8] at fr5
          refine OK_jq (fun c5 => ?_) (fun c5 => ?_)
          · skip
            refine OK_some ?_
            try dsimp only [Sum.elim_inl, Sum.elim_inr, jt2, jt3, jt4, jt5, jt6, jt7, jt8]
            try dsimp only [Sum.elim_inl, Sum.elim_inr, jt2, jt3, jt4, jt5, jt6, jt7, jt8]
            refine ⟨?_, ?_⟩
            · (obtain ⟨z, e, t1, mf⟩ := rM_l r5 c5; rw [W4, e]; exact ⟨t1, mf⟩) -- o26 e5.1
            · exact frAk_t A23 (frAk_n fr5) -- o27 e5.2
          · skip
            obtain ⟨q5, e5, ms5⟩ := rM_r r5 c5
            have W5 : pAsk B n q = bS (pN B n 15827 q5) fun q6 => bS (pPcs B n 2002 [] q6) fun x7 => bS (pW B n 59 x7.2) fun q8 => bS (pIts B n 2002 [] q8) fun its => .inr (ks, kdv B n q3, x7.1, its) := by { rw [W4, e5]; rfl }
            refine OK_jb2 (vX14_passName _ (by exact TM_fr T23 (fr5 _ _ (by omega) (by omega)) (fun s => fr5 _ _ (by omega) (by omega))) (by exact hB) (by exact ms5)) (fun t30 h32 r6 => ?_)
            try dsimp only [Sum.elim_inl, Sum.elim_inr, jt2, jt3, jt4, jt5, jt6, jt7, jt8] at r6
            obtain ⟨r6, fr6⟩ := r6
            try simp (disch := omega) only [jst_eq, jst_ne, jst_ni, jI_i, jcmp_lt, jcmp_gt, w32_id, jcpy_out, Sum.elim_inl, Sum.elim_inr, jt2, jt3, jt4, jt5, jt6, jt7, jt8] at r6
            try simp (disch := omega) only [jst_eq, jst_ne, jst_ni, jI_i, jcmp_lt, jcmp_gt, w32_id, jcpy_out, Sum.elim_inl, Sum.elim_inr, jt2, jt3, jt4, jt5, jt6, jt7, jt8] at fr6
            refine OK_jq (fun c6 => ?_) (fun c6 => ?_)
            · skip
              refine OK_some ?_
              try dsimp only [Sum.elim_inl, Sum.elim_inr, jt2, jt3, jt4, jt5, jt6, jt7, jt8]
              try dsimp only [Sum.elim_inl, Sum.elim_inr, jt2, jt3, jt4, jt5, jt6, jt7, jt8]
              refine ⟨?_, ?_⟩
              · (obtain ⟨z, e, t1, mf⟩ := rM_l r6 c6; rw [W5, e]; exact ⟨t1, mf⟩) -- o31 e6.1
              · exact frAk_t A23 (frAk_t (frAk_n fr5) (frAk_n fr6)) -- o32 e6.2
            · skip
              obtain ⟨q6, e6, ms6⟩ := rM_r r6 c6
              have W6 : pAsk B n q = bS (pPcs B n 2002 [] q6) fun x => bS (bS (pW B n 59 x.2) (pIts B n 2002 [])) fun its => .inr (ks, kdv B n q3, x.1, its) := by { rw [W5, e6]; show bS (pPcs B n 2002 [] q6) _ = _; exact congrArg (bS _) (funext fun x => bS_b _ _ _) }
              refine OK_jl ?_
              refine OK_jl ?_
              refine OK_jl ?_
              have V5 : jst (jst (jst h32 a1 5 0) a1 9 0) a1 12 0 a1 5 = 0 ∧ jst (jst (jst h32 a1 5 0) a1 9 0) a1 12 0 a1 9 = 0 ∧ jst (jst (jst h32 a1 5 0) a1 9 0) a1 12 0 a1 12 = 0 := ⟨by { rw [jst_o (by omega), jst_o (by omega)]; exact jst_eq }, by { rw [jst_o (by omega)]; exact jst_eq }, jst_eq⟩
              have F36 : ∀ b s, ¬ (b = a1 ∧ (s = 5 ∨ s = 9 ∨ s = 12)) → jst (jst (jst h32 a1 5 0) a1 9 0) a1 12 0 b s = h32 b s := fun b s y => by { rw [jst_o (by omega), jst_o (by omega), jst_o (by omega)] }
              generalize jst (jst (jst h32 a1 5 0) a1 9 0) a1 12 0 = g36 at *
              have C4 : ∀ b s, ¬ (b = 454 ∧ (26 ≤ s ∧ s ≤ 29)) → ¬ (b = 472 ∧ (s = 6 ∨ s = 7)) → ¬ (b = a1 ∧ (s = 5 ∨ s = 9 ∨ s = 12)) → g36 b s = g23 b s := fun b s y1 y2 y3 => (F36 b s y3).trans ((fr6 b s y1 y2).trans (fr5 b s y1 y2))
              have C5 : ∀ b s, ¬ (b = 454 ∧ (s = 17 ∨ (26 ≤ s ∧ s ≤ 29))) → ¬ (b = 472 ∧ (s = 6 ∨ s = 7)) → ¬ (b = a1 + 1 ∧ 0 ≤ s ∧ s < 3) → ¬ (b = a1 ∧ (s = 3 ∨ s = 4 ∨ s = 5 ∨ s = 9 ∨ s = 12)) → g36 b s = h b s := fun b s y1 y2 y3 y4 => (C4 b s (by omega) y2 (by omega)).trans ((C3 b s (by omega) y2 (by omega)).trans (C2 b s y1 y2 y3 (by omega)))
              have A36 : frAk a1 D h g36 := fun b s y1 y2 _ _ _ y6 y7 => C5 b s (by omega) y2 (by omega) (by omega)
              have K36 : g36 454 30 = 0 ∧ g36 454 31 = 2147483647 := ⟨(C5 _ _ (by omega) (by omega) (by omega) (by omega)).trans ce.1, (C5 _ _ (by omega) (by omega) (by omega) (by omega)).trans ce.2⟩
              have E17 : g36 454 17 = D := (C4 _ _ (by omega) (by omega) (by omega)).trans ((C3 _ _ (by omega) (by omega) (by omega)).trans D12)
              have KD36 : kC g36 (a1 + 1) ks := fun k k0 k1 => by { rw [C4 _ _ (by omega) (by omega) (by omega), C3 _ _ (by omega) (by omega) (by omega), F12 _ _ (by omega)]; exact kc k k0 k1 }
              have LR36 : lmR B n a1 ks (kdv B n q3) 0 0 E Rf g36 := ra_lr bb C5 K36 KN1 ((C4 _ _ (by omega) (by omega) (by omega)).trans ((C3 _ _ (by omega) (by omega) (by omega)).trans V12)) KD36 ⟨(C4 _ _ (by omega) (by omega) (by omega)).trans V23, KR⟩ V5.2.1 V5.2.2 E17
              refine OK_mono (vX14_readAsk_k1 (B := B) (n := n) (D := D) (q := q6) (la := kdv B n q3) (E := E) (Rf := Rf) (ks := ks) _ (by exact hB) (by exact LR36) (by exact ⟨V5.1, E17, b1.2.2.1, b1.2.2.2, by unfold MK; rw [if_pos (by omega)]⟩) (by exact MS_fr ms6 (fun s s0 s1 => F36 _ _ (by omega))) (by (rw [C5 _ _ (by omega) (by omega) (by omega) (by omega), C5 _ _ (by omega) (by omega) (by omega) (by omega), C5 _ _ (by omega) (by omega) (by omega) (by omega), C5 _ _ (by omega) (by omega) (by omega) (by omega)]; exact ⟨b7, b8⟩))) (fun r r7 => ?_)
              obtain ⟨y1, y2⟩ := r
              try dsimp only [Sum.elim_inl, Sum.elim_inr, jt2, jt3, jt4, jt5, jt6, jt7, jt8] at r7
              obtain ⟨ok7, fr7⟩ := r7
              try simp (disch := omega) only [jst_eq, jst_ne, jst_ni, jI_i, jcmp_lt, jcmp_gt, w32_id, jcpy_out, Sum.elim_inl, Sum.elim_inr, jt2, jt3, jt4, jt5, jt6, jt7, jt8] at ok7
              try simp (disch := omega) only [jst_eq, jst_ne, jst_ni, jI_i, jcmp_lt, jcmp_gt, w32_id, jcpy_out, Sum.elim_inl, Sum.elim_inr, jt2, jt3, jt4, jt5, jt6, jt7, jt8] at fr7
              try dsimp only [Sum.elim_inl, Sum.elim_inr, jt2, jt3, jt4, jt5, jt6, jt7, jt8]
              try dsimp only [Sum.elim_inl, Sum.elim_inr, jt2, jt3, jt4, jt5, jt6, jt7, jt8]
              refine ⟨?_, ?_⟩
              · (rw [W6]; exact ok7) -- o38 e7.1
              · exact frAk_t A36 fr7 -- o39 e7.2

