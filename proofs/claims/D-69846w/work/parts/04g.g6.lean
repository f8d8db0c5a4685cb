set_option maxRecDepth 100000
variable {S : Nat → Nat}
noncomputable def gX14_pattern_l63 (F : Int → Int → AH → Option (Int × AH)) (i1 : Int) (i2 : Int) (i3 : Int) (a4 : Int) (h : AH) : Option (AH) := jit (gX14_pattern_b63 F i1 i2 i3) (a4, h)
theorem eX14_pattern_l63 {F0 : Int → Int → Int → AH → Option (Int × AH)} {F : Int → Int → AH → Option (Int × AH)} (hF : ∀ (b_a1 : Int) (b_a2 : Int), ∀ {b_h : AH}, Sh S b_h → EQ (F0 454 b_a1 b_a2 b_h) (F b_a1 b_a2 b_h) (fun r => Sh S r.2)) (i1 : Int) (i2 : Int) (i3 : Int) (a4 : Int) {h : AH} (hS : Sh S h) : EQ (fX14_pattern_l63 F0 454 i1 i2 i3 a4 h) (gX14_pattern_l63 F i1 i2 i3 a4 h) (fun r => Sh S r) := EQ_jit (I := (fun r => Sh S r.2)) (fun s hs => eX14_pattern_b63 hF i1 i2 i3 hs) hS
noncomputable def gX14_pattern_ (F : Int → Int → AH → Option (Int × AH)) (a1 : Int) (a2 : Int) (h : AH) : Option (Int × AH) := jg (jI a1 8800) <| if h 460 a1 = 2 then (jg (jI a2 8800) <| if h 460 a2 = 2 then (if h 463 a1 = h 463 a2 then (jb2 (gX14_node 2 (h 461 a1) 0 h) fun v5 h6 => jg (jI v5 8800) <| jl (jst h6 463 v5 (h6 463 a1)) fun h7 => jb (gX14_pattern_l63 F a1 a2 v5 0 h7) fun o8 => some (v5, o8)) else (gX14_pattern_j113 F a1 a2 h)) else (gX14_pattern_j113 F a1 a2 h)) else (gX14_pattern_j113 F a1 a2 h)
theorem eX14_pattern_ {F0 : Int → Int → Int → AH → Option (Int × AH)} {F : Int → Int → AH → Option (Int × AH)} (hF : ∀ (b_a1 : Int) (b_a2 : Int), ∀ {b_h : AH}, Sh S b_h → EQ (F0 454 b_a1 b_a2 b_h) (F b_a1 b_a2 b_h) (fun r => Sh S r.2)) (a1 : Int) (a2 : Int) {h : AH} (hS : Sh S h) : EQ (fX14_pattern_ F0 454 a1 a2 h) (gX14_pattern_ F a1 a2 h) (fun r => Sh S r.2) := by
  unfold fX14_pattern_ gX14_pattern_
  refine EQ_jgd (show h 454 (-2) = 15 from by rw [k_454 hS]) ?_
  refine EQ_jg ⟨fun ⟨_, x0⟩ => (show jI a1 (h (h 454 6) (-1)) ↔ jI a1 8800 from by rw [r_454_6 hS, l_460 hS]).mp x0, fun x0 => ⟨(show h (h 454 6) (-2) = 101 from by rw [r_454_6 hS, k_460 hS]), (show jI a1 (h (h 454 6) (-1)) ↔ jI a1 8800 from by rw [r_454_6 hS, l_460 hS]).mpr x0⟩⟩ (fun g1 => ?_)
  refine EQ_if (show h (h 454 6) a1 = 2 ↔ h 460 a1 = 2 from by rw [r_454_6 hS]) (fun c2 => ?_) (fun c2 => ?_)
  · refine EQ_jgd (show h 454 (-2) = 15 from by rw [k_454 hS]) ?_
    refine EQ_jg ⟨fun ⟨_, x0⟩ => (show jI a2 (h (h 454 6) (-1)) ↔ jI a2 8800 from by rw [r_454_6 hS, l_460 hS]).mp x0, fun x0 => ⟨(show h (h 454 6) (-2) = 101 from by rw [r_454_6 hS, k_460 hS]), (show jI a2 (h (h 454 6) (-1)) ↔ jI a2 8800 from by rw [r_454_6 hS, l_460 hS]).mpr x0⟩⟩ (fun g3 => ?_)
    refine EQ_if (show h (h 454 6) a2 = 2 ↔ h 460 a2 = 2 from by rw [r_454_6 hS]) (fun c4 => ?_) (fun c4 => ?_)
    · refine EQ_jgd (show h 454 (-2) = 15 from by rw [k_454 hS]) ?_
      refine EQ_jgd ⟨(show h (h 454 9) (-2) = 101 from by rw [r_454_9 hS, k_463 hS]), ((show jI a1 (h (h 454 9) (-1)) ↔ jI a1 8800 from by rw [r_454_9 hS, l_463 hS]).mpr g1)⟩ ?_
      refine EQ_jgd (show h 454 (-2) = 15 from by rw [k_454 hS]) ?_
      refine EQ_jgd ⟨(show h (h 454 9) (-2) = 101 from by rw [r_454_9 hS, k_463 hS]), ((show jI a2 (h (h 454 9) (-1)) ↔ jI a2 8800 from by rw [r_454_9 hS, l_463 hS]).mpr g3)⟩ ?_
      refine EQ_if (show h (h 454 9) a1 = h (h 454 9) a2 ↔ h 463 a1 = h 463 a2 from by rw [r_454_9 hS]) (fun c5 => ?_) (fun c5 => ?_)
      · refine EQ_jgd (show h 454 (-2) = 15 from by rw [k_454 hS]) ?_
        refine EQ_jgd ⟨(show h (h 454 7) (-2) = 101 from by rw [r_454_7 hS, k_461 hS]), ((show jI a1 (h (h 454 7) (-1)) ↔ jI a1 8800 from by rw [r_454_7 hS, l_461 hS]).mpr g1)⟩ ?_
        refine EQ_jgd (show h 454 (-2) = 15 from by rw [k_454 hS]) ?_
        refine EQ_jb2 (by rw [r_454_7 hS]; exact eX14_node 2 (h 461 a1) 0 hS) (fun v5 h6 r6 => ?_)
        replace r6 : Sh S h6 := r6
        refine EQ_jgd (show h6 454 (-2) = 15 from by rw [k_454 r6]) ?_
        refine EQ_jgd (show h6 454 (-2) = 15 from by rw [k_454 r6]) ?_
        refine EQ_jgd ⟨(show h6 (h6 454 9) (-2) = 101 from by rw [r_454_9 r6, k_463 r6]), ((show jI a1 (h6 (h6 454 9) (-1)) ↔ jI a1 8800 from by rw [r_454_9 r6, l_463 r6]).mpr g1)⟩ ?_
        refine EQ_jg ⟨fun ⟨_, _, x0⟩ => (show jI v5 (h6 (h6 454 9) (-1)) ↔ jI v5 8800 from by rw [r_454_9 r6, l_463 r6]).mp x0, fun x0 => ⟨(show h6 (h6 454 9) (-2) = 101 from by rw [r_454_9 r6, k_463 r6]), (show 200 ≤ h6 454 9 from by rw [r_454_9 r6]; exact (by decide)), (show jI v5 (h6 (h6 454 9) (-1)) ↔ jI v5 8800 from by rw [r_454_9 r6, l_463 r6]).mpr x0⟩⟩ (fun g7 => ?_)
        refine EQ_jl (by rw [r_454_9 r6]) (fun h7 eh7 => ?_)
        have s8 := Sh_of eh7 (Sh_sta r6 (by decide +kernel) (jI_nn g7) (fun e => absurd ((k_463 r6).symm.trans e) (by decide)))
        clear eh7
        refine EQ_jb (eX14_pattern_l63 hF a1 a2 v5 0 s8) (fun o8 r9 => ?_)
        exact EQ_some r9
      · exact (eX14_pattern_j113 hF a1 a2 hS)
    · exact (eX14_pattern_j113 hF a1 a2 hS)
  · exact (eX14_pattern_j113 hF a1 a2 hS)
noncomputable def gX14_patternD : Nat → Int → Int → AH → Option (Int × AH)
  | 0 => fun _ _ _ => none
  | d + 1 => gX14_pattern_ (gX14_patternD d)
theorem eX14_patternD : ∀ (d : Nat) (a1 : Int) (a2 : Int) {h : AH} (hS : Sh S h) , EQ (fX14_patternD d 454 a1 a2 h) (gX14_patternD d a1 a2 h) (fun r => Sh S r.2) := by
  intro d
  induction d with
  | zero => intro a1 a2 h hS; exact EQ_none
  | succ d ih => intro a1 a2 h hS; exact eX14_pattern_ ih a1 a2 hS
noncomputable def gX14_pattern : Int → Int → AH → Option (Int × AH) := gX14_patternD 40
theorem eX14_pattern (a1 : Int) (a2 : Int) {h : AH} (hS : Sh S h) : EQ (fX14_pattern 454 a1 a2 h) (gX14_pattern a1 a2 h) (fun r => Sh S r.2) := eX14_patternD 40 a1 a2 hS
noncomputable def gX14_isSo_j38 (F : Int → Int → AH → Option (Int × AH)) (a2 : Int) (a3 : Int) (h : AH) : Option (Int × AH) := jg (jI a3 80) <| jb (gX14_isLike (h 802 a3) a2 h) fun v17 => jg (jZ v17) <| some (v17, h)
theorem eX14_isSo_j38 {F0 : Int → Int → Int → AH → Option (Int × AH)} {F : Int → Int → AH → Option (Int × AH)} (hF : ∀ (b_a1 : Int) (b_a2 : Int), ∀ {b_h : AH}, Sh S b_h → EQ (F0 454 b_a1 b_a2 b_h) (F b_a1 b_a2 b_h) (fun r => Sh S r.2)) (a2 : Int) (a3 : Int) {h : AH} (hS : Sh S h) : EQ (fX14_isSo_j38 F0 454 a2 a3 h) (gX14_isSo_j38 F a2 a3 h) (fun r => Sh S r.2) := by
  unfold fX14_isSo_j38 gX14_isSo_j38
  refine EQ_jgd (show h 454 (-2) = 15 from by rw [k_454 hS]) ?_
  refine EQ_jg ⟨fun ⟨_, x0⟩ => (show jI a3 (h (h 454 82) (-1)) ↔ jI a3 80 from by rw [r_454_82 hS, l_802 hS]).mp x0, fun x0 => ⟨(show h (h 454 82) (-2) = 101 from by rw [r_454_82 hS, k_802 hS]), (show jI a3 (h (h 454 82) (-1)) ↔ jI a3 80 from by rw [r_454_82 hS, l_802 hS]).mpr x0⟩⟩ (fun g1 => ?_)
  refine EQ_jgd (show h 454 (-2) = 15 from by rw [k_454 hS]) ?_
  refine EQ_jb (by rw [r_454_82 hS]; exact eX14_isLike (h 802 a3) a2 hS) (fun v17 r2 => ?_)
  refine EQ_jg Iff.rfl (fun g3 => ?_)
  exact EQ_some hS
noncomputable def gX14_isSo_b115 (F : Int → Int → AH → Option (Int × AH)) (i1 : Int) (i2 : Int) (s : Int × Int × AH) : Option ((Int × Int × AH) ⊕ (Int × AH)) := jt3 s fun a3 a4 h => jg (jI i1 8800) <| if h 465 i1 ≤ a4 then (some (.inr (a3, h))) else (if a3 = 0 then (some (.inr (a3, h))) else (jg (jI (w32 (w32 (3 * i1) + a4)) 26400) <| jg (jI (w32 (w32 (3 * i2) + a4)) 26400) <| jb2 (F (h 464 (w32 (w32 (3 * i1) + a4))) (h 464 (w32 (w32 (3 * i2) + a4))) h) fun v21 h22 => jl (w32 (a4 + 1)) fun x23 => some (.inl (v21, x23, h22))))
theorem eX14_isSo_b115 {F0 : Int → Int → Int → AH → Option (Int × AH)} {F : Int → Int → AH → Option (Int × AH)} (hF : ∀ (b_a1 : Int) (b_a2 : Int), ∀ {b_h : AH}, Sh S b_h → EQ (F0 454 b_a1 b_a2 b_h) (F b_a1 b_a2 b_h) (fun r => Sh S r.2)) (i1 : Int) (i2 : Int) {s : Int × Int × AH} (hS : (fun r => Sh S r.2.2) s) : EQ (fX14_isSo_b115 F0 454 i1 i2 s) (gX14_isSo_b115 F i1 i2 s) (Sum.elim (fun r => Sh S r.2.2) (fun r => Sh S r.2)) := by
  unfold fX14_isSo_b115 gX14_isSo_b115
  obtain ⟨a3, a4, h⟩ := s
  refine EQ_jt3 ?_
  replace hS : Sh S h := hS
  refine EQ_jgd (show h 454 (-2) = 15 from by rw [k_454 hS]) ?_
  refine EQ_jg ⟨fun ⟨_, x0⟩ => (show jI i1 (h (h 454 11) (-1)) ↔ jI i1 8800 from by rw [r_454_11 hS, l_465 hS]).mp x0, fun x0 => ⟨(show h (h 454 11) (-2) = 101 from by rw [r_454_11 hS, k_465 hS]), (show jI i1 (h (h 454 11) (-1)) ↔ jI i1 8800 from by rw [r_454_11 hS, l_465 hS]).mpr x0⟩⟩ (fun g1 => ?_)
  refine EQ_if (show h (h 454 11) i1 ≤ a4 ↔ h 465 i1 ≤ a4 from by rw [r_454_11 hS]) (fun c2 => ?_) (fun c2 => ?_)
  · exact EQ_some hS
  · refine EQ_if Iff.rfl (fun c3 => ?_) (fun c3 => ?_)
    · exact EQ_some hS
    · refine EQ_jgd (show h 454 (-2) = 15 from by rw [k_454 hS]) ?_
      refine EQ_jg ⟨fun ⟨_, x0⟩ => (show jI (w32 (w32 (3 * i1) + a4)) (h (h 454 10) (-1)) ↔ jI (w32 (w32 (3 * i1) + a4)) 26400 from by rw [r_454_10 hS, l_464 hS]).mp x0, fun x0 => ⟨(show h (h 454 10) (-2) = 101 from by rw [r_454_10 hS, k_464 hS]), (show jI (w32 (w32 (3 * i1) + a4)) (h (h 454 10) (-1)) ↔ jI (w32 (w32 (3 * i1) + a4)) 26400 from by rw [r_454_10 hS, l_464 hS]).mpr x0⟩⟩ (fun g4 => ?_)
      refine EQ_jgd (show h 454 (-2) = 15 from by rw [k_454 hS]) ?_
      refine EQ_jg ⟨fun ⟨_, x0⟩ => (show jI (w32 (w32 (3 * i2) + a4)) (h (h 454 10) (-1)) ↔ jI (w32 (w32 (3 * i2) + a4)) 26400 from by rw [r_454_10 hS, l_464 hS]).mp x0, fun x0 => ⟨(show h (h 454 10) (-2) = 101 from by rw [r_454_10 hS, k_464 hS]), (show jI (w32 (w32 (3 * i2) + a4)) (h (h 454 10) (-1)) ↔ jI (w32 (w32 (3 * i2) + a4)) 26400 from by rw [r_454_10 hS, l_464 hS]).mpr x0⟩⟩ (fun g5 => ?_)
      refine EQ_jgd (show h 454 (-2) = 15 from by rw [k_454 hS]) ?_
      refine EQ_jb2 (by rw [r_454_10 hS]; exact hF (h 464 (w32 (w32 (3 * i1) + a4))) (h 464 (w32 (w32 (3 * i2) + a4))) hS) (fun v21 h22 r6 => ?_)
      replace r6 : Sh S h22 := r6
      refine EQ_jl rfl (fun x23 ex23 => ?_)
      clear ex23
      exact EQ_some r6
noncomputable def gX14_isSo_l115 (F : Int → Int → AH → Option (Int × AH)) (i1 : Int) (i2 : Int) (a3 : Int) (a4 : Int) (h : AH) : Option (Int × AH) := jit (gX14_isSo_b115 F i1 i2) (a3, a4, h)
theorem eX14_isSo_l115 {F0 : Int → Int → Int → AH → Option (Int × AH)} {F : Int → Int → AH → Option (Int × AH)} (hF : ∀ (b_a1 : Int) (b_a2 : Int), ∀ {b_h : AH}, Sh S b_h → EQ (F0 454 b_a1 b_a2 b_h) (F b_a1 b_a2 b_h) (fun r => Sh S r.2)) (i1 : Int) (i2 : Int) (a3 : Int) (a4 : Int) {h : AH} (hS : Sh S h) : EQ (fX14_isSo_l115 F0 454 i1 i2 a3 a4 h) (gX14_isSo_l115 F i1 i2 a3 a4 h) (fun r => Sh S r.2) := EQ_jit (I := (fun r => Sh S r.2.2)) (fun s hs => eX14_isSo_b115 hF i1 i2 hs) hS
noncomputable def gX14_isSo_ (F : Int → Int → AH → Option (Int × AH)) (a1 : Int) (a2 : Int) (h : AH) : Option (Int × AH) := jg (jI a1 8800) <| if h 460 a1 = 1 then (jl (w32 (h 454 83 + h 462 a1)) fun x2 => jg (jI x2 80) <| if 0 ≤ h 802 x2 then (gX14_isSo_j38 F a2 x2 h) else (jl (jst h 802 x2 a2) fun h4 => gX14_isSo_j38 F a2 x2 h4)) else (if h 460 a1 = 0 then (jg (jI a2 8800) <| if h 460 a2 = 0 then (jb (gX14_isLike a1 a2 h) fun v8 => if v8 = 0 then (some (0, h)) else (some (1, h))) else (some (0, h))) else (jg (jI a2 8800) <| if h 460 a2 = 2 then (if h 463 a2 = h 463 a1 then (jb (gX14_isSo_l115 F a1 a2 1 0 h) fun o12 => jt2 o12 fun y14 h15 => jg (jZ y14) <| some (y14, h15)) else (some (0, h))) else (some (0, h))))
theorem eX14_isSo_ {F0 : Int → Int → Int → AH → Option (Int × AH)} {F : Int → Int → AH → Option (Int × AH)} (hF : ∀ (b_a1 : Int) (b_a2 : Int), ∀ {b_h : AH}, Sh S b_h → EQ (F0 454 b_a1 b_a2 b_h) (F b_a1 b_a2 b_h) (fun r => Sh S r.2)) (a1 : Int) (a2 : Int) {h : AH} (hS : Sh S h) : EQ (fX14_isSo_ F0 454 a1 a2 h) (gX14_isSo_ F a1 a2 h) (fun r => Sh S r.2) := by
  unfold fX14_isSo_ gX14_isSo_
  refine EQ_jgd (show h 454 (-2) = 15 from by rw [k_454 hS]) ?_
  refine EQ_jg ⟨fun ⟨_, x0⟩ => (show jI a1 (h (h 454 6) (-1)) ↔ jI a1 8800 from by rw [r_454_6 hS, l_460 hS]).mp x0, fun x0 => ⟨(show h (h 454 6) (-2) = 101 from by rw [r_454_6 hS, k_460 hS]), (show jI a1 (h (h 454 6) (-1)) ↔ jI a1 8800 from by rw [r_454_6 hS, l_460 hS]).mpr x0⟩⟩ (fun g1 => ?_)
  refine EQ_if (show h (h 454 6) a1 = 1 ↔ h 460 a1 = 1 from by rw [r_454_6 hS]) (fun c2 => ?_) (fun c2 => ?_)
  · refine EQ_jgd (show h 454 (-2) = 15 from by rw [k_454 hS]) ?_
    refine EQ_jgd (show h 454 (-2) = 15 from by rw [k_454 hS]) ?_
    refine EQ_jgd ⟨(show h (h 454 8) (-2) = 101 from by rw [r_454_8 hS, k_462 hS]), ((show jI a1 (h (h 454 8) (-1)) ↔ jI a1 8800 from by rw [r_454_8 hS, l_462 hS]).mpr g1)⟩ ?_
    refine EQ_jl (by rw [r_454_8 hS]) (fun x2 ex2 => ?_)
    clear ex2
    refine EQ_jgd (show h 454 (-2) = 15 from by rw [k_454 hS]) ?_
    refine EQ_jg ⟨fun ⟨_, x0⟩ => (show jI x2 (h (h 454 82) (-1)) ↔ jI x2 80 from by rw [r_454_82 hS, l_802 hS]).mp x0, fun x0 => ⟨(show h (h 454 82) (-2) = 101 from by rw [r_454_82 hS, k_802 hS]), (show jI x2 (h (h 454 82) (-1)) ↔ jI x2 80 from by rw [r_454_82 hS, l_802 hS]).mpr x0⟩⟩ (fun g3 => ?_)
    refine EQ_if (show 0 ≤ h (h 454 82) x2 ↔ 0 ≤ h 802 x2 from by rw [r_454_82 hS]) (fun c4 => ?_) (fun c4 => ?_)
    · exact (eX14_isSo_j38 hF a2 x2 hS)
    · refine EQ_jgd (show h 454 (-2) = 15 from by rw [k_454 hS]) ?_
      refine EQ_jgd ⟨(show h (h 454 82) (-2) = 101 from by rw [r_454_82 hS, k_802 hS]), (show 200 ≤ h 454 82 from by rw [r_454_82 hS]; exact (by decide)), ((show jI x2 (h (h 454 82) (-1)) ↔ jI x2 80 from by rw [r_454_82 hS, l_802 hS]).mpr g3)⟩ ?_
      refine EQ_jl (by rw [r_454_82 hS]) (fun h4 eh4 => ?_)
      have s5 := Sh_of eh4 (Sh_sta hS (by decide +kernel) (jI_nn g3) (fun e => absurd ((k_802 hS).symm.trans e) (by decide)))
      clear eh4
      exact (eX14_isSo_j38 hF a2 x2 s5)
  · refine EQ_jgd (show h 454 (-2) = 15 from by rw [k_454 hS]) ?_
    refine EQ_jgd ⟨(show h (h 454 6) (-2) = 101 from by rw [r_454_6 hS, k_460 hS]), ((show jI a1 (h (h 454 6) (-1)) ↔ jI a1 8800 from by rw [r_454_6 hS, l_460 hS]).mpr g1)⟩ ?_
    refine EQ_if (show h (h 454 6) a1 = 0 ↔ h 460 a1 = 0 from by rw [r_454_6 hS]) (fun c6 => ?_) (fun c6 => ?_)
    · refine EQ_jgd (show h 454 (-2) = 15 from by rw [k_454 hS]) ?_
      refine EQ_jg ⟨fun ⟨_, x0⟩ => (show jI a2 (h (h 454 6) (-1)) ↔ jI a2 8800 from by rw [r_454_6 hS, l_460 hS]).mp x0, fun x0 => ⟨(show h (h 454 6) (-2) = 101 from by rw [r_454_6 hS, k_460 hS]), (show jI a2 (h (h 454 6) (-1)) ↔ jI a2 8800 from by rw [r_454_6 hS, l_460 hS]).mpr x0⟩⟩ (fun g7 => ?_)
      refine EQ_if (show h (h 454 6) a2 = 0 ↔ h 460 a2 = 0 from by rw [r_454_6 hS]) (fun c8 => ?_) (fun c8 => ?_)
      · refine EQ_jgd (show h 454 (-2) = 15 from by rw [k_454 hS]) ?_
        refine EQ_jb (eX14_isLike a1 a2 hS) (fun v8 r9 => ?_)
        refine EQ_if Iff.rfl (fun c10 => ?_) (fun c10 => ?_)
        · exact EQ_some hS
        · exact EQ_some hS
      · exact EQ_some hS
    · refine EQ_jgd (show h 454 (-2) = 15 from by rw [k_454 hS]) ?_
      refine EQ_jg ⟨fun ⟨_, x0⟩ => (show jI a2 (h (h 454 6) (-1)) ↔ jI a2 8800 from by rw [r_454_6 hS, l_460 hS]).mp x0, fun x0 => ⟨(show h (h 454 6) (-2) = 101 from by rw [r_454_6 hS, k_460 hS]), (show jI a2 (h (h 454 6) (-1)) ↔ jI a2 8800 from by rw [r_454_6 hS, l_460 hS]).mpr x0⟩⟩ (fun g11 => ?_)
      refine EQ_if (show h (h 454 6) a2 = 2 ↔ h 460 a2 = 2 from by rw [r_454_6 hS]) (fun c12 => ?_) (fun c12 => ?_)
      · refine EQ_jgd (show h 454 (-2) = 15 from by rw [k_454 hS]) ?_
        refine EQ_jgd ⟨(show h (h 454 9) (-2) = 101 from by rw [r_454_9 hS, k_463 hS]), ((show jI a2 (h (h 454 9) (-1)) ↔ jI a2 8800 from by rw [r_454_9 hS, l_463 hS]).mpr g11)⟩ ?_
        refine EQ_jgd (show h 454 (-2) = 15 from by rw [k_454 hS]) ?_
        refine EQ_jgd ⟨(show h (h 454 9) (-2) = 101 from by rw [r_454_9 hS, k_463 hS]), ((show jI a1 (h (h 454 9) (-1)) ↔ jI a1 8800 from by rw [r_454_9 hS, l_463 hS]).mpr g1)⟩ ?_
        refine EQ_if (show h (h 454 9) a2 = h (h 454 9) a1 ↔ h 463 a2 = h 463 a1 from by rw [r_454_9 hS]) (fun c13 => ?_) (fun c13 => ?_)
        · refine EQ_jb (eX14_isSo_l115 hF a1 a2 1 0 hS) (fun o12 r14 => ?_)
          obtain ⟨y14, h15⟩ := o12
          refine EQ_jt2 ?_
          replace r14 : Sh S h15 := r14
          refine EQ_jg Iff.rfl (fun g15 => ?_)
          exact EQ_some r14
        · exact EQ_some hS
      · exact EQ_some hS
noncomputable def gX14_isSoD : Nat → Int → Int → AH → Option (Int × AH)
  | 0 => fun _ _ _ => none
  | d + 1 => gX14_isSo_ (gX14_isSoD d)
theorem eX14_isSoD : ∀ (d : Nat) (a1 : Int) (a2 : Int) {h : AH} (hS : Sh S h) , EQ (fX14_isSoD d 454 a1 a2 h) (gX14_isSoD d a1 a2 h) (fun r => Sh S r.2) := by
  intro d
  induction d with
  | zero => intro a1 a2 h hS; exact EQ_none
  | succ d ih => intro a1 a2 h hS; exact eX14_isSo_ ih a1 a2 hS
noncomputable def gX14_isSo : Int → Int → AH → Option (Int × AH) := gX14_isSoD 40
theorem eX14_isSo (a1 : Int) (a2 : Int) {h : AH} (hS : Sh S h) : EQ (fX14_isSo 454 a1 a2 h) (gX14_isSo a1 a2 h) (fun r => Sh S r.2) := eX14_isSoD 40 a1 a2 hS
noncomputable def gX14_binds (a1 : Int) (a2 : Int) (h : AH) : Option (Int × AH) := jg (jI (h 454 83) 80) <| jl (jst h 802 (h 454 83) (-1)) fun h1 => jg (jI (w32 (h1 454 83 + 1)) 80) <| jl (jst h1 802 (w32 (h1 454 83 + 1)) (-1)) fun h2 => jb2 (gX14_isSo a1 a2 h2) fun v4 h5 => jg (jZ v4) <| some (v4, h5)
theorem eX14_binds (a1 : Int) (a2 : Int) {h : AH} (hS : Sh S h) : EQ (fX14_binds 454 a1 a2 h) (gX14_binds a1 a2 h) (fun r => Sh S r.2) := by
  unfold fX14_binds gX14_binds
  refine EQ_jgd (show h 454 (-2) = 15 from by rw [k_454 hS]) ?_
  refine EQ_jgd (show h 454 (-2) = 15 from by rw [k_454 hS]) ?_
  refine EQ_jg ⟨fun ⟨_, _, x0⟩ => (show jI (h 454 83) (h (h 454 82) (-1)) ↔ jI (h 454 83) 80 from by rw [r_454_82 hS, l_802 hS]).mp x0, fun x0 => ⟨(show h (h 454 82) (-2) = 101 from by rw [r_454_82 hS, k_802 hS]), (show 200 ≤ h 454 82 from by rw [r_454_82 hS]; exact (by decide)), (show jI (h 454 83) (h (h 454 82) (-1)) ↔ jI (h 454 83) 80 from by rw [r_454_82 hS, l_802 hS]).mpr x0⟩⟩ (fun g1 => ?_)
  refine EQ_jl (by rw [r_454_82 hS]) (fun h1 eh1 => ?_)
  have s2 := Sh_of eh1 (Sh_sta hS (by decide +kernel) (jI_nn g1) (fun e => absurd ((k_802 hS).symm.trans e) (by decide)))
  clear eh1
  refine EQ_jgd (show h1 454 (-2) = 15 from by rw [k_454 s2]) ?_
  refine EQ_jgd (show h1 454 (-2) = 15 from by rw [k_454 s2]) ?_
  refine EQ_jg ⟨fun ⟨_, _, x0⟩ => (show jI (w32 (h1 454 83 + 1)) (h1 (h1 454 82) (-1)) ↔ jI (w32 (h1 454 83 + 1)) 80 from by rw [r_454_82 s2, l_802 s2]).mp x0, fun x0 => ⟨(show h1 (h1 454 82) (-2) = 101 from by rw [r_454_82 s2, k_802 s2]), (show 200 ≤ h1 454 82 from by rw [r_454_82 s2]; exact (by decide)), (show jI (w32 (h1 454 83 + 1)) (h1 (h1 454 82) (-1)) ↔ jI (w32 (h1 454 83 + 1)) 80 from by rw [r_454_82 s2, l_802 s2]).mpr x0⟩⟩ (fun g3 => ?_)
  refine EQ_jl (by rw [r_454_82 s2]) (fun h2 eh2 => ?_)
  have s4 := Sh_of eh2 (Sh_sta s2 (by decide +kernel) (jI_nn g3) (fun e => absurd ((k_802 s2).symm.trans e) (by decide)))
  clear eh2
  refine EQ_jgd (show h2 454 (-2) = 15 from by rw [k_454 s4]) ?_
  refine EQ_jb2 (eX14_isSo a1 a2 s4) (fun v4 h5 r5 => ?_)
  replace r5 : Sh S h5 := r5
  refine EQ_jg Iff.rfl (fun g6 => ?_)
  exact EQ_some r5
noncomputable def gX14_sizeWith_j129 (F : Int → Int → AH → Option (Int × AH)) (a3 : Int) (h : AH) : Option (Int × AH) := jl (jst h 454 83 (w32 (h 454 83 - 2))) fun h16 => some (a3, h16)
theorem eX14_sizeWith_j129 {F0 : Int → Int → Int → AH → Option (Int × AH)} {F : Int → Int → AH → Option (Int × AH)} (hF : ∀ (b_a1 : Int) (b_a2 : Int), ∀ {b_h : AH}, Sh S b_h → EQ (F0 454 b_a1 b_a2 b_h) (F b_a1 b_a2 b_h) (fun r => Sh S r.2)) (a3 : Int) {h : AH} (hS : Sh S h) : EQ (fX14_sizeWith_j129 F0 454 a3 h) (gX14_sizeWith_j129 F a3 h) (fun r => Sh S r.2) := by
  unfold fX14_sizeWith_j129 gX14_sizeWith_j129
  refine EQ_jgd (show h 454 (-2) = 15 from by rw [k_454 hS]) ?_
  refine EQ_jgd ⟨(show h 454 (-2) = 15 from by rw [k_454 hS]), (show (200 : Int) ≤ 454 from (by decide))⟩ ?_
  refine EQ_jl rfl (fun h16 eh16 => ?_)
  have s1 := Sh_of eh16 (Sh_sto hS (a := 454) (i := 83) (by decide +kernel))
  clear eh16
  exact EQ_some s1
noncomputable def gX14_sizeWith_j66 (F : Int → Int → AH → Option (Int × AH)) (a1 : Int) (a6 : Int) (t0 : Int) (t1 : Int) (h : AH) : Option (Int × AH) := jl (w32 (t0 + t1)) fun x17 => if 0 ≤ a6 then (jb2 (F a1 a6 h) fun v20 h21 => jl (w32 (x17 + v20)) fun x22 => gX14_sizeWith_j129 F x22 h21) else (jl (w32 (x17 + 0)) fun x23 => gX14_sizeWith_j129 F x23 h)
theorem eX14_sizeWith_j66 {F0 : Int → Int → Int → AH → Option (Int × AH)} {F : Int → Int → AH → Option (Int × AH)} (hF : ∀ (b_a1 : Int) (b_a2 : Int), ∀ {b_h : AH}, Sh S b_h → EQ (F0 454 b_a1 b_a2 b_h) (F b_a1 b_a2 b_h) (fun r => Sh S r.2)) (a1 : Int) (a6 : Int) (t0 : Int) (t1 : Int) {h : AH} (hS : Sh S h) : EQ (fX14_sizeWith_j66 F0 454 a1 a6 t0 t1 h) (gX14_sizeWith_j66 F a1 a6 t0 t1 h) (fun r => Sh S r.2) := by
  unfold fX14_sizeWith_j66 gX14_sizeWith_j66
  refine EQ_jl rfl (fun x17 ex17 => ?_)
  clear ex17
  refine EQ_if Iff.rfl (fun c1 => ?_) (fun c1 => ?_)
  · refine EQ_jgd (show h 454 (-2) = 15 from by rw [k_454 hS]) ?_
    refine EQ_jb2 (hF a1 a6 hS) (fun v20 h21 r2 => ?_)
    replace r2 : Sh S h21 := r2
    refine EQ_jl rfl (fun x22 ex22 => ?_)
    clear ex22
    exact (eX14_sizeWith_j129 hF x22 r2)
  · refine EQ_jl rfl (fun x23 ex23 => ?_)
    clear ex23
    exact (eX14_sizeWith_j129 hF x23 hS)
noncomputable def gX14_sizeWith_b93 (F : Int → Int → AH → Option (Int × AH)) (i1 : Int) (i2 : Int) (s : Int × Int × AH) : Option ((Int × Int × AH) ⊕ (Int × AH)) := jt3 s fun a3 a7 h => jg (jI i2 8800) <| if h 465 i2 ≤ a7 then (some (.inr (a3, h))) else (jg (jI (w32 (w32 (3 * i2) + a7)) 26400) <| jb2 (F i1 (h 464 (w32 (w32 (3 * i2) + a7))) h) fun v26 h27 => jl (w32 (a3 + v26)) fun x28 => jl (w32 (a7 + 1)) fun x29 => some (.inl (x28, x29, h27)))
theorem eX14_sizeWith_b93 {F0 : Int → Int → Int → AH → Option (Int × AH)} {F : Int → Int → AH → Option (Int × AH)} (hF : ∀ (b_a1 : Int) (b_a2 : Int), ∀ {b_h : AH}, Sh S b_h → EQ (F0 454 b_a1 b_a2 b_h) (F b_a1 b_a2 b_h) (fun r => Sh S r.2)) (i1 : Int) (i2 : Int) {s : Int × Int × AH} (hS : (fun r => Sh S r.2.2) s) : EQ (fX14_sizeWith_b93 F0 454 i1 i2 s) (gX14_sizeWith_b93 F i1 i2 s) (Sum.elim (fun r => Sh S r.2.2) (fun r => Sh S r.2)) := by
  unfold fX14_sizeWith_b93 gX14_sizeWith_b93
  obtain ⟨a3, a7, h⟩ := s
  refine EQ_jt3 ?_
  replace hS : Sh S h := hS
  refine EQ_jgd (show h 454 (-2) = 15 from by rw [k_454 hS]) ?_
  refine EQ_jg ⟨fun ⟨_, x0⟩ => (show jI i2 (h (h 454 11) (-1)) ↔ jI i2 8800 from by rw [r_454_11 hS, l_465 hS]).mp x0, fun x0 => ⟨(show h (h 454 11) (-2) = 101 from by rw [r_454_11 hS, k_465 hS]), (show jI i2 (h (h 454 11) (-1)) ↔ jI i2 8800 from by rw [r_454_11 hS, l_465 hS]).mpr x0⟩⟩ (fun g1 => ?_)
  refine EQ_if (show h (h 454 11) i2 ≤ a7 ↔ h 465 i2 ≤ a7 from by rw [r_454_11 hS]) (fun c2 => ?_) (fun c2 => ?_)
  · exact EQ_some hS
  · refine EQ_jgd (show h 454 (-2) = 15 from by rw [k_454 hS]) ?_
    refine EQ_jg ⟨fun ⟨_, x0⟩ => (show jI (w32 (w32 (3 * i2) + a7)) (h (h 454 10) (-1)) ↔ jI (w32 (w32 (3 * i2) + a7)) 26400 from by rw [r_454_10 hS, l_464 hS]).mp x0, fun x0 => ⟨(show h (h 454 10) (-2) = 101 from by rw [r_454_10 hS, k_464 hS]), (show jI (w32 (w32 (3 * i2) + a7)) (h (h 454 10) (-1)) ↔ jI (w32 (w32 (3 * i2) + a7)) 26400 from by rw [r_454_10 hS, l_464 hS]).mpr x0⟩⟩ (fun g3 => ?_)
    refine EQ_jgd (show h 454 (-2) = 15 from by rw [k_454 hS]) ?_
    refine EQ_jb2 (by rw [r_454_10 hS]; exact hF i1 (h 464 (w32 (w32 (3 * i2) + a7))) hS) (fun v26 h27 r4 => ?_)
    replace r4 : Sh S h27 := r4
    refine EQ_jl rfl (fun x28 ex28 => ?_)
    clear ex28
    refine EQ_jl rfl (fun x29 ex29 => ?_)
    clear ex29
    exact EQ_some r4
noncomputable def gX14_sizeWith_l93 (F : Int → Int → AH → Option (Int × AH)) (i1 : Int) (i2 : Int) (a3 : Int) (a7 : Int) (h : AH) : Option (Int × AH) := jit (gX14_sizeWith_b93 F i1 i2) (a3, a7, h)
theorem eX14_sizeWith_l93 {F0 : Int → Int → Int → AH → Option (Int × AH)} {F : Int → Int → AH → Option (Int × AH)} (hF : ∀ (b_a1 : Int) (b_a2 : Int), ∀ {b_h : AH}, Sh S b_h → EQ (F0 454 b_a1 b_a2 b_h) (F b_a1 b_a2 b_h) (fun r => Sh S r.2)) (i1 : Int) (i2 : Int) (a3 : Int) (a7 : Int) {h : AH} (hS : Sh S h) : EQ (fX14_sizeWith_l93 F0 454 i1 i2 a3 a7 h) (gX14_sizeWith_l93 F i1 i2 a3 a7 h) (fun r => Sh S r.2) := EQ_jit (I := (fun r => Sh S r.2.2)) (fun s hs => eX14_sizeWith_b93 hF i1 i2 hs) hS
noncomputable def gX14_sizeWith_ (F : Int → Int → AH → Option (Int × AH)) (a1 : Int) (a2 : Int) (h : AH) : Option (Int × AH) := jb2 (gX14_binds a1 a2 h) fun v2 h3 => jg (jI (h3 454 83) 80) <| jl (h3 802 (h3 454 83)) fun x4 => jg (jI (w32 (h3 454 83 + 1)) 80) <| jl (h3 802 (w32 (h3 454 83 + 1))) fun x5 => jl (jst h3 454 83 (w32 (h3 454 83 + 2))) fun h6 => if v2 = 0 then (jb (gX14_sizeWith_l93 F a1 a2 1 0 h6) fun o8 => jt2 o8 fun y10 h11 => gX14_sizeWith_j129 F y10 h11) else (if 0 ≤ x4 then (jb2 (F a1 x4 h6) fun v14 h15 => gX14_sizeWith_j66 F a1 x5 1 v14 h15) else (gX14_sizeWith_j66 F a1 x5 1 0 h6))
theorem eX14_sizeWith_ {F0 : Int → Int → Int → AH → Option (Int × AH)} {F : Int → Int → AH → Option (Int × AH)} (hF : ∀ (b_a1 : Int) (b_a2 : Int), ∀ {b_h : AH}, Sh S b_h → EQ (F0 454 b_a1 b_a2 b_h) (F b_a1 b_a2 b_h) (fun r => Sh S r.2)) (a1 : Int) (a2 : Int) {h : AH} (hS : Sh S h) : EQ (fX14_sizeWith_ F0 454 a1 a2 h) (gX14_sizeWith_ F a1 a2 h) (fun r => Sh S r.2) := by
  unfold fX14_sizeWith_ gX14_sizeWith_
  refine EQ_jgd (show h 454 (-2) = 15 from by rw [k_454 hS]) ?_
  refine EQ_jb2 (eX14_binds a1 a2 hS) (fun v2 h3 r1 => ?_)
  replace r1 : Sh S h3 := r1
  refine EQ_jgd (show h3 454 (-2) = 15 from by rw [k_454 r1]) ?_
  refine EQ_jgd (show h3 454 (-2) = 15 from by rw [k_454 r1]) ?_
  refine EQ_jg ⟨fun ⟨_, x0⟩ => (show jI (h3 454 83) (h3 (h3 454 82) (-1)) ↔ jI (h3 454 83) 80 from by rw [r_454_82 r1, l_802 r1]).mp x0, fun x0 => ⟨(show h3 (h3 454 82) (-2) = 101 from by rw [r_454_82 r1, k_802 r1]), (show jI (h3 454 83) (h3 (h3 454 82) (-1)) ↔ jI (h3 454 83) 80 from by rw [r_454_82 r1, l_802 r1]).mpr x0⟩⟩ (fun g2 => ?_)
  refine EQ_jl (by rw [r_454_82 r1]) (fun x4 ex4 => ?_)
  clear ex4
  refine EQ_jgd (show h3 454 (-2) = 15 from by rw [k_454 r1]) ?_
  refine EQ_jgd (show h3 454 (-2) = 15 from by rw [k_454 r1]) ?_
  refine EQ_jg ⟨fun ⟨_, x0⟩ => (show jI (w32 (h3 454 83 + 1)) (h3 (h3 454 82) (-1)) ↔ jI (w32 (h3 454 83 + 1)) 80 from by rw [r_454_82 r1, l_802 r1]).mp x0, fun x0 => ⟨(show h3 (h3 454 82) (-2) = 101 from by rw [r_454_82 r1, k_802 r1]), (show jI (w32 (h3 454 83 + 1)) (h3 (h3 454 82) (-1)) ↔ jI (w32 (h3 454 83 + 1)) 80 from by rw [r_454_82 r1, l_802 r1]).mpr x0⟩⟩ (fun g3 => ?_)
  refine EQ_jl (by rw [r_454_82 r1]) (fun x5 ex5 => ?_)
  clear ex5
  refine EQ_jgd (show h3 454 (-2) = 15 from by rw [k_454 r1]) ?_
  refine EQ_jgd ⟨(show h3 454 (-2) = 15 from by rw [k_454 r1]), (show (200 : Int) ≤ 454 from (by decide))⟩ ?_
  refine EQ_jl rfl (fun h6 eh6 => ?_)
  have s4 := Sh_of eh6 (Sh_sto r1 (a := 454) (i := 83) (by decide +kernel))
  clear eh6
  refine EQ_if Iff.rfl (fun c5 => ?_) (fun c5 => ?_)
  · refine EQ_jb (eX14_sizeWith_l93 hF a1 a2 1 0 s4) (fun o8 r6 => ?_)
    obtain ⟨y10, h11⟩ := o8
    refine EQ_jt2 ?_
    replace r6 : Sh S h11 := r6
    exact (eX14_sizeWith_j129 hF y10 r6)
  · refine EQ_if Iff.rfl (fun c7 => ?_) (fun c7 => ?_)
    · refine EQ_jgd (show h6 454 (-2) = 15 from by rw [k_454 s4]) ?_
      refine EQ_jb2 (hF a1 x4 s4) (fun v14 h15 r8 => ?_)
      replace r8 : Sh S h15 := r8
      exact (eX14_sizeWith_j66 hF a1 x5 1 v14 r8)
    · exact (eX14_sizeWith_j66 hF a1 x5 1 0 s4)
noncomputable def gX14_sizeWithD : Nat → Int → Int → AH → Option (Int × AH)
  | 0 => fun _ _ _ => none
  | d + 1 => gX14_sizeWith_ (gX14_sizeWithD d)
theorem eX14_sizeWithD : ∀ (d : Nat) (a1 : Int) (a2 : Int) {h : AH} (hS : Sh S h) , EQ (fX14_sizeWithD d 454 a1 a2 h) (gX14_sizeWithD d a1 a2 h) (fun r => Sh S r.2) := by
  intro d
  induction d with
  | zero => intro a1 a2 h hS; exact EQ_none
  | succ d ih => intro a1 a2 h hS; exact eX14_sizeWith_ ih a1 a2 hS
noncomputable def gX14_sizeWith : Int → Int → AH → Option (Int × AH) := gX14_sizeWithD 40
theorem eX14_sizeWith (a1 : Int) (a2 : Int) {h : AH} (hS : Sh S h) : EQ (fX14_sizeWith 454 a1 a2 h) (gX14_sizeWith a1 a2 h) (fun r => Sh S r.2) := eX14_sizeWithD 40 a1 a2 hS
noncomputable def gX14_isBefore_j39 (a1 : Int) (h : AH) : Option (Int) := if h 454 87 ≤ a1 then (some 0) else (if a1 = h 454 19 then (some 1) else (jg (jI a1 4000) <| if h 803 a1 ≤ h 471 a1 then (some 0) else (some 1)))
theorem eX14_isBefore_j39 (a1 : Int) {h : AH} (hS : Sh S h) : EQ (fX14_isBefore_j39 454 a1 h) (gX14_isBefore_j39 a1 h) (fun _ => True) := by
  unfold fX14_isBefore_j39 gX14_isBefore_j39
  refine EQ_jgd (show h 454 (-2) = 15 from by rw [k_454 hS]) ?_
  refine EQ_if Iff.rfl (fun c1 => ?_) (fun c1 => ?_)
  · exact EQ_some trivial
  · refine EQ_jgd (show h 454 (-2) = 15 from by rw [k_454 hS]) ?_
    refine EQ_if Iff.rfl (fun c2 => ?_) (fun c2 => ?_)
    · exact EQ_some trivial
    · refine EQ_jgd (show h 454 (-2) = 15 from by rw [k_454 hS]) ?_
      refine EQ_jg ⟨fun ⟨_, x0⟩ => (show jI a1 (h (h 454 18) (-1)) ↔ jI a1 4000 from by rw [r_454_18 hS, l_471 hS]).mp x0, fun x0 => ⟨(show h (h 454 18) (-2) = 101 from by rw [r_454_18 hS, k_471 hS]), (show jI a1 (h (h 454 18) (-1)) ↔ jI a1 4000 from by rw [r_454_18 hS, l_471 hS]).mpr x0⟩⟩ (fun g3 => ?_)
      refine EQ_jgd (show h 454 (-2) = 15 from by rw [k_454 hS]) ?_
      refine EQ_jgd ⟨(show h (h 454 86) (-2) = 101 from by rw [r_454_86 hS, k_803 hS]), ((show jI a1 (h (h 454 86) (-1)) ↔ jI a1 4000 from by rw [r_454_86 hS, l_803 hS]).mpr g3)⟩ ?_
      refine EQ_if (show h (h 454 86) a1 ≤ h (h 454 18) a1 ↔ h 803 a1 ≤ h 471 a1 from by rw [r_454_86 hS, r_454_18 hS]) (fun c4 => ?_) (fun c4 => ?_)
      · exact EQ_some trivial
      · exact EQ_some trivial
noncomputable def gX14_isBefore_b2 (h : AH) (a1 : Int) : Option ((Int) ⊕ (Int)) := if h 454 19 ≤ a1 then (some (.inr a1)) else (if h 454 87 ≤ a1 then (some (.inr a1)) else (jg (jI a1 4000) <| if h 471 a1 = h 803 a1 then (jl (w32 (a1 + 1)) fun x9 => some (.inl x9)) else (some (.inr a1))))
theorem eX14_isBefore_b2 (a1 : Int) {h : AH} (hS : Sh S h) : EQ (fX14_isBefore_b2 454 h a1) (gX14_isBefore_b2 h a1) (Sum.elim (fun _ => True) (fun _ => True)) := by
  unfold fX14_isBefore_b2 gX14_isBefore_b2
  refine EQ_jgd (show h 454 (-2) = 15 from by rw [k_454 hS]) ?_
  refine EQ_if Iff.rfl (fun c1 => ?_) (fun c1 => ?_)
  · exact EQ_some trivial
  · refine EQ_jgd (show h 454 (-2) = 15 from by rw [k_454 hS]) ?_
    refine EQ_if Iff.rfl (fun c2 => ?_) (fun c2 => ?_)
    · exact EQ_some trivial
    · refine EQ_jgd (show h 454 (-2) = 15 from by rw [k_454 hS]) ?_
      refine EQ_jg ⟨fun ⟨_, x0⟩ => (show jI a1 (h (h 454 18) (-1)) ↔ jI a1 4000 from by rw [r_454_18 hS, l_471 hS]).mp x0, fun x0 => ⟨(show h (h 454 18) (-2) = 101 from by rw [r_454_18 hS, k_471 hS]), (show jI a1 (h (h 454 18) (-1)) ↔ jI a1 4000 from by rw [r_454_18 hS, l_471 hS]).mpr x0⟩⟩ (fun g3 => ?_)
      refine EQ_jgd (show h 454 (-2) = 15 from by rw [k_454 hS]) ?_
      refine EQ_jgd ⟨(show h (h 454 86) (-2) = 101 from by rw [r_454_86 hS, k_803 hS]), ((show jI a1 (h (h 454 86) (-1)) ↔ jI a1 4000 from by rw [r_454_86 hS, l_803 hS]).mpr g3)⟩ ?_
      refine EQ_if (show h (h 454 18) a1 = h (h 454 86) a1 ↔ h 471 a1 = h 803 a1 from by rw [r_454_18 hS, r_454_86 hS]) (fun c4 => ?_) (fun c4 => ?_)
      · refine EQ_jl rfl (fun x9 ex9 => ?_)
        clear ex9
        exact EQ_some trivial
      · exact EQ_some trivial
noncomputable def gX14_isBefore_l2 (a1 : Int) (h : AH) : Option (Int) := jit (gX14_isBefore_b2 h) a1
theorem eX14_isBefore_l2 (a1 : Int) {h : AH} (hS : Sh S h) : EQ (fX14_isBefore_l2 454 a1 h) (gX14_isBefore_l2 a1 h) (fun _ => True) := EQ_jit (I := (fun _ => True)) (fun s _ => eX14_isBefore_b2 s hS) trivial
noncomputable def gX14_isBefore (h : AH) : Option (Int) := jb (gX14_isBefore_l2 0 h) fun o1 => gX14_isBefore_j39 o1 h
theorem eX14_isBefore {h : AH} (hS : Sh S h) : EQ (fX14_isBefore 454 h) (gX14_isBefore h) (fun _ => True) := by
  unfold fX14_isBefore gX14_isBefore
  refine EQ_jb (eX14_isBefore_l2 0 hS) (fun o1 r1 => ?_)
  exact (eX14_isBefore_j39 o1 hS)
noncomputable def gX14_tryPattern_b254 (i7 : Int) (s : Int × AH) : Option ((Int × AH) ⊕ (AH)) := jt2 s fun a8 h => if i7 ≤ a8 then (some (.inr h)) else (jg (jI a8 4000) <| jl (jst h 803 a8 (h 471 a8)) fun h46 => jl (w32 (a8 + 1)) fun x47 => some (.inl (x47, h46)))
theorem eX14_tryPattern_b254 (i7 : Int) {s : Int × AH} (hS : (fun r => Sh S r.2) s) : EQ (fX14_tryPattern_b254 454 i7 s) (gX14_tryPattern_b254 i7 s) (Sum.elim (fun r => Sh S r.2) (fun r => Sh S r)) := by
  unfold fX14_tryPattern_b254 gX14_tryPattern_b254
  obtain ⟨a8, h⟩ := s
  refine EQ_jt2 ?_
  replace hS : Sh S h := hS
  refine EQ_if Iff.rfl (fun c1 => ?_) (fun c1 => ?_)
  · exact EQ_some hS
  · refine EQ_jgd (show h 454 (-2) = 15 from by rw [k_454 hS]) ?_
    refine EQ_jgd (show h 454 (-2) = 15 from by rw [k_454 hS]) ?_
    refine EQ_jg ⟨fun ⟨_, x0⟩ => (show jI a8 (h (h 454 18) (-1)) ↔ jI a8 4000 from by rw [r_454_18 hS, l_471 hS]).mp x0, fun x0 => ⟨(show h (h 454 18) (-2) = 101 from by rw [r_454_18 hS, k_471 hS]), (show jI a8 (h (h 454 18) (-1)) ↔ jI a8 4000 from by rw [r_454_18 hS, l_471 hS]).mpr x0⟩⟩ (fun g2 => ?_)
    refine EQ_jgd ⟨(show h (h 454 86) (-2) = 101 from by rw [r_454_86 hS, k_803 hS]), (show 200 ≤ h 454 86 from by rw [r_454_86 hS]; exact (by decide)), ((show jI a8 (h (h 454 86) (-1)) ↔ jI a8 4000 from by rw [r_454_86 hS, l_803 hS]).mpr g2)⟩ ?_
    refine EQ_jl (by rw [r_454_86 hS, r_454_18 hS]) (fun h46 eh46 => ?_)
    have s3 := Sh_of eh46 (Sh_sta hS (by decide +kernel) (jI_nn g2) (fun e => absurd ((k_803 hS).symm.trans e) (by decide)))
    clear eh46
    refine EQ_jl rfl (fun x47 ex47 => ?_)
    clear ex47
    exact EQ_some s3
noncomputable def gX14_tryPattern_l254 (i7 : Int) (a8 : Int) (h : AH) : Option (AH) := jit (gX14_tryPattern_b254 i7) (a8, h)
theorem eX14_tryPattern_l254 (i7 : Int) (a8 : Int) {h : AH} (hS : Sh S h) : EQ (fX14_tryPattern_l254 454 i7 a8 h) (gX14_tryPattern_l254 i7 a8 h) (fun r => Sh S r) := EQ_jit (I := (fun r => Sh S r.2)) (fun s hs => eX14_tryPattern_b254 i7 hs) hS
noncomputable def gX14_tryPattern_b292 (s : Int × AH) : Option ((Int × AH) ⊕ (AH)) := jt2 s fun a8 h => if h 454 81 ≤ a8 then (some (.inr h)) else (jg (jI a8 64) <| jg (jI (h 800 a8) 8800) <| jg (jI a8 2) <| jl (jst h 804 a8 (h 461 (h 800 a8))) fun h49 => jl (w32 (a8 + 1)) fun x50 => some (.inl (x50, h49)))
theorem eX14_tryPattern_b292 {s : Int × AH} (hS : (fun r => Sh S r.2) s) : EQ (fX14_tryPattern_b292 454 s) (gX14_tryPattern_b292 s) (Sum.elim (fun r => Sh S r.2) (fun r => Sh S r)) := by
  unfold fX14_tryPattern_b292 gX14_tryPattern_b292
  obtain ⟨a8, h⟩ := s
  refine EQ_jt2 ?_
  replace hS : Sh S h := hS
  refine EQ_jgd (show h 454 (-2) = 15 from by rw [k_454 hS]) ?_
  refine EQ_if Iff.rfl (fun c1 => ?_) (fun c1 => ?_)
  · exact EQ_some hS
  · refine EQ_jgd (show h 454 (-2) = 15 from by rw [k_454 hS]) ?_
    refine EQ_jgd (show h 454 (-2) = 15 from by rw [k_454 hS]) ?_
    refine EQ_jgd (show h 454 (-2) = 15 from by rw [k_454 hS]) ?_
    refine EQ_jg ⟨fun ⟨_, x0⟩ => (show jI a8 (h (h 454 79) (-1)) ↔ jI a8 64 from by rw [r_454_79 hS, l_800 hS]).mp x0, fun x0 => ⟨(show h (h 454 79) (-2) = 101 from by rw [r_454_79 hS, k_800 hS]), (show jI a8 (h (h 454 79) (-1)) ↔ jI a8 64 from by rw [r_454_79 hS, l_800 hS]).mpr x0⟩⟩ (fun g2 => ?_)
    refine EQ_jg ⟨fun ⟨_, x0⟩ => (show jI (h (h 454 79) a8) (h (h 454 7) (-1)) ↔ jI (h 800 a8) 8800 from by rw [r_454_79 hS, r_454_7 hS, l_461 hS]).mp x0, fun x0 => ⟨(show h (h 454 7) (-2) = 101 from by rw [r_454_7 hS, k_461 hS]), (show jI (h (h 454 79) a8) (h (h 454 7) (-1)) ↔ jI (h 800 a8) 8800 from by rw [r_454_79 hS, r_454_7 hS, l_461 hS]).mpr x0⟩⟩ (fun g3 => ?_)
    refine EQ_jg ⟨fun ⟨_, _, x0⟩ => (show jI a8 (h (h 454 88) (-1)) ↔ jI a8 2 from by rw [r_454_88 hS, l_804 hS]).mp x0, fun x0 => ⟨(show h (h 454 88) (-2) = 101 from by rw [r_454_88 hS, k_804 hS]), (show 200 ≤ h 454 88 from by rw [r_454_88 hS]; exact (by decide)), (show jI a8 (h (h 454 88) (-1)) ↔ jI a8 2 from by rw [r_454_88 hS, l_804 hS]).mpr x0⟩⟩ (fun g4 => ?_)
    refine EQ_jl (by rw [r_454_88 hS, r_454_7 hS, r_454_79 hS]) (fun h49 eh49 => ?_)
    have s5 := Sh_of eh49 (Sh_sta hS (by decide +kernel) (jI_nn g2) (fun e => absurd ((k_804 hS).symm.trans e) (by decide)))
    clear eh49
    refine EQ_jl rfl (fun x50 ex50 => ?_)
    clear ex50
    exact EQ_some s5
noncomputable def gX14_tryPattern_l292 (a8 : Int) (h : AH) : Option (AH) := jit gX14_tryPattern_b292 (a8, h)
theorem eX14_tryPattern_l292 (a8 : Int) {h : AH} (hS : Sh S h) : EQ (fX14_tryPattern_l292 454 a8 h) (gX14_tryPattern_l292 a8 h) (fun r => Sh S r) := EQ_jit (I := (fun r => Sh S r.2)) (fun s hs => eX14_tryPattern_b292 hs) hS
noncomputable def gX14_tryPattern_j220 (a4 : Int) (a6 : Int) (a7 : Int) (h : AH) : Option (AH) := jl (jst h 454 84 a6) fun h33 => jl (jst h33 454 17 8400) fun h34 => jb2 (gX14_copy a4 (-1) (-1) h34) fun v36 h37 => jl (jst h37 454 85 v36) fun h38 => jl (jst h38 454 87 a7) fun h39 => jb (gX14_tryPattern_l254 a7 0 h39) fun o40 => jl (jst o40 454 89 (o40 454 81)) fun h42 => jb (gX14_tryPattern_l292 0 h42) fun o43 => some o43
theorem eX14_tryPattern_j220 (a4 : Int) (a6 : Int) (a7 : Int) {h : AH} (hS : Sh S h) : EQ (fX14_tryPattern_j220 454 a4 a6 a7 h) (gX14_tryPattern_j220 a4 a6 a7 h) (fun r => Sh S r) := by
  unfold fX14_tryPattern_j220 gX14_tryPattern_j220
  refine EQ_jgd ⟨(show h 454 (-2) = 15 from by rw [k_454 hS]), (show (200 : Int) ≤ 454 from (by decide))⟩ ?_
  refine EQ_jl rfl (fun h33 eh33 => ?_)
  have s1 := Sh_of eh33 (Sh_sto hS (a := 454) (i := 84) (by decide +kernel))
  clear eh33
  refine EQ_jgd ⟨(show h33 454 (-2) = 15 from by rw [k_454 s1]), (show (200 : Int) ≤ 454 from (by decide))⟩ ?_
  refine EQ_jl rfl (fun h34 eh34 => ?_)
  have s2 := Sh_of eh34 (Sh_sto s1 (a := 454) (i := 17) (by decide +kernel))
  clear eh34
  refine EQ_jgd (show h34 454 (-2) = 15 from by rw [k_454 s2]) ?_
  refine EQ_jb2 (eX14_copy a4 (-1) (-1) s2) (fun v36 h37 r3 => ?_)
  replace r3 : Sh S h37 := r3
  refine EQ_jgd ⟨(show h37 454 (-2) = 15 from by rw [k_454 r3]), (show (200 : Int) ≤ 454 from (by decide))⟩ ?_
  refine EQ_jl rfl (fun h38 eh38 => ?_)
  have s4 := Sh_of eh38 (Sh_sto r3 (a := 454) (i := 85) (by decide +kernel))
  clear eh38
  refine EQ_jgd ⟨(show h38 454 (-2) = 15 from by rw [k_454 s4]), (show (200 : Int) ≤ 454 from (by decide))⟩ ?_
  refine EQ_jl rfl (fun h39 eh39 => ?_)
  have s5 := Sh_of eh39 (Sh_sto s4 (a := 454) (i := 87) (by decide +kernel))
  clear eh39
  refine EQ_jb (eX14_tryPattern_l254 a7 0 s5) (fun o40 r6 => ?_)
  refine EQ_jgd (show o40 454 (-2) = 15 from by rw [k_454 r6]) ?_
  refine EQ_jgd ⟨(show o40 454 (-2) = 15 from by rw [k_454 r6]), (show (200 : Int) ≤ 454 from (by decide))⟩ ?_
  refine EQ_jl rfl (fun h42 eh42 => ?_)
  have s7 := Sh_of eh42 (Sh_sto r6 (a := 454) (i := 89) (by decide +kernel))
  clear eh42
  refine EQ_jb (eX14_tryPattern_l292 0 s7) (fun o43 r8 => ?_)
  exact EQ_some r8
noncomputable def gX14_tryPattern_j114_71 (a3 : Int) (a4 : Int) (a6 : Int) (t0 : Int) (h : AH) : Option ((Int × Int) ⊕ (Int)) := jl (w32 (a6 + 1)) fun x54 => some (.inl (t0, x54))
theorem eX14_tryPattern_j114_71 (a3 : Int) (a4 : Int) (a6 : Int) (t0 : Int) {h : AH} (hS : Sh S h) : EQ (fX14_tryPattern_j114_71 454 a3 a4 a6 t0 h) (gX14_tryPattern_j114_71 a3 a4 a6 t0 h) (Sum.elim (fun _ => True) (fun _ => True)) := by
  unfold fX14_tryPattern_j114_71 gX14_tryPattern_j114_71
  refine EQ_jl rfl (fun x54 ex54 => ?_)
  clear ex54
  exact EQ_some trivial
noncomputable def gX14_tryPattern_b71 (i3 : Int) (i4 : Int) (h : AH) (s : Int × Int) : Option ((Int × Int) ⊕ (Int)) := jt2 s fun a5 a6 => jg (jI i4 8800) <| if h 465 i4 ≤ a6 then (some (.inr a5)) else (if a5 = 0 then (gX14_tryPattern_j114_71 i3 i4 a6 0 h) else (jg (jI (w32 (w32 (3 * i4) + a6)) 26400) <| jg (jI (h 464 (w32 (w32 (3 * i4) + a6))) 8800) <| if h 460 (h 464 (w32 (w32 (3 * i4) + a6))) = 1 then (gX14_tryPattern_j114_71 i3 i4 a6 1 h) else (gX14_tryPattern_j114_71 i3 i4 a6 0 h)))
theorem eX14_tryPattern_b71 (i3 : Int) (i4 : Int) (s : Int × Int) {h : AH} (hS : Sh S h) : EQ (fX14_tryPattern_b71 454 i3 i4 h s) (gX14_tryPattern_b71 i3 i4 h s) (Sum.elim (fun _ => True) (fun _ => True)) := by
  unfold fX14_tryPattern_b71 gX14_tryPattern_b71
  obtain ⟨a5, a6⟩ := s
  refine EQ_jt2 ?_
  refine EQ_jgd (show h 454 (-2) = 15 from by rw [k_454 hS]) ?_
  refine EQ_jg ⟨fun ⟨_, x0⟩ => (show jI i4 (h (h 454 11) (-1)) ↔ jI i4 8800 from by rw [r_454_11 hS, l_465 hS]).mp x0, fun x0 => ⟨(show h (h 454 11) (-2) = 101 from by rw [r_454_11 hS, k_465 hS]), (show jI i4 (h (h 454 11) (-1)) ↔ jI i4 8800 from by rw [r_454_11 hS, l_465 hS]).mpr x0⟩⟩ (fun g1 => ?_)
  refine EQ_if (show h (h 454 11) i4 ≤ a6 ↔ h 465 i4 ≤ a6 from by rw [r_454_11 hS]) (fun c2 => ?_) (fun c2 => ?_)
  · exact EQ_some trivial
  · refine EQ_if Iff.rfl (fun c3 => ?_) (fun c3 => ?_)
    · exact (eX14_tryPattern_j114_71 i3 i4 a6 0 hS)
    · refine EQ_jgd (show h 454 (-2) = 15 from by rw [k_454 hS]) ?_
      refine EQ_jgd (show h 454 (-2) = 15 from by rw [k_454 hS]) ?_
      refine EQ_jg ⟨fun ⟨_, x0⟩ => (show jI (w32 (w32 (3 * i4) + a6)) (h (h 454 10) (-1)) ↔ jI (w32 (w32 (3 * i4) + a6)) 26400 from by rw [r_454_10 hS, l_464 hS]).mp x0, fun x0 => ⟨(show h (h 454 10) (-2) = 101 from by rw [r_454_10 hS, k_464 hS]), (show jI (w32 (w32 (3 * i4) + a6)) (h (h 454 10) (-1)) ↔ jI (w32 (w32 (3 * i4) + a6)) 26400 from by rw [r_454_10 hS, l_464 hS]).mpr x0⟩⟩ (fun g4 => ?_)
      refine EQ_jg ⟨fun ⟨_, x0⟩ => (show jI (h (h 454 10) (w32 (w32 (3 * i4) + a6))) (h (h 454 6) (-1)) ↔ jI (h 464 (w32 (w32 (3 * i4) + a6))) 8800 from by rw [r_454_10 hS, r_454_6 hS, l_460 hS]).mp x0, fun x0 => ⟨(show h (h 454 6) (-2) = 101 from by rw [r_454_6 hS, k_460 hS]), (show jI (h (h 454 10) (w32 (w32 (3 * i4) + a6))) (h (h 454 6) (-1)) ↔ jI (h 464 (w32 (w32 (3 * i4) + a6))) 8800 from by rw [r_454_10 hS, r_454_6 hS, l_460 hS]).mpr x0⟩⟩ (fun g5 => ?_)
      refine EQ_if (show h (h 454 6) (h (h 454 10) (w32 (w32 (3 * i4) + a6))) = 1 ↔ h 460 (h 464 (w32 (w32 (3 * i4) + a6))) = 1 from by rw [r_454_6 hS, r_454_10 hS]) (fun c6 => ?_) (fun c6 => ?_)
      · exact (eX14_tryPattern_j114_71 i3 i4 a6 1 hS)
      · exact (eX14_tryPattern_j114_71 i3 i4 a6 0 hS)
noncomputable def gX14_tryPattern_l71 (i3 : Int) (i4 : Int) (a5 : Int) (a6 : Int) (h : AH) : Option (Int) := jit (gX14_tryPattern_b71 i3 i4 h) (a5, a6)
theorem eX14_tryPattern_l71 (i3 : Int) (i4 : Int) (a5 : Int) (a6 : Int) {h : AH} (hS : Sh S h) : EQ (fX14_tryPattern_l71 454 i3 i4 a5 a6 h) (gX14_tryPattern_l71 i3 i4 a5 a6 h) (fun _ => True) := EQ_jit (I := (fun _ => True)) (fun s _ => eX14_tryPattern_b71 i3 i4 s hS) trivial
noncomputable def gX14_tryPattern_b146 (i4 : Int) (s : Int × Int × AH) : Option ((Int × Int × AH) ⊕ (Int × AH)) := jt3 s fun a6 a7 h => if h 454 77 ≤ a7 then (some (.inr (a6, h))) else (jg (jI a7 12) <| jb2 (gX14_sizeWith i4 (h 797 a7) h) fun v57 h58 => jl (w32 (a6 - v57)) fun x59 => jl (w32 (a7 + 1)) fun x60 => some (.inl (x59, x60, h58)))
theorem eX14_tryPattern_b146 (i4 : Int) {s : Int × Int × AH} (hS : (fun r => Sh S r.2.2) s) : EQ (fX14_tryPattern_b146 454 i4 s) (gX14_tryPattern_b146 i4 s) (Sum.elim (fun r => Sh S r.2.2) (fun r => Sh S r.2)) := by
  unfold fX14_tryPattern_b146 gX14_tryPattern_b146
  obtain ⟨a6, a7, h⟩ := s
  refine EQ_jt3 ?_
  replace hS : Sh S h := hS
  refine EQ_jgd (show h 454 (-2) = 15 from by rw [k_454 hS]) ?_
  refine EQ_if Iff.rfl (fun c1 => ?_) (fun c1 => ?_)
  · exact EQ_some hS
  · refine EQ_jgd (show h 454 (-2) = 15 from by rw [k_454 hS]) ?_
    refine EQ_jg ⟨fun ⟨_, x0⟩ => (show jI a7 (h (h 454 74) (-1)) ↔ jI a7 12 from by rw [r_454_74 hS, l_797 hS]).mp x0, fun x0 => ⟨(show h (h 454 74) (-2) = 101 from by rw [r_454_74 hS, k_797 hS]), (show jI a7 (h (h 454 74) (-1)) ↔ jI a7 12 from by rw [r_454_74 hS, l_797 hS]).mpr x0⟩⟩ (fun g2 => ?_)
    refine EQ_jgd (show h 454 (-2) = 15 from by rw [k_454 hS]) ?_
    refine EQ_jb2 (by rw [r_454_74 hS]; exact eX14_sizeWith i4 (h 797 a7) hS) (fun v57 h58 r3 => ?_)
    replace r3 : Sh S h58 := r3
    refine EQ_jl rfl (fun x59 ex59 => ?_)
    clear ex59
    refine EQ_jl rfl (fun x60 ex60 => ?_)
    clear ex60
    exact EQ_some r3
noncomputable def gX14_tryPattern_l146 (i4 : Int) (a6 : Int) (a7 : Int) (h : AH) : Option (Int × AH) := jit (gX14_tryPattern_b146 i4) (a6, a7, h)
theorem eX14_tryPattern_l146 (i4 : Int) (a6 : Int) (a7 : Int) {h : AH} (hS : Sh S h) : EQ (fX14_tryPattern_l146 454 i4 a6 a7 h) (gX14_tryPattern_l146 i4 a6 a7 h) (fun r => Sh S r.2) := EQ_jit (I := (fun r => Sh S r.2.2)) (fun s hs => eX14_tryPattern_b146 i4 hs) hS
noncomputable def gX14_tryPattern_j66 (a3 : Int) (a4 : Int) (t0 : Int) (h : AH) : Option (AH) := jb (gX14_tryPattern_l71 a3 a4 t0 0 h) fun o13 => if o13 = 0 then (jb (gX14_size a4 h) fun v17 => jl (w32 (a3 - v17)) fun x18 => jl (jst h 454 83 0) fun h19 => jb (gX14_tryPattern_l146 a4 x18 0 h19) fun o20 => jt2 o20 fun y22 h23 => if y22 < 1 then (some h23) else (if h23 454 84 ≤ y22 then (jb2 (gX14_textOf a4 h23) fun v27 h28 => if y22 = h28 454 84 then (jb (gX14_isBefore h28) fun v31 => if v31 = 0 then (some h28) else (gX14_tryPattern_j220 a4 y22 v27 h28)) else (gX14_tryPattern_j220 a4 y22 v27 h28)) else (some h23))) else (some h)
theorem eX14_tryPattern_j66 (a3 : Int) (a4 : Int) (t0 : Int) {h : AH} (hS : Sh S h) : EQ (fX14_tryPattern_j66 454 a3 a4 t0 h) (gX14_tryPattern_j66 a3 a4 t0 h) (fun r => Sh S r) := by
  unfold fX14_tryPattern_j66 gX14_tryPattern_j66
  refine EQ_jb (eX14_tryPattern_l71 a3 a4 t0 0 hS) (fun o13 r1 => ?_)
  refine EQ_if Iff.rfl (fun c2 => ?_) (fun c2 => ?_)
  · refine EQ_jgd (show h 454 (-2) = 15 from by rw [k_454 hS]) ?_
    refine EQ_jb (eX14_size a4 hS) (fun v17 r3 => ?_)
    refine EQ_jl rfl (fun x18 ex18 => ?_)
    clear ex18
    refine EQ_jgd ⟨(show h 454 (-2) = 15 from by rw [k_454 hS]), (show (200 : Int) ≤ 454 from (by decide))⟩ ?_
    refine EQ_jl rfl (fun h19 eh19 => ?_)
    have s4 := Sh_of eh19 (Sh_sto hS (a := 454) (i := 83) (by decide +kernel))
    clear eh19
    refine EQ_jb (eX14_tryPattern_l146 a4 x18 0 s4) (fun o20 r5 => ?_)
    obtain ⟨y22, h23⟩ := o20
    refine EQ_jt2 ?_
    replace r5 : Sh S h23 := r5
    refine EQ_if Iff.rfl (fun c6 => ?_) (fun c6 => ?_)
    · exact EQ_some r5
    · refine EQ_jgd (show h23 454 (-2) = 15 from by rw [k_454 r5]) ?_
      refine EQ_if Iff.rfl (fun c7 => ?_) (fun c7 => ?_)
      · refine EQ_jgd (show h23 454 (-2) = 15 from by rw [k_454 r5]) ?_
        refine EQ_jb2 (eX14_textOf a4 r5) (fun v27 h28 r8 => ?_)
        replace r8 : Sh S h28 := r8
        refine EQ_jgd (show h28 454 (-2) = 15 from by rw [k_454 r8]) ?_
        refine EQ_if Iff.rfl (fun c9 => ?_) (fun c9 => ?_)
        · refine EQ_jgd (show h28 454 (-2) = 15 from by rw [k_454 r8]) ?_
          refine EQ_jb (eX14_isBefore r8) (fun v31 r10 => ?_)
          refine EQ_if Iff.rfl (fun c11 => ?_) (fun c11 => ?_)
          · exact EQ_some r8
          · exact (eX14_tryPattern_j220 a4 y22 v27 r8)
        · exact (eX14_tryPattern_j220 a4 y22 v27 r8)
      · exact EQ_some r5
  · exact EQ_some hS
noncomputable def gX14_tryPattern (a1 : Int) (a2 : Int) (a3 : Int) (h : AH) : Option (AH) := jl (jst h 454 17 8300) fun h1 => jl (jst h1 454 81 0) fun h2 => jb2 (gX14_pattern a1 a2 h2) fun v4 h5 => jb (gX14_in (h5 454 81) 1 2) fun v7 => if v7 = 0 then (some h5) else (jb (gX14_weight v4 h5) fun v10 => if v10 ≤ 40 then (jg (jI v4 8800) <| if h5 454 81 = h5 465 v4 then (gX14_tryPattern_j66 a3 v4 1 h5) else (gX14_tryPattern_j66 a3 v4 0 h5)) else (some h5))
theorem eX14_tryPattern (a1 : Int) (a2 : Int) (a3 : Int) {h : AH} (hS : Sh S h) : EQ (fX14_tryPattern 454 a1 a2 a3 h) (gX14_tryPattern a1 a2 a3 h) (fun r => Sh S r) := by
  unfold fX14_tryPattern gX14_tryPattern
  refine EQ_jgd ⟨(show h 454 (-2) = 15 from by rw [k_454 hS]), (show (200 : Int) ≤ 454 from (by decide))⟩ ?_
  refine EQ_jl rfl (fun h1 eh1 => ?_)
  have s1 := Sh_of eh1 (Sh_sto hS (a := 454) (i := 17) (by decide +kernel))
  clear eh1
  refine EQ_jgd ⟨(show h1 454 (-2) = 15 from by rw [k_454 s1]), (show (200 : Int) ≤ 454 from (by decide))⟩ ?_
  refine EQ_jl rfl (fun h2 eh2 => ?_)
  have s2 := Sh_of eh2 (Sh_sto s1 (a := 454) (i := 81) (by decide +kernel))
  clear eh2
  refine EQ_jgd (show h2 454 (-2) = 15 from by rw [k_454 s2]) ?_
  refine EQ_jb2 (eX14_pattern a1 a2 s2) (fun v4 h5 r3 => ?_)
  replace r3 : Sh S h5 := r3
  refine EQ_jgd (show h5 454 (-2) = 15 from by rw [k_454 r3]) ?_
  refine EQ_jb (eX14_in (h5 454 81) 1 2) (fun v7 r4 => ?_)
  refine EQ_if Iff.rfl (fun c5 => ?_) (fun c5 => ?_)
  · exact EQ_some r3
  · refine EQ_jgd (show h5 454 (-2) = 15 from by rw [k_454 r3]) ?_
    refine EQ_jb (eX14_weight v4 r3) (fun v10 r6 => ?_)
    refine EQ_if Iff.rfl (fun c7 => ?_) (fun c7 => ?_)
    · refine EQ_jgd (show h5 454 (-2) = 15 from by rw [k_454 r3]) ?_
      refine EQ_jgd (show h5 454 (-2) = 15 from by rw [k_454 r3]) ?_
      refine EQ_jg ⟨fun ⟨_, x0⟩ => (show jI v4 (h5 (h5 454 11) (-1)) ↔ jI v4 8800 from by rw [r_454_11 r3, l_465 r3]).mp x0, fun x0 => ⟨(show h5 (h5 454 11) (-2) = 101 from by rw [r_454_11 r3, k_465 r3]), (show jI v4 (h5 (h5 454 11) (-1)) ↔ jI v4 8800 from by rw [r_454_11 r3, l_465 r3]).mpr x0⟩⟩ (fun g8 => ?_)
      refine EQ_if (show h5 454 81 = h5 (h5 454 11) v4 ↔ h5 454 81 = h5 465 v4 from by rw [r_454_11 r3]) (fun c9 => ?_) (fun c9 => ?_)
      · exact (eX14_tryPattern_j66 a3 v4 1 r3)
      · exact (eX14_tryPattern_j66 a3 v4 0 r3)
    · exact EQ_some r3
noncomputable def gX14_findBest_b24 (s : Int × Int × AH) : Option ((Int × Int × AH) ⊕ (Int × AH)) := jt3 s fun a1 a2 h => if h 454 77 ≤ a2 then (some (.inr (a1, h))) else (jg (jI a2 12) <| jb (gX14_places (h 797 a2) h) fun h13 => jb (gX14_size (h13 797 a2) h13) fun v15 => jl (w32 (a1 + v15)) fun x16 => jl (w32 (a2 + 1)) fun x17 => some (.inl (x16, x17, h13)))
theorem eX14_findBest_b24 {s : Int × Int × AH} (hS : (fun r => Sh S r.2.2) s) : EQ (fX14_findBest_b24 454 s) (gX14_findBest_b24 s) (Sum.elim (fun r => Sh S r.2.2) (fun r => Sh S r.2)) := by
  unfold fX14_findBest_b24 gX14_findBest_b24
  obtain ⟨a1, a2, h⟩ := s
  refine EQ_jt3 ?_
  replace hS : Sh S h := hS
  refine EQ_jgd (show h 454 (-2) = 15 from by rw [k_454 hS]) ?_
  refine EQ_if Iff.rfl (fun c1 => ?_) (fun c1 => ?_)
  · exact EQ_some hS
  · refine EQ_jgd (show h 454 (-2) = 15 from by rw [k_454 hS]) ?_
    refine EQ_jg ⟨fun ⟨_, x0⟩ => (show jI a2 (h (h 454 74) (-1)) ↔ jI a2 12 from by rw [r_454_74 hS, l_797 hS]).mp x0, fun x0 => ⟨(show h (h 454 74) (-2) = 101 from by rw [r_454_74 hS, k_797 hS]), (show jI a2 (h (h 454 74) (-1)) ↔ jI a2 12 from by rw [r_454_74 hS, l_797 hS]).mpr x0⟩⟩ (fun g2 => ?_)
    refine EQ_jgd (show h 454 (-2) = 15 from by rw [k_454 hS]) ?_
    refine EQ_jb (by rw [r_454_74 hS]; exact eX14_places (h 797 a2) hS) (fun h13 r3 => ?_)
    refine EQ_jgd (show h13 454 (-2) = 15 from by rw [k_454 r3]) ?_
    refine EQ_jgd ⟨(show h13 (h13 454 74) (-2) = 101 from by rw [r_454_74 r3, k_797 r3]), ((show jI a2 (h13 (h13 454 74) (-1)) ↔ jI a2 12 from by rw [r_454_74 r3, l_797 r3]).mpr g2)⟩ ?_
    refine EQ_jgd (show h13 454 (-2) = 15 from by rw [k_454 r3]) ?_
    refine EQ_jb (by rw [r_454_74 r3]; exact eX14_size (h13 797 a2) r3) (fun v15 r4 => ?_)
    refine EQ_jl rfl (fun x16 ex16 => ?_)
    clear ex16
    refine EQ_jl rfl (fun x17 ex17 => ?_)
    clear ex17
    exact EQ_some r3
noncomputable def gX14_findBest_l24 (a1 : Int) (a2 : Int) (h : AH) : Option (Int × AH) := jit gX14_findBest_b24 (a1, a2, h)
theorem eX14_findBest_l24 (a1 : Int) (a2 : Int) {h : AH} (hS : Sh S h) : EQ (fX14_findBest_l24 454 a1 a2 h) (gX14_findBest_l24 a1 a2 h) (fun r => Sh S r.2) := EQ_jit (I := (fun r => Sh S r.2.2)) (fun s hs => eX14_findBest_b24 hs) hS
noncomputable def gX14_findBest_j150_73 (a1 : Int) (a2 : Int) (a3 : Int) (h : AH) : Option ((Int × AH) ⊕ (AH)) := jl (w32 (a3 + 1)) fun x28 => some (.inl (x28, h))
theorem eX14_findBest_j150_73 (a1 : Int) (a2 : Int) (a3 : Int) {h : AH} (hS : Sh S h) : EQ (fX14_findBest_j150_73 454 a1 a2 a3 h) (gX14_findBest_j150_73 a1 a2 a3 h) (Sum.elim (fun r => Sh S r.2) (fun r => Sh S r)) := by
  unfold fX14_findBest_j150_73 gX14_findBest_j150_73
  refine EQ_jl rfl (fun x28 ex28 => ?_)
  clear ex28
  exact EQ_some hS
noncomputable def gX14_findBest_b73 (i1 : Int) (i2 : Int) (s : Int × AH) : Option ((Int × AH) ⊕ (AH)) := jt2 s fun a3 h => if i2 ≤ a3 then (some (.inr h)) else (jg (jI i2 400) <| jg (jI (h 796 i2) 8800) <| if h 460 (h 796 i2) = 2 then (jg (jI a3 400) <| jg (jI (h 796 a3) 8800) <| if h 460 (h 796 a3) = 2 then (if h 463 (h 796 i2) = h 463 (h 796 a3) then (jb (gX14_tryPattern (h 796 a3) (h 796 i2) i1 h) fun h27 => gX14_findBest_j150_73 i1 i2 a3 h27) else (gX14_findBest_j150_73 i1 i2 a3 h)) else (gX14_findBest_j150_73 i1 i2 a3 h)) else (gX14_findBest_j150_73 i1 i2 a3 h))
theorem eX14_findBest_b73 (i1 : Int) (i2 : Int) {s : Int × AH} (hS : (fun r => Sh S r.2) s) : EQ (fX14_findBest_b73 454 i1 i2 s) (gX14_findBest_b73 i1 i2 s) (Sum.elim (fun r => Sh S r.2) (fun r => Sh S r)) := by
  unfold fX14_findBest_b73 gX14_findBest_b73
  obtain ⟨a3, h⟩ := s
  refine EQ_jt2 ?_
  replace hS : Sh S h := hS
  refine EQ_if Iff.rfl (fun c1 => ?_) (fun c1 => ?_)
  · exact EQ_some hS
  · refine EQ_jgd (show h 454 (-2) = 15 from by rw [k_454 hS]) ?_
    refine EQ_jgd (show h 454 (-2) = 15 from by rw [k_454 hS]) ?_
    refine EQ_jg ⟨fun ⟨_, x0⟩ => (show jI i2 (h (h 454 72) (-1)) ↔ jI i2 400 from by rw [r_454_72 hS, l_796 hS]).mp x0, fun x0 => ⟨(show h (h 454 72) (-2) = 101 from by rw [r_454_72 hS, k_796 hS]), (show jI i2 (h (h 454 72) (-1)) ↔ jI i2 400 from by rw [r_454_72 hS, l_796 hS]).mpr x0⟩⟩ (fun g2 => ?_)
    refine EQ_jg ⟨fun ⟨_, x0⟩ => (show jI (h (h 454 72) i2) (h (h 454 6) (-1)) ↔ jI (h 796 i2) 8800 from by rw [r_454_72 hS, r_454_6 hS, l_460 hS]).mp x0, fun x0 => ⟨(show h (h 454 6) (-2) = 101 from by rw [r_454_6 hS, k_460 hS]), (show jI (h (h 454 72) i2) (h (h 454 6) (-1)) ↔ jI (h 796 i2) 8800 from by rw [r_454_72 hS, r_454_6 hS, l_460 hS]).mpr x0⟩⟩ (fun g3 => ?_)
    refine EQ_if (show h (h 454 6) (h (h 454 72) i2) = 2 ↔ h 460 (h 796 i2) = 2 from by rw [r_454_6 hS, r_454_72 hS]) (fun c4 => ?_) (fun c4 => ?_)
    · refine EQ_jgd (show h 454 (-2) = 15 from by rw [k_454 hS]) ?_
      refine EQ_jgd (show h 454 (-2) = 15 from by rw [k_454 hS]) ?_
      refine EQ_jg ⟨fun ⟨_, x0⟩ => (show jI a3 (h (h 454 72) (-1)) ↔ jI a3 400 from by rw [r_454_72 hS, l_796 hS]).mp x0, fun x0 => ⟨(show h (h 454 72) (-2) = 101 from by rw [r_454_72 hS, k_796 hS]), (show jI a3 (h (h 454 72) (-1)) ↔ jI a3 400 from by rw [r_454_72 hS, l_796 hS]).mpr x0⟩⟩ (fun g5 => ?_)
      refine EQ_jg ⟨fun ⟨_, x0⟩ => (show jI (h (h 454 72) a3) (h (h 454 6) (-1)) ↔ jI (h 796 a3) 8800 from by rw [r_454_72 hS, r_454_6 hS, l_460 hS]).mp x0, fun x0 => ⟨(show h (h 454 6) (-2) = 101 from by rw [r_454_6 hS, k_460 hS]), (show jI (h (h 454 72) a3) (h (h 454 6) (-1)) ↔ jI (h 796 a3) 8800 from by rw [r_454_72 hS, r_454_6 hS, l_460 hS]).mpr x0⟩⟩ (fun g6 => ?_)
      refine EQ_if (show h (h 454 6) (h (h 454 72) a3) = 2 ↔ h 460 (h 796 a3) = 2 from by rw [r_454_6 hS, r_454_72 hS]) (fun c7 => ?_) (fun c7 => ?_)
      · refine EQ_jgd (show h 454 (-2) = 15 from by rw [k_454 hS]) ?_
        refine EQ_jgd (show h 454 (-2) = 15 from by rw [k_454 hS]) ?_
        refine EQ_jgd ⟨(show h (h 454 72) (-2) = 101 from by rw [r_454_72 hS, k_796 hS]), ((show jI i2 (h (h 454 72) (-1)) ↔ jI i2 400 from by rw [r_454_72 hS, l_796 hS]).mpr g2)⟩ ?_
        refine EQ_jgd ⟨(show h (h 454 9) (-2) = 101 from by rw [r_454_9 hS, k_463 hS]), ((show jI (h (h 454 72) i2) (h (h 454 9) (-1)) ↔ jI (h 796 i2) 8800 from by rw [r_454_72 hS, r_454_9 hS, l_463 hS]).mpr g3)⟩ ?_
        refine EQ_jgd (show h 454 (-2) = 15 from by rw [k_454 hS]) ?_
        refine EQ_jgd (show h 454 (-2) = 15 from by rw [k_454 hS]) ?_
        refine EQ_jgd ⟨(show h (h 454 72) (-2) = 101 from by rw [r_454_72 hS, k_796 hS]), ((show jI a3 (h (h 454 72) (-1)) ↔ jI a3 400 from by rw [r_454_72 hS, l_796 hS]).mpr g5)⟩ ?_
        refine EQ_jgd ⟨(show h (h 454 9) (-2) = 101 from by rw [r_454_9 hS, k_463 hS]), ((show jI (h (h 454 72) a3) (h (h 454 9) (-1)) ↔ jI (h 796 a3) 8800 from by rw [r_454_72 hS, r_454_9 hS, l_463 hS]).mpr g6)⟩ ?_
        refine EQ_if (show h (h 454 9) (h (h 454 72) i2) = h (h 454 9) (h (h 454 72) a3) ↔ h 463 (h 796 i2) = h 463 (h 796 a3) from by rw [r_454_9 hS, r_454_72 hS]) (fun c8 => ?_) (fun c8 => ?_)
        · refine EQ_jgd (show h 454 (-2) = 15 from by rw [k_454 hS]) ?_
          refine EQ_jgd ⟨(show h (h 454 72) (-2) = 101 from by rw [r_454_72 hS, k_796 hS]), ((show jI a3 (h (h 454 72) (-1)) ↔ jI a3 400 from by rw [r_454_72 hS, l_796 hS]).mpr g5)⟩ ?_
          refine EQ_jgd (show h 454 (-2) = 15 from by rw [k_454 hS]) ?_
          refine EQ_jgd ⟨(show h (h 454 72) (-2) = 101 from by rw [r_454_72 hS, k_796 hS]), ((show jI i2 (h (h 454 72) (-1)) ↔ jI i2 400 from by rw [r_454_72 hS, l_796 hS]).mpr g2)⟩ ?_
          refine EQ_jgd (show h 454 (-2) = 15 from by rw [k_454 hS]) ?_
          refine EQ_jb (by rw [r_454_72 hS]; exact eX14_tryPattern (h 796 a3) (h 796 i2) i1 hS) (fun h27 r9 => ?_)
          exact (eX14_findBest_j150_73 i1 i2 a3 r9)
        · exact (eX14_findBest_j150_73 i1 i2 a3 hS)
      · exact (eX14_findBest_j150_73 i1 i2 a3 hS)
    · exact (eX14_findBest_j150_73 i1 i2 a3 hS)
noncomputable def gX14_findBest_l73 (i1 : Int) (i2 : Int) (a3 : Int) (h : AH) : Option (AH) := jit (gX14_findBest_b73 i1 i2) (a3, h)
theorem eX14_findBest_l73 (i1 : Int) (i2 : Int) (a3 : Int) {h : AH} (hS : Sh S h) : EQ (fX14_findBest_l73 454 i1 i2 a3 h) (gX14_findBest_l73 i1 i2 a3 h) (fun r => Sh S r) := EQ_jit (I := (fun r => Sh S r.2)) (fun s hs => eX14_findBest_b73 i1 i2 hs) hS
noncomputable def gX14_findBest_b63 (i1 : Int) (s : Int × AH) : Option ((Int × AH) ⊕ (AH)) := jt2 s fun a2 h => if h 454 73 ≤ a2 then (some (.inr h)) else (jb (gX14_findBest_l73 i1 a2 0 h) fun o19 => jl (w32 (a2 + 1)) fun x21 => some (.inl (x21, o19)))
theorem eX14_findBest_b63 (i1 : Int) {s : Int × AH} (hS : (fun r => Sh S r.2) s) : EQ (fX14_findBest_b63 454 i1 s) (gX14_findBest_b63 i1 s) (Sum.elim (fun r => Sh S r.2) (fun r => Sh S r)) := by
  unfold fX14_findBest_b63 gX14_findBest_b63
  obtain ⟨a2, h⟩ := s
  refine EQ_jt2 ?_
  replace hS : Sh S h := hS
  refine EQ_jgd (show h 454 (-2) = 15 from by rw [k_454 hS]) ?_
  refine EQ_if Iff.rfl (fun c1 => ?_) (fun c1 => ?_)
  · exact EQ_some hS
  · refine EQ_jb (eX14_findBest_l73 i1 a2 0 hS) (fun o19 r2 => ?_)
    refine EQ_jl rfl (fun x21 ex21 => ?_)
    clear ex21
    exact EQ_some r2
noncomputable def gX14_findBest_l63 (i1 : Int) (a2 : Int) (h : AH) : Option (AH) := jit (gX14_findBest_b63 i1) (a2, h)
theorem eX14_findBest_l63 (i1 : Int) (a2 : Int) {h : AH} (hS : Sh S h) : EQ (fX14_findBest_l63 454 i1 a2 h) (gX14_findBest_l63 i1 a2 h) (fun r => Sh S r) := EQ_jit (I := (fun r => Sh S r.2)) (fun s hs => eX14_findBest_b63 i1 hs) hS
noncomputable def gX14_findBest (h : AH) : Option (AH) := jl (jst h 454 84 0) fun h1 => jl (jst h1 454 85 (-1)) fun h2 => jl (jst h2 454 87 0) fun h3 => jl (jst h3 454 73 0) fun h4 => jb (gX14_findBest_l24 0 0 h4) fun o5 => jt2 o5 fun y7 h8 => jb (gX14_findBest_l63 y7 0 h8) fun o9 => some o9
theorem eX14_findBest {h : AH} (hS : Sh S h) : EQ (fX14_findBest 454 h) (gX14_findBest h) (fun r => Sh S r) := by
  unfold fX14_findBest gX14_findBest
  refine EQ_jgd ⟨(show h 454 (-2) = 15 from by rw [k_454 hS]), (show (200 : Int) ≤ 454 from (by decide))⟩ ?_
  refine EQ_jl rfl (fun h1 eh1 => ?_)
  have s1 := Sh_of eh1 (Sh_sto hS (a := 454) (i := 84) (by decide +kernel))
  clear eh1
  refine EQ_jgd ⟨(show h1 454 (-2) = 15 from by rw [k_454 s1]), (show (200 : Int) ≤ 454 from (by decide))⟩ ?_
  refine EQ_jl rfl (fun h2 eh2 => ?_)
  have s2 := Sh_of eh2 (Sh_sto s1 (a := 454) (i := 85) (by decide +kernel))
  clear eh2
  refine EQ_jgd ⟨(show h2 454 (-2) = 15 from by rw [k_454 s2]), (show (200 : Int) ≤ 454 from (by decide))⟩ ?_
  refine EQ_jl rfl (fun h3 eh3 => ?_)
  have s3 := Sh_of eh3 (Sh_sto s2 (a := 454) (i := 87) (by decide +kernel))
  clear eh3
  refine EQ_jgd ⟨(show h3 454 (-2) = 15 from by rw [k_454 s3]), (show (200 : Int) ≤ 454 from (by decide))⟩ ?_
  refine EQ_jl rfl (fun h4 eh4 => ?_)
  have s4 := Sh_of eh4 (Sh_sto s3 (a := 454) (i := 73) (by decide +kernel))
  clear eh4
  refine EQ_jb (eX14_findBest_l24 0 0 s4) (fun o5 r5 => ?_)
  obtain ⟨y7, h8⟩ := o5
  refine EQ_jt2 ?_
  replace r5 : Sh S h8 := r5
  refine EQ_jb (eX14_findBest_l63 y7 0 r5) (fun o9 r6 => ?_)
  exact EQ_some r6
noncomputable def gX14_with_j146 (F : Int → Int → Int → AH → Option (Int × AH)) (a7 : Int) (h : AH) : Option (Int × AH) := jl (jst h 454 83 (w32 (h 454 83 - 2))) fun h20 => some (a7, h20)
theorem eX14_with_j146 {F0 : Int → Int → Int → Int → AH → Option (Int × AH)} {F : Int → Int → Int → AH → Option (Int × AH)} (hF : ∀ (b_a1 : Int) (b_a2 : Int) (b_a3 : Int), ∀ {b_h : AH}, Sh S b_h → EQ (F0 454 b_a1 b_a2 b_a3 b_h) (F b_a1 b_a2 b_a3 b_h) (fun r => Sh S r.2)) (a7 : Int) {h : AH} (hS : Sh S h) : EQ (fX14_with_j146 F0 454 a7 h) (gX14_with_j146 F a7 h) (fun r => Sh S r.2) := by
  unfold fX14_with_j146 gX14_with_j146
  refine EQ_jgd (show h 454 (-2) = 15 from by rw [k_454 hS]) ?_
  refine EQ_jgd ⟨(show h 454 (-2) = 15 from by rw [k_454 hS]), (show (200 : Int) ≤ 454 from (by decide))⟩ ?_
  refine EQ_jl rfl (fun h20 eh20 => ?_)
  have s1 := Sh_of eh20 (Sh_sto hS (a := 454) (i := 83) (by decide +kernel))
  clear eh20
  exact EQ_some s1
noncomputable def gX14_with_j81 (F : Int → Int → Int → AH → Option (Int × AH)) (a1 : Int) (a2 : Int) (a6 : Int) (a7 : Int) (h : AH) : Option (Int × AH) := if a6 < 0 then (gX14_with_j146 F a7 h) else (jb2 (F a1 a2 a6 h) fun v23 h24 => jb (gX14_addKid a7 v23 h24) fun h26 => gX14_with_j146 F a7 h26)
theorem eX14_with_j81 {F0 : Int → Int → Int → Int → AH → Option (Int × AH)} {F : Int → Int → Int → AH → Option (Int × AH)} (hF : ∀ (b_a1 : Int) (b_a2 : Int) (b_a3 : Int), ∀ {b_h : AH}, Sh S b_h → EQ (F0 454 b_a1 b_a2 b_a3 b_h) (F b_a1 b_a2 b_a3 b_h) (fun r => Sh S r.2)) (a1 : Int) (a2 : Int) (a6 : Int) (a7 : Int) {h : AH} (hS : Sh S h) : EQ (fX14_with_j81 F0 454 a1 a2 a6 a7 h) (gX14_with_j81 F a1 a2 a6 a7 h) (fun r => Sh S r.2) := by
  unfold fX14_with_j81 gX14_with_j81
  refine EQ_if Iff.rfl (fun c1 => ?_) (fun c1 => ?_)
  · exact (eX14_with_j146 hF a7 hS)
  · refine EQ_jgd (show h 454 (-2) = 15 from by rw [k_454 hS]) ?_
    refine EQ_jb2 (hF a1 a2 a6 hS) (fun v23 h24 r2 => ?_)
    replace r2 : Sh S h24 := r2
    refine EQ_jgd (show h24 454 (-2) = 15 from by rw [k_454 r2]) ?_
    refine EQ_jb (eX14_addKid a7 v23 r2) (fun h26 r3 => ?_)
    exact (eX14_with_j146 hF a7 r3)
noncomputable def gX14_with_b106 (F : Int → Int → Int → AH → Option (Int × AH)) (i1 : Int) (i2 : Int) (i3 : Int) (i7 : Int) (s : Int × AH) : Option ((Int × AH) ⊕ (AH)) := jt2 s fun a8 h => jg (jI i3 8800) <| if h 465 i3 ≤ a8 then (some (.inr h)) else (jg (jI (w32 (w32 (3 * i3) + a8)) 26400) <| jb2 (F i1 i2 (h 464 (w32 (w32 (3 * i3) + a8))) h) fun v29 h30 => jb (gX14_addKid i7 v29 h30) fun h32 => jl (w32 (a8 + 1)) fun x33 => some (.inl (x33, h32)))
theorem eX14_with_b106 {F0 : Int → Int → Int → Int → AH → Option (Int × AH)} {F : Int → Int → Int → AH → Option (Int × AH)} (hF : ∀ (b_a1 : Int) (b_a2 : Int) (b_a3 : Int), ∀ {b_h : AH}, Sh S b_h → EQ (F0 454 b_a1 b_a2 b_a3 b_h) (F b_a1 b_a2 b_a3 b_h) (fun r => Sh S r.2)) (i1 : Int) (i2 : Int) (i3 : Int) (i7 : Int) {s : Int × AH} (hS : (fun r => Sh S r.2) s) : EQ (fX14_with_b106 F0 454 i1 i2 i3 i7 s) (gX14_with_b106 F i1 i2 i3 i7 s) (Sum.elim (fun r => Sh S r.2) (fun r => Sh S r)) := by
  unfold fX14_with_b106 gX14_with_b106
  obtain ⟨a8, h⟩ := s
  refine EQ_jt2 ?_
  replace hS : Sh S h := hS
  refine EQ_jgd (show h 454 (-2) = 15 from by rw [k_454 hS]) ?_
  refine EQ_jg ⟨fun ⟨_, x0⟩ => (show jI i3 (h (h 454 11) (-1)) ↔ jI i3 8800 from by rw [r_454_11 hS, l_465 hS]).mp x0, fun x0 => ⟨(show h (h 454 11) (-2) = 101 from by rw [r_454_11 hS, k_465 hS]), (show jI i3 (h (h 454 11) (-1)) ↔ jI i3 8800 from by rw [r_454_11 hS, l_465 hS]).mpr x0⟩⟩ (fun g1 => ?_)
  refine EQ_if (show h (h 454 11) i3 ≤ a8 ↔ h 465 i3 ≤ a8 from by rw [r_454_11 hS]) (fun c2 => ?_) (fun c2 => ?_)
  · exact EQ_some hS
  · refine EQ_jgd (show h 454 (-2) = 15 from by rw [k_454 hS]) ?_
    refine EQ_jg ⟨fun ⟨_, x0⟩ => (show jI (w32 (w32 (3 * i3) + a8)) (h (h 454 10) (-1)) ↔ jI (w32 (w32 (3 * i3) + a8)) 26400 from by rw [r_454_10 hS, l_464 hS]).mp x0, fun x0 => ⟨(show h (h 454 10) (-2) = 101 from by rw [r_454_10 hS, k_464 hS]), (show jI (w32 (w32 (3 * i3) + a8)) (h (h 454 10) (-1)) ↔ jI (w32 (w32 (3 * i3) + a8)) 26400 from by rw [r_454_10 hS, l_464 hS]).mpr x0⟩⟩ (fun g3 => ?_)
    refine EQ_jgd (show h 454 (-2) = 15 from by rw [k_454 hS]) ?_
    refine EQ_jb2 (by rw [r_454_10 hS]; exact hF i1 i2 (h 464 (w32 (w32 (3 * i3) + a8))) hS) (fun v29 h30 r4 => ?_)
    replace r4 : Sh S h30 := r4
    refine EQ_jgd (show h30 454 (-2) = 15 from by rw [k_454 r4]) ?_
    refine EQ_jb (eX14_addKid i7 v29 r4) (fun h32 r5 => ?_)
    refine EQ_jl rfl (fun x33 ex33 => ?_)
    clear ex33
    exact EQ_some r5
noncomputable def gX14_with_l106 (F : Int → Int → Int → AH → Option (Int × AH)) (i1 : Int) (i2 : Int) (i3 : Int) (i7 : Int) (a8 : Int) (h : AH) : Option (AH) := jit (gX14_with_b106 F i1 i2 i3 i7) (a8, h)
theorem eX14_with_l106 {F0 : Int → Int → Int → Int → AH → Option (Int × AH)} {F : Int → Int → Int → AH → Option (Int × AH)} (hF : ∀ (b_a1 : Int) (b_a2 : Int) (b_a3 : Int), ∀ {b_h : AH}, Sh S b_h → EQ (F0 454 b_a1 b_a2 b_a3 b_h) (F b_a1 b_a2 b_a3 b_h) (fun r => Sh S r.2)) (i1 : Int) (i2 : Int) (i3 : Int) (i7 : Int) (a8 : Int) {h : AH} (hS : Sh S h) : EQ (fX14_with_l106 F0 454 i1 i2 i3 i7 a8 h) (gX14_with_l106 F i1 i2 i3 i7 a8 h) (fun r => Sh S r) := EQ_jit (I := (fun r => Sh S r.2)) (fun s hs => eX14_with_b106 hF i1 i2 i3 i7 hs) hS
noncomputable def gX14_with_ (F : Int → Int → Int → AH → Option (Int × AH)) (a1 : Int) (a2 : Int) (a3 : Int) (h : AH) : Option (Int × AH) := jb2 (gX14_binds a1 a3 h) fun v2 h3 => jg (jI (h3 454 83) 80) <| jl (h3 802 (h3 454 83)) fun x4 => jg (jI (w32 (h3 454 83 + 1)) 80) <| jl (h3 802 (w32 (h3 454 83 + 1))) fun x5 => jb2 (gX14_copyNode a3 h3) fun v7 h8 => jl (jst h8 454 83 (w32 (h8 454 83 + 2))) fun h9 => if v2 = 0 then (jb (gX14_with_l106 F a1 a2 a3 v7 0 h9) fun o11 => gX14_with_j146 F v7 o11) else (jg (jI v7 8800) <| jl (jst h9 463 v7 a2) fun h13 => if x4 < 0 then (gX14_with_j81 F a1 a2 x5 v7 h13) else (jb2 (F a1 a2 x4 h13) fun v16 h17 => jb (gX14_addKid v7 v16 h17) fun h19 => gX14_with_j81 F a1 a2 x5 v7 h19))
theorem eX14_with_ {F0 : Int → Int → Int → Int → AH → Option (Int × AH)} {F : Int → Int → Int → AH → Option (Int × AH)} (hF : ∀ (b_a1 : Int) (b_a2 : Int) (b_a3 : Int), ∀ {b_h : AH}, Sh S b_h → EQ (F0 454 b_a1 b_a2 b_a3 b_h) (F b_a1 b_a2 b_a3 b_h) (fun r => Sh S r.2)) (a1 : Int) (a2 : Int) (a3 : Int) {h : AH} (hS : Sh S h) : EQ (fX14_with_ F0 454 a1 a2 a3 h) (gX14_with_ F a1 a2 a3 h) (fun r => Sh S r.2) := by
  unfold fX14_with_ gX14_with_
  refine EQ_jgd (show h 454 (-2) = 15 from by rw [k_454 hS]) ?_
  refine EQ_jb2 (eX14_binds a1 a3 hS) (fun v2 h3 r1 => ?_)
  replace r1 : Sh S h3 := r1
  refine EQ_jgd (show h3 454 (-2) = 15 from by rw [k_454 r1]) ?_
  refine EQ_jgd (show h3 454 (-2) = 15 from by rw [k_454 r1]) ?_
  refine EQ_jg ⟨fun ⟨_, x0⟩ => (show jI (h3 454 83) (h3 (h3 454 82) (-1)) ↔ jI (h3 454 83) 80 from by rw [r_454_82 r1, l_802 r1]).mp x0, fun x0 => ⟨(show h3 (h3 454 82) (-2) = 101 from by rw [r_454_82 r1, k_802 r1]), (show jI (h3 454 83) (h3 (h3 454 82) (-1)) ↔ jI (h3 454 83) 80 from by rw [r_454_82 r1, l_802 r1]).mpr x0⟩⟩ (fun g2 => ?_)
  refine EQ_jl (by rw [r_454_82 r1]) (fun x4 ex4 => ?_)
  clear ex4
  refine EQ_jgd (show h3 454 (-2) = 15 from by rw [k_454 r1]) ?_
  refine EQ_jgd (show h3 454 (-2) = 15 from by rw [k_454 r1]) ?_
  refine EQ_jg ⟨fun ⟨_, x0⟩ => (show jI (w32 (h3 454 83 + 1)) (h3 (h3 454 82) (-1)) ↔ jI (w32 (h3 454 83 + 1)) 80 from by rw [r_454_82 r1, l_802 r1]).mp x0, fun x0 => ⟨(show h3 (h3 454 82) (-2) = 101 from by rw [r_454_82 r1, k_802 r1]), (show jI (w32 (h3 454 83 + 1)) (h3 (h3 454 82) (-1)) ↔ jI (w32 (h3 454 83 + 1)) 80 from by rw [r_454_82 r1, l_802 r1]).mpr x0⟩⟩ (fun g3 => ?_)
  refine EQ_jl (by rw [r_454_82 r1]) (fun x5 ex5 => ?_)
  clear ex5
  refine EQ_jgd (show h3 454 (-2) = 15 from by rw [k_454 r1]) ?_
  refine EQ_jb2 (eX14_copyNode a3 r1) (fun v7 h8 r4 => ?_)
  replace r4 : Sh S h8 := r4
  refine EQ_jgd (show h8 454 (-2) = 15 from by rw [k_454 r4]) ?_
  refine EQ_jgd ⟨(show h8 454 (-2) = 15 from by rw [k_454 r4]), (show (200 : Int) ≤ 454 from (by decide))⟩ ?_
  refine EQ_jl rfl (fun h9 eh9 => ?_)
  have s5 := Sh_of eh9 (Sh_sto r4 (a := 454) (i := 83) (by decide +kernel))
  clear eh9
  refine EQ_if Iff.rfl (fun c6 => ?_) (fun c6 => ?_)
  · refine EQ_jb (eX14_with_l106 hF a1 a2 a3 v7 0 s5) (fun o11 r7 => ?_)
    exact (eX14_with_j146 hF v7 r7)
  · refine EQ_jgd (show h9 454 (-2) = 15 from by rw [k_454 s5]) ?_
    refine EQ_jg ⟨fun ⟨_, _, x0⟩ => (show jI v7 (h9 (h9 454 9) (-1)) ↔ jI v7 8800 from by rw [r_454_9 s5, l_463 s5]).mp x0, fun x0 => ⟨(show h9 (h9 454 9) (-2) = 101 from by rw [r_454_9 s5, k_463 s5]), (show 200 ≤ h9 454 9 from by rw [r_454_9 s5]; exact (by decide)), (show jI v7 (h9 (h9 454 9) (-1)) ↔ jI v7 8800 from by rw [r_454_9 s5, l_463 s5]).mpr x0⟩⟩ (fun g8 => ?_)
    refine EQ_jl (by rw [r_454_9 s5]) (fun h13 eh13 => ?_)
    have s9 := Sh_of eh13 (Sh_sta s5 (by decide +kernel) (jI_nn g8) (fun e => absurd ((k_463 s5).symm.trans e) (by decide)))
    clear eh13
    refine EQ_if Iff.rfl (fun c10 => ?_) (fun c10 => ?_)
    · exact (eX14_with_j81 hF a1 a2 x5 v7 s9)
    · refine EQ_jgd (show h13 454 (-2) = 15 from by rw [k_454 s9]) ?_
      refine EQ_jb2 (hF a1 a2 x4 s9) (fun v16 h17 r11 => ?_)
      replace r11 : Sh S h17 := r11
      refine EQ_jgd (show h17 454 (-2) = 15 from by rw [k_454 r11]) ?_
      refine EQ_jb (eX14_addKid v7 v16 r11) (fun h19 r12 => ?_)
      exact (eX14_with_j81 hF a1 a2 x5 v7 r12)
noncomputable def gX14_withD : Nat → Int → Int → Int → AH → Option (Int × AH)
  | 0 => fun _ _ _ _ => none
  | d + 1 => gX14_with_ (gX14_withD d)
theorem eX14_withD : ∀ (d : Nat) (a1 : Int) (a2 : Int) (a3 : Int) {h : AH} (hS : Sh S h) , EQ (fX14_withD d 454 a1 a2 a3 h) (gX14_withD d a1 a2 a3 h) (fun r => Sh S r.2) := by
  intro d
  induction d with
  | zero => intro a1 a2 a3 h hS; exact EQ_none
  | succ d ih => intro a1 a2 a3 h hS; exact eX14_with_ ih a1 a2 a3 hS
noncomputable def gX14_with : Int → Int → Int → AH → Option (Int × AH) := gX14_withD 40
theorem eX14_with (a1 : Int) (a2 : Int) (a3 : Int) {h : AH} (hS : Sh S h) : EQ (fX14_with 454 a1 a2 a3 h) (gX14_with a1 a2 a3 h) (fun r => Sh S r.2) := eX14_withD 40 a1 a2 a3 hS
noncomputable def gX14_learn_2_b193 (i2 : Int) (i5 : Int) (s : Int × AH) : Option ((Int × AH) ⊕ (AH)) := jt2 s fun a6 h => if h 454 89 ≤ a6 then (some (.inr h)) else (jg (jI a6 2) <| jg (jI (w32 (w32 (3 * i5) + a6)) 108) <| jl (jst h 457 (w32 (w32 (3 * i5) + a6)) (h 804 a6)) fun h37 => jl (w32 (a6 + 1)) fun x38 => some (.inl (x38, h37)))
theorem eX14_learn_2_b193 (i2 : Int) (i5 : Int) {s : Int × AH} (hS : (fun r => Sh S r.2) s) : EQ (fX14_learn_2_b193 454 i2 i5 s) (gX14_learn_2_b193 i2 i5 s) (Sum.elim (fun r => Sh S r.2) (fun r => Sh S r)) := by
  unfold fX14_learn_2_b193 gX14_learn_2_b193
  obtain ⟨a6, h⟩ := s
  refine EQ_jt2 ?_
  replace hS : Sh S h := hS
  refine EQ_jgd (show h 454 (-2) = 15 from by rw [k_454 hS]) ?_
  refine EQ_if Iff.rfl (fun c1 => ?_) (fun c1 => ?_)
  · exact EQ_some hS
  · refine EQ_jgd (show h 454 (-2) = 15 from by rw [k_454 hS]) ?_
    refine EQ_jgd (show h 454 (-2) = 15 from by rw [k_454 hS]) ?_
    refine EQ_jg ⟨fun ⟨_, x0⟩ => (show jI a6 (h (h 454 88) (-1)) ↔ jI a6 2 from by rw [r_454_88 hS, l_804 hS]).mp x0, fun x0 => ⟨(show h (h 454 88) (-2) = 101 from by rw [r_454_88 hS, k_804 hS]), (show jI a6 (h (h 454 88) (-1)) ↔ jI a6 2 from by rw [r_454_88 hS, l_804 hS]).mpr x0⟩⟩ (fun g2 => ?_)
    refine EQ_jg ⟨fun ⟨_, _, x0⟩ => (show jI (w32 (w32 (3 * i5) + a6)) (h (h 454 2) (-1)) ↔ jI (w32 (w32 (3 * i5) + a6)) 108 from by rw [r_454_2 hS, l_457 hS]).mp x0, fun x0 => ⟨(show h (h 454 2) (-2) = 101 from by rw [r_454_2 hS, k_457 hS]), (show 200 ≤ h 454 2 from by rw [r_454_2 hS]; exact (by decide)), (show jI (w32 (w32 (3 * i5) + a6)) (h (h 454 2) (-1)) ↔ jI (w32 (w32 (3 * i5) + a6)) 108 from by rw [r_454_2 hS, l_457 hS]).mpr x0⟩⟩ (fun g3 => ?_)
    refine EQ_jl (by rw [r_454_2 hS, r_454_88 hS]) (fun h37 eh37 => ?_)
    have s4 := Sh_of eh37 (Sh_sta hS (by decide +kernel) (jI_nn g3) (fun e => absurd ((k_457 hS).symm.trans e) (by decide)))
    clear eh37
    refine EQ_jl rfl (fun x38 ex38 => ?_)
    clear ex38
    exact EQ_some s4
noncomputable def gX14_learn_2_l193 (i2 : Int) (i5 : Int) (a6 : Int) (h : AH) : Option (AH) := jit (gX14_learn_2_b193 i2 i5) (a6, h)
theorem eX14_learn_2_l193 (i2 : Int) (i5 : Int) (a6 : Int) {h : AH} (hS : Sh S h) : EQ (fX14_learn_2_l193 454 i2 i5 a6 h) (gX14_learn_2_l193 i2 i5 a6 h) (fun r => Sh S r) := EQ_jit (I := (fun r => Sh S r.2)) (fun s hs => eX14_learn_2_b193 i2 i5 hs) hS
noncomputable def gX14_learn_2_b275 (i5 : Int) (s : Int × AH) : Option ((Int × AH) ⊕ (AH)) := jt2 s fun a6 h => if h 454 77 ≤ a6 then (some (.inr h)) else (jl (jst h 454 17 (w32 (w32 (6800 + w32 (400 * h 454 78)) + w32 (32 * a6)))) fun h40 => jg (jI a6 12) <| jb2 (gX14_with (h40 454 85) i5 (h40 797 a6) h40) fun v42 h43 => jl (jst h43 797 a6 v42) fun h44 => jl (w32 (a6 + 1)) fun x45 => some (.inl (x45, h44)))
theorem eX14_learn_2_b275 (i5 : Int) {s : Int × AH} (hS : (fun r => Sh S r.2) s) : EQ (fX14_learn_2_b275 454 i5 s) (gX14_learn_2_b275 i5 s) (Sum.elim (fun r => Sh S r.2) (fun r => Sh S r)) := by
  unfold fX14_learn_2_b275 gX14_learn_2_b275
  obtain ⟨a6, h⟩ := s
  refine EQ_jt2 ?_
  replace hS : Sh S h := hS
  refine EQ_jgd (show h 454 (-2) = 15 from by rw [k_454 hS]) ?_
  refine EQ_if Iff.rfl (fun c1 => ?_) (fun c1 => ?_)
  · exact EQ_some hS
  · refine EQ_jgd (show h 454 (-2) = 15 from by rw [k_454 hS]) ?_
    refine EQ_jgd ⟨(show h 454 (-2) = 15 from by rw [k_454 hS]), (show (200 : Int) ≤ 454 from (by decide))⟩ ?_
    refine EQ_jl rfl (fun h40 eh40 => ?_)
    have s2 := Sh_of eh40 (Sh_sto hS (a := 454) (i := 17) (by decide +kernel))
    clear eh40
    refine EQ_jgd (show h40 454 (-2) = 15 from by rw [k_454 s2]) ?_
    refine EQ_jgd (show h40 454 (-2) = 15 from by rw [k_454 s2]) ?_
    refine EQ_jgd (show h40 454 (-2) = 15 from by rw [k_454 s2]) ?_
    refine EQ_jg ⟨fun ⟨_, x0⟩ => (show jI a6 (h40 (h40 454 74) (-1)) ↔ jI a6 12 from by rw [r_454_74 s2, l_797 s2]).mp x0, fun x0 => ⟨(show h40 (h40 454 74) (-2) = 101 from by rw [r_454_74 s2, k_797 s2]), (show jI a6 (h40 (h40 454 74) (-1)) ↔ jI a6 12 from by rw [r_454_74 s2, l_797 s2]).mpr x0⟩⟩ (fun g3 => ?_)
    refine EQ_jgd (show h40 454 (-2) = 15 from by rw [k_454 s2]) ?_
    refine EQ_jb2 (by rw [r_454_74 s2]; exact eX14_with (h40 454 85) i5 (h40 797 a6) s2) (fun v42 h43 r4 => ?_)
    replace r4 : Sh S h43 := r4
    refine EQ_jgd ⟨(show h43 (h40 454 74) (-2) = 101 from by rw [r_454_74 s2, k_797 r4]), (show 200 ≤ h40 454 74 from by rw [r_454_74 s2]; exact (by decide)), ((show jI a6 (h43 (h40 454 74) (-1)) ↔ jI a6 12 from by rw [r_454_74 s2, l_797 r4]).mpr g3)⟩ ?_
    refine EQ_jl (by rw [r_454_74 s2]) (fun h44 eh44 => ?_)
    have s5 := Sh_of eh44 (Sh_sta r4 (by decide +kernel) (jI_nn g3) (fun e => absurd ((k_797 r4).symm.trans e) (by decide)))
    clear eh44
    refine EQ_jl rfl (fun x45 ex45 => ?_)
    clear ex45
    exact EQ_some s5
noncomputable def gX14_learn_2_l275 (i5 : Int) (a6 : Int) (h : AH) : Option (AH) := jit (gX14_learn_2_b275 i5) (a6, h)
theorem eX14_learn_2_l275 (i5 : Int) (a6 : Int) {h : AH} (hS : Sh S h) : EQ (fX14_learn_2_l275 454 i5 a6 h) (gX14_learn_2_l275 i5 a6 h) (fun r => Sh S r) := EQ_jit (I := (fun r => Sh S r.2)) (fun s hs => eX14_learn_2_b275 i5 hs) hS
noncomputable def gX14_learn_2_j173 (a2 : Int) (h : AH) : Option (Int × AH) := jl (h 454 5) fun x25 => jg (jI x25 36) <| jl (jst h 456 x25 (h 454 89)) fun h26 => jb (gX14_learn_2_l193 a2 x25 0 h26) fun o27 => jg (jI (o27 454 85) 8800) <| jg (jI (o27 463 (o27 454 85)) 36) <| jl (jst o27 458 x25 (o27 458 (o27 463 (o27 454 85)))) fun h29 => jb (gX14_addAct a2 (h29 454 85) h29) fun h31 => jl (jst h31 454 78 (w32 (1 - h31 454 78))) fun h32 => jl (jst h32 454 83 0) fun h33 => jb (gX14_learn_2_l275 x25 0 h33) fun o34 => some (o34 454 84, o34)
theorem eX14_learn_2_j173 (a2 : Int) {h : AH} (hS : Sh S h) : EQ (fX14_learn_2_j173 454 a2 h) (gX14_learn_2_j173 a2 h) (fun r => Sh S r.2) := by
  unfold fX14_learn_2_j173 gX14_learn_2_j173
  refine EQ_jgd (show h 454 (-2) = 15 from by rw [k_454 hS]) ?_
  refine EQ_jl rfl (fun x25 ex25 => ?_)
  clear ex25
  refine EQ_jgd (show h 454 (-2) = 15 from by rw [k_454 hS]) ?_
  refine EQ_jgd (show h 454 (-2) = 15 from by rw [k_454 hS]) ?_
  refine EQ_jg ⟨fun ⟨_, _, x0⟩ => (show jI x25 (h (h 454 1) (-1)) ↔ jI x25 36 from by rw [r_454_1 hS, l_456 hS]).mp x0, fun x0 => ⟨(show h (h 454 1) (-2) = 101 from by rw [r_454_1 hS, k_456 hS]), (show 200 ≤ h 454 1 from by rw [r_454_1 hS]; exact (by decide)), (show jI x25 (h (h 454 1) (-1)) ↔ jI x25 36 from by rw [r_454_1 hS, l_456 hS]).mpr x0⟩⟩ (fun g1 => ?_)
  refine EQ_jl (by rw [r_454_1 hS]) (fun h26 eh26 => ?_)
  have s2 := Sh_of eh26 (Sh_sta hS (by decide +kernel) (jI_nn g1) (fun e => absurd ((k_456 hS).symm.trans e) (by decide)))
  clear eh26
  refine EQ_jb (eX14_learn_2_l193 a2 x25 0 s2) (fun o27 r3 => ?_)
  refine EQ_jgd (show o27 454 (-2) = 15 from by rw [k_454 r3]) ?_
  refine EQ_jgd (show o27 454 (-2) = 15 from by rw [k_454 r3]) ?_
  refine EQ_jgd (show o27 454 (-2) = 15 from by rw [k_454 r3]) ?_
  refine EQ_jgd (show o27 454 (-2) = 15 from by rw [k_454 r3]) ?_
  refine EQ_jg ⟨fun ⟨_, x0⟩ => (show jI (o27 454 85) (o27 (o27 454 9) (-1)) ↔ jI (o27 454 85) 8800 from by rw [r_454_9 r3, l_463 r3]).mp x0, fun x0 => ⟨(show o27 (o27 454 9) (-2) = 101 from by rw [r_454_9 r3, k_463 r3]), (show jI (o27 454 85) (o27 (o27 454 9) (-1)) ↔ jI (o27 454 85) 8800 from by rw [r_454_9 r3, l_463 r3]).mpr x0⟩⟩ (fun g4 => ?_)
  refine EQ_jg ⟨fun ⟨_, x0⟩ => (show jI (o27 (o27 454 9) (o27 454 85)) (o27 (o27 454 3) (-1)) ↔ jI (o27 463 (o27 454 85)) 36 from by rw [r_454_9 r3, r_454_3 r3, l_458 r3]).mp x0, fun x0 => ⟨(show o27 (o27 454 3) (-2) = 101 from by rw [r_454_3 r3, k_458 r3]), (show jI (o27 (o27 454 9) (o27 454 85)) (o27 (o27 454 3) (-1)) ↔ jI (o27 463 (o27 454 85)) 36 from by rw [r_454_9 r3, r_454_3 r3, l_458 r3]).mpr x0⟩⟩ (fun g5 => ?_)
  refine EQ_jgd ⟨(show o27 (o27 454 3) (-2) = 101 from by rw [r_454_3 r3, k_458 r3]), (show 200 ≤ o27 454 3 from by rw [r_454_3 r3]; exact (by decide)), ((show jI x25 (o27 (o27 454 3) (-1)) ↔ jI x25 36 from by rw [r_454_3 r3, l_458 r3]).mpr g1)⟩ ?_
  refine EQ_jl (by rw [r_454_3 r3, r_454_9 r3]) (fun h29 eh29 => ?_)
  have s6 := Sh_of eh29 (Sh_sta r3 (by decide +kernel) (jI_nn g1) (fun e => absurd ((k_458 r3).symm.trans e) (by decide)))
  clear eh29
  refine EQ_jgd (show h29 454 (-2) = 15 from by rw [k_454 s6]) ?_
  refine EQ_jgd (show h29 454 (-2) = 15 from by rw [k_454 s6]) ?_
  refine EQ_jb (eX14_addAct a2 (h29 454 85) s6) (fun h31 r7 => ?_)
  refine EQ_jgd (show h31 454 (-2) = 15 from by rw [k_454 r7]) ?_
  refine EQ_jgd ⟨(show h31 454 (-2) = 15 from by rw [k_454 r7]), (show (200 : Int) ≤ 454 from (by decide))⟩ ?_
  refine EQ_jl rfl (fun h32 eh32 => ?_)
  have s8 := Sh_of eh32 (Sh_sto r7 (a := 454) (i := 78) (by decide +kernel))
  clear eh32
  refine EQ_jgd ⟨(show h32 454 (-2) = 15 from by rw [k_454 s8]), (show (200 : Int) ≤ 454 from (by decide))⟩ ?_
  refine EQ_jl rfl (fun h33 eh33 => ?_)
  have s9 := Sh_of eh33 (Sh_sto s8 (a := 454) (i := 83) (by decide +kernel))
  clear eh33
  refine EQ_jb (eX14_learn_2_l275 x25 0 s9) (fun o34 r10 => ?_)
  refine EQ_jgd (show o34 454 (-2) = 15 from by rw [k_454 r10]) ?_
  exact EQ_some r10
noncomputable def gX14_learn_2_j155 (a1 : Int) (a2 : Int) (h : AH) : Option (Int × AH) := if a1 = 0 then (gX14_learn_2_j173 a2 h) else (jb (gX14_record 3 473 0 (h 454 25) h) fun h24 => gX14_learn_2_j173 a2 h24)
theorem eX14_learn_2_j155 (a1 : Int) (a2 : Int) {h : AH} (hS : Sh S h) : EQ (fX14_learn_2_j155 454 a1 a2 h) (gX14_learn_2_j155 a1 a2 h) (fun r => Sh S r.2) := by
  unfold fX14_learn_2_j155 gX14_learn_2_j155
  refine EQ_if Iff.rfl (fun c1 => ?_) (fun c1 => ?_)
  · exact (eX14_learn_2_j173 a2 hS)
  · refine EQ_jgd (show h 454 (-2) = 15 from by rw [k_454 hS]) ?_
    refine EQ_jgd (show h 454 (-2) = 15 from by rw [k_454 hS]) ?_
    refine EQ_jgd (show h 454 (-2) = 15 from by rw [k_454 hS]) ?_
    refine EQ_jb (by rw [r_454_24 hS]; exact eX14_record 3 473 0 (h 454 25) hS) (fun h24 r2 => ?_)
    exact (eX14_learn_2_j173 a2 r2)
noncomputable def gX14_learn_2_j82_19 (a1 : Int) (a4 : Int) (a5 : Int) (t0 : Int) (h : AH) : Option ((Int × Int × Int) ⊕ (Int × Int)) := jl (w32 (a5 + 1)) fun x52 => some (.inl (t0, a4, x52))
theorem eX14_learn_2_j82_19 (a1 : Int) (a4 : Int) (a5 : Int) (t0 : Int) {h : AH} (hS : Sh S h) : EQ (fX14_learn_2_j82_19 454 a1 a4 a5 t0 h) (gX14_learn_2_j82_19 a1 a4 a5 t0 h) (Sum.elim (fun _ => True) (fun _ => True)) := by
  unfold fX14_learn_2_j82_19 gX14_learn_2_j82_19
  refine EQ_jl rfl (fun x52 ex52 => ?_)
  clear ex52
  exact EQ_some trivial
noncomputable def gX14_learn_2_j51_19 (a1 : Int) (a2 : Int) (a5 : Int) (t0 : Int) (h : AH) : Option ((Int × Int × Int) ⊕ (Int × Int)) := if t0 = 0 then (gX14_learn_2_j82_19 a1 t0 a5 a2 h) else (jg (jI a5 2000) <| gX14_learn_2_j82_19 a1 t0 a5 (w64 (w64 (w64 (w64 (a2 * 27) + h 473 a5) - 97) + 1)) h)
theorem eX14_learn_2_j51_19 (a1 : Int) (a2 : Int) (a5 : Int) (t0 : Int) {h : AH} (hS : Sh S h) : EQ (fX14_learn_2_j51_19 454 a1 a2 a5 t0 h) (gX14_learn_2_j51_19 a1 a2 a5 t0 h) (Sum.elim (fun _ => True) (fun _ => True)) := by
  unfold fX14_learn_2_j51_19 gX14_learn_2_j51_19
  refine EQ_if Iff.rfl (fun c1 => ?_) (fun c1 => ?_)
  · exact (eX14_learn_2_j82_19 a1 t0 a5 a2 hS)
  · refine EQ_jgd (show h 454 (-2) = 15 from by rw [k_454 hS]) ?_
    refine EQ_jg ⟨fun ⟨_, x0⟩ => (show jI a5 (h (h 454 24) (-1)) ↔ jI a5 2000 from by rw [r_454_24 hS, l_473 hS]).mp x0, fun x0 => ⟨(show h (h 454 24) (-2) = 101 from by rw [r_454_24 hS, k_473 hS]), (show jI a5 (h (h 454 24) (-1)) ↔ jI a5 2000 from by rw [r_454_24 hS, l_473 hS]).mpr x0⟩⟩ (fun g2 => ?_)
    exact (by rw [r_454_24 hS]; exact eX14_learn_2_j82_19 a1 t0 a5 (w64 (w64 (w64 (w64 (a2 * 27) + h 473 a5) - 97) + 1)) hS)
noncomputable def gX14_learn_2_b19 (i1 : Int) (h : AH) (s : Int × Int × Int) : Option ((Int × Int × Int) ⊕ (Int × Int)) := jt3 s fun a2 a4 a5 => if h 454 25 ≤ a5 then (some (.inr (a2, a4))) else (if a4 = 0 then (gX14_learn_2_j51_19 i1 a2 a5 0 h) else (jg (jI a5 2000) <| jb (gX14_isLetter (h 473 a5)) fun v49 => if v49 = 0 then (gX14_learn_2_j51_19 i1 a2 a5 0 h) else (gX14_learn_2_j51_19 i1 a2 a5 1 h)))
theorem eX14_learn_2_b19 (i1 : Int) (s : Int × Int × Int) {h : AH} (hS : Sh S h) : EQ (fX14_learn_2_b19 454 i1 h s) (gX14_learn_2_b19 i1 h s) (Sum.elim (fun _ => True) (fun _ => True)) := by
  unfold fX14_learn_2_b19 gX14_learn_2_b19
  obtain ⟨a2, a4, a5⟩ := s
  refine EQ_jt3 ?_
  refine EQ_jgd (show h 454 (-2) = 15 from by rw [k_454 hS]) ?_
  refine EQ_if Iff.rfl (fun c1 => ?_) (fun c1 => ?_)
  · exact EQ_some trivial
  · refine EQ_if Iff.rfl (fun c2 => ?_) (fun c2 => ?_)
    · exact (eX14_learn_2_j51_19 i1 a2 a5 0 hS)
    · refine EQ_jgd (show h 454 (-2) = 15 from by rw [k_454 hS]) ?_
      refine EQ_jg ⟨fun ⟨_, x0⟩ => (show jI a5 (h (h 454 24) (-1)) ↔ jI a5 2000 from by rw [r_454_24 hS, l_473 hS]).mp x0, fun x0 => ⟨(show h (h 454 24) (-2) = 101 from by rw [r_454_24 hS, k_473 hS]), (show jI a5 (h (h 454 24) (-1)) ↔ jI a5 2000 from by rw [r_454_24 hS, l_473 hS]).mpr x0⟩⟩ (fun g3 => ?_)
      refine EQ_jb (by rw [r_454_24 hS]; exact eX14_isLetter (h 473 a5)) (fun v49 r4 => ?_)
      refine EQ_if Iff.rfl (fun c5 => ?_) (fun c5 => ?_)
      · exact (eX14_learn_2_j51_19 i1 a2 a5 0 hS)
      · exact (eX14_learn_2_j51_19 i1 a2 a5 1 hS)
noncomputable def gX14_learn_2_l19 (i1 : Int) (a2 : Int) (a4 : Int) (a5 : Int) (h : AH) : Option (Int × Int) := jit (gX14_learn_2_b19 i1 h) (a2, a4, a5)
theorem eX14_learn_2_l19 (i1 : Int) (a2 : Int) (a4 : Int) (a5 : Int) {h : AH} (hS : Sh S h) : EQ (fX14_learn_2_l19 454 i1 a2 a4 a5 h) (gX14_learn_2_l19 i1 a2 a4 a5 h) (fun _ => True) := EQ_jit (I := (fun _ => True)) (fun s _ => eX14_learn_2_b19 i1 s hS) trivial
noncomputable def gX14_learn_2 (a1 : Int) (h : AH) : Option (Int × AH) := jb (gX14_in (h 454 25) 1 8) fun v2 => jb (gX14_learn_2_l19 a1 0 v2 0 h) fun o3 => jt2 o3 fun y5 y6 => if y6 = 0 then (some ((-1), h)) else (jb (gX14_actOf y5 h) fun v9 => if 0 ≤ v9 then (some ((-1), h)) else (jb (gX14_isTaken y5) fun v12 => if v12 = 0 then (jb (gX14_findBest h) fun h15 => if 0 ≤ h15 454 85 then (if w32 (h15 454 5 - 26) = 10 then (some ((-3), h15)) else (if a1 = 0 then (gX14_learn_2_j155 a1 y5 h15) else (jb (gX14_hasRoom (h15 454 25) h15) fun v20 => if v20 = 0 then (some ((-3), h15)) else (gX14_learn_2_j155 a1 y5 h15)))) else (some ((-2), h15))) else (some ((-1), h))))
theorem eX14_learn_2 (a1 : Int) {h : AH} (hS : Sh S h) : EQ (fX14_learn_2 454 a1 h) (gX14_learn_2 a1 h) (fun r => Sh S r.2) := by
  unfold fX14_learn_2 gX14_learn_2
  refine EQ_jgd (show h 454 (-2) = 15 from by rw [k_454 hS]) ?_
  refine EQ_jb (eX14_in (h 454 25) 1 8) (fun v2 r1 => ?_)
  refine EQ_jb (eX14_learn_2_l19 a1 0 v2 0 hS) (fun o3 r2 => ?_)
  obtain ⟨y5, y6⟩ := o3
  refine EQ_jt2 ?_
  refine EQ_if Iff.rfl (fun c3 => ?_) (fun c3 => ?_)
  · exact EQ_some hS
  · refine EQ_jgd (show h 454 (-2) = 15 from by rw [k_454 hS]) ?_
    refine EQ_jb (eX14_actOf y5 hS) (fun v9 r4 => ?_)
    refine EQ_if Iff.rfl (fun c5 => ?_) (fun c5 => ?_)
    · exact EQ_some hS
    · refine EQ_jb (eX14_isTaken y5) (fun v12 r6 => ?_)
      refine EQ_if Iff.rfl (fun c7 => ?_) (fun c7 => ?_)
      · refine EQ_jgd (show h 454 (-2) = 15 from by rw [k_454 hS]) ?_
        refine EQ_jb (eX14_findBest hS) (fun h15 r8 => ?_)
        refine EQ_jgd (show h15 454 (-2) = 15 from by rw [k_454 r8]) ?_
        refine EQ_if Iff.rfl (fun c9 => ?_) (fun c9 => ?_)
        · refine EQ_jgd (show h15 454 (-2) = 15 from by rw [k_454 r8]) ?_
          refine EQ_if Iff.rfl (fun c10 => ?_) (fun c10 => ?_)
          · exact EQ_some r8
          · refine EQ_if Iff.rfl (fun c11 => ?_) (fun c11 => ?_)
            · exact (eX14_learn_2_j155 a1 y5 r8)
            · refine EQ_jgd (show h15 454 (-2) = 15 from by rw [k_454 r8]) ?_
              refine EQ_jgd (show h15 454 (-2) = 15 from by rw [k_454 r8]) ?_
              refine EQ_jb (eX14_hasRoom (h15 454 25) r8) (fun v20 r12 => ?_)
              refine EQ_if Iff.rfl (fun c13 => ?_) (fun c13 => ?_)
              · exact EQ_some r8
              · exact (eX14_learn_2_j155 a1 y5 r8)
        · exact EQ_some r8
      · exact EQ_some hS
noncomputable def gX14_learn (h : AH) : Option (Int × AH) := jb2 (gX14_isDown h) fun v2 h3 => if v2 = 0 then (jb (gX14_takeTape h3) fun h6 => jb2 (gX14_learn_2 1 h6) fun v8 h9 => some (v8, h9)) else (some ((-5), h3))
theorem eX14_learn {h : AH} (hS : Sh S h) : EQ (fX14_learn 454 h) (gX14_learn h) (fun r => Sh S r.2) := by
  unfold fX14_learn gX14_learn
  refine EQ_jgd (show h 454 (-2) = 15 from by rw [k_454 hS]) ?_
  refine EQ_jb2 (eX14_isDown hS) (fun v2 h3 r1 => ?_)
  replace r1 : Sh S h3 := r1
  refine EQ_if Iff.rfl (fun c2 => ?_) (fun c2 => ?_)
  · refine EQ_jgd (show h3 454 (-2) = 15 from by rw [k_454 r1]) ?_
    refine EQ_jb (eX14_takeTape r1) (fun h6 r3 => ?_)
    refine EQ_jgd (show h6 454 (-2) = 15 from by rw [k_454 r3]) ?_
    refine EQ_jb2 (eX14_learn_2 1 r3) (fun v8 h9 r4 => ?_)
    replace r4 : Sh S h9 := r4
    exact EQ_some r4
  · exact EQ_some r1
noncomputable def gX14_own (a1 : Int) (a2 : Int) (h : AH) : Option (Int × AH) := jb2 (gX14_isDown h) fun v2 h3 => if v2 = 0 then (jb (gX14_in a1 0 (w32 (w32 (h3 454 5 - 26) - 1))) fun v6 => if v6 = 0 then (some ((-1), h3)) else (jl (w32 (26 + a1)) fun x8 => if a2 = (-4) then (jg (jI x8 36) <| some (h3 458 x8, h3)) else (jb (gX14_in a2 (-3) (-2)) fun v11 => if v11 = 0 then (jg (jI x8 36) <| jb2 (gX14_textOf (h3 459 x8) h3) fun v14 h15 => if a2 = (-1) then (some (v14, h15)) else (jb (gX14_in a2 0 (w32 (v14 - 1))) fun v18 => if v18 = 0 then (some ((-1), h15)) else (jg (jI a2 4000) <| some (h15 471 a2, h15)))) else (jg (jI x8 36) <| if h3 456 x8 ≤ w32 ((-2) - a2) then (some (0, h3)) else (jg (jI (w32 (w32 (w32 (3 * x8) - 2) - a2)) 108) <| some (h3 457 (w32 (w32 (w32 (3 * x8) - 2) - a2)), h3)))))) else (some ((-5), h3))
theorem eX14_own (a1 : Int) (a2 : Int) {h : AH} (hS : Sh S h) : EQ (fX14_own 454 a1 a2 h) (gX14_own a1 a2 h) (fun r => Sh S r.2) := by
  unfold fX14_own gX14_own
  refine EQ_jgd (show h 454 (-2) = 15 from by rw [k_454 hS]) ?_
  refine EQ_jb2 (eX14_isDown hS) (fun v2 h3 r1 => ?_)
  replace r1 : Sh S h3 := r1
  refine EQ_if Iff.rfl (fun c2 => ?_) (fun c2 => ?_)
  · refine EQ_jgd (show h3 454 (-2) = 15 from by rw [k_454 r1]) ?_
    refine EQ_jb (eX14_in a1 0 (w32 (w32 (h3 454 5 - 26) - 1))) (fun v6 r3 => ?_)
    refine EQ_if Iff.rfl (fun c4 => ?_) (fun c4 => ?_)
    · exact EQ_some r1
    · refine EQ_jl rfl (fun x8 ex8 => ?_)
      clear ex8
      refine EQ_if Iff.rfl (fun c5 => ?_) (fun c5 => ?_)
      · refine EQ_jgd (show h3 454 (-2) = 15 from by rw [k_454 r1]) ?_
        refine EQ_jg ⟨fun ⟨_, x0⟩ => (show jI x8 (h3 (h3 454 3) (-1)) ↔ jI x8 36 from by rw [r_454_3 r1, l_458 r1]).mp x0, fun x0 => ⟨(show h3 (h3 454 3) (-2) = 101 from by rw [r_454_3 r1, k_458 r1]), (show jI x8 (h3 (h3 454 3) (-1)) ↔ jI x8 36 from by rw [r_454_3 r1, l_458 r1]).mpr x0⟩⟩ (fun g6 => ?_)
        exact EQ_some' (by rw [r_454_3 r1]) r1
      · refine EQ_jb (eX14_in a2 (-3) (-2)) (fun v11 r7 => ?_)
        refine EQ_if Iff.rfl (fun c8 => ?_) (fun c8 => ?_)
        · refine EQ_jgd (show h3 454 (-2) = 15 from by rw [k_454 r1]) ?_
          refine EQ_jg ⟨fun ⟨_, x0⟩ => (show jI x8 (h3 (h3 454 4) (-1)) ↔ jI x8 36 from by rw [r_454_4 r1, l_459 r1]).mp x0, fun x0 => ⟨(show h3 (h3 454 4) (-2) = 101 from by rw [r_454_4 r1, k_459 r1]), (show jI x8 (h3 (h3 454 4) (-1)) ↔ jI x8 36 from by rw [r_454_4 r1, l_459 r1]).mpr x0⟩⟩ (fun g9 => ?_)
          refine EQ_jgd (show h3 454 (-2) = 15 from by rw [k_454 r1]) ?_
          refine EQ_jb2 (by rw [r_454_4 r1]; exact eX14_textOf (h3 459 x8) r1) (fun v14 h15 r10 => ?_)
          replace r10 : Sh S h15 := r10
          refine EQ_if Iff.rfl (fun c11 => ?_) (fun c11 => ?_)
          · exact EQ_some r10
          · refine EQ_jb (eX14_in a2 0 (w32 (v14 - 1))) (fun v18 r12 => ?_)
            refine EQ_if Iff.rfl (fun c13 => ?_) (fun c13 => ?_)
            · exact EQ_some r10
            · refine EQ_jgd (show h15 454 (-2) = 15 from by rw [k_454 r10]) ?_
              refine EQ_jg ⟨fun ⟨_, x0⟩ => (show jI a2 (h15 (h15 454 18) (-1)) ↔ jI a2 4000 from by rw [r_454_18 r10, l_471 r10]).mp x0, fun x0 => ⟨(show h15 (h15 454 18) (-2) = 101 from by rw [r_454_18 r10, k_471 r10]), (show jI a2 (h15 (h15 454 18) (-1)) ↔ jI a2 4000 from by rw [r_454_18 r10, l_471 r10]).mpr x0⟩⟩ (fun g14 => ?_)
              exact EQ_some' (by rw [r_454_18 r10]) r10
        · refine EQ_jgd (show h3 454 (-2) = 15 from by rw [k_454 r1]) ?_
          refine EQ_jg ⟨fun ⟨_, x0⟩ => (show jI x8 (h3 (h3 454 1) (-1)) ↔ jI x8 36 from by rw [r_454_1 r1, l_456 r1]).mp x0, fun x0 => ⟨(show h3 (h3 454 1) (-2) = 101 from by rw [r_454_1 r1, k_456 r1]), (show jI x8 (h3 (h3 454 1) (-1)) ↔ jI x8 36 from by rw [r_454_1 r1, l_456 r1]).mpr x0⟩⟩ (fun g15 => ?_)
          refine EQ_if (show h3 (h3 454 1) x8 ≤ w32 ((-2) - a2) ↔ h3 456 x8 ≤ w32 ((-2) - a2) from by rw [r_454_1 r1]) (fun c16 => ?_) (fun c16 => ?_)
          · exact EQ_some r1
          · refine EQ_jgd (show h3 454 (-2) = 15 from by rw [k_454 r1]) ?_
            refine EQ_jg ⟨fun ⟨_, x0⟩ => (show jI (w32 (w32 (w32 (3 * x8) - 2) - a2)) (h3 (h3 454 2) (-1)) ↔ jI (w32 (w32 (w32 (3 * x8) - 2) - a2)) 108 from by rw [r_454_2 r1, l_457 r1]).mp x0, fun x0 => ⟨(show h3 (h3 454 2) (-2) = 101 from by rw [r_454_2 r1, k_457 r1]), (show jI (w32 (w32 (w32 (3 * x8) - 2) - a2)) (h3 (h3 454 2) (-1)) ↔ jI (w32 (w32 (w32 (3 * x8) - 2) - a2)) 108 from by rw [r_454_2 r1, l_457 r1]).mpr x0⟩⟩ (fun g17 => ?_)
            exact EQ_some' (by rw [r_454_2 r1]) r1
  · exact EQ_some r1
noncomputable def gX14_terms_j18_2 (a1 : Int) (a2 : Int) (h : AH) : Option ((Int × AH) ⊕ ((Int × AH) ⊕ (Int × AH))) := jl (w32 (a2 + 1)) fun x16 => jb3 (gX14_skipSign 44 h) fun t18 v19 h20 => jq t18 (some (.inr (.inr (t18, h20)))) <| if v19 = 0 then (some (.inr (.inl (x16, h20)))) else (some (.inl (x16, h20)))
theorem eX14_terms_j18_2 (a1 : Int) (a2 : Int) {h : AH} (hS : Sh S h) : EQ (fX14_terms_j18_2 454 a1 a2 h) (gX14_terms_j18_2 a1 a2 h) (Sum.elim (fun r => Sh S r.2) (Sum.elim (fun r => Sh S r.2) (fun r => Sh S r.2))) := by
  unfold fX14_terms_j18_2 gX14_terms_j18_2
  refine EQ_jl rfl (fun x16 ex16 => ?_)
  clear ex16
  refine EQ_jgd (show h 454 (-2) = 15 from by rw [k_454 hS]) ?_
  refine EQ_jb3 (eX14_skipSign 44 hS) (fun t18 v19 h20 r1 => ?_)
  replace r1 : Sh S h20 := r1
  refine EQ_jq (fun _ => ?_) (fun _ => ?_)
  · exact EQ_some r1
  · refine EQ_if Iff.rfl (fun c2 => ?_) (fun c2 => ?_)
    · exact EQ_some r1
    · exact EQ_some r1
noncomputable def gX14_terms_b2 (i1 : Int) (s : Int × AH) : Option ((Int × AH) ⊕ ((Int × AH) ⊕ (Int × AH))) := jt2 s fun a2 h => jb3 (gX14_takeTerm 0 0 h) fun t10 v11 h12 => jq t10 (some (.inr (.inr (t10, h12)))) <| if 4 ≤ a2 then (gX14_terms_j18_2 i1 a2 h12) else (jg (h12 i1 (-2) = 101 ∧ 200 ≤ i1 ∧ jI a2 (h12 i1 (-1))) <| jl (jst h12 i1 a2 v11) fun h15 => gX14_terms_j18_2 i1 a2 h15)
theorem eX14_terms_b2 (i1 : Int) {s : Int × AH} (hS : (fun r => Sh S r.2) s) : EQ (fX14_terms_b2 454 i1 s) (gX14_terms_b2 i1 s) (Sum.elim (fun r => Sh S r.2) (Sum.elim (fun r => Sh S r.2) (fun r => Sh S r.2))) := by
  unfold fX14_terms_b2 gX14_terms_b2
  obtain ⟨a2, h⟩ := s
  refine EQ_jt2 ?_
  replace hS : Sh S h := hS
  refine EQ_jgd (show h 454 (-2) = 15 from by rw [k_454 hS]) ?_
  refine EQ_jb3 (eX14_takeTerm 0 0 hS) (fun t10 v11 h12 r1 => ?_)
  replace r1 : Sh S h12 := r1
  refine EQ_jq (fun _ => ?_) (fun _ => ?_)
  · exact EQ_some r1
  · refine EQ_if Iff.rfl (fun c2 => ?_) (fun c2 => ?_)
    · exact (eX14_terms_j18_2 i1 a2 r1)
    · refine EQ_jg Iff.rfl (fun g3 => ?_)
      refine EQ_jl rfl (fun h15 eh15 => ?_)
      have s4 := Sh_of eh15 (Sh_stk r1 (Or.inl (g3.1)) (g3.2.1) (jI_nn (g3.2.2)) (fun e => absurd (((g3.1)).symm.trans e) (by decide)))
      clear eh15
      exact (eX14_terms_j18_2 i1 a2 s4)
noncomputable def gX14_terms_l2 (i1 : Int) (a2 : Int) (h : AH) : Option ((Int × AH) ⊕ (Int × AH)) := jit (gX14_terms_b2 i1) (a2, h)
theorem eX14_terms_l2 (i1 : Int) (a2 : Int) {h : AH} (hS : Sh S h) : EQ (fX14_terms_l2 454 i1 a2 h) (gX14_terms_l2 i1 a2 h) (Sum.elim (fun r => Sh S r.2) (fun r => Sh S r.2)) := EQ_jit (I := (fun r => Sh S r.2)) (fun s hs => eX14_terms_b2 i1 hs) hS
noncomputable def gX14_terms (a1 : Int) (h : AH) : Option (Int × Int × AH) := jb (gX14_terms_l2 a1 0 h) fun o1 => jm o1 (fun o3 => jt2 o3 fun y5 h6 => some (0, y5, h6)) (fun o4 => jt2 o4 fun y7 h8 => jg (¬ y7 = 0) <| some (y7, 0, h8))
theorem eX14_terms (a1 : Int) {h : AH} (hS : Sh S h) : EQ (fX14_terms 454 a1 h) (gX14_terms a1 h) (fun r => Sh S r.2.2) := by
  unfold fX14_terms gX14_terms
  refine EQ_jb (eX14_terms_l2 a1 0 hS) (fun o1 r1 => ?_)
  refine EQ_jm r1 (fun o3 r2 => ?_) (fun o4 r3 => ?_)
  · obtain ⟨y5, h6⟩ := o3
    refine EQ_jt2 ?_
    replace r2 : Sh S h6 := r2
    exact EQ_some r2
  · obtain ⟨y7, h8⟩ := o4
    refine EQ_jt2 ?_
    replace r3 : Sh S h8 := r3
    refine EQ_jg Iff.rfl (fun g4 => ?_)
    exact EQ_some r3
noncomputable def gX14_readLoop_j392 (a1 : Int) (h : AH) : Option (Int × AH) := jb2 (gX14_weighed (h a1 8) 0 h) fun v85 h86 => jb2 (gX14_finish h86) fun t88 h90 => jq t88 (some (t88, h90)) <| some (0, h90)
theorem eX14_readLoop_j392 (a1 : Int) (hT_a1 : isX17 a1) {h : AH} (hS : Sh S h) : EQ (fX14_readLoop_j392 454 a1 h) (gX14_readLoop_j392 a1 h) (fun r => Sh S r.2) := by
  unfold fX14_readLoop_j392 gX14_readLoop_j392
  refine EQ_jgd (show h a1 (-2) = 18 from by rw [kd_X17 hS hT_a1]) ?_
  refine EQ_jgd (show h 454 (-2) = 15 from by rw [k_454 hS]) ?_
  refine EQ_jb2 (eX14_weighed (h a1 8) 0 hS) (fun v85 h86 r1 => ?_)
  replace r1 : Sh S h86 := r1
  refine EQ_jgd (show h86 454 (-2) = 15 from by rw [k_454 r1]) ?_
  refine EQ_jb2 (eX14_finish r1) (fun t88 h90 r2 => ?_)
  replace r2 : Sh S h90 := r2
  refine EQ_jq (fun _ => ?_) (fun _ => ?_)
  · exact EQ_some r2
  · exact EQ_some r2
noncomputable def gX14_readLoop_j386_308 (a1 : Int) (a4 : Int) (a6 : Int) (h : AH) : Option ((Int × AH) ⊕ (AH)) := jl (w32 (a6 + 1)) fun x102 => some (.inl (x102, h))
theorem eX14_readLoop_j386_308 (a1 : Int) (a4 : Int) (a6 : Int) (hT_a1 : isX17 a1) {h : AH} (hS : Sh S h) : EQ (fX14_readLoop_j386_308 454 a1 a4 a6 h) (gX14_readLoop_j386_308 a1 a4 a6 h) (Sum.elim (fun r => Sh S r.2) (fun r => Sh S r)) := by
  unfold fX14_readLoop_j386_308 gX14_readLoop_j386_308
  refine EQ_jl rfl (fun x102 ex102 => ?_)
  clear ex102
  exact EQ_some hS
noncomputable def gX14_readLoop_b308 (i1 : Int) (i4 : Int) (s : Int × AH) : Option ((Int × AH) ⊕ (AH)) := jt2 s fun a6 h => if i4 ≤ a6 then (some (.inr h)) else (if h i1 4 ≤ a6 then (some (.inr h)) else (jg (jI a6 4) <| jb2 (gX14_weighed (h (i1 + 4) a6) 0 h) fun v95 h96 => if v95 = 32 then (gX14_readLoop_j386_308 i1 i4 a6 h96) else (jg (jI a6 3) <| if h96 (i1 + 2) a6 = 32 then (gX14_readLoop_j386_308 i1 i4 a6 h96) else (if v95 = h96 (i1 + 2) a6 then (gX14_readLoop_j386_308 i1 i4 a6 h96) else (jg (jI (h96 (i1 + 4) a6) 8800) <| jb (gX14_note 3 (h96 468 (h96 (i1 + 4) a6)) h96) fun h101 => gX14_readLoop_j386_308 i1 i4 a6 h101)))))
theorem eX14_readLoop_b308 (i1 : Int) (i4 : Int) (hT_i1 : isX17 i1) {s : Int × AH} (hS : (fun r => Sh S r.2) s) : EQ (fX14_readLoop_b308 454 i1 i4 s) (gX14_readLoop_b308 i1 i4 s) (Sum.elim (fun r => Sh S r.2) (fun r => Sh S r)) := by
  unfold fX14_readLoop_b308 gX14_readLoop_b308
  obtain ⟨a6, h⟩ := s
  refine EQ_jt2 ?_
  replace hS : Sh S h := hS
  refine EQ_if Iff.rfl (fun c1 => ?_) (fun c1 => ?_)
  · exact EQ_some hS
  · refine EQ_jgd (show h i1 (-2) = 18 from by rw [kd_X17 hS hT_i1]) ?_
    refine EQ_if Iff.rfl (fun c2 => ?_) (fun c2 => ?_)
    · exact EQ_some hS
    · refine EQ_jgd (show h i1 (-2) = 18 from by rw [kd_X17 hS hT_i1]) ?_
      refine EQ_jg ⟨fun ⟨_, x0⟩ => (show jI a6 (h (h i1 7) (-1)) ↔ jI a6 4 from by rw [ft_X17_7 hS hT_i1, la_X17_7 hS hT_i1]).mp x0, fun x0 => ⟨(show h (h i1 7) (-2) = 101 from by rw [ft_X17_7 hS hT_i1, ka_X17_7 hS hT_i1]), (show jI a6 (h (h i1 7) (-1)) ↔ jI a6 4 from by rw [ft_X17_7 hS hT_i1, la_X17_7 hS hT_i1]).mpr x0⟩⟩ (fun g3 => ?_)
      refine EQ_jgd (show h 454 (-2) = 15 from by rw [k_454 hS]) ?_
      refine EQ_jb2 (by rw [ft_X17_7 hS hT_i1]; exact eX14_weighed (h (i1 + 4) a6) 0 hS) (fun v95 h96 r4 => ?_)
      replace r4 : Sh S h96 := r4
      refine EQ_if Iff.rfl (fun c5 => ?_) (fun c5 => ?_)
      · exact (eX14_readLoop_j386_308 i1 i4 a6 hT_i1 r4)
      · refine EQ_jgd (show h96 i1 (-2) = 18 from by rw [kd_X17 r4 hT_i1]) ?_
        refine EQ_jg ⟨fun ⟨_, x0⟩ => (show jI a6 (h96 (h96 i1 3) (-1)) ↔ jI a6 3 from by rw [ft_X17_3 r4 hT_i1, la_X17_3 r4 hT_i1]).mp x0, fun x0 => ⟨(show h96 (h96 i1 3) (-2) = 101 from by rw [ft_X17_3 r4 hT_i1, ka_X17_3 r4 hT_i1]), (show jI a6 (h96 (h96 i1 3) (-1)) ↔ jI a6 3 from by rw [ft_X17_3 r4 hT_i1, la_X17_3 r4 hT_i1]).mpr x0⟩⟩ (fun g6 => ?_)
        refine EQ_if (show h96 (h96 i1 3) a6 = 32 ↔ h96 (i1 + 2) a6 = 32 from by rw [ft_X17_3 r4 hT_i1]) (fun c7 => ?_) (fun c7 => ?_)
        · exact (eX14_readLoop_j386_308 i1 i4 a6 hT_i1 r4)
        · refine EQ_jgd (show h96 i1 (-2) = 18 from by rw [kd_X17 r4 hT_i1]) ?_
          refine EQ_jgd ⟨(show h96 (h96 i1 3) (-2) = 101 from by rw [ft_X17_3 r4 hT_i1, ka_X17_3 r4 hT_i1]), ((show jI a6 (h96 (h96 i1 3) (-1)) ↔ jI a6 3 from by rw [ft_X17_3 r4 hT_i1, la_X17_3 r4 hT_i1]).mpr g6)⟩ ?_
          refine EQ_if (show v95 = h96 (h96 i1 3) a6 ↔ v95 = h96 (i1 + 2) a6 from by rw [ft_X17_3 r4 hT_i1]) (fun c8 => ?_) (fun c8 => ?_)
          · exact (eX14_readLoop_j386_308 i1 i4 a6 hT_i1 r4)
          · refine EQ_jgd (show h96 454 (-2) = 15 from by rw [k_454 r4]) ?_
            refine EQ_jgd (show h96 i1 (-2) = 18 from by rw [kd_X17 r4 hT_i1]) ?_
            refine EQ_jgd ⟨(show h96 (h96 i1 7) (-2) = 101 from by rw [ft_X17_7 r4 hT_i1, ka_X17_7 r4 hT_i1]), ((show jI a6 (h96 (h96 i1 7) (-1)) ↔ jI a6 4 from by rw [ft_X17_7 r4 hT_i1, la_X17_7 r4 hT_i1]).mpr g3)⟩ ?_
            refine EQ_jg ⟨fun ⟨_, x0⟩ => (show jI (h96 (h96 i1 7) a6) (h96 (h96 454 14) (-1)) ↔ jI (h96 (i1 + 4) a6) 8800 from by rw [ft_X17_7 r4 hT_i1, r_454_14 r4, l_468 r4]).mp x0, fun x0 => ⟨(show h96 (h96 454 14) (-2) = 101 from by rw [r_454_14 r4, k_468 r4]), (show jI (h96 (h96 i1 7) a6) (h96 (h96 454 14) (-1)) ↔ jI (h96 (i1 + 4) a6) 8800 from by rw [ft_X17_7 r4 hT_i1, r_454_14 r4, l_468 r4]).mpr x0⟩⟩ (fun g9 => ?_)
            refine EQ_jgd (show h96 454 (-2) = 15 from by rw [k_454 r4]) ?_
            refine EQ_jb (by rw [r_454_14 r4, ft_X17_7 r4 hT_i1]; exact eX14_note 3 (h96 468 (h96 (i1 + 4) a6)) r4) (fun h101 r10 => ?_)
            exact (eX14_readLoop_j386_308 i1 i4 a6 hT_i1 r10)
noncomputable def gX14_readLoop_l308 (i1 : Int) (i4 : Int) (a6 : Int) (h : AH) : Option (AH) := jit (gX14_readLoop_b308 i1 i4) (a6, h)
theorem eX14_readLoop_l308 (i1 : Int) (i4 : Int) (a6 : Int) (hT_i1 : isX17 i1) {h : AH} (hS : Sh S h) : EQ (fX14_readLoop_l308 454 i1 i4 a6 h) (gX14_readLoop_l308 i1 i4 a6 h) (fun r => Sh S r) := EQ_jit (I := (fun r => Sh S r.2)) (fun s hs => eX14_readLoop_b308 i1 i4 hT_i1 hs) hS
noncomputable def gX14_readLoop_j305 (a1 : Int) (a4 : Int) (h : AH) : Option (Int × AH) := jb (gX14_readLoop_l308 a1 a4 0 h) fun o82 => gX14_readLoop_j392 a1 o82
theorem eX14_readLoop_j305 (a1 : Int) (a4 : Int) (hT_a1 : isX17 a1) {h : AH} (hS : Sh S h) : EQ (fX14_readLoop_j305 454 a1 a4 h) (gX14_readLoop_j305 a1 a4 h) (fun r => Sh S r.2) := by
  unfold fX14_readLoop_j305 gX14_readLoop_j305
  refine EQ_jb (eX14_readLoop_l308 a1 a4 0 hT_a1 hS) (fun o82 r1 => ?_)
  exact (eX14_readLoop_j392 a1 hT_a1 r1)
noncomputable def gX14_readLoop_j293 (a1 : Int) (a2 : Int) (a3 : Int) (a4 : Int) (h : AH) : Option (Int × AH) := if a4 = a2 then (gX14_readLoop_j305 a1 a4 h) else (jb (gX14_note 4 a3 h) fun h81 => gX14_readLoop_j305 a1 a4 h81)
theorem eX14_readLoop_j293 (a1 : Int) (a2 : Int) (a3 : Int) (a4 : Int) (hT_a1 : isX17 a1) {h : AH} (hS : Sh S h) : EQ (fX14_readLoop_j293 454 a1 a2 a3 a4 h) (gX14_readLoop_j293 a1 a2 a3 a4 h) (fun r => Sh S r.2) := by
  unfold fX14_readLoop_j293 gX14_readLoop_j293
  refine EQ_if Iff.rfl (fun c1 => ?_) (fun c1 => ?_)
  · exact (eX14_readLoop_j305 a1 a4 hT_a1 hS)
  · refine EQ_jgd (show h 454 (-2) = 15 from by rw [k_454 hS]) ?_
    refine EQ_jb (eX14_note 4 a3 hS) (fun h81 r2 => ?_)
    exact (eX14_readLoop_j305 a1 a4 hT_a1 r2)
noncomputable def gX14_readLoop_j232 (a1 : Int) (a2 : Int) (a3 : Int) (a4 : Int) (h : AH) : Option (Int × AH) := jl (jst h a1 4 (min 3 a2)) fun h69 => jb (gX14_parameters (a1 + 2) 0 (h69 a1 4) h69) fun h71 => jb2 (gX14_weighed (h71 a1 6) 0 h71) fun v73 h74 => if v73 = 116 then (gX14_readLoop_j293 a1 a2 a3 a4 h74) else (if v73 = 32 then (gX14_readLoop_j293 a1 a2 a3 a4 h74) else (jg (jI (h74 a1 6) 8800) <| jb (gX14_note 3 (h74 468 (h74 a1 6)) h74) fun h78 => gX14_readLoop_j293 a1 a2 a3 a4 h78))
theorem eX14_readLoop_j232 (a1 : Int) (a2 : Int) (a3 : Int) (a4 : Int) (hT_a1 : isX17 a1) {h : AH} (hS : Sh S h) : EQ (fX14_readLoop_j232 454 a1 a2 a3 a4 h) (gX14_readLoop_j232 a1 a2 a3 a4 h) (fun r => Sh S r.2) := by
  unfold fX14_readLoop_j232 gX14_readLoop_j232
  refine EQ_jgd ⟨(show h a1 (-2) = 18 from by rw [kd_X17 hS hT_a1]), (show 200 ≤ a1 from ge_X17 hT_a1)⟩ ?_
  refine EQ_jl rfl (fun h69 eh69 => ?_)
  have s1 := Sh_of eh69 (Sh_sto_X17_4 hS hT_a1)
  clear eh69
  refine EQ_jgd (show h69 a1 (-2) = 18 from by rw [kd_X17 s1 hT_a1]) ?_
  refine EQ_jgd (show h69 a1 (-2) = 18 from by rw [kd_X17 s1 hT_a1]) ?_
  refine EQ_jgd (show h69 454 (-2) = 15 from by rw [k_454 s1]) ?_
  refine EQ_jb (by rw [ft_X17_3 s1 hT_a1]; exact eX14_parameters (a1 + 2) 0 (h69 a1 4) s1) (fun h71 r2 => ?_)
  refine EQ_jgd (show h71 a1 (-2) = 18 from by rw [kd_X17 r2 hT_a1]) ?_
  refine EQ_jgd (show h71 454 (-2) = 15 from by rw [k_454 r2]) ?_
  refine EQ_jb2 (eX14_weighed (h71 a1 6) 0 r2) (fun v73 h74 r3 => ?_)
  replace r3 : Sh S h74 := r3
  refine EQ_if Iff.rfl (fun c4 => ?_) (fun c4 => ?_)
  · exact (eX14_readLoop_j293 a1 a2 a3 a4 hT_a1 r3)
  · refine EQ_if Iff.rfl (fun c5 => ?_) (fun c5 => ?_)
    · exact (eX14_readLoop_j293 a1 a2 a3 a4 hT_a1 r3)
    · refine EQ_jgd (show h74 454 (-2) = 15 from by rw [k_454 r3]) ?_
      refine EQ_jgd (show h74 a1 (-2) = 18 from by rw [kd_X17 r3 hT_a1]) ?_
      refine EQ_jg ⟨fun ⟨_, x0⟩ => (show jI (h74 a1 6) (h74 (h74 454 14) (-1)) ↔ jI (h74 a1 6) 8800 from by rw [r_454_14 r3, l_468 r3]).mp x0, fun x0 => ⟨(show h74 (h74 454 14) (-2) = 101 from by rw [r_454_14 r3, k_468 r3]), (show jI (h74 a1 6) (h74 (h74 454 14) (-1)) ↔ jI (h74 a1 6) 8800 from by rw [r_454_14 r3, l_468 r3]).mpr x0⟩⟩ (fun g6 => ?_)
      refine EQ_jgd (show h74 454 (-2) = 15 from by rw [k_454 r3]) ?_
      refine EQ_jb (by rw [r_454_14 r3]; exact eX14_note 3 (h74 468 (h74 a1 6)) r3) (fun h78 r7 => ?_)
      exact (eX14_readLoop_j293 a1 a2 a3 a4 hT_a1 r7)
noncomputable def gX14_readLoop_j226_138 (a1 : Int) (a2 : Int) (a3 : Int) (a4 : Int) (a5 : Int) (h : AH) : Option ((Int × AH) ⊕ (AH)) := jl (w32 (a5 + 1)) fun x116 => some (.inl (x116, h))
theorem eX14_readLoop_j226_138 (a1 : Int) (a2 : Int) (a3 : Int) (a4 : Int) (a5 : Int) (hT_a1 : isX17 a1) {h : AH} (hS : Sh S h) : EQ (fX14_readLoop_j226_138 454 a1 a2 a3 a4 a5 h) (gX14_readLoop_j226_138 a1 a2 a3 a4 a5 h) (Sum.elim (fun r => Sh S r.2) (fun r => Sh S r)) := by
  unfold fX14_readLoop_j226_138 gX14_readLoop_j226_138
  refine EQ_jl rfl (fun x116 ex116 => ?_)
  clear ex116
  exact EQ_some hS
noncomputable def gX14_readLoop_j211_138 (a1 : Int) (a2 : Int) (a3 : Int) (a4 : Int) (a5 : Int) (a6 : Int) (h : AH) : Option ((Int × AH) ⊕ (AH)) := if 3 ≤ a5 then (gX14_readLoop_j226_138 a1 a2 a3 a4 a5 h) else (jg (jI a5 3) <| jl (jst h (a1 + 2) a5 a6) fun h115 => gX14_readLoop_j226_138 a1 a2 a3 a4 a5 h115)
theorem eX14_readLoop_j211_138 (a1 : Int) (a2 : Int) (a3 : Int) (a4 : Int) (a5 : Int) (a6 : Int) (hT_a1 : isX17 a1) {h : AH} (hS : Sh S h) : EQ (fX14_readLoop_j211_138 454 a1 a2 a3 a4 a5 a6 h) (gX14_readLoop_j211_138 a1 a2 a3 a4 a5 a6 h) (Sum.elim (fun r => Sh S r.2) (fun r => Sh S r)) := by
  unfold fX14_readLoop_j211_138 gX14_readLoop_j211_138
  refine EQ_if Iff.rfl (fun c1 => ?_) (fun c1 => ?_)
  · exact (eX14_readLoop_j226_138 a1 a2 a3 a4 a5 hT_a1 hS)
  · refine EQ_jgd (show h a1 (-2) = 18 from by rw [kd_X17 hS hT_a1]) ?_
    refine EQ_jg ⟨fun ⟨_, _, x0⟩ => (show jI a5 (h (h a1 3) (-1)) ↔ jI a5 3 from by rw [ft_X17_3 hS hT_a1, la_X17_3 hS hT_a1]).mp x0, fun x0 => ⟨(show h (h a1 3) (-2) = 101 from by rw [ft_X17_3 hS hT_a1, ka_X17_3 hS hT_a1]), (show 200 ≤ h a1 3 from by rw [ft_X17_3 hS hT_a1]; exact gea_X17_3 hT_a1), (show jI a5 (h (h a1 3) (-1)) ↔ jI a5 3 from by rw [ft_X17_3 hS hT_a1, la_X17_3 hS hT_a1]).mpr x0⟩⟩ (fun g2 => ?_)
    refine EQ_jl (by rw [ft_X17_3 hS hT_a1]) (fun h115 eh115 => ?_)
    have s3 := Sh_of eh115 (Sh_sta hS (ara_X17_3 hT_a1) (jI_nn g2) (fun e => absurd ((ka_X17_3 hS hT_a1).symm.trans e) (by decide)))
    clear eh115
    exact (eX14_readLoop_j226_138 a1 a2 a3 a4 a5 hT_a1 s3)
noncomputable def gX14_readLoop_j188_138 (a1 : Int) (a2 : Int) (a3 : Int) (a4 : Int) (a5 : Int) (a6 : Int) (h : AH) : Option ((Int × AH) ⊕ (AH)) := if a5 = 3 then (jg (jI a5 4) <| jg (jI (h (a1 + 3) a5) 8800) <| jb (gX14_note 4 (h 468 (h (a1 + 3) a5)) h) fun h113 => gX14_readLoop_j211_138 a1 a2 a3 a4 a5 a6 h113) else (gX14_readLoop_j211_138 a1 a2 a3 a4 a5 a6 h)
theorem eX14_readLoop_j188_138 (a1 : Int) (a2 : Int) (a3 : Int) (a4 : Int) (a5 : Int) (a6 : Int) (hT_a1 : isX17 a1) {h : AH} (hS : Sh S h) : EQ (fX14_readLoop_j188_138 454 a1 a2 a3 a4 a5 a6 h) (gX14_readLoop_j188_138 a1 a2 a3 a4 a5 a6 h) (Sum.elim (fun r => Sh S r.2) (fun r => Sh S r)) := by
  unfold fX14_readLoop_j188_138 gX14_readLoop_j188_138
  refine EQ_if Iff.rfl (fun c1 => ?_) (fun c1 => ?_)
  · refine EQ_jgd (show h 454 (-2) = 15 from by rw [k_454 hS]) ?_
    refine EQ_jgd (show h a1 (-2) = 18 from by rw [kd_X17 hS hT_a1]) ?_
    refine EQ_jg ⟨fun ⟨_, x0⟩ => (show jI a5 (h (h a1 5) (-1)) ↔ jI a5 4 from by rw [ft_X17_5 hS hT_a1, la_X17_5 hS hT_a1]).mp x0, fun x0 => ⟨(show h (h a1 5) (-2) = 101 from by rw [ft_X17_5 hS hT_a1, ka_X17_5 hS hT_a1]), (show jI a5 (h (h a1 5) (-1)) ↔ jI a5 4 from by rw [ft_X17_5 hS hT_a1, la_X17_5 hS hT_a1]).mpr x0⟩⟩ (fun g2 => ?_)
    refine EQ_jg ⟨fun ⟨_, x0⟩ => (show jI (h (h a1 5) a5) (h (h 454 14) (-1)) ↔ jI (h (a1 + 3) a5) 8800 from by rw [ft_X17_5 hS hT_a1, r_454_14 hS, l_468 hS]).mp x0, fun x0 => ⟨(show h (h 454 14) (-2) = 101 from by rw [r_454_14 hS, k_468 hS]), (show jI (h (h a1 5) a5) (h (h 454 14) (-1)) ↔ jI (h (a1 + 3) a5) 8800 from by rw [ft_X17_5 hS hT_a1, r_454_14 hS, l_468 hS]).mpr x0⟩⟩ (fun g3 => ?_)
    refine EQ_jgd (show h 454 (-2) = 15 from by rw [k_454 hS]) ?_
    refine EQ_jb (by rw [r_454_14 hS, ft_X17_5 hS hT_a1]; exact eX14_note 4 (h 468 (h (a1 + 3) a5)) hS) (fun h113 r4 => ?_)
    exact (eX14_readLoop_j211_138 a1 a2 a3 a4 a5 a6 hT_a1 r4)
  · exact (eX14_readLoop_j211_138 a1 a2 a3 a4 a5 a6 hT_a1 hS)
noncomputable def gX14_readLoop_b138 (i1 : Int) (i2 : Int) (i3 : Int) (i4 : Int) (s : Int × AH) : Option ((Int × AH) ⊕ (AH)) := jt2 s fun a5 h => if i2 ≤ a5 then (some (.inr h)) else (if 4 ≤ a5 then (some (.inr h)) else (jg (jI a5 4) <| jb2 (gX14_weighed (h (i1 + 3) a5) 0 h) fun v106 h107 => if v106 = 115 then (jg (jI (h107 (i1 + 3) a5) 8800) <| jb (gX14_note 3 (h107 468 (h107 (i1 + 3) a5)) h107) fun h110 => gX14_readLoop_j188_138 i1 i2 i3 i4 a5 v106 h110) else (gX14_readLoop_j188_138 i1 i2 i3 i4 a5 v106 h107)))
theorem eX14_readLoop_b138 (i1 : Int) (i2 : Int) (i3 : Int) (i4 : Int) (hT_i1 : isX17 i1) {s : Int × AH} (hS : (fun r => Sh S r.2) s) : EQ (fX14_readLoop_b138 454 i1 i2 i3 i4 s) (gX14_readLoop_b138 i1 i2 i3 i4 s) (Sum.elim (fun r => Sh S r.2) (fun r => Sh S r)) := by
  unfold fX14_readLoop_b138 gX14_readLoop_b138
  obtain ⟨a5, h⟩ := s
  refine EQ_jt2 ?_
  replace hS : Sh S h := hS
  refine EQ_if Iff.rfl (fun c1 => ?_) (fun c1 => ?_)
  · exact EQ_some hS
  · refine EQ_if Iff.rfl (fun c2 => ?_) (fun c2 => ?_)
    · exact EQ_some hS
    · refine EQ_jgd (show h i1 (-2) = 18 from by rw [kd_X17 hS hT_i1]) ?_
      refine EQ_jg ⟨fun ⟨_, x0⟩ => (show jI a5 (h (h i1 5) (-1)) ↔ jI a5 4 from by rw [ft_X17_5 hS hT_i1, la_X17_5 hS hT_i1]).mp x0, fun x0 => ⟨(show h (h i1 5) (-2) = 101 from by rw [ft_X17_5 hS hT_i1, ka_X17_5 hS hT_i1]), (show jI a5 (h (h i1 5) (-1)) ↔ jI a5 4 from by rw [ft_X17_5 hS hT_i1, la_X17_5 hS hT_i1]).mpr x0⟩⟩ (fun g3 => ?_)
      refine EQ_jgd (show h 454 (-2) = 15 from by rw [k_454 hS]) ?_
      refine EQ_jb2 (by rw [ft_X17_5 hS hT_i1]; exact eX14_weighed (h (i1 + 3) a5) 0 hS) (fun v106 h107 r4 => ?_)
      replace r4 : Sh S h107 := r4
      refine EQ_if Iff.rfl (fun c5 => ?_) (fun c5 => ?_)
      · refine EQ_jgd (show h107 454 (-2) = 15 from by rw [k_454 r4]) ?_
        refine EQ_jgd (show h107 i1 (-2) = 18 from by rw [kd_X17 r4 hT_i1]) ?_
        refine EQ_jgd ⟨(show h107 (h107 i1 5) (-2) = 101 from by rw [ft_X17_5 r4 hT_i1, ka_X17_5 r4 hT_i1]), ((show jI a5 (h107 (h107 i1 5) (-1)) ↔ jI a5 4 from by rw [ft_X17_5 r4 hT_i1, la_X17_5 r4 hT_i1]).mpr g3)⟩ ?_
        refine EQ_jg ⟨fun ⟨_, x0⟩ => (show jI (h107 (h107 i1 5) a5) (h107 (h107 454 14) (-1)) ↔ jI (h107 (i1 + 3) a5) 8800 from by rw [ft_X17_5 r4 hT_i1, r_454_14 r4, l_468 r4]).mp x0, fun x0 => ⟨(show h107 (h107 454 14) (-2) = 101 from by rw [r_454_14 r4, k_468 r4]), (show jI (h107 (h107 i1 5) a5) (h107 (h107 454 14) (-1)) ↔ jI (h107 (i1 + 3) a5) 8800 from by rw [ft_X17_5 r4 hT_i1, r_454_14 r4, l_468 r4]).mpr x0⟩⟩ (fun g6 => ?_)
        refine EQ_jgd (show h107 454 (-2) = 15 from by rw [k_454 r4]) ?_
        refine EQ_jb (by rw [r_454_14 r4, ft_X17_5 r4 hT_i1]; exact eX14_note 3 (h107 468 (h107 (i1 + 3) a5)) r4) (fun h110 r7 => ?_)
        exact (eX14_readLoop_j188_138 i1 i2 i3 i4 a5 v106 hT_i1 r7)
      · exact (eX14_readLoop_j188_138 i1 i2 i3 i4 a5 v106 hT_i1 r4)
noncomputable def gX14_readLoop_l138 (i1 : Int) (i2 : Int) (i3 : Int) (i4 : Int) (a5 : Int) (h : AH) : Option (AH) := jit (gX14_readLoop_b138 i1 i2 i3 i4) (a5, h)
theorem eX14_readLoop_l138 (i1 : Int) (i2 : Int) (i3 : Int) (i4 : Int) (a5 : Int) (hT_i1 : isX17 i1) {h : AH} (hS : Sh S h) : EQ (fX14_readLoop_l138 454 i1 i2 i3 i4 a5 h) (gX14_readLoop_l138 i1 i2 i3 i4 a5 h) (fun r => Sh S r) := EQ_jit (I := (fun r => Sh S r.2)) (fun s hs => eX14_readLoop_b138 i1 i2 i3 i4 hT_i1 hs) hS
noncomputable def gX14_readLoop (a1 : Int) (h : AH) : Option (Int × AH) := jb2 (gX14_begin h) fun t2 h4 => jq t2 (some (t2, h4)) <| jl (jst h4 454 17 (h4 a1 0)) fun h6 => jb2 (gX14_passName 247552 h6) fun t8 h10 => jq t8 (some (t8, h10)) <| jb3 (gX14_takeKinds (a1 + 1) 2 0 h10) fun t13 v14 h15 => jq t13 (some (t13, h15)) <| jl (jst h15 a1 2 v14) fun h17 => jb2 (gX14_passName 131638 h17) fun t19 h21 => jq t19 (some (t19, h21)) <| jb3 (gX14_terms (a1 + 3) h21) fun t24 v25 h26 => jq t24 (some (t24, h26)) <| jb2 (gX14_passName 12387497 h26) fun t29 h31 => jq t29 (some (t29, h31)) <| jb3 (gX14_takeTerm 0 0 h31) fun t34 v35 h36 => jq t34 (some (t34, h36)) <| jl (jst h36 a1 6 v35) fun h38 => jl (h38 454 29) fun x39 => jb2 (gX14_passName 123 h38) fun t41 h43 => jq t41 (some (t41, h43)) <| jb3 (gX14_terms (a1 + 4) h43) fun t46 v47 h48 => jq t46 (some (t46, h48)) <| jb2 (gX14_passName 144941 h48) fun t51 h53 => jq t51 (some (t51, h53)) <| jb3 (gX14_takeTerm 0 0 h53) fun t56 v57 h58 => jq t56 (some (t56, h58)) <| jl (jst h58 a1 8 v57) fun h60 => if h60 454 27 = 0 then (jb (gX14_parameters (a1 + 1) 0 (h60 a1 2) h60) fun h63 => jb (gX14_readLoop_l138 a1 v25 x39 v47 0 h63) fun o64 => gX14_readLoop_j232 a1 v25 x39 v47 o64) else (jb2 (gX14_fail 1 (h60 454 29) h60) fun v67 h68 => jg (¬ v67 = 0 ∧ v67 = 472) <| some (472, h68))
theorem eX14_readLoop (a1 : Int) (hT_a1 : isX17 a1) {h : AH} (hS : Sh S h) : EQ (fX14_readLoop 454 a1 h) (gX14_readLoop a1 h) (fun r => Sh S r.2) := by
  unfold fX14_readLoop gX14_readLoop
  refine EQ_jgd (show h 454 (-2) = 15 from by rw [k_454 hS]) ?_
  refine EQ_jb2 (eX14_begin hS) (fun t2 h4 r1 => ?_)
  replace r1 : Sh S h4 := r1
  refine EQ_jq (fun _ => ?_) (fun _ => ?_)
  · exact EQ_some r1
  · refine EQ_jgd (show h4 a1 (-2) = 18 from by rw [kd_X17 r1 hT_a1]) ?_
    refine EQ_jgd ⟨(show h4 454 (-2) = 15 from by rw [k_454 r1]), (show (200 : Int) ≤ 454 from (by decide))⟩ ?_
    refine EQ_jl rfl (fun h6 eh6 => ?_)
    have s2 := Sh_of eh6 (Sh_sto r1 (a := 454) (i := 17) (by decide +kernel))
    clear eh6
    refine EQ_jgd (show h6 454 (-2) = 15 from by rw [k_454 s2]) ?_
    refine EQ_jb2 (eX14_passName 247552 s2) (fun t8 h10 r3 => ?_)
    replace r3 : Sh S h10 := r3
    refine EQ_jq (fun _ => ?_) (fun _ => ?_)
    · exact EQ_some r3
    · refine EQ_jgd (show h10 a1 (-2) = 18 from by rw [kd_X17 r3 hT_a1]) ?_
      refine EQ_jgd (show h10 454 (-2) = 15 from by rw [k_454 r3]) ?_
      refine EQ_jb3 (by rw [ft_X17_1 r3 hT_a1]; exact eX14_takeKinds (a1 + 1) 2 0 r3) (fun t13 v14 h15 r4 => ?_)
      replace r4 : Sh S h15 := r4
      refine EQ_jq (fun _ => ?_) (fun _ => ?_)
      · exact EQ_some r4
      · refine EQ_jgd ⟨(show h15 a1 (-2) = 18 from by rw [kd_X17 r4 hT_a1]), (show 200 ≤ a1 from ge_X17 hT_a1)⟩ ?_
        refine EQ_jl rfl (fun h17 eh17 => ?_)
        have s5 := Sh_of eh17 (Sh_sto_X17_2 r4 hT_a1)
        clear eh17
        refine EQ_jgd (show h17 454 (-2) = 15 from by rw [k_454 s5]) ?_
        refine EQ_jb2 (eX14_passName 131638 s5) (fun t19 h21 r6 => ?_)
        replace r6 : Sh S h21 := r6
        refine EQ_jq (fun _ => ?_) (fun _ => ?_)
        · exact EQ_some r6
        · refine EQ_jgd (show h21 a1 (-2) = 18 from by rw [kd_X17 r6 hT_a1]) ?_
          refine EQ_jgd (show h21 454 (-2) = 15 from by rw [k_454 r6]) ?_
          refine EQ_jb3 (by rw [ft_X17_5 r6 hT_a1]; exact eX14_terms (a1 + 3) r6) (fun t24 v25 h26 r7 => ?_)
          replace r7 : Sh S h26 := r7
          refine EQ_jq (fun _ => ?_) (fun _ => ?_)
          · exact EQ_some r7
          · refine EQ_jgd (show h26 454 (-2) = 15 from by rw [k_454 r7]) ?_
            refine EQ_jb2 (eX14_passName 12387497 r7) (fun t29 h31 r8 => ?_)
            replace r8 : Sh S h31 := r8
            refine EQ_jq (fun _ => ?_) (fun _ => ?_)
            · exact EQ_some r8
            · refine EQ_jgd (show h31 454 (-2) = 15 from by rw [k_454 r8]) ?_
              refine EQ_jb3 (eX14_takeTerm 0 0 r8) (fun t34 v35 h36 r9 => ?_)
              replace r9 : Sh S h36 := r9
              refine EQ_jq (fun _ => ?_) (fun _ => ?_)
              · exact EQ_some r9
              · refine EQ_jgd ⟨(show h36 a1 (-2) = 18 from by rw [kd_X17 r9 hT_a1]), (show 200 ≤ a1 from ge_X17 hT_a1)⟩ ?_
                refine EQ_jl rfl (fun h38 eh38 => ?_)
                have s10 := Sh_of eh38 (Sh_sto_X17_6 r9 hT_a1)
                clear eh38
                refine EQ_jgd (show h38 454 (-2) = 15 from by rw [k_454 s10]) ?_
                refine EQ_jl rfl (fun x39 ex39 => ?_)
                clear ex39
                refine EQ_jgd (show h38 454 (-2) = 15 from by rw [k_454 s10]) ?_
                refine EQ_jb2 (eX14_passName 123 s10) (fun t41 h43 r11 => ?_)
                replace r11 : Sh S h43 := r11
                refine EQ_jq (fun _ => ?_) (fun _ => ?_)
                · exact EQ_some r11
                · refine EQ_jgd (show h43 a1 (-2) = 18 from by rw [kd_X17 r11 hT_a1]) ?_
                  refine EQ_jgd (show h43 454 (-2) = 15 from by rw [k_454 r11]) ?_
                  refine EQ_jb3 (by rw [ft_X17_7 r11 hT_a1]; exact eX14_terms (a1 + 4) r11) (fun t46 v47 h48 r12 => ?_)
                  replace r12 : Sh S h48 := r12
                  refine EQ_jq (fun _ => ?_) (fun _ => ?_)
                  · exact EQ_some r12
                  · refine EQ_jgd (show h48 454 (-2) = 15 from by rw [k_454 r12]) ?_
                    refine EQ_jb2 (eX14_passName 144941 r12) (fun t51 h53 r13 => ?_)
                    replace r13 : Sh S h53 := r13
                    refine EQ_jq (fun _ => ?_) (fun _ => ?_)
                    · exact EQ_some r13
                    · refine EQ_jgd (show h53 454 (-2) = 15 from by rw [k_454 r13]) ?_
                      refine EQ_jb3 (eX14_takeTerm 0 0 r13) (fun t56 v57 h58 r14 => ?_)
                      replace r14 : Sh S h58 := r14
                      refine EQ_jq (fun _ => ?_) (fun _ => ?_)
                      · exact EQ_some r14
                      · refine EQ_jgd ⟨(show h58 a1 (-2) = 18 from by rw [kd_X17 r14 hT_a1]), (show 200 ≤ a1 from ge_X17 hT_a1)⟩ ?_
                        refine EQ_jl rfl (fun h60 eh60 => ?_)
                        have s15 := Sh_of eh60 (Sh_sto_X17_8 r14 hT_a1)
                        clear eh60
                        refine EQ_jgd (show h60 454 (-2) = 15 from by rw [k_454 s15]) ?_
                        refine EQ_if Iff.rfl (fun c16 => ?_) (fun c16 => ?_)
                        · refine EQ_jgd (show h60 a1 (-2) = 18 from by rw [kd_X17 s15 hT_a1]) ?_
                          refine EQ_jgd (show h60 a1 (-2) = 18 from by rw [kd_X17 s15 hT_a1]) ?_
                          refine EQ_jgd (show h60 454 (-2) = 15 from by rw [k_454 s15]) ?_
                          refine EQ_jb (by rw [ft_X17_1 s15 hT_a1]; exact eX14_parameters (a1 + 1) 0 (h60 a1 2) s15) (fun h63 r17 => ?_)
                          refine EQ_jb (eX14_readLoop_l138 a1 v25 x39 v47 0 hT_a1 r17) (fun o64 r18 => ?_)
                          exact (eX14_readLoop_j232 a1 v25 x39 v47 hT_a1 r18)
                        · refine EQ_jgd (show h60 454 (-2) = 15 from by rw [k_454 s15]) ?_
                          refine EQ_jgd (show h60 454 (-2) = 15 from by rw [k_454 s15]) ?_
                          refine EQ_jb2 (eX14_fail 1 (h60 454 29) s15) (fun v67 h68 r19 => ?_)
                          replace r19 : Sh S h68 := r19
                          refine EQ_jg ⟨fun ⟨x0, x1⟩ => ⟨x0, (ik_X15 r19).mp x1⟩, fun ⟨x0, x1⟩ => ⟨x0, (ik_X15 r19).mpr x1⟩⟩ (fun g20 => ?_)
                          exact EQ_some' (by rw [g20.2]) r19
noncomputable def gX14_playAll (a1 : Int) (a2 : Int) (h : AH) : Option (AH) := jl (jst h 454 102 a1) fun h1 => jl (jst h1 454 100 a2) fun h2 => jl (jst h2 454 99 (w32 (h2 454 99 + 1))) fun h3 => jl (jst h3 454 106 0) fun h4 => jl (jst h4 454 103 100) fun h5 => jl (jst h5 454 104 (-1)) fun h6 => some h6
theorem eX14_playAll (a1 : Int) (a2 : Int) {h : AH} (hS : Sh S h) : EQ (fX14_playAll 454 a1 a2 h) (gX14_playAll a1 a2 h) (fun r => Sh S r) := by
  unfold fX14_playAll gX14_playAll
  refine EQ_jgd ⟨(show h 454 (-2) = 15 from by rw [k_454 hS]), (show (200 : Int) ≤ 454 from (by decide))⟩ ?_
  refine EQ_jl rfl (fun h1 eh1 => ?_)
  have s1 := Sh_of eh1 (Sh_sto hS (a := 454) (i := 102) (by decide +kernel))
  clear eh1
  refine EQ_jgd ⟨(show h1 454 (-2) = 15 from by rw [k_454 s1]), (show (200 : Int) ≤ 454 from (by decide))⟩ ?_
  refine EQ_jl rfl (fun h2 eh2 => ?_)
  have s2 := Sh_of eh2 (Sh_sto s1 (a := 454) (i := 100) (by decide +kernel))
  clear eh2
  refine EQ_jgd (show h2 454 (-2) = 15 from by rw [k_454 s2]) ?_
  refine EQ_jgd ⟨(show h2 454 (-2) = 15 from by rw [k_454 s2]), (show (200 : Int) ≤ 454 from (by decide))⟩ ?_
  refine EQ_jl rfl (fun h3 eh3 => ?_)
  have s3 := Sh_of eh3 (Sh_sto s2 (a := 454) (i := 99) (by decide +kernel))
  clear eh3
  refine EQ_jgd ⟨(show h3 454 (-2) = 15 from by rw [k_454 s3]), (show (200 : Int) ≤ 454 from (by decide))⟩ ?_
  refine EQ_jl rfl (fun h4 eh4 => ?_)
  have s4 := Sh_of eh4 (Sh_sto s3 (a := 454) (i := 106) (by decide +kernel))
  clear eh4
  refine EQ_jgd ⟨(show h4 454 (-2) = 15 from by rw [k_454 s4]), (show (200 : Int) ≤ 454 from (by decide))⟩ ?_
  refine EQ_jl rfl (fun h5 eh5 => ?_)
  have s5 := Sh_of eh5 (Sh_sto s4 (a := 454) (i := 103) (by decide +kernel))
  clear eh5
  refine EQ_jgd ⟨(show h5 454 (-2) = 15 from by rw [k_454 s5]), (show (200 : Int) ≤ 454 from (by decide))⟩ ?_
  refine EQ_jl rfl (fun h6 eh6 => ?_)
  have s6 := Sh_of eh6 (Sh_sto s5 (a := 454) (i := 104) (by decide +kernel))
  clear eh6
  exact EQ_some s6
noncomputable def gX14_inputs (h : AH) : Option (Int) := jg (isX17 (h 454 92)) <| jb (gX14_rowsOf (h 454 92 + 1) 0 (h (h 454 92) 2) h) fun v2 => some v2
theorem eX14_inputs {h : AH} (hS : Sh S h) : EQ (fX14_inputs 454 h) (gX14_inputs h) (fun _ => True) := by
  unfold fX14_inputs gX14_inputs
  refine EQ_jgd (show h 454 (-2) = 15 from by rw [k_454 hS]) ?_
  refine EQ_jg ⟨fun x0 => (ik_X17 hS).mp x0, fun x0 => (ik_X17 hS).mpr x0⟩ (fun g1 => ?_)
  refine EQ_jgd (show h 454 (-2) = 15 from by rw [k_454 hS]) ?_
  refine EQ_jgd (show h (h 454 92) (-2) = 18 from by rw [kd_X17 hS g1]) ?_
  refine EQ_jb (by rw [ft_X17_1 hS g1]; exact eX14_rowsOf (h 454 92 + 1) 0 (h (h 454 92) 2) hS) (fun v2 r2 => ?_)
  exact EQ_some trivial
noncomputable def gX14_step_j61 (a6 : Int) (a7 : Int) (t0 : Int) (h : AH) : Option (Int × AH) := jl (jst h 454 93 a6) fun h12 => jl (jst h12 454 94 a7) fun h13 => jl (jst h13 454 95 t0) fun h14 => if a6 = (-1) then (some (0, h14)) else (if a7 = (-1) then (some (0, h14)) else (if t0 = (-1) then (some (0, h14)) else (some (1, h14))))
theorem eX14_step_j61 (a6 : Int) (a7 : Int) (t0 : Int) {h : AH} (hS : Sh S h) : EQ (fX14_step_j61 454 a6 a7 t0 h) (gX14_step_j61 a6 a7 t0 h) (fun r => Sh S r.2) := by
  unfold fX14_step_j61 gX14_step_j61
  refine EQ_jgd ⟨(show h 454 (-2) = 15 from by rw [k_454 hS]), (show (200 : Int) ≤ 454 from (by decide))⟩ ?_
  refine EQ_jl rfl (fun h12 eh12 => ?_)
  have s1 := Sh_of eh12 (Sh_sto hS (a := 454) (i := 93) (by decide +kernel))
  clear eh12
  refine EQ_jgd ⟨(show h12 454 (-2) = 15 from by rw [k_454 s1]), (show (200 : Int) ≤ 454 from (by decide))⟩ ?_
  refine EQ_jl rfl (fun h13 eh13 => ?_)
  have s2 := Sh_of eh13 (Sh_sto s1 (a := 454) (i := 94) (by decide +kernel))
  clear eh13
  refine EQ_jgd ⟨(show h13 454 (-2) = 15 from by rw [k_454 s2]), (show (200 : Int) ≤ 454 from (by decide))⟩ ?_
  refine EQ_jl rfl (fun h14 eh14 => ?_)
  have s3 := Sh_of eh14 (Sh_sto s2 (a := 454) (i := 95) (by decide +kernel))
  clear eh14
  refine EQ_if Iff.rfl (fun c4 => ?_) (fun c4 => ?_)
  · exact EQ_some s3
  · refine EQ_if Iff.rfl (fun c5 => ?_) (fun c5 => ?_)
    · exact EQ_some s3
    · refine EQ_if Iff.rfl (fun c6 => ?_) (fun c6 => ?_)
      · exact EQ_some s3
      · exact EQ_some s3
noncomputable def gX14_step_j37 (a1 : Int) (a2 : Int) (a3 : Int) (a4 : Int) (a5 : Int) (a6 : Int) (t0 : Int) (h : AH) : Option (Int × AH) := if a2 ≤ 2 then (gX14_step_j61 a6 t0 0 h) else (jg (h a1 (-2) = 101 ∧ jI 2 (h a1 (-1))) <| jb2 (gX14_answer (h a1 2) a3 a4 a5 0 h) fun v10 h11 => gX14_step_j61 a6 t0 v10 h11)
theorem eX14_step_j37 (a1 : Int) (a2 : Int) (a3 : Int) (a4 : Int) (a5 : Int) (a6 : Int) (t0 : Int) {h : AH} (hS : Sh S h) : EQ (fX14_step_j37 454 a1 a2 a3 a4 a5 a6 t0 h) (gX14_step_j37 a1 a2 a3 a4 a5 a6 t0 h) (fun r => Sh S r.2) := by
  unfold fX14_step_j37 gX14_step_j37
  refine EQ_if Iff.rfl (fun c1 => ?_) (fun c1 => ?_)
  · exact (eX14_step_j61 a6 t0 0 hS)
  · refine EQ_jg Iff.rfl (fun g2 => ?_)
    refine EQ_jgd (show h 454 (-2) = 15 from by rw [k_454 hS]) ?_
    refine EQ_jb2 (eX14_answer (h a1 2) a3 a4 a5 0 hS) (fun v10 h11 r3 => ?_)
    replace r3 : Sh S h11 := r3
    exact (eX14_step_j61 a6 t0 v10 r3)
noncomputable def gX14_step (a1 : Int) (a2 : Int) (a3 : Int) (a4 : Int) (a5 : Int) (h : AH) : Option (Int × AH) := jg (h a1 (-2) = 101 ∧ jI 0 (h a1 (-1))) <| jb2 (gX14_answer (h a1 0) a3 a4 a5 0 h) fun v2 h3 => if a2 ≤ 1 then (gX14_step_j37 a1 a2 a3 a4 a5 v2 0 h3) else (jg (h3 a1 (-2) = 101 ∧ jI 1 (h3 a1 (-1))) <| jb2 (gX14_answer (h3 a1 1) a3 a4 a5 0 h3) fun v6 h7 => gX14_step_j37 a1 a2 a3 a4 a5 v2 v6 h7)
theorem eX14_step (a1 : Int) (a2 : Int) (a3 : Int) (a4 : Int) (a5 : Int) {h : AH} (hS : Sh S h) : EQ (fX14_step 454 a1 a2 a3 a4 a5 h) (gX14_step a1 a2 a3 a4 a5 h) (fun r => Sh S r.2) := by
  unfold fX14_step gX14_step
  refine EQ_jg Iff.rfl (fun g1 => ?_)
  refine EQ_jgd (show h 454 (-2) = 15 from by rw [k_454 hS]) ?_
  refine EQ_jb2 (eX14_answer (h a1 0) a3 a4 a5 0 hS) (fun v2 h3 r2 => ?_)
  replace r2 : Sh S h3 := r2
  refine EQ_if Iff.rfl (fun c3 => ?_) (fun c3 => ?_)
  · exact (eX14_step_j37 a1 a2 a3 a4 a5 v2 0 r2)
  · refine EQ_jg Iff.rfl (fun g4 => ?_)
    refine EQ_jgd (show h3 454 (-2) = 15 from by rw [k_454 r2]) ?_
    refine EQ_jb2 (eX14_answer (h3 a1 1) a3 a4 a5 0 r2) (fun v6 h7 r5 => ?_)
    replace r5 : Sh S h7 := r5
    exact (eX14_step_j37 a1 a2 a3 a4 a5 v2 v6 r5)
noncomputable def gX14_meet_j96 (t0 : Int) (h : AH) : Option (AH) := jl (jst h 454 103 (min (h 454 103) t0)) fun h8 => jl (jst h8 454 104 (max (h8 454 104) t0)) fun h9 => if h9 454 100 < 0 then (some h9) else (if 0 ≤ h9 454 101 then (some h9) else (jb2 (gX14_answer (h9 454 100) (h9 454 93) (h9 454 94) (h9 454 95) 0 h9) fun v13 h14 => if v13 = 1 then (some h14) else (jl (jst h14 454 101 (w32 (h14 454 105 - 1))) fun h16 => some h16)))
theorem eX14_meet_j96 (t0 : Int) {h : AH} (hS : Sh S h) : EQ (fX14_meet_j96 454 t0 h) (gX14_meet_j96 t0 h) (fun r => Sh S r) := by
  unfold fX14_meet_j96 gX14_meet_j96
  refine EQ_jgd (show h 454 (-2) = 15 from by rw [k_454 hS]) ?_
  refine EQ_jgd ⟨(show h 454 (-2) = 15 from by rw [k_454 hS]), (show (200 : Int) ≤ 454 from (by decide))⟩ ?_
  refine EQ_jl rfl (fun h8 eh8 => ?_)
  have s1 := Sh_of eh8 (Sh_sto hS (a := 454) (i := 103) (by decide +kernel))
  clear eh8
  refine EQ_jgd (show h8 454 (-2) = 15 from by rw [k_454 s1]) ?_
  refine EQ_jgd ⟨(show h8 454 (-2) = 15 from by rw [k_454 s1]), (show (200 : Int) ≤ 454 from (by decide))⟩ ?_
  refine EQ_jl rfl (fun h9 eh9 => ?_)
  have s2 := Sh_of eh9 (Sh_sto s1 (a := 454) (i := 104) (by decide +kernel))
  clear eh9
  refine EQ_jgd (show h9 454 (-2) = 15 from by rw [k_454 s2]) ?_
  refine EQ_if Iff.rfl (fun c3 => ?_) (fun c3 => ?_)
  · exact EQ_some s2
  · refine EQ_jgd (show h9 454 (-2) = 15 from by rw [k_454 s2]) ?_
    refine EQ_if Iff.rfl (fun c4 => ?_) (fun c4 => ?_)
    · exact EQ_some s2
    · refine EQ_jgd (show h9 454 (-2) = 15 from by rw [k_454 s2]) ?_
      refine EQ_jgd (show h9 454 (-2) = 15 from by rw [k_454 s2]) ?_
      refine EQ_jgd (show h9 454 (-2) = 15 from by rw [k_454 s2]) ?_
      refine EQ_jgd (show h9 454 (-2) = 15 from by rw [k_454 s2]) ?_
      refine EQ_jgd (show h9 454 (-2) = 15 from by rw [k_454 s2]) ?_
      refine EQ_jb2 (eX14_answer (h9 454 100) (h9 454 93) (h9 454 94) (h9 454 95) 0 s2) (fun v13 h14 r5 => ?_)
      replace r5 : Sh S h14 := r5
      refine EQ_if Iff.rfl (fun c6 => ?_) (fun c6 => ?_)
      · exact EQ_some r5
      · refine EQ_jgd (show h14 454 (-2) = 15 from by rw [k_454 r5]) ?_
        refine EQ_jgd ⟨(show h14 454 (-2) = 15 from by rw [k_454 r5]), (show (200 : Int) ≤ 454 from (by decide))⟩ ?_
        refine EQ_jl rfl (fun h16 eh16 => ?_)
        have s7 := Sh_of eh16 (Sh_sto r5 (a := 454) (i := 101) (by decide +kernel))
        clear eh16
        exact EQ_some s7
noncomputable def gX14_meet_j63 (h : AH) : Option (AH) := if h 454 102 = 0 then (gX14_meet_j96 (h 454 93) h) else (if h 454 102 = 1 then (gX14_meet_j96 (h 454 94) h) else (gX14_meet_j96 (h 454 95) h))
theorem eX14_meet_j63 {h : AH} (hS : Sh S h) : EQ (fX14_meet_j63 454 h) (gX14_meet_j63 h) (fun r => Sh S r) := by
  unfold fX14_meet_j63 gX14_meet_j63
  refine EQ_jgd (show h 454 (-2) = 15 from by rw [k_454 hS]) ?_
  refine EQ_if Iff.rfl (fun c1 => ?_) (fun c1 => ?_)
  · refine EQ_jgd (show h 454 (-2) = 15 from by rw [k_454 hS]) ?_
    exact (eX14_meet_j96 (h 454 93) hS)
  · refine EQ_jgd (show h 454 (-2) = 15 from by rw [k_454 hS]) ?_
    refine EQ_if Iff.rfl (fun c2 => ?_) (fun c2 => ?_)
    · refine EQ_jgd (show h 454 (-2) = 15 from by rw [k_454 hS]) ?_
      exact (eX14_meet_j96 (h 454 94) hS)
    · refine EQ_jgd (show h 454 (-2) = 15 from by rw [k_454 hS]) ?_
      exact (eX14_meet_j96 (h 454 95) hS)
noncomputable def gX14_meet (h : AH) : Option (AH) := jl (jst h 454 105 (w32 (h 454 105 + 1))) fun h1 => jl (jor (jor (jshl (h1 454 93) 8) (jshl (h1 454 94) 4)) (h1 454 95)) fun x2 => jg (jI x2 4096) <| if h1 816 x2 = h1 454 99 then (gX14_meet_j63 h1) else (jl (jst h1 816 x2 (h1 454 99)) fun h4 => jl (jst h4 454 106 (w32 (h4 454 106 + 1))) fun h5 => gX14_meet_j63 h5)
theorem eX14_meet {h : AH} (hS : Sh S h) : EQ (fX14_meet 454 h) (gX14_meet h) (fun r => Sh S r) := by
  unfold fX14_meet gX14_meet
  refine EQ_jgd (show h 454 (-2) = 15 from by rw [k_454 hS]) ?_
  refine EQ_jgd ⟨(show h 454 (-2) = 15 from by rw [k_454 hS]), (show (200 : Int) ≤ 454 from (by decide))⟩ ?_
  refine EQ_jl rfl (fun h1 eh1 => ?_)
  have s1 := Sh_of eh1 (Sh_sto hS (a := 454) (i := 105) (by decide +kernel))
  clear eh1
  refine EQ_jgd (show h1 454 (-2) = 15 from by rw [k_454 s1]) ?_
  refine EQ_jgd (show h1 454 (-2) = 15 from by rw [k_454 s1]) ?_
  refine EQ_jgd (show h1 454 (-2) = 15 from by rw [k_454 s1]) ?_
  refine EQ_jl rfl (fun x2 ex2 => ?_)
  clear ex2
  refine EQ_jgd (show h1 454 (-2) = 15 from by rw [k_454 s1]) ?_
  refine EQ_jg ⟨fun ⟨_, x0⟩ => (show jI x2 (h1 (h1 454 98) (-1)) ↔ jI x2 4096 from by rw [r_454_98 s1, l_816 s1]).mp x0, fun x0 => ⟨(show h1 (h1 454 98) (-2) = 101 from by rw [r_454_98 s1, k_816 s1]), (show jI x2 (h1 (h1 454 98) (-1)) ↔ jI x2 4096 from by rw [r_454_98 s1, l_816 s1]).mpr x0⟩⟩ (fun g2 => ?_)
  refine EQ_jgd (show h1 454 (-2) = 15 from by rw [k_454 s1]) ?_
  refine EQ_if (show h1 (h1 454 98) x2 = h1 454 99 ↔ h1 816 x2 = h1 454 99 from by rw [r_454_98 s1]) (fun c3 => ?_) (fun c3 => ?_)
  · exact (eX14_meet_j63 s1)
  · refine EQ_jgd (show h1 454 (-2) = 15 from by rw [k_454 s1]) ?_
    refine EQ_jgd (show h1 454 (-2) = 15 from by rw [k_454 s1]) ?_
    refine EQ_jgd ⟨(show h1 (h1 454 98) (-2) = 101 from by rw [r_454_98 s1, k_816 s1]), (show 200 ≤ h1 454 98 from by rw [r_454_98 s1]; exact (by decide)), ((show jI x2 (h1 (h1 454 98) (-1)) ↔ jI x2 4096 from by rw [r_454_98 s1, l_816 s1]).mpr g2)⟩ ?_
    refine EQ_jl (by rw [r_454_98 s1]) (fun h4 eh4 => ?_)
    have s4 := Sh_of eh4 (Sh_sta s1 (by decide +kernel) (jI_nn g2) (fun e => absurd ((k_816 s1).symm.trans e) (by decide)))
    clear eh4
    refine EQ_jgd (show h4 454 (-2) = 15 from by rw [k_454 s4]) ?_
    refine EQ_jgd ⟨(show h4 454 (-2) = 15 from by rw [k_454 s4]), (show (200 : Int) ≤ 454 from (by decide))⟩ ?_
    refine EQ_jl rfl (fun h5 eh5 => ?_)
    have s5 := Sh_of eh5 (Sh_sto s4 (a := 454) (i := 106) (by decide +kernel))
    clear eh5
    exact (eX14_meet_j63 s5)
noncomputable def gX14_play_j211 (t1 : Int) (h : AH) : Option (AH) := jl (jst h 454 107 t1) fun h28 => some h28
theorem eX14_play_j211 (t1 : Int) {h : AH} (hS : Sh S h) : EQ (fX14_play_j211 454 t1 h) (gX14_play_j211 t1 h) (fun r => Sh S r) := by
  unfold fX14_play_j211 gX14_play_j211
  refine EQ_jgd ⟨(show h 454 (-2) = 15 from by rw [k_454 hS]), (show (200 : Int) ≤ 454 from (by decide))⟩ ?_
  refine EQ_jl rfl (fun h28 eh28 => ?_)
  have s1 := Sh_of eh28 (Sh_sto hS (a := 454) (i := 107) (by decide +kernel))
  clear eh28
  exact EQ_some s1
noncomputable def gX14_play_b77 (i2 : Int) (s : Int × AH) : Option ((Int × AH) ⊕ ((AH) ⊕ ((AH) ⊕ ((AH) ⊕ ((AH)))))) := jt2 s fun a3 h => if a3 = 0 then (some (.inr (.inr (.inr (.inr h))))) else (jl (jor (jor (jshl (h 454 93) 8) (jshl (h 454 94) 4)) (h 454 95)) fun x30 => jg (jI x30 4096) <| if h 815 x30 = h 454 97 then (some (.inr (.inl h))) else (jl (jst h 815 x30 (h 454 97)) fun h32 => jb (gX14_meet h32) fun h34 => jb2 (gX14_answer (h34 i2 6) (h34 454 93) (h34 454 94) (h34 454 95) 0 h34) fun v36 h37 => if v36 = (-1) then (some (.inr (.inr (.inl h37)))) else (if v36 = 0 then (some (.inr (.inr (.inr (.inl h37))))) else (jb2 (gX14_step (i2 + 4) (h37 i2 4) (h37 454 93) (h37 454 94) (h37 454 95) h37) fun v41 h42 => some (.inl (v41, h42))))))
theorem eX14_play_b77 (i2 : Int) (hT_i2 : isX17 i2) {s : Int × AH} (hS : (fun r => Sh S r.2) s) : EQ (fX14_play_b77 454 i2 s) (gX14_play_b77 i2 s) (Sum.elim (fun r => Sh S r.2) (Sum.elim (fun r => Sh S r) (Sum.elim (fun r => Sh S r) (Sum.elim (fun r => Sh S r) (fun r => Sh S r))))) := by
  unfold fX14_play_b77 gX14_play_b77
  obtain ⟨a3, h⟩ := s
  refine EQ_jt2 ?_
  replace hS : Sh S h := hS
  refine EQ_if Iff.rfl (fun c1 => ?_) (fun c1 => ?_)
  · exact EQ_some hS
  · refine EQ_jgd (show h 454 (-2) = 15 from by rw [k_454 hS]) ?_
    refine EQ_jgd (show h 454 (-2) = 15 from by rw [k_454 hS]) ?_
    refine EQ_jgd (show h 454 (-2) = 15 from by rw [k_454 hS]) ?_
    refine EQ_jl rfl (fun x30 ex30 => ?_)
    clear ex30
    refine EQ_jgd (show h 454 (-2) = 15 from by rw [k_454 hS]) ?_
    refine EQ_jg ⟨fun ⟨_, x0⟩ => (show jI x30 (h (h 454 96) (-1)) ↔ jI x30 4096 from by rw [r_454_96 hS, l_815 hS]).mp x0, fun x0 => ⟨(show h (h 454 96) (-2) = 101 from by rw [r_454_96 hS, k_815 hS]), (show jI x30 (h (h 454 96) (-1)) ↔ jI x30 4096 from by rw [r_454_96 hS, l_815 hS]).mpr x0⟩⟩ (fun g2 => ?_)
    refine EQ_jgd (show h 454 (-2) = 15 from by rw [k_454 hS]) ?_
    refine EQ_if (show h (h 454 96) x30 = h 454 97 ↔ h 815 x30 = h 454 97 from by rw [r_454_96 hS]) (fun c3 => ?_) (fun c3 => ?_)
    · exact EQ_some hS
    · refine EQ_jgd (show h 454 (-2) = 15 from by rw [k_454 hS]) ?_
      refine EQ_jgd (show h 454 (-2) = 15 from by rw [k_454 hS]) ?_
      refine EQ_jgd ⟨(show h (h 454 96) (-2) = 101 from by rw [r_454_96 hS, k_815 hS]), (show 200 ≤ h 454 96 from by rw [r_454_96 hS]; exact (by decide)), ((show jI x30 (h (h 454 96) (-1)) ↔ jI x30 4096 from by rw [r_454_96 hS, l_815 hS]).mpr g2)⟩ ?_
      refine EQ_jl (by rw [r_454_96 hS]) (fun h32 eh32 => ?_)
      have s4 := Sh_of eh32 (Sh_sta hS (by decide +kernel) (jI_nn g2) (fun e => absurd ((k_815 hS).symm.trans e) (by decide)))
      clear eh32
      refine EQ_jgd (show h32 454 (-2) = 15 from by rw [k_454 s4]) ?_
      refine EQ_jb (eX14_meet s4) (fun h34 r5 => ?_)
      refine EQ_jgd (show h34 i2 (-2) = 18 from by rw [kd_X17 r5 hT_i2]) ?_
      refine EQ_jgd (show h34 454 (-2) = 15 from by rw [k_454 r5]) ?_
      refine EQ_jgd (show h34 454 (-2) = 15 from by rw [k_454 r5]) ?_
      refine EQ_jgd (show h34 454 (-2) = 15 from by rw [k_454 r5]) ?_
      refine EQ_jgd (show h34 454 (-2) = 15 from by rw [k_454 r5]) ?_
      refine EQ_jb2 (eX14_answer (h34 i2 6) (h34 454 93) (h34 454 94) (h34 454 95) 0 r5) (fun v36 h37 r6 => ?_)
      replace r6 : Sh S h37 := r6
      refine EQ_if Iff.rfl (fun c7 => ?_) (fun c7 => ?_)
      · exact EQ_some r6
      · refine EQ_if Iff.rfl (fun c8 => ?_) (fun c8 => ?_)
        · exact EQ_some r6
        · refine EQ_jgd (show h37 i2 (-2) = 18 from by rw [kd_X17 r6 hT_i2]) ?_
          refine EQ_jgd (show h37 i2 (-2) = 18 from by rw [kd_X17 r6 hT_i2]) ?_
          refine EQ_jgd (show h37 454 (-2) = 15 from by rw [k_454 r6]) ?_
          refine EQ_jgd (show h37 454 (-2) = 15 from by rw [k_454 r6]) ?_
          refine EQ_jgd (show h37 454 (-2) = 15 from by rw [k_454 r6]) ?_
          refine EQ_jgd (show h37 454 (-2) = 15 from by rw [k_454 r6]) ?_
          refine EQ_jb2 (by rw [ft_X17_7 r6 hT_i2]; exact eX14_step (i2 + 4) (h37 i2 4) (h37 454 93) (h37 454 94) (h37 454 95) r6) (fun v41 h42 r9 => ?_)
          replace r9 : Sh S h42 := r9
          exact EQ_some r9
noncomputable def gX14_play_l77 (i2 : Int) (a3 : Int) (h : AH) : Option ((AH) ⊕ ((AH) ⊕ ((AH) ⊕ ((AH))))) := jit (gX14_play_b77 i2) (a3, h)
theorem eX14_play_l77 (i2 : Int) (a3 : Int) (hT_i2 : isX17 i2) {h : AH} (hS : Sh S h) : EQ (fX14_play_l77 454 i2 a3 h) (gX14_play_l77 i2 a3 h) (Sum.elim (fun r => Sh S r) (Sum.elim (fun r => Sh S r) (Sum.elim (fun r => Sh S r) (fun r => Sh S r)))) := EQ_jit (I := (fun r => Sh S r.2)) (fun s hs => eX14_play_b77 i2 hT_i2 hs) hS
noncomputable def gX14_play (a1 : Int) (h : AH) : Option (AH) := jl (h 454 92) fun x1 => jl (jst h 454 97 (w32 (h 454 97 + 1))) fun h2 => jl (jst h2 454 105 0) fun h3 => jl (jst h3 454 101 (-1)) fun h4 => jl (jst h4 454 108 (-1)) fun h5 => jl (jst h5 454 107 2) fun h6 => jg (isX17 x1) <| jb (gX14_valueAt (x1 + 1) 0 (h6 x1 2) a1 0 h6) fun v8 => jb (gX14_valueAt (x1 + 1) 0 (h6 x1 2) a1 1 h6) fun v10 => jb2 (gX14_step (x1 + 3) (h6 x1 4) v8 v10 0 h6) fun v12 h13 => jb (gX14_play_l77 x1 v12 h13) fun o14 => jm o14 (fun o16 => jl (jst o16 454 107 0) fun h18 => some h18) (fun o17 => jm o17 (fun o19 => some o19) (fun o20 => jm o20 (fun o21 => jb2 (gX14_answer (o21 x1 8) (o21 454 93) (o21 454 94) (o21 454 95) 0 o21) fun v24 h25 => jl (jst h25 454 108 v24) fun h26 => if h26 454 108 = (-1) then (gX14_play_j211 2 h26) else (gX14_play_j211 1 h26)) (fun o22 => some o22)))
theorem eX14_play (a1 : Int) {h : AH} (hS : Sh S h) : EQ (fX14_play 454 a1 h) (gX14_play a1 h) (fun r => Sh S r) := by
  unfold fX14_play gX14_play
  refine EQ_jgd (show h 454 (-2) = 15 from by rw [k_454 hS]) ?_
  refine EQ_jl rfl (fun x1 ex1 => ?_)
  clear ex1
  refine EQ_jgd (show h 454 (-2) = 15 from by rw [k_454 hS]) ?_
  refine EQ_jgd ⟨(show h 454 (-2) = 15 from by rw [k_454 hS]), (show (200 : Int) ≤ 454 from (by decide))⟩ ?_
  refine EQ_jl rfl (fun h2 eh2 => ?_)
  have s1 := Sh_of eh2 (Sh_sto hS (a := 454) (i := 97) (by decide +kernel))
  clear eh2
  refine EQ_jgd ⟨(show h2 454 (-2) = 15 from by rw [k_454 s1]), (show (200 : Int) ≤ 454 from (by decide))⟩ ?_
  refine EQ_jl rfl (fun h3 eh3 => ?_)
  have s2 := Sh_of eh3 (Sh_sto s1 (a := 454) (i := 105) (by decide +kernel))
  clear eh3
  refine EQ_jgd ⟨(show h3 454 (-2) = 15 from by rw [k_454 s2]), (show (200 : Int) ≤ 454 from (by decide))⟩ ?_
  refine EQ_jl rfl (fun h4 eh4 => ?_)
  have s3 := Sh_of eh4 (Sh_sto s2 (a := 454) (i := 101) (by decide +kernel))
  clear eh4
  refine EQ_jgd ⟨(show h4 454 (-2) = 15 from by rw [k_454 s3]), (show (200 : Int) ≤ 454 from (by decide))⟩ ?_
  refine EQ_jl rfl (fun h5 eh5 => ?_)
  have s4 := Sh_of eh5 (Sh_sto s3 (a := 454) (i := 108) (by decide +kernel))
  clear eh5
  refine EQ_jgd ⟨(show h5 454 (-2) = 15 from by rw [k_454 s4]), (show (200 : Int) ≤ 454 from (by decide))⟩ ?_
  refine EQ_jl rfl (fun h6 eh6 => ?_)
  have s5 := Sh_of eh6 (Sh_sto s4 (a := 454) (i := 107) (by decide +kernel))
  clear eh6
  refine EQ_jg ⟨fun x0 => (ik_X17 s5).mp x0, fun x0 => (ik_X17 s5).mpr x0⟩ (fun g6 => ?_)
  refine EQ_jgd (show h6 x1 (-2) = 18 from by rw [kd_X17 s5 g6]) ?_
  refine EQ_jgd (show h6 x1 (-2) = 18 from by rw [kd_X17 s5 g6]) ?_
  refine EQ_jgd (show h6 x1 (-2) = 18 from by rw [kd_X17 s5 g6]) ?_
  refine EQ_jb (by rw [ft_X17_1 s5 g6]; exact eX14_valueAt (x1 + 1) 0 (h6 x1 2) a1 0 s5) (fun v8 r7 => ?_)
  refine EQ_jgd (show h6 x1 (-2) = 18 from by rw [kd_X17 s5 g6]) ?_
  refine EQ_jgd (show h6 x1 (-2) = 18 from by rw [kd_X17 s5 g6]) ?_
  refine EQ_jb (by rw [ft_X17_1 s5 g6]; exact eX14_valueAt (x1 + 1) 0 (h6 x1 2) a1 1 s5) (fun v10 r8 => ?_)
  refine EQ_jgd (show h6 454 (-2) = 15 from by rw [k_454 s5]) ?_
  refine EQ_jb2 (by rw [ft_X17_5 s5 g6]; exact eX14_step (x1 + 3) (h6 x1 4) v8 v10 0 s5) (fun v12 h13 r9 => ?_)
  replace r9 : Sh S h13 := r9
  refine EQ_jb (eX14_play_l77 x1 v12 g6 r9) (fun o14 r10 => ?_)
  refine EQ_jm r10 (fun o16 r11 => ?_) (fun o17 r12 => ?_)
  · refine EQ_jgd ⟨(show o16 454 (-2) = 15 from by rw [k_454 r11]), (show (200 : Int) ≤ 454 from (by decide))⟩ ?_
    refine EQ_jl rfl (fun h18 eh18 => ?_)
    have s13 := Sh_of eh18 (Sh_sto r11 (a := 454) (i := 107) (by decide +kernel))
    clear eh18
    exact EQ_some s13
  · refine EQ_jm r12 (fun o19 r14 => ?_) (fun o20 r15 => ?_)
    · exact EQ_some r14
    · refine EQ_jm r15 (fun o21 r16 => ?_) (fun o22 r17 => ?_)
      · refine EQ_jgd (show o21 x1 (-2) = 18 from by rw [kd_X17 r16 g6]) ?_
        refine EQ_jgd (show o21 454 (-2) = 15 from by rw [k_454 r16]) ?_
        refine EQ_jgd (show o21 454 (-2) = 15 from by rw [k_454 r16]) ?_
        refine EQ_jgd (show o21 454 (-2) = 15 from by rw [k_454 r16]) ?_
        refine EQ_jgd (show o21 454 (-2) = 15 from by rw [k_454 r16]) ?_
        refine EQ_jb2 (eX14_answer (o21 x1 8) (o21 454 93) (o21 454 94) (o21 454 95) 0 r16) (fun v24 h25 r18 => ?_)
        replace r18 : Sh S h25 := r18
        refine EQ_jgd ⟨(show h25 454 (-2) = 15 from by rw [k_454 r18]), (show (200 : Int) ≤ 454 from (by decide))⟩ ?_
        refine EQ_jl rfl (fun h26 eh26 => ?_)
        have s19 := Sh_of eh26 (Sh_sto r18 (a := 454) (i := 108) (by decide +kernel))
        clear eh26
        refine EQ_jgd (show h26 454 (-2) = 15 from by rw [k_454 s19]) ?_
        refine EQ_if Iff.rfl (fun c20 => ?_) (fun c20 => ?_)
        · exact (eX14_play_j211 2 s19)
        · exact (eX14_play_j211 1 s19)
      · exact EQ_some r17
noncomputable def gX14_loop_b65 (s : Int × AH) : Option ((Int × AH) ⊕ (AH)) := jt2 s fun a2 h => jb (gX14_inputs h) fun v22 => if v22 ≤ a2 then (some (.inr h)) else (jb (gX14_play a2 h) fun h25 => jl (w32 (a2 + 1)) fun x26 => some (.inl (x26, h25)))
theorem eX14_loop_b65 {s : Int × AH} (hS : (fun r => Sh S r.2) s) : EQ (fX14_loop_b65 454 s) (gX14_loop_b65 s) (Sum.elim (fun r => Sh S r.2) (fun r => Sh S r)) := by
  unfold fX14_loop_b65 gX14_loop_b65
  obtain ⟨a2, h⟩ := s
  refine EQ_jt2 ?_
  replace hS : Sh S h := hS
  refine EQ_jgd (show h 454 (-2) = 15 from by rw [k_454 hS]) ?_
  refine EQ_jb (eX14_inputs hS) (fun v22 r1 => ?_)
  refine EQ_if Iff.rfl (fun c2 => ?_) (fun c2 => ?_)
  · exact EQ_some hS
  · refine EQ_jgd (show h 454 (-2) = 15 from by rw [k_454 hS]) ?_
    refine EQ_jb (eX14_play a2 hS) (fun h25 r3 => ?_)
    refine EQ_jl rfl (fun x26 ex26 => ?_)
    clear ex26
    exact EQ_some r3
noncomputable def gX14_loop_l65 (a2 : Int) (h : AH) : Option (AH) := jit gX14_loop_b65 (a2, h)
theorem eX14_loop_l65 (a2 : Int) {h : AH} (hS : Sh S h) : EQ (fX14_loop_l65 454 a2 h) (gX14_loop_l65 a2 h) (fun r => Sh S r) := EQ_jit (I := (fun r => Sh S r.2)) (fun s hs => eX14_loop_b65 hs) hS
noncomputable def gX14_loop_j36 (t0 : Int) (h : AH) : Option (Int × AH) := jb2 (gX14_readLoop t0 h) fun t9 h11 => jq t9 (jg (0 < t9) <| jb2 (gX14_faulty t9 h11) fun v14 h15 => some (v14, h15)) <| jl (jst h11 454 92 t0) fun h16 => jb (gX14_playAll 0 (-1) h16) fun h18 => jb (gX14_loop_l65 0 h18) fun o19 => some (o19 454 106, o19)
theorem eX14_loop_j36 (t0 : Int) (hT_t0 : isX17 t0) {h : AH} (hS : Sh S h) : EQ (fX14_loop_j36 454 t0 h) (gX14_loop_j36 t0 h) (fun r => Sh S r.2) := by
  unfold fX14_loop_j36 gX14_loop_j36
  refine EQ_jgd (show h 454 (-2) = 15 from by rw [k_454 hS]) ?_
  refine EQ_jb2 (eX14_readLoop t0 hT_t0 hS) (fun t9 h11 r1 => ?_)
  replace r1 : Sh S h11 := r1
  refine EQ_jq (fun _ => ?_) (fun _ => ?_)
  · refine EQ_jg Iff.rfl (fun g2 => ?_)
    refine EQ_jgd (show h11 454 (-2) = 15 from by rw [k_454 r1]) ?_
    refine EQ_jb2 (eX14_faulty t9 r1) (fun v14 h15 r3 => ?_)
    replace r3 : Sh S h15 := r3
    exact EQ_some r3
  · refine EQ_jgd ⟨(show h11 454 (-2) = 15 from by rw [k_454 r1]), (show (200 : Int) ≤ 454 from (by decide))⟩ ?_
    refine EQ_jl rfl (fun h16 eh16 => ?_)
    have s4 := Sh_of eh16 (Sh_sto r1 (a := 454) (i := 92) (by decide +kernel))
    clear eh16
    refine EQ_jgd (show h16 454 (-2) = 15 from by rw [k_454 s4]) ?_
    refine EQ_jb (eX14_playAll 0 (-1) s4) (fun h18 r5 => ?_)
    refine EQ_jb (eX14_loop_l65 0 r5) (fun o19 r6 => ?_)
    refine EQ_jgd (show o19 454 (-2) = 15 from by rw [k_454 r6]) ?_
    exact EQ_some r6
noncomputable def gX14_loop (h : AH) : Option (Int × AH) := jb2 (gX14_isDown h) fun v2 h3 => if v2 = 0 then (jb (gX14_takeTape h3) fun h6 => jg ((h6 454 92 = 0 ∨ 200 ≤ h6 454 92) ∧ ((805 : Int) = 0 ∨ (200 : Int) ≤ 805)) <| if h6 454 92 = 805 then (gX14_loop_j36 810 h6) else (gX14_loop_j36 805 h6)) else (some ((-5), h3))
theorem eX14_loop {h : AH} (hS : Sh S h) : EQ (fX14_loop 454 h) (gX14_loop h) (fun r => Sh S r.2) := by
  unfold fX14_loop gX14_loop
  refine EQ_jgd (show h 454 (-2) = 15 from by rw [k_454 hS]) ?_
  refine EQ_jb2 (eX14_isDown hS) (fun v2 h3 r1 => ?_)
  replace r1 : Sh S h3 := r1
  refine EQ_if Iff.rfl (fun c2 => ?_) (fun c2 => ?_)
  · refine EQ_jgd (show h3 454 (-2) = 15 from by rw [k_454 r1]) ?_
    refine EQ_jb (eX14_takeTape r1) (fun h6 r3 => ?_)
    refine EQ_jgd (show h6 454 (-2) = 15 from by rw [k_454 r3]) ?_
    refine EQ_jgd (show h6 454 (-2) = 15 from by rw [k_454 r3]) ?_
    refine EQ_jg ⟨fun ⟨x0, x1⟩ => ⟨x0, (show h6 454 90 = 0 ∨ 200 ≤ h6 454 90 ↔ (805 : Int) = 0 ∨ (200 : Int) ≤ 805 from by rw [r_454_90 r3]).mp x1⟩, fun ⟨x0, x1⟩ => ⟨x0, (show h6 454 90 = 0 ∨ 200 ≤ h6 454 90 ↔ (805 : Int) = 0 ∨ (200 : Int) ≤ 805 from by rw [r_454_90 r3]).mpr x1⟩⟩ (fun g4 => ?_)
    refine EQ_if (show h6 454 92 = h6 454 90 ↔ h6 454 92 = 805 from by rw [r_454_90 r3]) (fun c5 => ?_) (fun c5 => ?_)
    · refine EQ_jgd (show h6 454 (-2) = 15 from by rw [k_454 r3]) ?_
      exact (by rw [r_454_91 r3]; exact eX14_loop_j36 810 (by unfold isX17; decide) r3)
    · refine EQ_jgd (show h6 454 (-2) = 15 from by rw [k_454 r3]) ?_
      exact (by rw [r_454_90 r3]; exact eX14_loop_j36 805 (by unfold isX17; decide) r3)
  · exact EQ_some r1
noncomputable def gX14_runs (a1 : Int) (a2 : Int) (h : AH) : Option (Int × AH) := jb2 (gX14_isDown h) fun v2 h3 => if v2 = 0 then (if h3 454 92 = 0 then (some ((-2), h3)) else (jb (gX14_inputs h3) fun v7 => jb (gX14_in a1 0 (w32 (v7 - 1))) fun v9 => if v9 = 0 then (some ((-1), h3)) else (jb (gX14_in a2 0 2) fun v12 => if v12 = 0 then (some ((-1), h3)) else (jb (gX14_playAll 0 (-1) h3) fun h15 => jb (gX14_play a1 h15) fun h17 => if a2 = 0 then (some (h17 454 107, h17)) else (if a2 = 1 then (some (h17 454 105, h17)) else (if h17 454 107 = 1 then (some (h17 454 108, h17)) else (some ((-1), h17)))))))) else (some ((-5), h3))
theorem eX14_runs (a1 : Int) (a2 : Int) {h : AH} (hS : Sh S h) : EQ (fX14_runs 454 a1 a2 h) (gX14_runs a1 a2 h) (fun r => Sh S r.2) := by
  unfold fX14_runs gX14_runs
  refine EQ_jgd (show h 454 (-2) = 15 from by rw [k_454 hS]) ?_
  refine EQ_jb2 (eX14_isDown hS) (fun v2 h3 r1 => ?_)
  replace r1 : Sh S h3 := r1
  refine EQ_if Iff.rfl (fun c2 => ?_) (fun c2 => ?_)
  · refine EQ_jgd (show h3 454 (-2) = 15 from by rw [k_454 r1]) ?_
    refine EQ_if Iff.rfl (fun c3 => ?_) (fun c3 => ?_)
    · exact EQ_some r1
    · refine EQ_jgd (show h3 454 (-2) = 15 from by rw [k_454 r1]) ?_
      refine EQ_jb (eX14_inputs r1) (fun v7 r4 => ?_)
      refine EQ_jb (eX14_in a1 0 (w32 (v7 - 1))) (fun v9 r5 => ?_)
      refine EQ_if Iff.rfl (fun c6 => ?_) (fun c6 => ?_)
      · exact EQ_some r1
      · refine EQ_jb (eX14_in a2 0 2) (fun v12 r7 => ?_)
        refine EQ_if Iff.rfl (fun c8 => ?_) (fun c8 => ?_)
        · exact EQ_some r1
        · refine EQ_jgd (show h3 454 (-2) = 15 from by rw [k_454 r1]) ?_
          refine EQ_jb (eX14_playAll 0 (-1) r1) (fun h15 r9 => ?_)
          refine EQ_jgd (show h15 454 (-2) = 15 from by rw [k_454 r9]) ?_
          refine EQ_jb (eX14_play a1 r9) (fun h17 r10 => ?_)
          refine EQ_if Iff.rfl (fun c11 => ?_) (fun c11 => ?_)
          · refine EQ_jgd (show h17 454 (-2) = 15 from by rw [k_454 r10]) ?_
            exact EQ_some r10
          · refine EQ_if Iff.rfl (fun c12 => ?_) (fun c12 => ?_)
            · refine EQ_jgd (show h17 454 (-2) = 15 from by rw [k_454 r10]) ?_
              exact EQ_some r10
            · refine EQ_jgd (show h17 454 (-2) = 15 from by rw [k_454 r10]) ?_
              refine EQ_if Iff.rfl (fun c13 => ?_) (fun c13 => ?_)
              · refine EQ_jgd (show h17 454 (-2) = 15 from by rw [k_454 r10]) ?_
                exact EQ_some r10
              · exact EQ_some r10
  · exact EQ_some r1
noncomputable def gX14_span_b59 (i2 : Int) (s : Int × AH) : Option ((Int × AH) ⊕ (AH)) := jt2 s fun a3 h => jb (gX14_inputs h) fun v19 => if v19 ≤ a3 then (some (.inr h)) else (jb (gX14_play a3 h) fun h22 => jl (w32 (a3 + 1)) fun x23 => some (.inl (x23, h22)))
theorem eX14_span_b59 (i2 : Int) {s : Int × AH} (hS : (fun r => Sh S r.2) s) : EQ (fX14_span_b59 454 i2 s) (gX14_span_b59 i2 s) (Sum.elim (fun r => Sh S r.2) (fun r => Sh S r)) := by
  unfold fX14_span_b59 gX14_span_b59
  obtain ⟨a3, h⟩ := s
  refine EQ_jt2 ?_
  replace hS : Sh S h := hS
  refine EQ_jgd (show h 454 (-2) = 15 from by rw [k_454 hS]) ?_
  refine EQ_jb (eX14_inputs hS) (fun v19 r1 => ?_)
  refine EQ_if Iff.rfl (fun c2 => ?_) (fun c2 => ?_)
  · exact EQ_some hS
  · refine EQ_jgd (show h 454 (-2) = 15 from by rw [k_454 hS]) ?_
    refine EQ_jb (eX14_play a3 hS) (fun h22 r3 => ?_)
    refine EQ_jl rfl (fun x23 ex23 => ?_)
    clear ex23
    exact EQ_some r3
noncomputable def gX14_span_l59 (i2 : Int) (a3 : Int) (h : AH) : Option (AH) := jit (gX14_span_b59 i2) (a3, h)
theorem eX14_span_l59 (i2 : Int) (a3 : Int) {h : AH} (hS : Sh S h) : EQ (fX14_span_l59 454 i2 a3 h) (gX14_span_l59 i2 a3 h) (fun r => Sh S r) := EQ_jit (I := (fun r => Sh S r.2)) (fun s hs => eX14_span_b59 i2 hs) hS
noncomputable def gX14_span (a1 : Int) (a2 : Int) (h : AH) : Option (Int × AH) := jb2 (gX14_isDown h) fun v2 h3 => if v2 = 0 then (if h3 454 92 = 0 then (some ((-2), h3)) else (jg (isX17 (h3 454 92)) <| jb (gX14_in a1 0 (w32 (h3 (h3 454 92) 4 - 1))) fun v7 => if v7 = 0 then (some ((-1), h3)) else (jb (gX14_in a2 0 1) fun v10 => if v10 = 0 then (some ((-1), h3)) else (jb (gX14_playAll a1 (-1) h3) fun h13 => jb (gX14_span_l59 a2 0 h13) fun o14 => if 0 ≤ o14 454 104 then (if a2 = 0 then (some (o14 454 103, o14)) else (some (o14 454 104, o14))) else (some ((-1), o14)))))) else (some ((-5), h3))
theorem eX14_span (a1 : Int) (a2 : Int) {h : AH} (hS : Sh S h) : EQ (fX14_span 454 a1 a2 h) (gX14_span a1 a2 h) (fun r => Sh S r.2) := by
  unfold fX14_span gX14_span
  refine EQ_jgd (show h 454 (-2) = 15 from by rw [k_454 hS]) ?_
  refine EQ_jb2 (eX14_isDown hS) (fun v2 h3 r1 => ?_)
  replace r1 : Sh S h3 := r1
  refine EQ_if Iff.rfl (fun c2 => ?_) (fun c2 => ?_)
  · refine EQ_jgd (show h3 454 (-2) = 15 from by rw [k_454 r1]) ?_
    refine EQ_if Iff.rfl (fun c3 => ?_) (fun c3 => ?_)
    · exact EQ_some r1
    · refine EQ_jgd (show h3 454 (-2) = 15 from by rw [k_454 r1]) ?_
      refine EQ_jg ⟨fun x0 => (ik_X17 r1).mp x0, fun x0 => (ik_X17 r1).mpr x0⟩ (fun g4 => ?_)
      refine EQ_jb (eX14_in a1 0 (w32 (h3 (h3 454 92) 4 - 1))) (fun v7 r5 => ?_)
      refine EQ_if Iff.rfl (fun c6 => ?_) (fun c6 => ?_)
      · exact EQ_some r1
      · refine EQ_jb (eX14_in a2 0 1) (fun v10 r7 => ?_)
        refine EQ_if Iff.rfl (fun c8 => ?_) (fun c8 => ?_)
        · exact EQ_some r1
        · refine EQ_jgd (show h3 454 (-2) = 15 from by rw [k_454 r1]) ?_
          refine EQ_jb (eX14_playAll a1 (-1) r1) (fun h13 r9 => ?_)
          refine EQ_jb (eX14_span_l59 a2 0 r9) (fun o14 r10 => ?_)
          refine EQ_jgd (show o14 454 (-2) = 15 from by rw [k_454 r10]) ?_
          refine EQ_if Iff.rfl (fun c11 => ?_) (fun c11 => ?_)
          · refine EQ_if Iff.rfl (fun c12 => ?_) (fun c12 => ?_)
            · refine EQ_jgd (show o14 454 (-2) = 15 from by rw [k_454 r10]) ?_
              exact EQ_some r10
            · refine EQ_jgd (show o14 454 (-2) = 15 from by rw [k_454 r10]) ?_
              exact EQ_some r10
          · exact EQ_some r10
  · exact EQ_some r1
noncomputable def gX14_keeps_b128 (s : Int × AH) : Option ((Int × AH) ⊕ ((Int × AH) ⊕ (AH))) := jt2 s fun a2 h => jb (gX14_inputs h) fun v53 => if v53 ≤ a2 then (some (.inr (.inr h))) else (jb (gX14_play a2 h) fun h56 => if h56 454 101 < 0 then (jl (w32 (a2 + 1)) fun x58 => some (.inl (x58, h56))) else (some (.inr (.inl (a2, h56)))))
theorem eX14_keeps_b128 {s : Int × AH} (hS : (fun r => Sh S r.2) s) : EQ (fX14_keeps_b128 454 s) (gX14_keeps_b128 s) (Sum.elim (fun r => Sh S r.2) (Sum.elim (fun r => Sh S r.2) (fun r => Sh S r))) := by
  unfold fX14_keeps_b128 gX14_keeps_b128
  obtain ⟨a2, h⟩ := s
  refine EQ_jt2 ?_
  replace hS : Sh S h := hS
  refine EQ_jgd (show h 454 (-2) = 15 from by rw [k_454 hS]) ?_
  refine EQ_jb (eX14_inputs hS) (fun v53 r1 => ?_)
  refine EQ_if Iff.rfl (fun c2 => ?_) (fun c2 => ?_)
  · exact EQ_some hS
  · refine EQ_jgd (show h 454 (-2) = 15 from by rw [k_454 hS]) ?_
    refine EQ_jb (eX14_play a2 hS) (fun h56 r3 => ?_)
    refine EQ_jgd (show h56 454 (-2) = 15 from by rw [k_454 r3]) ?_
    refine EQ_if Iff.rfl (fun c4 => ?_) (fun c4 => ?_)
    · refine EQ_jl rfl (fun x58 ex58 => ?_)
      clear ex58
      exact EQ_some r3
    · exact EQ_some r3
noncomputable def gX14_keeps_l128 (a2 : Int) (h : AH) : Option ((Int × AH) ⊕ (AH)) := jit gX14_keeps_b128 (a2, h)
theorem eX14_keeps_l128 (a2 : Int) {h : AH} (hS : Sh S h) : EQ (fX14_keeps_l128 454 a2 h) (gX14_keeps_l128 a2 h) (Sum.elim (fun r => Sh S r.2) (fun r => Sh S r)) := EQ_jit (I := (fun r => Sh S r.2)) (fun s hs => eX14_keeps_b128 hs) hS
noncomputable def gX14_keeps_j96 (a1 : Int) (h : AH) : Option (Int × AH) := jb2 (gX14_finish h) fun t36 h38 => jq t36 (jg (0 < t36) <| jb2 (gX14_faulty t36 h38) fun v41 h42 => some (v41, h42)) <| if h38 454 92 = 0 then (some ((-2), h38)) else (jb (gX14_playAll 0 a1 h38) fun h45 => jb (gX14_keeps_l128 0 h45) fun o46 => jm o46 (fun o48 => jt2 o48 fun y50 h51 => some (w32 (w32 (10000 * y50) + h51 454 101), h51)) (fun o49 => some ((-1), o49)))
theorem eX14_keeps_j96 (a1 : Int) {h : AH} (hS : Sh S h) : EQ (fX14_keeps_j96 454 a1 h) (gX14_keeps_j96 a1 h) (fun r => Sh S r.2) := by
  unfold fX14_keeps_j96 gX14_keeps_j96
  refine EQ_jgd (show h 454 (-2) = 15 from by rw [k_454 hS]) ?_
  refine EQ_jb2 (eX14_finish hS) (fun t36 h38 r1 => ?_)
  replace r1 : Sh S h38 := r1
  refine EQ_jq (fun _ => ?_) (fun _ => ?_)
  · refine EQ_jg Iff.rfl (fun g2 => ?_)
    refine EQ_jgd (show h38 454 (-2) = 15 from by rw [k_454 r1]) ?_
    refine EQ_jb2 (eX14_faulty t36 r1) (fun v41 h42 r3 => ?_)
    replace r3 : Sh S h42 := r3
    exact EQ_some r3
  · refine EQ_jgd (show h38 454 (-2) = 15 from by rw [k_454 r1]) ?_
    refine EQ_if Iff.rfl (fun c4 => ?_) (fun c4 => ?_)
    · exact EQ_some r1
    · refine EQ_jgd (show h38 454 (-2) = 15 from by rw [k_454 r1]) ?_
      refine EQ_jb (eX14_playAll 0 a1 r1) (fun h45 r5 => ?_)
      refine EQ_jb (eX14_keeps_l128 0 r5) (fun o46 r6 => ?_)
      refine EQ_jm r6 (fun o48 r7 => ?_) (fun o49 r8 => ?_)
      · obtain ⟨y50, h51⟩ := o48
        refine EQ_jt2 ?_
        replace r7 : Sh S h51 := r7
        refine EQ_jgd (show h51 454 (-2) = 15 from by rw [k_454 r7]) ?_
        exact EQ_some r7
      · exact EQ_some r8
noncomputable def gX14_keeps_j66 (a1 : Int) (h : AH) : Option (Int × AH) := jb2 (gX14_weighed a1 0 h) fun v29 h30 => if v29 = 116 then (gX14_keeps_j96 a1 h30) else (if v29 = 32 then (gX14_keeps_j96 a1 h30) else (jg (jI a1 8800) <| jb (gX14_note 3 (h30 468 a1) h30) fun h34 => gX14_keeps_j96 a1 h34))
theorem eX14_keeps_j66 (a1 : Int) {h : AH} (hS : Sh S h) : EQ (fX14_keeps_j66 454 a1 h) (gX14_keeps_j66 a1 h) (fun r => Sh S r.2) := by
  unfold fX14_keeps_j66 gX14_keeps_j66
  refine EQ_jgd (show h 454 (-2) = 15 from by rw [k_454 hS]) ?_
  refine EQ_jb2 (eX14_weighed a1 0 hS) (fun v29 h30 r1 => ?_)
  replace r1 : Sh S h30 := r1
  refine EQ_if Iff.rfl (fun c2 => ?_) (fun c2 => ?_)
  · exact (eX14_keeps_j96 a1 r1)
  · refine EQ_if Iff.rfl (fun c3 => ?_) (fun c3 => ?_)
    · exact (eX14_keeps_j96 a1 r1)
    · refine EQ_jgd (show h30 454 (-2) = 15 from by rw [k_454 r1]) ?_
      refine EQ_jg ⟨fun ⟨_, x0⟩ => (show jI a1 (h30 (h30 454 14) (-1)) ↔ jI a1 8800 from by rw [r_454_14 r1, l_468 r1]).mp x0, fun x0 => ⟨(show h30 (h30 454 14) (-2) = 101 from by rw [r_454_14 r1, k_468 r1]), (show jI a1 (h30 (h30 454 14) (-1)) ↔ jI a1 8800 from by rw [r_454_14 r1, l_468 r1]).mpr x0⟩⟩ (fun g4 => ?_)
      refine EQ_jgd (show h30 454 (-2) = 15 from by rw [k_454 r1]) ?_
      refine EQ_jb (by rw [r_454_14 r1]; exact eX14_note 3 (h30 468 a1) r1) (fun h34 r5 => ?_)
      exact (eX14_keeps_j96 a1 r5)
noncomputable def gX14_keeps (h : AH) : Option (Int × AH) := jb2 (gX14_isDown h) fun v2 h3 => if v2 = 0 then (jb (gX14_takeTape h3) fun h6 => jb2 (gX14_begin h6) fun t8 h10 => jq t8 (jg (0 < t8) <| jb2 (gX14_faulty t8 h10) fun v13 h14 => some (v13, h14)) <| jl (jst h10 454 17 4400) fun h15 => jb3 (gX14_takeTerm 0 0 h15) fun t17 v18 h19 => jq t17 (jg (0 < t17) <| jb2 (gX14_faulty t17 h19) fun v22 h23 => some (v22, h23)) <| if h19 454 92 = 0 then (jl (jst h19 454 34 0) fun h25 => gX14_keeps_j66 v18 h25) else (jg (isX17 (h19 454 92)) <| jb (gX14_parameters (h19 454 92 + 2) 0 (h19 (h19 454 92) 4) h19) fun h27 => gX14_keeps_j66 v18 h27)) else (some ((-5), h3))
theorem eX14_keeps {h : AH} (hS : Sh S h) : EQ (fX14_keeps 454 h) (gX14_keeps h) (fun r => Sh S r.2) := by
  unfold fX14_keeps gX14_keeps
  refine EQ_jgd (show h 454 (-2) = 15 from by rw [k_454 hS]) ?_
  refine EQ_jb2 (eX14_isDown hS) (fun v2 h3 r1 => ?_)
  replace r1 : Sh S h3 := r1
  refine EQ_if Iff.rfl (fun c2 => ?_) (fun c2 => ?_)
  · refine EQ_jgd (show h3 454 (-2) = 15 from by rw [k_454 r1]) ?_
    refine EQ_jb (eX14_takeTape r1) (fun h6 r3 => ?_)
    refine EQ_jgd (show h6 454 (-2) = 15 from by rw [k_454 r3]) ?_
    refine EQ_jb2 (eX14_begin r3) (fun t8 h10 r4 => ?_)
    replace r4 : Sh S h10 := r4
    refine EQ_jq (fun _ => ?_) (fun _ => ?_)
    · refine EQ_jg Iff.rfl (fun g5 => ?_)
      refine EQ_jgd (show h10 454 (-2) = 15 from by rw [k_454 r4]) ?_
      refine EQ_jb2 (eX14_faulty t8 r4) (fun v13 h14 r6 => ?_)
      replace r6 : Sh S h14 := r6
      exact EQ_some r6
    · refine EQ_jgd ⟨(show h10 454 (-2) = 15 from by rw [k_454 r4]), (show (200 : Int) ≤ 454 from (by decide))⟩ ?_
      refine EQ_jl rfl (fun h15 eh15 => ?_)
      have s7 := Sh_of eh15 (Sh_sto r4 (a := 454) (i := 17) (by decide +kernel))
      clear eh15
      refine EQ_jgd (show h15 454 (-2) = 15 from by rw [k_454 s7]) ?_
      refine EQ_jb3 (eX14_takeTerm 0 0 s7) (fun t17 v18 h19 r8 => ?_)
      replace r8 : Sh S h19 := r8
      refine EQ_jq (fun _ => ?_) (fun _ => ?_)
      · refine EQ_jg Iff.rfl (fun g9 => ?_)
        refine EQ_jgd (show h19 454 (-2) = 15 from by rw [k_454 r8]) ?_
        refine EQ_jb2 (eX14_faulty t17 r8) (fun v22 h23 r10 => ?_)
        replace r10 : Sh S h23 := r10
        exact EQ_some r10
      · refine EQ_jgd (show h19 454 (-2) = 15 from by rw [k_454 r8]) ?_
        refine EQ_if Iff.rfl (fun c11 => ?_) (fun c11 => ?_)
        · refine EQ_jgd ⟨(show h19 454 (-2) = 15 from by rw [k_454 r8]), (show (200 : Int) ≤ 454 from (by decide))⟩ ?_
          refine EQ_jl rfl (fun h25 eh25 => ?_)
          have s12 := Sh_of eh25 (Sh_sto r8 (a := 454) (i := 34) (by decide +kernel))
          clear eh25
          exact (eX14_keeps_j66 v18 s12)
        · refine EQ_jgd (show h19 454 (-2) = 15 from by rw [k_454 r8]) ?_
          refine EQ_jg ⟨fun x0 => (ik_X17 r8).mp x0, fun x0 => (ik_X17 r8).mpr x0⟩ (fun g13 => ?_)
          refine EQ_jgd (show h19 454 (-2) = 15 from by rw [k_454 r8]) ?_
          refine EQ_jgd (show h19 (h19 454 92) (-2) = 18 from by rw [kd_X17 r8 g13]) ?_
          refine EQ_jgd (show h19 454 (-2) = 15 from by rw [k_454 r8]) ?_
          refine EQ_jb (by rw [ft_X17_3 r8 g13]; exact eX14_parameters (h19 454 92 + 2) 0 (h19 (h19 454 92) 4) r8) (fun h27 r14 => ?_)
          exact (eX14_keeps_j66 v18 r14)
  · exact EQ_some r1
noncomputable def gX14_isWordText_j33_5 (a2 : Int) (a4 : Int) (t0 : Int) (h : AH) : Option ((Int × Int) ⊕ (Int)) := jl (w32 (a4 + 1)) fun x8 => some (.inl (t0, x8))
theorem eX14_isWordText_j33_5 (a2 : Int) (a4 : Int) (t0 : Int) {h : AH} (hS : Sh S h) : EQ (fX14_isWordText_j33_5 454 a2 a4 t0 h) (gX14_isWordText_j33_5 a2 a4 t0 h) (Sum.elim (fun _ => True) (fun _ => True)) := by
  unfold fX14_isWordText_j33_5 gX14_isWordText_j33_5
  refine EQ_jl rfl (fun x8 ex8 => ?_)
  clear ex8
  exact EQ_some trivial
noncomputable def gX14_isWordText_b5 (i2 : Int) (h : AH) (s : Int × Int) : Option ((Int × Int) ⊕ (Int)) := jt2 s fun a3 a4 => if i2 ≤ a4 then (some (.inr a3)) else (if a3 = 0 then (gX14_isWordText_j33_5 i2 a4 0 h) else (jg (jI a4 2000) <| jb (gX14_isLetter (h 473 a4)) fun v6 => if v6 = 0 then (gX14_isWordText_j33_5 i2 a4 0 h) else (gX14_isWordText_j33_5 i2 a4 1 h)))
theorem eX14_isWordText_b5 (i2 : Int) (s : Int × Int) {h : AH} (hS : Sh S h) : EQ (fX14_isWordText_b5 454 i2 h s) (gX14_isWordText_b5 i2 h s) (Sum.elim (fun _ => True) (fun _ => True)) := by
  unfold fX14_isWordText_b5 gX14_isWordText_b5
  obtain ⟨a3, a4⟩ := s
  refine EQ_jt2 ?_
  refine EQ_if Iff.rfl (fun c1 => ?_) (fun c1 => ?_)
  · exact EQ_some trivial
  · refine EQ_if Iff.rfl (fun c2 => ?_) (fun c2 => ?_)
    · exact (eX14_isWordText_j33_5 i2 a4 0 hS)
    · refine EQ_jgd (show h 454 (-2) = 15 from by rw [k_454 hS]) ?_
      refine EQ_jg ⟨fun ⟨_, x0⟩ => (show jI a4 (h (h 454 24) (-1)) ↔ jI a4 2000 from by rw [r_454_24 hS, l_473 hS]).mp x0, fun x0 => ⟨(show h (h 454 24) (-2) = 101 from by rw [r_454_24 hS, k_473 hS]), (show jI a4 (h (h 454 24) (-1)) ↔ jI a4 2000 from by rw [r_454_24 hS, l_473 hS]).mpr x0⟩⟩ (fun g3 => ?_)
      refine EQ_jb (by rw [r_454_24 hS]; exact eX14_isLetter (h 473 a4)) (fun v6 r4 => ?_)
      refine EQ_if Iff.rfl (fun c5 => ?_) (fun c5 => ?_)
      · exact (eX14_isWordText_j33_5 i2 a4 0 hS)
      · exact (eX14_isWordText_j33_5 i2 a4 1 hS)
noncomputable def gX14_isWordText_l5 (i2 : Int) (a3 : Int) (a4 : Int) (h : AH) : Option (Int) := jit (gX14_isWordText_b5 i2 h) (a3, a4)
theorem eX14_isWordText_l5 (i2 : Int) (a3 : Int) (a4 : Int) {h : AH} (hS : Sh S h) : EQ (fX14_isWordText_l5 454 i2 a3 a4 h) (gX14_isWordText_l5 i2 a3 a4 h) (fun _ => True) := EQ_jit (I := (fun _ => True)) (fun s _ => eX14_isWordText_b5 i2 s hS) trivial
noncomputable def gX14_isWordText (a1 : Int) (a2 : Int) (h : AH) : Option (Int) := jb (gX14_isWordText_l5 a2 1 a1 h) fun o1 => jg (jZ o1) <| some o1
theorem eX14_isWordText (a1 : Int) (a2 : Int) {h : AH} (hS : Sh S h) : EQ (fX14_isWordText 454 a1 a2 h) (gX14_isWordText a1 a2 h) (fun _ => True) := by
  unfold fX14_isWordText gX14_isWordText
  refine EQ_jb (eX14_isWordText_l5 a2 1 a1 hS) (fun o1 r1 => ?_)
  refine EQ_jg Iff.rfl (fun g2 => ?_)
  exact EQ_some trivial
noncomputable def gX14_example_2_j234_168 (a1 : Int) (a2 : Int) (a4 : Int) (a5 : Int) (h : AH) : Option ((Int × AH) ⊕ (AH)) := jl (w32 (a5 + 1)) fun x33 => some (.inl (x33, h))
theorem eX14_example_2_j234_168 (a1 : Int) (a2 : Int) (a4 : Int) (a5 : Int) {h : AH} (hS : Sh S h) : EQ (fX14_example_2_j234_168 454 a1 a2 a4 a5 h) (gX14_example_2_j234_168 a1 a2 a4 a5 h) (Sum.elim (fun r => Sh S r.2) (fun r => Sh S r)) := by
  unfold fX14_example_2_j234_168 gX14_example_2_j234_168
  refine EQ_jl rfl (fun x33 ex33 => ?_)
  clear ex33
  exact EQ_some hS
noncomputable def gX14_example_2_b168 (i1 : Int) (i2 : Int) (i4 : Int) (s : Int × AH) : Option ((Int × AH) ⊕ (AH)) := jt2 s fun a5 h => if i4 ≤ a5 then (some (.inr h)) else (jg (jI (w32 (i1 + a5)) 2000) <| jl (w32 (h 473 (w32 (i1 + a5)) - 97)) fun x29 => if i2 ≤ a5 then (jg (jI (w32 (w32 (w32 (10 * h 454 109) + a5) - i2)) 80) <| jl (jst h 820 (w32 (w32 (w32 (10 * h 454 109) + a5) - i2)) x29) fun h31 => gX14_example_2_j234_168 i1 i2 i4 a5 h31) else (jg (jI (w32 (w32 (10 * h 454 109) + a5)) 80) <| jl (jst h 819 (w32 (w32 (10 * h 454 109) + a5)) x29) fun h32 => gX14_example_2_j234_168 i1 i2 i4 a5 h32))
theorem eX14_example_2_b168 (i1 : Int) (i2 : Int) (i4 : Int) {s : Int × AH} (hS : (fun r => Sh S r.2) s) : EQ (fX14_example_2_b168 454 i1 i2 i4 s) (gX14_example_2_b168 i1 i2 i4 s) (Sum.elim (fun r => Sh S r.2) (fun r => Sh S r)) := by
  unfold fX14_example_2_b168 gX14_example_2_b168
  obtain ⟨a5, h⟩ := s
  refine EQ_jt2 ?_
  replace hS : Sh S h := hS
  refine EQ_if Iff.rfl (fun c1 => ?_) (fun c1 => ?_)
  · exact EQ_some hS
  · refine EQ_jgd (show h 454 (-2) = 15 from by rw [k_454 hS]) ?_
    refine EQ_jg ⟨fun ⟨_, x0⟩ => (show jI (w32 (i1 + a5)) (h (h 454 24) (-1)) ↔ jI (w32 (i1 + a5)) 2000 from by rw [r_454_24 hS, l_473 hS]).mp x0, fun x0 => ⟨(show h (h 454 24) (-2) = 101 from by rw [r_454_24 hS, k_473 hS]), (show jI (w32 (i1 + a5)) (h (h 454 24) (-1)) ↔ jI (w32 (i1 + a5)) 2000 from by rw [r_454_24 hS, l_473 hS]).mpr x0⟩⟩ (fun g2 => ?_)
    refine EQ_jl (by rw [r_454_24 hS]) (fun x29 ex29 => ?_)
    clear ex29
    refine EQ_if Iff.rfl (fun c3 => ?_) (fun c3 => ?_)
    · refine EQ_jgd (show h 454 (-2) = 15 from by rw [k_454 hS]) ?_
      refine EQ_jgd (show h 454 (-2) = 15 from by rw [k_454 hS]) ?_
      refine EQ_jg ⟨fun ⟨_, _, x0⟩ => (show jI (w32 (w32 (w32 (10 * h 454 109) + a5) - i2)) (h (h 454 113) (-1)) ↔ jI (w32 (w32 (w32 (10 * h 454 109) + a5) - i2)) 80 from by rw [r_454_113 hS, l_820 hS]).mp x0, fun x0 => ⟨(show h (h 454 113) (-2) = 101 from by rw [r_454_113 hS, k_820 hS]), (show 200 ≤ h 454 113 from by rw [r_454_113 hS]; exact (by decide)), (show jI (w32 (w32 (w32 (10 * h 454 109) + a5) - i2)) (h (h 454 113) (-1)) ↔ jI (w32 (w32 (w32 (10 * h 454 109) + a5) - i2)) 80 from by rw [r_454_113 hS, l_820 hS]).mpr x0⟩⟩ (fun g4 => ?_)
      refine EQ_jl (by rw [r_454_113 hS]) (fun h31 eh31 => ?_)
      have s5 := Sh_of eh31 (Sh_sta hS (by decide +kernel) (jI_nn g4) (fun e => absurd ((k_820 hS).symm.trans e) (by decide)))
      clear eh31
      exact (eX14_example_2_j234_168 i1 i2 i4 a5 s5)
    · refine EQ_jgd (show h 454 (-2) = 15 from by rw [k_454 hS]) ?_
      refine EQ_jgd (show h 454 (-2) = 15 from by rw [k_454 hS]) ?_
      refine EQ_jg ⟨fun ⟨_, _, x0⟩ => (show jI (w32 (w32 (10 * h 454 109) + a5)) (h (h 454 112) (-1)) ↔ jI (w32 (w32 (10 * h 454 109) + a5)) 80 from by rw [r_454_112 hS, l_819 hS]).mp x0, fun x0 => ⟨(show h (h 454 112) (-2) = 101 from by rw [r_454_112 hS, k_819 hS]), (show 200 ≤ h 454 112 from by rw [r_454_112 hS]; exact (by decide)), (show jI (w32 (w32 (10 * h 454 109) + a5)) (h (h 454 112) (-1)) ↔ jI (w32 (w32 (10 * h 454 109) + a5)) 80 from by rw [r_454_112 hS, l_819 hS]).mpr x0⟩⟩ (fun g6 => ?_)
      refine EQ_jl (by rw [r_454_112 hS]) (fun h32 eh32 => ?_)
      have s7 := Sh_of eh32 (Sh_sta hS (by decide +kernel) (jI_nn g6) (fun e => absurd ((k_819 hS).symm.trans e) (by decide)))
      clear eh32
      exact (eX14_example_2_j234_168 i1 i2 i4 a5 s7)
noncomputable def gX14_example_2_l168 (i1 : Int) (i2 : Int) (i4 : Int) (a5 : Int) (h : AH) : Option (AH) := jit (gX14_example_2_b168 i1 i2 i4) (a5, h)
theorem eX14_example_2_l168 (i1 : Int) (i2 : Int) (i4 : Int) (a5 : Int) {h : AH} (hS : Sh S h) : EQ (fX14_example_2_l168 454 i1 i2 i4 a5 h) (gX14_example_2_l168 i1 i2 i4 a5 h) (fun r => Sh S r) := EQ_jit (I := (fun r => Sh S r.2)) (fun s hs => eX14_example_2_b168 i1 i2 i4 hs) hS
noncomputable def gX14_example_2_j142 (a1 : Int) (a2 : Int) (a4 : Int) (h : AH) : Option (Int × AH) := jg (jI (h 454 109) 8) <| jl (jst h 817 (h 454 109) a2) fun h23 => jg (jI (h23 454 109) 8) <| jl (jst h23 818 (h23 454 109) (w32 (a4 - a2))) fun h24 => jb (gX14_example_2_l168 a1 a2 a4 0 h24) fun o25 => jl (jst o25 454 109 (w32 (o25 454 109 + 1))) fun h27 => some (h27 454 109, h27)
theorem eX14_example_2_j142 (a1 : Int) (a2 : Int) (a4 : Int) {h : AH} (hS : Sh S h) : EQ (fX14_example_2_j142 454 a1 a2 a4 h) (gX14_example_2_j142 a1 a2 a4 h) (fun r => Sh S r.2) := by
  unfold fX14_example_2_j142 gX14_example_2_j142
  refine EQ_jgd (show h 454 (-2) = 15 from by rw [k_454 hS]) ?_
  refine EQ_jgd (show h 454 (-2) = 15 from by rw [k_454 hS]) ?_
  refine EQ_jg ⟨fun ⟨_, _, x0⟩ => (show jI (h 454 109) (h (h 454 110) (-1)) ↔ jI (h 454 109) 8 from by rw [r_454_110 hS, l_817 hS]).mp x0, fun x0 => ⟨(show h (h 454 110) (-2) = 101 from by rw [r_454_110 hS, k_817 hS]), (show 200 ≤ h 454 110 from by rw [r_454_110 hS]; exact (by decide)), (show jI (h 454 109) (h (h 454 110) (-1)) ↔ jI (h 454 109) 8 from by rw [r_454_110 hS, l_817 hS]).mpr x0⟩⟩ (fun g1 => ?_)
  refine EQ_jl (by rw [r_454_110 hS]) (fun h23 eh23 => ?_)
  have s2 := Sh_of eh23 (Sh_sta hS (by decide +kernel) (jI_nn g1) (fun e => absurd ((k_817 hS).symm.trans e) (by decide)))
  clear eh23
  refine EQ_jgd (show h23 454 (-2) = 15 from by rw [k_454 s2]) ?_
  refine EQ_jgd (show h23 454 (-2) = 15 from by rw [k_454 s2]) ?_
  refine EQ_jg ⟨fun ⟨_, _, x0⟩ => (show jI (h23 454 109) (h23 (h23 454 111) (-1)) ↔ jI (h23 454 109) 8 from by rw [r_454_111 s2, l_818 s2]).mp x0, fun x0 => ⟨(show h23 (h23 454 111) (-2) = 101 from by rw [r_454_111 s2, k_818 s2]), (show 200 ≤ h23 454 111 from by rw [r_454_111 s2]; exact (by decide)), (show jI (h23 454 109) (h23 (h23 454 111) (-1)) ↔ jI (h23 454 109) 8 from by rw [r_454_111 s2, l_818 s2]).mpr x0⟩⟩ (fun g3 => ?_)
  refine EQ_jl (by rw [r_454_111 s2]) (fun h24 eh24 => ?_)
  have s4 := Sh_of eh24 (Sh_sta s2 (by decide +kernel) (jI_nn g3) (fun e => absurd ((k_818 s2).symm.trans e) (by decide)))
  clear eh24
  refine EQ_jb (eX14_example_2_l168 a1 a2 a4 0 s4) (fun o25 r5 => ?_)
  refine EQ_jgd (show o25 454 (-2) = 15 from by rw [k_454 r5]) ?_
  refine EQ_jgd ⟨(show o25 454 (-2) = 15 from by rw [k_454 r5]), (show (200 : Int) ≤ 454 from (by decide))⟩ ?_
  refine EQ_jl rfl (fun h27 eh27 => ?_)
  have s6 := Sh_of eh27 (Sh_sto r5 (a := 454) (i := 109) (by decide +kernel))
  clear eh27
  refine EQ_jgd (show h27 454 (-2) = 15 from by rw [k_454 s6]) ?_
  exact EQ_some s6
noncomputable def gX14_example_2_b96 (i1 : Int) (i2 : Int) (i4 : Int) (s : Int × AH) : Option ((Int × AH) ⊕ (AH)) := jt2 s fun a5 h => if i4 ≤ a5 then (some (.inr h)) else (jg (jI (w32 (i1 + a5)) 2000) <| jg (jI (w32 (1 + a5)) 4000) <| jl (jst h 471 (w32 (1 + a5)) (h 473 (w32 (i1 + a5)))) fun h35 => jl (w32 (a5 + 1)) fun x36 => some (.inl (x36, h35)))
theorem eX14_example_2_b96 (i1 : Int) (i2 : Int) (i4 : Int) {s : Int × AH} (hS : (fun r => Sh S r.2) s) : EQ (fX14_example_2_b96 454 i1 i2 i4 s) (gX14_example_2_b96 i1 i2 i4 s) (Sum.elim (fun r => Sh S r.2) (fun r => Sh S r)) := by
  unfold fX14_example_2_b96 gX14_example_2_b96
  obtain ⟨a5, h⟩ := s
  refine EQ_jt2 ?_
  replace hS : Sh S h := hS
  refine EQ_if Iff.rfl (fun c1 => ?_) (fun c1 => ?_)
  · exact EQ_some hS
  · refine EQ_jgd (show h 454 (-2) = 15 from by rw [k_454 hS]) ?_
    refine EQ_jgd (show h 454 (-2) = 15 from by rw [k_454 hS]) ?_
    refine EQ_jg ⟨fun ⟨_, x0⟩ => (show jI (w32 (i1 + a5)) (h (h 454 24) (-1)) ↔ jI (w32 (i1 + a5)) 2000 from by rw [r_454_24 hS, l_473 hS]).mp x0, fun x0 => ⟨(show h (h 454 24) (-2) = 101 from by rw [r_454_24 hS, k_473 hS]), (show jI (w32 (i1 + a5)) (h (h 454 24) (-1)) ↔ jI (w32 (i1 + a5)) 2000 from by rw [r_454_24 hS, l_473 hS]).mpr x0⟩⟩ (fun g2 => ?_)
    refine EQ_jg ⟨fun ⟨_, _, x0⟩ => (show jI (w32 (1 + a5)) (h (h 454 18) (-1)) ↔ jI (w32 (1 + a5)) 4000 from by rw [r_454_18 hS, l_471 hS]).mp x0, fun x0 => ⟨(show h (h 454 18) (-2) = 101 from by rw [r_454_18 hS, k_471 hS]), (show 200 ≤ h 454 18 from by rw [r_454_18 hS]; exact (by decide)), (show jI (w32 (1 + a5)) (h (h 454 18) (-1)) ↔ jI (w32 (1 + a5)) 4000 from by rw [r_454_18 hS, l_471 hS]).mpr x0⟩⟩ (fun g3 => ?_)
    refine EQ_jl (by rw [r_454_18 hS, r_454_24 hS]) (fun h35 eh35 => ?_)
    have s4 := Sh_of eh35 (Sh_sta hS (by decide +kernel) (jI_nn g3) (fun e => absurd ((k_471 hS).symm.trans e) (by decide)))
    clear eh35
    refine EQ_jl rfl (fun x36 ex36 => ?_)
    clear ex36
    exact EQ_some s4
noncomputable def gX14_example_2_l96 (i1 : Int) (i2 : Int) (i4 : Int) (a5 : Int) (h : AH) : Option (AH) := jit (gX14_example_2_b96 i1 i2 i4) (a5, h)
theorem eX14_example_2_l96 (i1 : Int) (i2 : Int) (i4 : Int) (a5 : Int) {h : AH} (hS : Sh S h) : EQ (fX14_example_2_l96 454 i1 i2 i4 a5 h) (gX14_example_2_l96 i1 i2 i4 a5 h) (fun r => Sh S r) := EQ_jit (I := (fun r => Sh S r.2)) (fun s hs => eX14_example_2_b96 i1 i2 i4 hs) hS
noncomputable def gX14_example_2_j82 (a1 : Int) (a2 : Int) (a3 : Int) (a4 : Int) (h : AH) : Option (Int × AH) := if a3 = 0 then (gX14_example_2_j142 a1 a2 a4 h) else (jl (jst h 471 0 a2) fun h18 => jb (gX14_example_2_l96 a1 a2 a4 0 h18) fun o19 => jb (gX14_record 6 471 0 (w32 (a4 + 1)) o19) fun h22 => gX14_example_2_j142 a1 a2 a4 h22)
theorem eX14_example_2_j82 (a1 : Int) (a2 : Int) (a3 : Int) (a4 : Int) {h : AH} (hS : Sh S h) : EQ (fX14_example_2_j82 454 a1 a2 a3 a4 h) (gX14_example_2_j82 a1 a2 a3 a4 h) (fun r => Sh S r.2) := by
  unfold fX14_example_2_j82 gX14_example_2_j82
  refine EQ_if Iff.rfl (fun c1 => ?_) (fun c1 => ?_)
  · exact (eX14_example_2_j142 a1 a2 a4 hS)
  · refine EQ_jgd (show h 454 (-2) = 15 from by rw [k_454 hS]) ?_
    refine EQ_jgd ⟨(show h (h 454 18) (-2) = 101 from by rw [r_454_18 hS, k_471 hS]), (show 200 ≤ h 454 18 from by rw [r_454_18 hS]; exact (by decide)), (show jI 0 (h (h 454 18) (-1)) from by rw [r_454_18 hS, l_471 hS]; unfold jI; decide)⟩ ?_
    refine EQ_jl (by rw [r_454_18 hS]) (fun h18 eh18 => ?_)
    have s2 := Sh_of eh18 (Sh_sta hS (by decide +kernel) (by decide) (fun e => absurd ((k_471 hS).symm.trans e) (by decide)))
    clear eh18
    refine EQ_jb (eX14_example_2_l96 a1 a2 a4 0 s2) (fun o19 r3 => ?_)
    refine EQ_jgd (show o19 454 (-2) = 15 from by rw [k_454 r3]) ?_
    refine EQ_jgd (show o19 454 (-2) = 15 from by rw [k_454 r3]) ?_
    refine EQ_jb (by rw [r_454_18 r3]; exact eX14_record 6 471 0 (w32 (a4 + 1)) r3) (fun h22 r4 => ?_)
    exact (eX14_example_2_j142 a1 a2 a4 r4)
noncomputable def gX14_example_2 (a1 : Int) (a2 : Int) (a3 : Int) (h : AH) : Option (Int × AH) := jl (w32 (h 454 25 - a1)) fun x1 => jb (gX14_in a2 0 10) fun v3 => if v3 = 0 then (some ((-1), h)) else (if x1 < a2 then (some ((-1), h)) else (jb (gX14_in (w32 (x1 - a2)) 1 10) fun v7 => if v7 = 0 then (some ((-1), h)) else (jb (gX14_isWordText a1 (h 454 25) h) fun v10 => if v10 = 0 then (some ((-1), h)) else (if h 454 109 = 8 then (some ((-3), h)) else (if a3 = 0 then (gX14_example_2_j82 a1 a2 a3 x1 h) else (jb (gX14_hasRoom (w32 (x1 + 1)) h) fun v15 => if v15 = 0 then (some ((-3), h)) else (gX14_example_2_j82 a1 a2 a3 x1 h)))))))
theorem eX14_example_2 (a1 : Int) (a2 : Int) (a3 : Int) {h : AH} (hS : Sh S h) : EQ (fX14_example_2 454 a1 a2 a3 h) (gX14_example_2 a1 a2 a3 h) (fun r => Sh S r.2) := by
  unfold fX14_example_2 gX14_example_2
  refine EQ_jgd (show h 454 (-2) = 15 from by rw [k_454 hS]) ?_
  refine EQ_jl rfl (fun x1 ex1 => ?_)
  clear ex1
  refine EQ_jb (eX14_in a2 0 10) (fun v3 r1 => ?_)
  refine EQ_if Iff.rfl (fun c2 => ?_) (fun c2 => ?_)
  · exact EQ_some hS
  · refine EQ_if Iff.rfl (fun c3 => ?_) (fun c3 => ?_)
    · exact EQ_some hS
    · refine EQ_jb (eX14_in (w32 (x1 - a2)) 1 10) (fun v7 r4 => ?_)
      refine EQ_if Iff.rfl (fun c5 => ?_) (fun c5 => ?_)
      · exact EQ_some hS
      · refine EQ_jgd (show h 454 (-2) = 15 from by rw [k_454 hS]) ?_
        refine EQ_jgd (show h 454 (-2) = 15 from by rw [k_454 hS]) ?_
        refine EQ_jb (eX14_isWordText a1 (h 454 25) hS) (fun v10 r6 => ?_)
        refine EQ_if Iff.rfl (fun c7 => ?_) (fun c7 => ?_)
        · exact EQ_some hS
        · refine EQ_jgd (show h 454 (-2) = 15 from by rw [k_454 hS]) ?_
          refine EQ_if Iff.rfl (fun c8 => ?_) (fun c8 => ?_)
          · exact EQ_some hS
          · refine EQ_if Iff.rfl (fun c9 => ?_) (fun c9 => ?_)
            · exact (eX14_example_2_j82 a1 a2 a3 x1 hS)
            · refine EQ_jgd (show h 454 (-2) = 15 from by rw [k_454 hS]) ?_
              refine EQ_jb (eX14_hasRoom (w32 (x1 + 1)) hS) (fun v15 r10 => ?_)
              refine EQ_if Iff.rfl (fun c11 => ?_) (fun c11 => ?_)
              · exact EQ_some hS
              · exact (eX14_example_2_j82 a1 a2 a3 x1 hS)
noncomputable def gX14_example (a1 : Int) (h : AH) : Option (Int × AH) := jb2 (gX14_isDown h) fun v2 h3 => if v2 = 0 then (jb (gX14_takeTape h3) fun h6 => jb2 (gX14_example_2 0 a1 1 h6) fun v8 h9 => some (v8, h9)) else (some ((-5), h3))
theorem eX14_example (a1 : Int) {h : AH} (hS : Sh S h) : EQ (fX14_example 454 a1 h) (gX14_example a1 h) (fun r => Sh S r.2) := by
  unfold fX14_example gX14_example
  refine EQ_jgd (show h 454 (-2) = 15 from by rw [k_454 hS]) ?_
  refine EQ_jb2 (eX14_isDown hS) (fun v2 h3 r1 => ?_)
  replace r1 : Sh S h3 := r1
  refine EQ_if Iff.rfl (fun c2 => ?_) (fun c2 => ?_)
  · refine EQ_jgd (show h3 454 (-2) = 15 from by rw [k_454 r1]) ?_
    refine EQ_jb (eX14_takeTape r1) (fun h6 r3 => ?_)
    refine EQ_jgd (show h6 454 (-2) = 15 from by rw [k_454 r3]) ?_
    refine EQ_jb2 (eX14_example_2 0 a1 1 r3) (fun v8 h9 r4 => ?_)
    replace r4 : Sh S h9 := r4
    exact EQ_some r4
  · exact EQ_some r1
noncomputable def gX14_clear_j46 (a1 : Int) (h : AH) : Option (Int × AH) := jl (jst h 454 109 0) fun h13 => some (a1, h13)
theorem eX14_clear_j46 (a1 : Int) {h : AH} (hS : Sh S h) : EQ (fX14_clear_j46 454 a1 h) (gX14_clear_j46 a1 h) (fun r => Sh S r.2) := by
  unfold fX14_clear_j46 gX14_clear_j46
  refine EQ_jgd ⟨(show h 454 (-2) = 15 from by rw [k_454 hS]), (show (200 : Int) ≤ 454 from (by decide))⟩ ?_
  refine EQ_jl rfl (fun h13 eh13 => ?_)
  have s1 := Sh_of eh13 (Sh_sto hS (a := 454) (i := 109) (by decide +kernel))
  clear eh13
  exact EQ_some s1
noncomputable def gX14_clear_j30 (a1 : Int) (h : AH) : Option (Int × AH) := if a1 ≤ 0 then (gX14_clear_j46 a1 h) else (jb (gX14_record 7 473 0 0 h) fun h12 => gX14_clear_j46 a1 h12)
theorem eX14_clear_j30 (a1 : Int) {h : AH} (hS : Sh S h) : EQ (fX14_clear_j30 454 a1 h) (gX14_clear_j30 a1 h) (fun r => Sh S r.2) := by
  unfold fX14_clear_j30 gX14_clear_j30
  refine EQ_if Iff.rfl (fun c1 => ?_) (fun c1 => ?_)
  · exact (eX14_clear_j46 a1 hS)
  · refine EQ_jgd (show h 454 (-2) = 15 from by rw [k_454 hS]) ?_
    refine EQ_jgd (show h 454 (-2) = 15 from by rw [k_454 hS]) ?_
    refine EQ_jb (by rw [r_454_24 hS]; exact eX14_record 7 473 0 0 hS) (fun h12 r2 => ?_)
    exact (eX14_clear_j46 a1 r2)
noncomputable def gX14_clear (h : AH) : Option (Int × AH) := jb2 (gX14_isDown h) fun v2 h3 => if v2 = 0 then (jl (h3 454 109) fun x5 => if x5 ≤ 0 then (gX14_clear_j30 x5 h3) else (jb (gX14_hasRoom 0 h3) fun v8 => if v8 = 0 then (some ((-3), h3)) else (gX14_clear_j30 x5 h3))) else (some ((-5), h3))
theorem eX14_clear {h : AH} (hS : Sh S h) : EQ (fX14_clear 454 h) (gX14_clear h) (fun r => Sh S r.2) := by
  unfold fX14_clear gX14_clear
  refine EQ_jgd (show h 454 (-2) = 15 from by rw [k_454 hS]) ?_
  refine EQ_jb2 (eX14_isDown hS) (fun v2 h3 r1 => ?_)
  replace r1 : Sh S h3 := r1
  refine EQ_if Iff.rfl (fun c2 => ?_) (fun c2 => ?_)
  · refine EQ_jgd (show h3 454 (-2) = 15 from by rw [k_454 r1]) ?_
    refine EQ_jl rfl (fun x5 ex5 => ?_)
    clear ex5
    refine EQ_if Iff.rfl (fun c3 => ?_) (fun c3 => ?_)
    · exact (eX14_clear_j30 x5 r1)
    · refine EQ_jgd (show h3 454 (-2) = 15 from by rw [k_454 r1]) ?_
      refine EQ_jb (eX14_hasRoom 0 r1) (fun v8 r4 => ?_)
      refine EQ_if Iff.rfl (fun c5 => ?_) (fun c5 => ?_)
      · exact EQ_some r1
      · exact (eX14_clear_j30 x5 r1)
  · exact EQ_some r1
noncomputable def gX14_nodeOf_b4 (h : AH) (s : Int × Int) : Option ((Int × Int) ⊕ (Int)) := jt2 s fun a1 a2 => if h 454 109 ≤ a2 then (some (.inr a1)) else (jg (jI a2 8) <| jl (w32 (w32 (31 * a1) + h 828 a2)) fun x14 => jl (w32 (a2 + 1)) fun x15 => some (.inl (x14, x15)))
theorem eX14_nodeOf_b4 (s : Int × Int) {h : AH} (hS : Sh S h) : EQ (fX14_nodeOf_b4 454 h s) (gX14_nodeOf_b4 h s) (Sum.elim (fun _ => True) (fun _ => True)) := by
  unfold fX14_nodeOf_b4 gX14_nodeOf_b4
  obtain ⟨a1, a2⟩ := s
  refine EQ_jt2 ?_
  refine EQ_jgd (show h 454 (-2) = 15 from by rw [k_454 hS]) ?_
  refine EQ_if Iff.rfl (fun c1 => ?_) (fun c1 => ?_)
  · exact EQ_some trivial
  · refine EQ_jgd (show h 454 (-2) = 15 from by rw [k_454 hS]) ?_
    refine EQ_jg ⟨fun ⟨_, x0⟩ => (show jI a2 (h (h 454 122) (-1)) ↔ jI a2 8 from by rw [r_454_122 hS, l_828 hS]).mp x0, fun x0 => ⟨(show h (h 454 122) (-2) = 101 from by rw [r_454_122 hS, k_828 hS]), (show jI a2 (h (h 454 122) (-1)) ↔ jI a2 8 from by rw [r_454_122 hS, l_828 hS]).mpr x0⟩⟩ (fun g2 => ?_)
    refine EQ_jl (by rw [r_454_122 hS]) (fun x14 ex14 => ?_)
    clear ex14
    refine EQ_jl rfl (fun x15 ex15 => ?_)
    clear ex15
    exact EQ_some trivial
noncomputable def gX14_nodeOf_l4 (a1 : Int) (a2 : Int) (h : AH) : Option (Int) := jit (gX14_nodeOf_b4 h) (a1, a2)
theorem eX14_nodeOf_l4 (a1 : Int) (a2 : Int) {h : AH} (hS : Sh S h) : EQ (fX14_nodeOf_l4 454 a1 a2 h) (gX14_nodeOf_l4 a1 a2 h) (fun _ => True) := EQ_jit (I := (fun _ => True)) (fun s _ => eX14_nodeOf_b4 s hS) trivial
noncomputable def gX14_nodeOf_j109_41 (a2 : Int) (a3 : Int) (h : AH) : Option ((Int) ⊕ ((Int) ⊕ (Int))) := if a3 = 0 then (jl (jand (w32 (a2 + 1)) 1023) fun x20 => some (.inl x20)) else (some (.inr (.inl a2)))
theorem eX14_nodeOf_j109_41 (a2 : Int) (a3 : Int) {h : AH} (hS : Sh S h) : EQ (fX14_nodeOf_j109_41 454 a2 a3 h) (gX14_nodeOf_j109_41 a2 a3 h) (Sum.elim (fun _ => True) (Sum.elim (fun _ => True) (fun _ => True))) := by
  unfold fX14_nodeOf_j109_41 gX14_nodeOf_j109_41
  refine EQ_if Iff.rfl (fun c1 => ?_) (fun c1 => ?_)
  · refine EQ_jl rfl (fun x20 ex20 => ?_)
    clear ex20
    exact EQ_some trivial
  · exact EQ_some trivial
noncomputable def gX14_nodeOf_j102_55 (a2 : Int) (a4 : Int) (t0 : Int) (h : AH) : Option ((Int × Int) ⊕ (Int)) := jl (w32 (a4 + 1)) fun x24 => some (.inl (t0, x24))
theorem eX14_nodeOf_j102_55 (a2 : Int) (a4 : Int) (t0 : Int) {h : AH} (hS : Sh S h) : EQ (fX14_nodeOf_j102_55 454 a2 a4 t0 h) (gX14_nodeOf_j102_55 a2 a4 t0 h) (Sum.elim (fun _ => True) (fun _ => True)) := by
  unfold fX14_nodeOf_j102_55 gX14_nodeOf_j102_55
  refine EQ_jl rfl (fun x24 ex24 => ?_)
  clear ex24
  exact EQ_some trivial
noncomputable def gX14_nodeOf_b55 (i2 : Int) (h : AH) (s : Int × Int) : Option ((Int × Int) ⊕ (Int)) := jt2 s fun a3 a4 => if h 454 109 ≤ a4 then (some (.inr a3)) else (if a3 = 0 then (some (.inr a3)) else (jg (jI i2 1024) <| jg (jI (w32 (w32 (8 * w32 (h 822 i2 - 1)) + a4)) 3216) <| jg (jI a4 8) <| if h 821 (w32 (w32 (8 * w32 (h 822 i2 - 1)) + a4)) = h 828 a4 then (gX14_nodeOf_j102_55 i2 a4 1 h) else (gX14_nodeOf_j102_55 i2 a4 0 h)))
theorem eX14_nodeOf_b55 (i2 : Int) (s : Int × Int) {h : AH} (hS : Sh S h) : EQ (fX14_nodeOf_b55 454 i2 h s) (gX14_nodeOf_b55 i2 h s) (Sum.elim (fun _ => True) (fun _ => True)) := by
  unfold fX14_nodeOf_b55 gX14_nodeOf_b55
  obtain ⟨a3, a4⟩ := s
  refine EQ_jt2 ?_
  refine EQ_jgd (show h 454 (-2) = 15 from by rw [k_454 hS]) ?_
  refine EQ_if Iff.rfl (fun c1 => ?_) (fun c1 => ?_)
  · exact EQ_some trivial
  · refine EQ_if Iff.rfl (fun c2 => ?_) (fun c2 => ?_)
    · exact EQ_some trivial
    · refine EQ_jgd (show h 454 (-2) = 15 from by rw [k_454 hS]) ?_
      refine EQ_jgd (show h 454 (-2) = 15 from by rw [k_454 hS]) ?_
      refine EQ_jg ⟨fun ⟨_, x0⟩ => (show jI i2 (h (h 454 116) (-1)) ↔ jI i2 1024 from by rw [r_454_116 hS, l_822 hS]).mp x0, fun x0 => ⟨(show h (h 454 116) (-2) = 101 from by rw [r_454_116 hS, k_822 hS]), (show jI i2 (h (h 454 116) (-1)) ↔ jI i2 1024 from by rw [r_454_116 hS, l_822 hS]).mpr x0⟩⟩ (fun g3 => ?_)
      refine EQ_jg ⟨fun ⟨_, x0⟩ => (show jI (w32 (w32 (8 * w32 (h (h 454 116) i2 - 1)) + a4)) (h (h 454 115) (-1)) ↔ jI (w32 (w32 (8 * w32 (h 822 i2 - 1)) + a4)) 3216 from by rw [r_454_116 hS, r_454_115 hS, l_821 hS]).mp x0, fun x0 => ⟨(show h (h 454 115) (-2) = 101 from by rw [r_454_115 hS, k_821 hS]), (show jI (w32 (w32 (8 * w32 (h (h 454 116) i2 - 1)) + a4)) (h (h 454 115) (-1)) ↔ jI (w32 (w32 (8 * w32 (h 822 i2 - 1)) + a4)) 3216 from by rw [r_454_116 hS, r_454_115 hS, l_821 hS]).mpr x0⟩⟩ (fun g4 => ?_)
      refine EQ_jgd (show h 454 (-2) = 15 from by rw [k_454 hS]) ?_
      refine EQ_jg ⟨fun ⟨_, x0⟩ => (show jI a4 (h (h 454 122) (-1)) ↔ jI a4 8 from by rw [r_454_122 hS, l_828 hS]).mp x0, fun x0 => ⟨(show h (h 454 122) (-2) = 101 from by rw [r_454_122 hS, k_828 hS]), (show jI a4 (h (h 454 122) (-1)) ↔ jI a4 8 from by rw [r_454_122 hS, l_828 hS]).mpr x0⟩⟩ (fun g5 => ?_)
      refine EQ_if (show h (h 454 115) (w32 (w32 (8 * w32 (h (h 454 116) i2 - 1)) + a4)) = h (h 454 122) a4 ↔ h 821 (w32 (w32 (8 * w32 (h 822 i2 - 1)) + a4)) = h 828 a4 from by rw [r_454_115 hS, r_454_116 hS, r_454_122 hS]) (fun c6 => ?_) (fun c6 => ?_)
      · exact (eX14_nodeOf_j102_55 i2 a4 1 hS)
      · exact (eX14_nodeOf_j102_55 i2 a4 0 hS)
noncomputable def gX14_nodeOf_l55 (i2 : Int) (a3 : Int) (a4 : Int) (h : AH) : Option (Int) := jit (gX14_nodeOf_b55 i2 h) (a3, a4)
theorem eX14_nodeOf_l55 (i2 : Int) (a3 : Int) (a4 : Int) {h : AH} (hS : Sh S h) : EQ (fX14_nodeOf_l55 454 i2 a3 a4 h) (gX14_nodeOf_l55 i2 a3 a4 h) (fun _ => True) := EQ_jit (I := (fun _ => True)) (fun s _ => eX14_nodeOf_b55 i2 s hS) trivial
noncomputable def gX14_nodeOf_b41 (h : AH) (a2 : Int) : Option ((Int) ⊕ ((Int) ⊕ (Int))) := jg (jI a2 1024) <| if h 822 a2 ≤ 0 then (some (.inr (.inr a2))) else (jb (gX14_nodeOf_l55 a2 1 0 h) fun o17 => gX14_nodeOf_j109_41 a2 o17 h)
theorem eX14_nodeOf_b41 (a2 : Int) {h : AH} (hS : Sh S h) : EQ (fX14_nodeOf_b41 454 h a2) (gX14_nodeOf_b41 h a2) (Sum.elim (fun _ => True) (Sum.elim (fun _ => True) (fun _ => True))) := by
  unfold fX14_nodeOf_b41 gX14_nodeOf_b41
  refine EQ_jgd (show h 454 (-2) = 15 from by rw [k_454 hS]) ?_
  refine EQ_jg ⟨fun ⟨_, x0⟩ => (show jI a2 (h (h 454 116) (-1)) ↔ jI a2 1024 from by rw [r_454_116 hS, l_822 hS]).mp x0, fun x0 => ⟨(show h (h 454 116) (-2) = 101 from by rw [r_454_116 hS, k_822 hS]), (show jI a2 (h (h 454 116) (-1)) ↔ jI a2 1024 from by rw [r_454_116 hS, l_822 hS]).mpr x0⟩⟩ (fun g1 => ?_)
  refine EQ_if (show h (h 454 116) a2 ≤ 0 ↔ h 822 a2 ≤ 0 from by rw [r_454_116 hS]) (fun c2 => ?_) (fun c2 => ?_)
  · exact EQ_some trivial
  · refine EQ_jb (eX14_nodeOf_l55 a2 1 0 hS) (fun o17 r3 => ?_)
    exact (eX14_nodeOf_j109_41 a2 o17 hS)
noncomputable def gX14_nodeOf_l41 (a2 : Int) (h : AH) : Option ((Int) ⊕ (Int)) := jit (gX14_nodeOf_b41 h) a2
theorem eX14_nodeOf_l41 (a2 : Int) {h : AH} (hS : Sh S h) : EQ (fX14_nodeOf_l41 454 a2 h) (gX14_nodeOf_l41 a2 h) (Sum.elim (fun _ => True) (fun _ => True)) := EQ_jit (I := (fun _ => True)) (fun s _ => eX14_nodeOf_b41 s hS) trivial
noncomputable def gX14_nodeOf_b147 (i2 : Int) (s : Int × AH) : Option ((Int × AH) ⊕ (AH)) := jt2 s fun a3 h => if h 454 109 ≤ a3 then (some (.inr h)) else (jg (jI a3 8) <| jg (jI (w32 (w32 (8 * h 454 114) + a3)) 3216) <| jl (jst h 821 (w32 (w32 (8 * h 454 114) + a3)) (h 828 a3)) fun h26 => jl (w32 (a3 + 1)) fun x27 => some (.inl (x27, h26)))
theorem eX14_nodeOf_b147 (i2 : Int) {s : Int × AH} (hS : (fun r => Sh S r.2) s) : EQ (fX14_nodeOf_b147 454 i2 s) (gX14_nodeOf_b147 i2 s) (Sum.elim (fun r => Sh S r.2) (fun r => Sh S r)) := by
  unfold fX14_nodeOf_b147 gX14_nodeOf_b147
  obtain ⟨a3, h⟩ := s
  refine EQ_jt2 ?_
  replace hS : Sh S h := hS
  refine EQ_jgd (show h 454 (-2) = 15 from by rw [k_454 hS]) ?_
  refine EQ_if Iff.rfl (fun c1 => ?_) (fun c1 => ?_)
  · exact EQ_some hS
  · refine EQ_jgd (show h 454 (-2) = 15 from by rw [k_454 hS]) ?_
    refine EQ_jgd (show h 454 (-2) = 15 from by rw [k_454 hS]) ?_
    refine EQ_jgd (show h 454 (-2) = 15 from by rw [k_454 hS]) ?_
    refine EQ_jg ⟨fun ⟨_, x0⟩ => (show jI a3 (h (h 454 122) (-1)) ↔ jI a3 8 from by rw [r_454_122 hS, l_828 hS]).mp x0, fun x0 => ⟨(show h (h 454 122) (-2) = 101 from by rw [r_454_122 hS, k_828 hS]), (show jI a3 (h (h 454 122) (-1)) ↔ jI a3 8 from by rw [r_454_122 hS, l_828 hS]).mpr x0⟩⟩ (fun g2 => ?_)
    refine EQ_jg ⟨fun ⟨_, _, x0⟩ => (show jI (w32 (w32 (8 * h 454 114) + a3)) (h (h 454 115) (-1)) ↔ jI (w32 (w32 (8 * h 454 114) + a3)) 3216 from by rw [r_454_115 hS, l_821 hS]).mp x0, fun x0 => ⟨(show h (h 454 115) (-2) = 101 from by rw [r_454_115 hS, k_821 hS]), (show 200 ≤ h 454 115 from by rw [r_454_115 hS]; exact (by decide)), (show jI (w32 (w32 (8 * h 454 114) + a3)) (h (h 454 115) (-1)) ↔ jI (w32 (w32 (8 * h 454 114) + a3)) 3216 from by rw [r_454_115 hS, l_821 hS]).mpr x0⟩⟩ (fun g3 => ?_)
    refine EQ_jl (by rw [r_454_115 hS, r_454_122 hS]) (fun h26 eh26 => ?_)
    have s4 := Sh_of eh26 (Sh_sta hS (by decide +kernel) (jI_nn g3) (fun e => absurd ((k_821 hS).symm.trans e) (by decide)))
    clear eh26
    refine EQ_jl rfl (fun x27 ex27 => ?_)
    clear ex27
    exact EQ_some s4
noncomputable def gX14_nodeOf_l147 (i2 : Int) (a3 : Int) (h : AH) : Option (AH) := jit (gX14_nodeOf_b147 i2) (a3, h)
theorem eX14_nodeOf_l147 (i2 : Int) (a3 : Int) {h : AH} (hS : Sh S h) : EQ (fX14_nodeOf_l147 454 i2 a3 h) (gX14_nodeOf_l147 i2 a3 h) (fun r => Sh S r) := EQ_jit (I := (fun r => Sh S r.2)) (fun s hs => eX14_nodeOf_b147 i2 hs) hS
noncomputable def gX14_nodeOf (h : AH) : Option (Int × AH) := jb (gX14_nodeOf_l4 0 0 h) fun o1 => jl (jand (jxor o1 (jushr o1 10)) 1023) fun x3 => jb (gX14_nodeOf_l41 x3 h) fun o4 => jm o4 (fun o6 => jg (jI o6 1024) <| some (w32 (h 822 o6 - 1), h)) (fun o7 => if h 454 114 ≤ 400 then (jb (gX14_nodeOf_l147 o7 0 h) fun o9 => jg (jI o7 1024) <| jl (jst o9 822 o7 (w32 (o9 454 114 + 1))) fun h11 => jl (jst h11 454 114 (w32 (h11 454 114 + 1))) fun h12 => some (w32 (h12 454 114 - 1), h12)) else (some ((-1), h)))
theorem eX14_nodeOf {h : AH} (hS : Sh S h) : EQ (fX14_nodeOf 454 h) (gX14_nodeOf h) (fun r => Sh S r.2) := by
  unfold fX14_nodeOf gX14_nodeOf
  refine EQ_jb (eX14_nodeOf_l4 0 0 hS) (fun o1 r1 => ?_)
  refine EQ_jl rfl (fun x3 ex3 => ?_)
  clear ex3
  refine EQ_jb (eX14_nodeOf_l41 x3 hS) (fun o4 r2 => ?_)
  refine EQ_jm r2 (fun o6 r3 => ?_) (fun o7 r4 => ?_)
  · refine EQ_jgd (show h 454 (-2) = 15 from by rw [k_454 hS]) ?_
    refine EQ_jg ⟨fun ⟨_, x0⟩ => (show jI o6 (h (h 454 116) (-1)) ↔ jI o6 1024 from by rw [r_454_116 hS, l_822 hS]).mp x0, fun x0 => ⟨(show h (h 454 116) (-2) = 101 from by rw [r_454_116 hS, k_822 hS]), (show jI o6 (h (h 454 116) (-1)) ↔ jI o6 1024 from by rw [r_454_116 hS, l_822 hS]).mpr x0⟩⟩ (fun g5 => ?_)
    exact EQ_some' (by rw [r_454_116 hS]) hS
  · refine EQ_jgd (show h 454 (-2) = 15 from by rw [k_454 hS]) ?_
    refine EQ_if Iff.rfl (fun c6 => ?_) (fun c6 => ?_)
    · refine EQ_jb (eX14_nodeOf_l147 o7 0 hS) (fun o9 r7 => ?_)
      refine EQ_jgd (show o9 454 (-2) = 15 from by rw [k_454 r7]) ?_
      refine EQ_jgd (show o9 454 (-2) = 15 from by rw [k_454 r7]) ?_
      refine EQ_jg ⟨fun ⟨_, _, x0⟩ => (show jI o7 (o9 (o9 454 116) (-1)) ↔ jI o7 1024 from by rw [r_454_116 r7, l_822 r7]).mp x0, fun x0 => ⟨(show o9 (o9 454 116) (-2) = 101 from by rw [r_454_116 r7, k_822 r7]), (show 200 ≤ o9 454 116 from by rw [r_454_116 r7]; exact (by decide)), (show jI o7 (o9 (o9 454 116) (-1)) ↔ jI o7 1024 from by rw [r_454_116 r7, l_822 r7]).mpr x0⟩⟩ (fun g8 => ?_)
      refine EQ_jl (by rw [r_454_116 r7]) (fun h11 eh11 => ?_)
      have s9 := Sh_of eh11 (Sh_sta r7 (by decide +kernel) (jI_nn g8) (fun e => absurd ((k_822 r7).symm.trans e) (by decide)))
      clear eh11
      refine EQ_jgd (show h11 454 (-2) = 15 from by rw [k_454 s9]) ?_
      refine EQ_jgd ⟨(show h11 454 (-2) = 15 from by rw [k_454 s9]), (show (200 : Int) ≤ 454 from (by decide))⟩ ?_
      refine EQ_jl rfl (fun h12 eh12 => ?_)
      have s10 := Sh_of eh12 (Sh_sto s9 (a := 454) (i := 114) (by decide +kernel))
      clear eh12
      refine EQ_jgd (show h12 454 (-2) = 15 from by rw [k_454 s10]) ?_
      exact EQ_some s10
    · exact EQ_some hS
noncomputable def gX14_spot_j135_64 (a1 : Int) (a2 : Int) (a3 : Int) (a4 : Int) (a5 : Int) (a6 : Int) (a7 : Int) (h : AH) : Option ((Int × Int) ⊕ ((Int) ⊕ (Unit))) := jl (w32 (a7 + 1)) fun x15 => some (.inl (a6, x15))
theorem eX14_spot_j135_64 (a1 : Int) (a2 : Int) (a3 : Int) (a4 : Int) (a5 : Int) (a6 : Int) (a7 : Int) {h : AH} (hS : Sh S h) : EQ (fX14_spot_j135_64 a1 a2 a3 a4 a5 a6 a7 h) (gX14_spot_j135_64 a1 a2 a3 a4 a5 a6 a7 h) (Sum.elim (fun _ => True) (Sum.elim (fun _ => True) (fun _ => True))) := by
  unfold fX14_spot_j135_64 gX14_spot_j135_64
  refine EQ_jl rfl (fun x15 ex15 => ?_)
  clear ex15
  exact EQ_some trivial
noncomputable def gX14_spot_j92_64 (a1 : Int) (a2 : Int) (a3 : Int) (a4 : Int) (a5 : Int) (a7 : Int) (t0 : Int) (h : AH) : Option ((Int × Int) ⊕ ((Int) ⊕ (Unit))) := jg (h a1 (-2) = 101 ∧ jI (w32 (a2 + a7)) (h a1 (-1))) <| if h a1 (w32 (a2 + a7)) = jdiv a5 3 then (if t0 = w32 (jrem a5 3 + 1) then (some (.inr (.inl a7))) else (gX14_spot_j135_64 a1 a2 a3 a4 a5 t0 a7 h)) else (gX14_spot_j135_64 a1 a2 a3 a4 a5 t0 a7 h)
theorem eX14_spot_j92_64 (a1 : Int) (a2 : Int) (a3 : Int) (a4 : Int) (a5 : Int) (a7 : Int) (t0 : Int) {h : AH} (hS : Sh S h) : EQ (fX14_spot_j92_64 a1 a2 a3 a4 a5 a7 t0 h) (gX14_spot_j92_64 a1 a2 a3 a4 a5 a7 t0 h) (Sum.elim (fun _ => True) (Sum.elim (fun _ => True) (fun _ => True))) := by
  unfold fX14_spot_j92_64 gX14_spot_j92_64
  refine EQ_jg Iff.rfl (fun g1 => ?_)
  refine EQ_if Iff.rfl (fun c2 => ?_) (fun c2 => ?_)
  · refine EQ_if Iff.rfl (fun c3 => ?_) (fun c3 => ?_)
    · exact EQ_some trivial
    · exact (eX14_spot_j135_64 a1 a2 a3 a4 a5 t0 a7 hS)
  · exact (eX14_spot_j135_64 a1 a2 a3 a4 a5 t0 a7 hS)
noncomputable def gX14_spot_b64 (i1 : Int) (i2 : Int) (i3 : Int) (i4 : Int) (i5 : Int) (h : AH) (s : Int × Int) : Option ((Int × Int) ⊕ ((Int) ⊕ (Unit))) := jt2 s fun a6 a7 => if i3 ≤ a7 then (some (.inr (.inr ()))) else (jg (h i1 (-2) = 101 ∧ jI (w32 (i2 + a7)) (h i1 (-1))) <| if h i1 (w32 (i2 + a7)) = jdiv i5 3 then (gX14_spot_j92_64 i1 i2 i3 i4 i5 a7 (w32 (a6 + 1)) h) else (gX14_spot_j92_64 i1 i2 i3 i4 i5 a7 a6 h))
theorem eX14_spot_b64 (i1 : Int) (i2 : Int) (i3 : Int) (i4 : Int) (i5 : Int) (s : Int × Int) {h : AH} (hS : Sh S h) : EQ (fX14_spot_b64 i1 i2 i3 i4 i5 h s) (gX14_spot_b64 i1 i2 i3 i4 i5 h s) (Sum.elim (fun _ => True) (Sum.elim (fun _ => True) (fun _ => True))) := by
  unfold fX14_spot_b64 gX14_spot_b64
  obtain ⟨a6, a7⟩ := s
  refine EQ_jt2 ?_
  refine EQ_if Iff.rfl (fun c1 => ?_) (fun c1 => ?_)
  · exact EQ_some trivial
  · refine EQ_jg Iff.rfl (fun g2 => ?_)
    refine EQ_if Iff.rfl (fun c3 => ?_) (fun c3 => ?_)
    · exact (eX14_spot_j92_64 i1 i2 i3 i4 i5 a7 (w32 (a6 + 1)) hS)
    · exact (eX14_spot_j92_64 i1 i2 i3 i4 i5 a7 a6 hS)
noncomputable def gX14_spot_l64 (i1 : Int) (i2 : Int) (i3 : Int) (i4 : Int) (i5 : Int) (a6 : Int) (a7 : Int) (h : AH) : Option ((Int) ⊕ (Unit)) := jit (gX14_spot_b64 i1 i2 i3 i4 i5 h) (a6, a7)
theorem eX14_spot_l64 (i1 : Int) (i2 : Int) (i3 : Int) (i4 : Int) (i5 : Int) (a6 : Int) (a7 : Int) {h : AH} (hS : Sh S h) : EQ (fX14_spot_l64 i1 i2 i3 i4 i5 a6 a7 h) (gX14_spot_l64 i1 i2 i3 i4 i5 a6 a7 h) (Sum.elim (fun _ => True) (fun _ => True)) := EQ_jit (I := (fun _ => True)) (fun s _ => eX14_spot_b64 i1 i2 i3 i4 i5 s hS) trivial
noncomputable def gX14_spot (a1 : Int) (a2 : Int) (a3 : Int) (a4 : Int) (h : AH) : Option (Int) := if 11 ≤ a4 then (if 22 ≤ a4 then (jl (jrem (w32 (a4 - 22)) 78) fun x3 => jb (gX14_spot_l64 a1 a2 a3 a4 x3 0 0 h) fun o4 => jm o4 (fun o6 => if 100 ≤ a4 then (some (w32 (o6 + 1))) else (some o6)) (fun o7 => some (-1))) else (if a3 < w32 (a4 - 11) then (some (-1)) else (some (w32 (a3 - w32 (a4 - 11)))))) else (if a3 < a4 then (some (-1)) else (some a4))
theorem eX14_spot (a1 : Int) (a2 : Int) (a3 : Int) (a4 : Int) {h : AH} (hS : Sh S h) : EQ (fX14_spot 454 a1 a2 a3 a4 h) (gX14_spot a1 a2 a3 a4 h) (fun _ => True) := by
  unfold fX14_spot gX14_spot
  refine EQ_if Iff.rfl (fun c1 => ?_) (fun c1 => ?_)
  · refine EQ_if Iff.rfl (fun c2 => ?_) (fun c2 => ?_)
    · refine EQ_jl rfl (fun x3 ex3 => ?_)
      clear ex3
      refine EQ_jb (eX14_spot_l64 a1 a2 a3 a4 x3 0 0 hS) (fun o4 r3 => ?_)
      refine EQ_jm r3 (fun o6 r4 => ?_) (fun o7 r5 => ?_)
      · refine EQ_if Iff.rfl (fun c6 => ?_) (fun c6 => ?_)
        · exact EQ_some trivial
        · exact EQ_some trivial
      · exact EQ_some trivial
    · refine EQ_if Iff.rfl (fun c7 => ?_) (fun c7 => ?_)
      · exact EQ_some trivial
      · exact EQ_some trivial
  · refine EQ_if Iff.rfl (fun c8 => ?_) (fun c8 => ?_)
    · exact EQ_some trivial
    · exact EQ_some trivial
noncomputable def gX14_spotPrice (a0 : Int) : Option (Int) := if 22 ≤ a0 then (some 2) else (some 1)
theorem eX14_spotPrice (a0 : Int) : EQ (fX14_spotPrice a0) (gX14_spotPrice a0) (fun _ => True) := by
  unfold fX14_spotPrice gX14_spotPrice
  refine EQ_if Iff.rfl (fun c1 => ?_) (fun c1 => ?_)
  · exact EQ_some trivial
  · exact EQ_some trivial
noncomputable def gX14_makeSpots_j306_2 (a1 : Int) (h : AH) : Option ((Int × AH) ⊕ (AH)) := jl (w32 (a1 + 1)) fun x18 => some (.inl (x18, h))
theorem eX14_makeSpots_j306_2 (a1 : Int) {h : AH} (hS : Sh S h) : EQ (fX14_makeSpots_j306_2 454 a1 h) (gX14_makeSpots_j306_2 a1 h) (Sum.elim (fun r => Sh S r.2) (fun r => Sh S r)) := by
  unfold fX14_makeSpots_j306_2 gX14_makeSpots_j306_2
  refine EQ_jl rfl (fun x18 ex18 => ?_)
  clear ex18
  exact EQ_some hS
noncomputable def gX14_makeSpots_j268_2 (a1 : Int) (h : AH) : Option ((Int × AH) ⊕ (AH)) := jg (jI a1 178) <| if h 824 a1 = 0 then (gX14_makeSpots_j306_2 a1 h) else (jg (jI (h 825 a1) 178) <| jb (gX14_spotPrice a1) fun v16 => jl (jst h 827 (h 825 a1) (min (h 827 (h 825 a1)) v16)) fun h17 => gX14_makeSpots_j306_2 a1 h17)
theorem eX14_makeSpots_j268_2 (a1 : Int) {h : AH} (hS : Sh S h) : EQ (fX14_makeSpots_j268_2 454 a1 h) (gX14_makeSpots_j268_2 a1 h) (Sum.elim (fun r => Sh S r.2) (fun r => Sh S r)) := by
  unfold fX14_makeSpots_j268_2 gX14_makeSpots_j268_2
  refine EQ_jgd (show h 454 (-2) = 15 from by rw [k_454 hS]) ?_
  refine EQ_jg ⟨fun ⟨_, x0⟩ => (show jI a1 (h (h 454 118) (-1)) ↔ jI a1 178 from by rw [r_454_118 hS, l_824 hS]).mp x0, fun x0 => ⟨(show h (h 454 118) (-2) = 104 from by rw [r_454_118 hS, k_824 hS]), (show jI a1 (h (h 454 118) (-1)) ↔ jI a1 178 from by rw [r_454_118 hS, l_824 hS]).mpr x0⟩⟩ (fun g1 => ?_)
  refine EQ_if (show h (h 454 118) a1 = 0 ↔ h 824 a1 = 0 from by rw [r_454_118 hS]) (fun c2 => ?_) (fun c2 => ?_)
  · exact (eX14_makeSpots_j306_2 a1 hS)
  · refine EQ_jgd (show h 454 (-2) = 15 from by rw [k_454 hS]) ?_
    refine EQ_jgd (show h 454 (-2) = 15 from by rw [k_454 hS]) ?_
    refine EQ_jgd ⟨(show h (h 454 119) (-2) = 101 from by rw [r_454_119 hS, k_825 hS]), ((show jI a1 (h (h 454 119) (-1)) ↔ jI a1 178 from by rw [r_454_119 hS, l_825 hS]).mpr g1)⟩ ?_
    refine EQ_jgd (show h 454 (-2) = 15 from by rw [k_454 hS]) ?_
    refine EQ_jgd (show h 454 (-2) = 15 from by rw [k_454 hS]) ?_
    refine EQ_jgd ⟨(show h (h 454 119) (-2) = 101 from by rw [r_454_119 hS, k_825 hS]), ((show jI a1 (h (h 454 119) (-1)) ↔ jI a1 178 from by rw [r_454_119 hS, l_825 hS]).mpr g1)⟩ ?_
    refine EQ_jg ⟨fun ⟨_, x0⟩ => (show jI (h (h 454 119) a1) (h (h 454 121) (-1)) ↔ jI (h 825 a1) 178 from by rw [r_454_119 hS, r_454_121 hS, l_827 hS]).mp x0, fun x0 => ⟨(show h (h 454 121) (-2) = 101 from by rw [r_454_121 hS, k_827 hS]), (show jI (h (h 454 119) a1) (h (h 454 121) (-1)) ↔ jI (h 825 a1) 178 from by rw [r_454_119 hS, r_454_121 hS, l_827 hS]).mpr x0⟩⟩ (fun g3 => ?_)
    refine EQ_jb (eX14_spotPrice a1) (fun v16 r4 => ?_)
    refine EQ_jgd ⟨(show h (h 454 121) (-2) = 101 from by rw [r_454_121 hS, k_827 hS]), (show 200 ≤ h 454 121 from by rw [r_454_121 hS]; exact (by decide)), ((show jI (h (h 454 119) a1) (h (h 454 121) (-1)) ↔ jI (h 825 a1) 178 from by rw [r_454_119 hS, r_454_121 hS, l_827 hS]).mpr g3)⟩ ?_
    refine EQ_jl (by rw [r_454_121 hS, r_454_119 hS]) (fun h17 eh17 => ?_)
    have s5 := Sh_of eh17 (Sh_sta hS (by decide +kernel) (jI_nn g3) (fun e => absurd ((k_827 hS).symm.trans e) (by decide)))
    clear eh17
    exact (eX14_makeSpots_j306_2 a1 s5)
noncomputable def gX14_makeSpots_j244_2 (a1 : Int) (h : AH) : Option ((Int × AH) ⊕ (AH)) := jg (jI a1 178) <| if h 824 a1 = 0 then (gX14_makeSpots_j268_2 a1 h) else (jg (jI (h 825 a1) 178) <| jl (jst h 826 (h 825 a1) (w32 (h 826 (h 825 a1) + 1))) fun h13 => gX14_makeSpots_j268_2 a1 h13)
theorem eX14_makeSpots_j244_2 (a1 : Int) {h : AH} (hS : Sh S h) : EQ (fX14_makeSpots_j244_2 454 a1 h) (gX14_makeSpots_j244_2 a1 h) (Sum.elim (fun r => Sh S r.2) (fun r => Sh S r)) := by
  unfold fX14_makeSpots_j244_2 gX14_makeSpots_j244_2
  refine EQ_jgd (show h 454 (-2) = 15 from by rw [k_454 hS]) ?_
  refine EQ_jg ⟨fun ⟨_, x0⟩ => (show jI a1 (h (h 454 118) (-1)) ↔ jI a1 178 from by rw [r_454_118 hS, l_824 hS]).mp x0, fun x0 => ⟨(show h (h 454 118) (-2) = 104 from by rw [r_454_118 hS, k_824 hS]), (show jI a1 (h (h 454 118) (-1)) ↔ jI a1 178 from by rw [r_454_118 hS, l_824 hS]).mpr x0⟩⟩ (fun g1 => ?_)
  refine EQ_if (show h (h 454 118) a1 = 0 ↔ h 824 a1 = 0 from by rw [r_454_118 hS]) (fun c2 => ?_) (fun c2 => ?_)
  · exact (eX14_makeSpots_j268_2 a1 hS)
  · refine EQ_jgd (show h 454 (-2) = 15 from by rw [k_454 hS]) ?_
    refine EQ_jgd (show h 454 (-2) = 15 from by rw [k_454 hS]) ?_
    refine EQ_jgd ⟨(show h (h 454 119) (-2) = 101 from by rw [r_454_119 hS, k_825 hS]), ((show jI a1 (h (h 454 119) (-1)) ↔ jI a1 178 from by rw [r_454_119 hS, l_825 hS]).mpr g1)⟩ ?_
    refine EQ_jg ⟨fun ⟨_, x0⟩ => (show jI (h (h 454 119) a1) (h (h 454 120) (-1)) ↔ jI (h 825 a1) 178 from by rw [r_454_119 hS, r_454_120 hS, l_826 hS]).mp x0, fun x0 => ⟨(show h (h 454 120) (-2) = 101 from by rw [r_454_120 hS, k_826 hS]), (show jI (h (h 454 119) a1) (h (h 454 120) (-1)) ↔ jI (h 825 a1) 178 from by rw [r_454_119 hS, r_454_120 hS, l_826 hS]).mpr x0⟩⟩ (fun g3 => ?_)
    refine EQ_jgd ⟨(show h (h 454 120) (-2) = 101 from by rw [r_454_120 hS, k_826 hS]), (show 200 ≤ h 454 120 from by rw [r_454_120 hS]; exact (by decide)), ((show jI (h (h 454 119) a1) (h (h 454 120) (-1)) ↔ jI (h 825 a1) 178 from by rw [r_454_119 hS, r_454_120 hS, l_826 hS]).mpr g3)⟩ ?_
    refine EQ_jl (by rw [r_454_120 hS, r_454_119 hS]) (fun h13 eh13 => ?_)
    have s4 := Sh_of eh13 (Sh_sta hS (by decide +kernel) (jI_nn g3) (fun e => absurd ((k_826 hS).symm.trans e) (by decide)))
    clear eh13
    exact (eX14_makeSpots_j268_2 a1 s4)
noncomputable def gX14_makeSpots_j237_119 (a1 : Int) (a2 : Int) (t1 : Int) (t2 : Int) (h : AH) : Option ((Int × AH) ⊕ (AH)) := jg (jI t1 178) <| jl (jst h 825 t1 t2) fun h27 => jl (w32 (a2 + 1)) fun x28 => some (.inl (x28, h27))
theorem eX14_makeSpots_j237_119 (a1 : Int) (a2 : Int) (t1 : Int) (t2 : Int) {h : AH} (hS : Sh S h) : EQ (fX14_makeSpots_j237_119 454 a1 a2 825 t1 t2 h) (gX14_makeSpots_j237_119 a1 a2 t1 t2 h) (Sum.elim (fun r => Sh S r.2) (fun r => Sh S r)) := by
  unfold fX14_makeSpots_j237_119 gX14_makeSpots_j237_119
  refine EQ_jg ⟨fun ⟨_, _, x0⟩ => (show jI t1 (h 825 (-1)) ↔ jI t1 178 from by rw [l_825 hS]).mp x0, fun x0 => ⟨(show h 825 (-2) = 101 from by rw [k_825 hS]), (show (200 : Int) ≤ 825 from (by decide)), (show jI t1 (h 825 (-1)) ↔ jI t1 178 from by rw [l_825 hS]).mpr x0⟩⟩ (fun g1 => ?_)
  refine EQ_jl rfl (fun h27 eh27 => ?_)
  have s2 := Sh_of eh27 (Sh_sta hS (by decide +kernel) (jI_nn g1) (fun e => absurd ((k_825 hS).symm.trans e) (by decide)))
  clear eh27
  refine EQ_jl rfl (fun x28 ex28 => ?_)
  clear ex28
  exact EQ_some s2
noncomputable def gX14_makeSpots_j223_119 (a1 : Int) (a2 : Int) (a3 : Int) (h : AH) : Option ((Int × AH) ⊕ (AH)) := if a3 = 0 then (gX14_makeSpots_j237_119 a1 a2 a1 a1 h) else (gX14_makeSpots_j237_119 a1 a2 a1 a2 h)
theorem eX14_makeSpots_j223_119 (a1 : Int) (a2 : Int) (a3 : Int) {h : AH} (hS : Sh S h) : EQ (fX14_makeSpots_j223_119 454 a1 a2 a3 h) (gX14_makeSpots_j223_119 a1 a2 a3 h) (Sum.elim (fun r => Sh S r.2) (fun r => Sh S r)) := by
  unfold fX14_makeSpots_j223_119 gX14_makeSpots_j223_119
  refine EQ_jgd (show h 454 (-2) = 15 from by rw [k_454 hS]) ?_
  refine EQ_if Iff.rfl (fun c1 => ?_) (fun c1 => ?_)
  · exact (by rw [r_454_119 hS]; exact eX14_makeSpots_j237_119 a1 a2 a1 a1 hS)
  · exact (by rw [r_454_119 hS]; exact eX14_makeSpots_j237_119 a1 a2 a1 a2 hS)
noncomputable def gX14_makeSpots_j216_171 (a1 : Int) (a2 : Int) (a4 : Int) (t0 : Int) (h : AH) : Option ((Int × Int) ⊕ (Int)) := jl (w32 (a4 + 1)) fun x32 => some (.inl (t0, x32))
theorem eX14_makeSpots_j216_171 (a1 : Int) (a2 : Int) (a4 : Int) (t0 : Int) {h : AH} (hS : Sh S h) : EQ (fX14_makeSpots_j216_171 454 a1 a2 a4 t0 h) (gX14_makeSpots_j216_171 a1 a2 a4 t0 h) (Sum.elim (fun _ => True) (fun _ => True)) := by
  unfold fX14_makeSpots_j216_171 gX14_makeSpots_j216_171
  refine EQ_jl rfl (fun x32 ex32 => ?_)
  clear ex32
  exact EQ_some trivial
noncomputable def gX14_makeSpots_b171 (i1 : Int) (i2 : Int) (h : AH) (s : Int × Int) : Option ((Int × Int) ⊕ (Int)) := jt2 s fun a3 a4 => if h 454 109 ≤ a4 then (some (.inr a3)) else (if a3 = 0 then (some (.inr a3)) else (jg (jI (w32 (w32 (8 * i2) + a4)) 1424) <| jg (jI (w32 (w32 (8 * i1) + a4)) 1424) <| if h 823 (w32 (w32 (8 * i2) + a4)) = h 823 (w32 (w32 (8 * i1) + a4)) then (gX14_makeSpots_j216_171 i1 i2 a4 1 h) else (gX14_makeSpots_j216_171 i1 i2 a4 0 h)))
theorem eX14_makeSpots_b171 (i1 : Int) (i2 : Int) (s : Int × Int) {h : AH} (hS : Sh S h) : EQ (fX14_makeSpots_b171 454 i1 i2 h s) (gX14_makeSpots_b171 i1 i2 h s) (Sum.elim (fun _ => True) (fun _ => True)) := by
  unfold fX14_makeSpots_b171 gX14_makeSpots_b171
  obtain ⟨a3, a4⟩ := s
  refine EQ_jt2 ?_
  refine EQ_jgd (show h 454 (-2) = 15 from by rw [k_454 hS]) ?_
  refine EQ_if Iff.rfl (fun c1 => ?_) (fun c1 => ?_)
  · exact EQ_some trivial
  · refine EQ_if Iff.rfl (fun c2 => ?_) (fun c2 => ?_)
    · exact EQ_some trivial
    · refine EQ_jgd (show h 454 (-2) = 15 from by rw [k_454 hS]) ?_
      refine EQ_jg ⟨fun ⟨_, x0⟩ => (show jI (w32 (w32 (8 * i2) + a4)) (h (h 454 117) (-1)) ↔ jI (w32 (w32 (8 * i2) + a4)) 1424 from by rw [r_454_117 hS, l_823 hS]).mp x0, fun x0 => ⟨(show h (h 454 117) (-2) = 101 from by rw [r_454_117 hS, k_823 hS]), (show jI (w32 (w32 (8 * i2) + a4)) (h (h 454 117) (-1)) ↔ jI (w32 (w32 (8 * i2) + a4)) 1424 from by rw [r_454_117 hS, l_823 hS]).mpr x0⟩⟩ (fun g3 => ?_)
      refine EQ_jgd (show h 454 (-2) = 15 from by rw [k_454 hS]) ?_
      refine EQ_jg ⟨fun ⟨_, x0⟩ => (show jI (w32 (w32 (8 * i1) + a4)) (h (h 454 117) (-1)) ↔ jI (w32 (w32 (8 * i1) + a4)) 1424 from by rw [r_454_117 hS, l_823 hS]).mp x0, fun x0 => ⟨(show h (h 454 117) (-2) = 101 from by rw [r_454_117 hS, k_823 hS]), (show jI (w32 (w32 (8 * i1) + a4)) (h (h 454 117) (-1)) ↔ jI (w32 (w32 (8 * i1) + a4)) 1424 from by rw [r_454_117 hS, l_823 hS]).mpr x0⟩⟩ (fun g4 => ?_)
      refine EQ_if (show h (h 454 117) (w32 (w32 (8 * i2) + a4)) = h (h 454 117) (w32 (w32 (8 * i1) + a4)) ↔ h 823 (w32 (w32 (8 * i2) + a4)) = h 823 (w32 (w32 (8 * i1) + a4)) from by rw [r_454_117 hS]) (fun c5 => ?_) (fun c5 => ?_)
      · exact (eX14_makeSpots_j216_171 i1 i2 a4 1 hS)
      · exact (eX14_makeSpots_j216_171 i1 i2 a4 0 hS)
noncomputable def gX14_makeSpots_l171 (i1 : Int) (i2 : Int) (a3 : Int) (a4 : Int) (h : AH) : Option (Int) := jit (gX14_makeSpots_b171 i1 i2 h) (a3, a4)
theorem eX14_makeSpots_l171 (i1 : Int) (i2 : Int) (a3 : Int) (a4 : Int) {h : AH} (hS : Sh S h) : EQ (fX14_makeSpots_l171 454 i1 i2 a3 a4 h) (gX14_makeSpots_l171 i1 i2 a3 a4 h) (fun _ => True) := EQ_jit (I := (fun _ => True)) (fun s _ => eX14_makeSpots_b171 i1 i2 s hS) trivial
noncomputable def gX14_makeSpots_j167_119 (a1 : Int) (a2 : Int) (t0 : Int) (h : AH) : Option ((Int × AH) ⊕ (AH)) := jb (gX14_makeSpots_l171 a1 a2 t0 0 h) fun o24 => gX14_makeSpots_j223_119 a1 a2 o24 h
theorem eX14_makeSpots_j167_119 (a1 : Int) (a2 : Int) (t0 : Int) {h : AH} (hS : Sh S h) : EQ (fX14_makeSpots_j167_119 454 a1 a2 t0 h) (gX14_makeSpots_j167_119 a1 a2 t0 h) (Sum.elim (fun r => Sh S r.2) (fun r => Sh S r)) := by
  unfold fX14_makeSpots_j167_119 gX14_makeSpots_j167_119
  refine EQ_jb (eX14_makeSpots_l171 a1 a2 t0 0 hS) (fun o24 r1 => ?_)
  exact (eX14_makeSpots_j223_119 a1 a2 o24 hS)
noncomputable def gX14_makeSpots_b119 (i1 : Int) (s : Int × AH) : Option ((Int × AH) ⊕ (AH)) := jt2 s fun a2 h => if i1 ≤ a2 then (some (.inr h)) else (jg (jI i1 178) <| if h 824 i1 = 0 then (some (.inr h)) else (if h 825 i1 = i1 then (jg (jI a2 178) <| if h 824 a2 = 0 then (gX14_makeSpots_j167_119 i1 a2 0 h) else (if h 825 a2 = a2 then (gX14_makeSpots_j167_119 i1 a2 1 h) else (gX14_makeSpots_j167_119 i1 a2 0 h))) else (some (.inr h))))
theorem eX14_makeSpots_b119 (i1 : Int) {s : Int × AH} (hS : (fun r => Sh S r.2) s) : EQ (fX14_makeSpots_b119 454 i1 s) (gX14_makeSpots_b119 i1 s) (Sum.elim (fun r => Sh S r.2) (fun r => Sh S r)) := by
  unfold fX14_makeSpots_b119 gX14_makeSpots_b119
  obtain ⟨a2, h⟩ := s
  refine EQ_jt2 ?_
  replace hS : Sh S h := hS
  refine EQ_if Iff.rfl (fun c1 => ?_) (fun c1 => ?_)
  · exact EQ_some hS
  · refine EQ_jgd (show h 454 (-2) = 15 from by rw [k_454 hS]) ?_
    refine EQ_jg ⟨fun ⟨_, x0⟩ => (show jI i1 (h (h 454 118) (-1)) ↔ jI i1 178 from by rw [r_454_118 hS, l_824 hS]).mp x0, fun x0 => ⟨(show h (h 454 118) (-2) = 104 from by rw [r_454_118 hS, k_824 hS]), (show jI i1 (h (h 454 118) (-1)) ↔ jI i1 178 from by rw [r_454_118 hS, l_824 hS]).mpr x0⟩⟩ (fun g2 => ?_)
    refine EQ_if (show h (h 454 118) i1 = 0 ↔ h 824 i1 = 0 from by rw [r_454_118 hS]) (fun c3 => ?_) (fun c3 => ?_)
    · exact EQ_some hS
    · refine EQ_jgd (show h 454 (-2) = 15 from by rw [k_454 hS]) ?_
      refine EQ_jgd ⟨(show h (h 454 119) (-2) = 101 from by rw [r_454_119 hS, k_825 hS]), ((show jI i1 (h (h 454 119) (-1)) ↔ jI i1 178 from by rw [r_454_119 hS, l_825 hS]).mpr g2)⟩ ?_
      refine EQ_if (show h (h 454 119) i1 = i1 ↔ h 825 i1 = i1 from by rw [r_454_119 hS]) (fun c4 => ?_) (fun c4 => ?_)
      · refine EQ_jgd (show h 454 (-2) = 15 from by rw [k_454 hS]) ?_
        refine EQ_jg ⟨fun ⟨_, x0⟩ => (show jI a2 (h (h 454 118) (-1)) ↔ jI a2 178 from by rw [r_454_118 hS, l_824 hS]).mp x0, fun x0 => ⟨(show h (h 454 118) (-2) = 104 from by rw [r_454_118 hS, k_824 hS]), (show jI a2 (h (h 454 118) (-1)) ↔ jI a2 178 from by rw [r_454_118 hS, l_824 hS]).mpr x0⟩⟩ (fun g5 => ?_)
        refine EQ_if (show h (h 454 118) a2 = 0 ↔ h 824 a2 = 0 from by rw [r_454_118 hS]) (fun c6 => ?_) (fun c6 => ?_)
        · exact (eX14_makeSpots_j167_119 i1 a2 0 hS)
        · refine EQ_jgd (show h 454 (-2) = 15 from by rw [k_454 hS]) ?_
          refine EQ_jgd ⟨(show h (h 454 119) (-2) = 101 from by rw [r_454_119 hS, k_825 hS]), ((show jI a2 (h (h 454 119) (-1)) ↔ jI a2 178 from by rw [r_454_119 hS, l_825 hS]).mpr g5)⟩ ?_
          refine EQ_if (show h (h 454 119) a2 = a2 ↔ h 825 a2 = a2 from by rw [r_454_119 hS]) (fun c7 => ?_) (fun c7 => ?_)
          · exact (eX14_makeSpots_j167_119 i1 a2 1 hS)
          · exact (eX14_makeSpots_j167_119 i1 a2 0 hS)
      · exact EQ_some hS
noncomputable def gX14_makeSpots_l119 (i1 : Int) (a2 : Int) (h : AH) : Option (AH) := jit (gX14_makeSpots_b119 i1) (a2, h)
theorem eX14_makeSpots_l119 (i1 : Int) (a2 : Int) {h : AH} (hS : Sh S h) : EQ (fX14_makeSpots_l119 454 i1 a2 h) (gX14_makeSpots_l119 i1 a2 h) (fun r => Sh S r) := EQ_jit (I := (fun r => Sh S r.2)) (fun s hs => eX14_makeSpots_b119 i1 hs) hS
noncomputable def gX14_makeSpots_j96_2 (a1 : Int) (h : AH) : Option ((Int × AH) ⊕ (AH)) := jg (jI a1 178) <| jl (jst h 825 a1 a1) fun h7 => jl (jst h7 826 a1 0) fun h8 => jl (jst h8 827 a1 2) fun h9 => jb (gX14_makeSpots_l119 a1 0 h9) fun o10 => gX14_makeSpots_j244_2 a1 o10
theorem eX14_makeSpots_j96_2 (a1 : Int) {h : AH} (hS : Sh S h) : EQ (fX14_makeSpots_j96_2 454 a1 h) (gX14_makeSpots_j96_2 a1 h) (Sum.elim (fun r => Sh S r.2) (fun r => Sh S r)) := by
  unfold fX14_makeSpots_j96_2 gX14_makeSpots_j96_2
  refine EQ_jgd (show h 454 (-2) = 15 from by rw [k_454 hS]) ?_
  refine EQ_jg ⟨fun ⟨_, _, x0⟩ => (show jI a1 (h (h 454 119) (-1)) ↔ jI a1 178 from by rw [r_454_119 hS, l_825 hS]).mp x0, fun x0 => ⟨(show h (h 454 119) (-2) = 101 from by rw [r_454_119 hS, k_825 hS]), (show 200 ≤ h 454 119 from by rw [r_454_119 hS]; exact (by decide)), (show jI a1 (h (h 454 119) (-1)) ↔ jI a1 178 from by rw [r_454_119 hS, l_825 hS]).mpr x0⟩⟩ (fun g1 => ?_)
  refine EQ_jl (by rw [r_454_119 hS]) (fun h7 eh7 => ?_)
  have s2 := Sh_of eh7 (Sh_sta hS (by decide +kernel) (jI_nn g1) (fun e => absurd ((k_825 hS).symm.trans e) (by decide)))
  clear eh7
  refine EQ_jgd (show h7 454 (-2) = 15 from by rw [k_454 s2]) ?_
  refine EQ_jgd ⟨(show h7 (h7 454 120) (-2) = 101 from by rw [r_454_120 s2, k_826 s2]), (show 200 ≤ h7 454 120 from by rw [r_454_120 s2]; exact (by decide)), ((show jI a1 (h7 (h7 454 120) (-1)) ↔ jI a1 178 from by rw [r_454_120 s2, l_826 s2]).mpr g1)⟩ ?_
  refine EQ_jl (by rw [r_454_120 s2]) (fun h8 eh8 => ?_)
  have s3 := Sh_of eh8 (Sh_sta s2 (by decide +kernel) (jI_nn g1) (fun e => absurd ((k_826 s2).symm.trans e) (by decide)))
  clear eh8
  refine EQ_jgd (show h8 454 (-2) = 15 from by rw [k_454 s3]) ?_
  refine EQ_jgd ⟨(show h8 (h8 454 121) (-2) = 101 from by rw [r_454_121 s3, k_827 s3]), (show 200 ≤ h8 454 121 from by rw [r_454_121 s3]; exact (by decide)), ((show jI a1 (h8 (h8 454 121) (-1)) ↔ jI a1 178 from by rw [r_454_121 s3, l_827 s3]).mpr g1)⟩ ?_
  refine EQ_jl (by rw [r_454_121 s3]) (fun h9 eh9 => ?_)
  have s4 := Sh_of eh9 (Sh_sta s3 (by decide +kernel) (jI_nn g1) (fun e => absurd ((k_827 s3).symm.trans e) (by decide)))
  clear eh9
  refine EQ_jb (eX14_makeSpots_l119 a1 0 s4) (fun o10 r5 => ?_)
  exact (eX14_makeSpots_j244_2 a1 r5)
noncomputable def gX14_makeSpots_j89_18 (a1 : Int) (a2 : Int) (t1 : Int) (t2 : Int) (h : AH) : Option ((Int × AH) ⊕ (AH)) := jg (jI t1 178) <| jl (jst h 824 t1 (ji2z t2)) fun h39 => jl (w32 (a2 + 1)) fun x40 => some (.inl (x40, h39))
theorem eX14_makeSpots_j89_18 (a1 : Int) (a2 : Int) (t1 : Int) (t2 : Int) {h : AH} (hS : Sh S h) : EQ (fX14_makeSpots_j89_18 454 a1 a2 824 t1 t2 h) (gX14_makeSpots_j89_18 a1 a2 t1 t2 h) (Sum.elim (fun r => Sh S r.2) (fun r => Sh S r)) := by
  unfold fX14_makeSpots_j89_18 gX14_makeSpots_j89_18
  refine EQ_jg ⟨fun ⟨_, _, x0⟩ => (show jI t1 (h 824 (-1)) ↔ jI t1 178 from by rw [l_824 hS]).mp x0, fun x0 => ⟨(show h 824 (-2) = 104 from by rw [k_824 hS]), (show (200 : Int) ≤ 824 from (by decide)), (show jI t1 (h 824 (-1)) ↔ jI t1 178 from by rw [l_824 hS]).mpr x0⟩⟩ (fun g1 => ?_)
  refine EQ_jl rfl (fun h39 eh39 => ?_)
  have s2 := Sh_of eh39 (Sh_sta hS (by decide +kernel) (jI_nn g1) (fun e => absurd ((k_824 hS).symm.trans e) (by decide)))
  clear eh39
  refine EQ_jl rfl (fun x40 ex40 => ?_)
  clear ex40
  exact EQ_some s2
noncomputable def gX14_makeSpots_b18 (i1 : Int) (s : Int × AH) : Option ((Int × AH) ⊕ (AH)) := jt2 s fun a2 h => if h 454 109 ≤ a2 then (some (.inr h)) else (jg (jI i1 178) <| if h 824 i1 = 0 then (some (.inr h)) else (jg (jI a2 8) <| jb (gX14_spot 819 (w32 (10 * a2)) (h 817 a2) i1 h) fun v36 => jg (jI (w32 (w32 (8 * i1) + a2)) 1424) <| jl (jst h 823 (w32 (w32 (8 * i1) + a2)) v36) fun h37 => if h37 823 (w32 (w32 (8 * i1) + a2)) < 0 then (gX14_makeSpots_j89_18 i1 a2 i1 0 h37) else (gX14_makeSpots_j89_18 i1 a2 i1 1 h37)))
theorem eX14_makeSpots_b18 (i1 : Int) {s : Int × AH} (hS : (fun r => Sh S r.2) s) : EQ (fX14_makeSpots_b18 454 i1 s) (gX14_makeSpots_b18 i1 s) (Sum.elim (fun r => Sh S r.2) (fun r => Sh S r)) := by
  unfold fX14_makeSpots_b18 gX14_makeSpots_b18
  obtain ⟨a2, h⟩ := s
  refine EQ_jt2 ?_
  replace hS : Sh S h := hS
  refine EQ_jgd (show h 454 (-2) = 15 from by rw [k_454 hS]) ?_
  refine EQ_if Iff.rfl (fun c1 => ?_) (fun c1 => ?_)
  · exact EQ_some hS
  · refine EQ_jgd (show h 454 (-2) = 15 from by rw [k_454 hS]) ?_
    refine EQ_jg ⟨fun ⟨_, x0⟩ => (show jI i1 (h (h 454 118) (-1)) ↔ jI i1 178 from by rw [r_454_118 hS, l_824 hS]).mp x0, fun x0 => ⟨(show h (h 454 118) (-2) = 104 from by rw [r_454_118 hS, k_824 hS]), (show jI i1 (h (h 454 118) (-1)) ↔ jI i1 178 from by rw [r_454_118 hS, l_824 hS]).mpr x0⟩⟩ (fun g2 => ?_)
    refine EQ_if (show h (h 454 118) i1 = 0 ↔ h 824 i1 = 0 from by rw [r_454_118 hS]) (fun c3 => ?_) (fun c3 => ?_)
    · exact EQ_some hS
    · refine EQ_jgd (show h 454 (-2) = 15 from by rw [k_454 hS]) ?_
      refine EQ_jgd (show h 454 (-2) = 15 from by rw [k_454 hS]) ?_
      refine EQ_jgd (show h 454 (-2) = 15 from by rw [k_454 hS]) ?_
      refine EQ_jg ⟨fun ⟨_, x0⟩ => (show jI a2 (h (h 454 110) (-1)) ↔ jI a2 8 from by rw [r_454_110 hS, l_817 hS]).mp x0, fun x0 => ⟨(show h (h 454 110) (-2) = 101 from by rw [r_454_110 hS, k_817 hS]), (show jI a2 (h (h 454 110) (-1)) ↔ jI a2 8 from by rw [r_454_110 hS, l_817 hS]).mpr x0⟩⟩ (fun g4 => ?_)
      refine EQ_jgd (show h 454 (-2) = 15 from by rw [k_454 hS]) ?_
      refine EQ_jb (by rw [r_454_112 hS, r_454_110 hS]; exact eX14_spot 819 (w32 (10 * a2)) (h 817 a2) i1 hS) (fun v36 r5 => ?_)
      refine EQ_jg ⟨fun ⟨_, _, x0⟩ => (show jI (w32 (w32 (8 * i1) + a2)) (h (h 454 117) (-1)) ↔ jI (w32 (w32 (8 * i1) + a2)) 1424 from by rw [r_454_117 hS, l_823 hS]).mp x0, fun x0 => ⟨(show h (h 454 117) (-2) = 101 from by rw [r_454_117 hS, k_823 hS]), (show 200 ≤ h 454 117 from by rw [r_454_117 hS]; exact (by decide)), (show jI (w32 (w32 (8 * i1) + a2)) (h (h 454 117) (-1)) ↔ jI (w32 (w32 (8 * i1) + a2)) 1424 from by rw [r_454_117 hS, l_823 hS]).mpr x0⟩⟩ (fun g6 => ?_)
      refine EQ_jl (by rw [r_454_117 hS]) (fun h37 eh37 => ?_)
      have s7 := Sh_of eh37 (Sh_sta hS (by decide +kernel) (jI_nn g6) (fun e => absurd ((k_823 hS).symm.trans e) (by decide)))
      clear eh37
      refine EQ_jgd (show h37 454 (-2) = 15 from by rw [k_454 s7]) ?_
      refine EQ_jgd (show h37 454 (-2) = 15 from by rw [k_454 s7]) ?_
      refine EQ_jgd ⟨(show h37 (h37 454 117) (-2) = 101 from by rw [r_454_117 s7, k_823 s7]), ((show jI (w32 (w32 (8 * i1) + a2)) (h37 (h37 454 117) (-1)) ↔ jI (w32 (w32 (8 * i1) + a2)) 1424 from by rw [r_454_117 s7, l_823 s7]).mpr g6)⟩ ?_
      refine EQ_if (show h37 (h37 454 117) (w32 (w32 (8 * i1) + a2)) < 0 ↔ h37 823 (w32 (w32 (8 * i1) + a2)) < 0 from by rw [r_454_117 s7]) (fun c8 => ?_) (fun c8 => ?_)
      · exact (by rw [r_454_118 s7]; exact eX14_makeSpots_j89_18 i1 a2 i1 0 s7)
      · exact (by rw [r_454_118 s7]; exact eX14_makeSpots_j89_18 i1 a2 i1 1 s7)
noncomputable def gX14_makeSpots_l18 (i1 : Int) (a2 : Int) (h : AH) : Option (AH) := jit (gX14_makeSpots_b18 i1) (a2, h)
theorem eX14_makeSpots_l18 (i1 : Int) (a2 : Int) {h : AH} (hS : Sh S h) : EQ (fX14_makeSpots_l18 454 i1 a2 h) (gX14_makeSpots_l18 i1 a2 h) (fun r => Sh S r) := EQ_jit (I := (fun r => Sh S r.2)) (fun s hs => eX14_makeSpots_b18 i1 hs) hS
noncomputable def gX14_makeSpots_b2 (s : Int × AH) : Option ((Int × AH) ⊕ (AH)) := jt2 s fun a1 h => if 178 ≤ a1 then (some (.inr h)) else (jg (jI a1 178) <| jl (jst h 824 a1 (ji2z 1)) fun h4 => jb (gX14_makeSpots_l18 a1 0 h4) fun o5 => gX14_makeSpots_j96_2 a1 o5)
theorem eX14_makeSpots_b2 {s : Int × AH} (hS : (fun r => Sh S r.2) s) : EQ (fX14_makeSpots_b2 454 s) (gX14_makeSpots_b2 s) (Sum.elim (fun r => Sh S r.2) (fun r => Sh S r)) := by
  unfold fX14_makeSpots_b2 gX14_makeSpots_b2
  obtain ⟨a1, h⟩ := s
  refine EQ_jt2 ?_
  replace hS : Sh S h := hS
  refine EQ_if Iff.rfl (fun c1 => ?_) (fun c1 => ?_)
  · exact EQ_some hS
  · refine EQ_jgd (show h 454 (-2) = 15 from by rw [k_454 hS]) ?_
    refine EQ_jg ⟨fun ⟨_, _, x0⟩ => (show jI a1 (h (h 454 118) (-1)) ↔ jI a1 178 from by rw [r_454_118 hS, l_824 hS]).mp x0, fun x0 => ⟨(show h (h 454 118) (-2) = 104 from by rw [r_454_118 hS, k_824 hS]), (show 200 ≤ h 454 118 from by rw [r_454_118 hS]; exact (by decide)), (show jI a1 (h (h 454 118) (-1)) ↔ jI a1 178 from by rw [r_454_118 hS, l_824 hS]).mpr x0⟩⟩ (fun g2 => ?_)
    refine EQ_jl (by rw [r_454_118 hS]) (fun h4 eh4 => ?_)
    have s3 := Sh_of eh4 (Sh_sta hS (by decide +kernel) (jI_nn g2) (fun e => absurd ((k_824 hS).symm.trans e) (by decide)))
    clear eh4
    refine EQ_jb (eX14_makeSpots_l18 a1 0 s3) (fun o5 r4 => ?_)
    exact (eX14_makeSpots_j96_2 a1 r4)
noncomputable def gX14_makeSpots_l2 (a1 : Int) (h : AH) : Option (AH) := jit gX14_makeSpots_b2 (a1, h)
theorem eX14_makeSpots_l2 (a1 : Int) {h : AH} (hS : Sh S h) : EQ (fX14_makeSpots_l2 454 a1 h) (gX14_makeSpots_l2 a1 h) (fun r => Sh S r) := EQ_jit (I := (fun r => Sh S r.2)) (fun s hs => eX14_makeSpots_b2 hs) hS
noncomputable def gX14_makeSpots (h : AH) : Option (AH) := jb (gX14_makeSpots_l2 0 h) fun o1 => some o1
theorem eX14_makeSpots {h : AH} (hS : Sh S h) : EQ (fX14_makeSpots 454 h) (gX14_makeSpots h) (fun r => Sh S r) := by
  unfold fX14_makeSpots gX14_makeSpots
  refine EQ_jb (eX14_makeSpots_l2 0 hS) (fun o1 r1 => ?_)
  exact EQ_some r1
noncomputable def gX14_says_b41 (i1 : Int) (i2 : Int) (i3 : Int) (i4 : Int) (h : AH) (a5 : Int) : Option ((Int) ⊕ ((Unit) ⊕ (Unit))) := if i2 ≤ a5 then (some (.inr (.inr ()))) else (jg (jI (w32 (w32 (w32 (10 * i3) + i4) + a5)) 80) <| jg (jI (w32 (8 * i1)) 3216) <| jg (jI (w32 (h 821 (w32 (8 * i1)) + a5)) 80) <| if h 820 (w32 (w32 (w32 (10 * i3) + i4) + a5)) = h 820 (w32 (h 821 (w32 (8 * i1)) + a5)) then (jl (w32 (a5 + 1)) fun x18 => some (.inl x18)) else (some (.inr (.inl ()))))
theorem eX14_says_b41 (i1 : Int) (i2 : Int) (i3 : Int) (i4 : Int) (a5 : Int) {h : AH} (hS : Sh S h) : EQ (fX14_says_b41 454 i1 i2 i3 i4 h a5) (gX14_says_b41 i1 i2 i3 i4 h a5) (Sum.elim (fun _ => True) (Sum.elim (fun _ => True) (fun _ => True))) := by
  unfold fX14_says_b41 gX14_says_b41
  refine EQ_if Iff.rfl (fun c1 => ?_) (fun c1 => ?_)
  · exact EQ_some trivial
  · refine EQ_jgd (show h 454 (-2) = 15 from by rw [k_454 hS]) ?_
    refine EQ_jg ⟨fun ⟨_, x0⟩ => (show jI (w32 (w32 (w32 (10 * i3) + i4) + a5)) (h (h 454 113) (-1)) ↔ jI (w32 (w32 (w32 (10 * i3) + i4) + a5)) 80 from by rw [r_454_113 hS, l_820 hS]).mp x0, fun x0 => ⟨(show h (h 454 113) (-2) = 101 from by rw [r_454_113 hS, k_820 hS]), (show jI (w32 (w32 (w32 (10 * i3) + i4) + a5)) (h (h 454 113) (-1)) ↔ jI (w32 (w32 (w32 (10 * i3) + i4) + a5)) 80 from by rw [r_454_113 hS, l_820 hS]).mpr x0⟩⟩ (fun g2 => ?_)
    refine EQ_jgd (show h 454 (-2) = 15 from by rw [k_454 hS]) ?_
    refine EQ_jgd (show h 454 (-2) = 15 from by rw [k_454 hS]) ?_
    refine EQ_jg ⟨fun ⟨_, x0⟩ => (show jI (w32 (8 * i1)) (h (h 454 115) (-1)) ↔ jI (w32 (8 * i1)) 3216 from by rw [r_454_115 hS, l_821 hS]).mp x0, fun x0 => ⟨(show h (h 454 115) (-2) = 101 from by rw [r_454_115 hS, k_821 hS]), (show jI (w32 (8 * i1)) (h (h 454 115) (-1)) ↔ jI (w32 (8 * i1)) 3216 from by rw [r_454_115 hS, l_821 hS]).mpr x0⟩⟩ (fun g3 => ?_)
    refine EQ_jg ⟨fun ⟨_, x0⟩ => (show jI (w32 (h (h 454 115) (w32 (8 * i1)) + a5)) (h (h 454 113) (-1)) ↔ jI (w32 (h 821 (w32 (8 * i1)) + a5)) 80 from by rw [r_454_115 hS, r_454_113 hS, l_820 hS]).mp x0, fun x0 => ⟨(show h (h 454 113) (-2) = 101 from by rw [r_454_113 hS, k_820 hS]), (show jI (w32 (h (h 454 115) (w32 (8 * i1)) + a5)) (h (h 454 113) (-1)) ↔ jI (w32 (h 821 (w32 (8 * i1)) + a5)) 80 from by rw [r_454_115 hS, r_454_113 hS, l_820 hS]).mpr x0⟩⟩ (fun g4 => ?_)
    refine EQ_if (show h (h 454 113) (w32 (w32 (w32 (10 * i3) + i4) + a5)) = h (h 454 113) (w32 (h (h 454 115) (w32 (8 * i1)) + a5)) ↔ h 820 (w32 (w32 (w32 (10 * i3) + i4) + a5)) = h 820 (w32 (h 821 (w32 (8 * i1)) + a5)) from by rw [r_454_113 hS, r_454_115 hS]) (fun c5 => ?_) (fun c5 => ?_)
    · refine EQ_jl rfl (fun x18 ex18 => ?_)
      clear ex18
      exact EQ_some trivial
    · exact EQ_some trivial
noncomputable def gX14_says_l41 (i1 : Int) (i2 : Int) (i3 : Int) (i4 : Int) (a5 : Int) (h : AH) : Option ((Unit) ⊕ (Unit)) := jit (gX14_says_b41 i1 i2 i3 i4 h) a5
theorem eX14_says_l41 (i1 : Int) (i2 : Int) (i3 : Int) (i4 : Int) (a5 : Int) {h : AH} (hS : Sh S h) : EQ (fX14_says_l41 454 i1 i2 i3 i4 a5 h) (gX14_says_l41 i1 i2 i3 i4 a5 h) (Sum.elim (fun _ => True) (fun _ => True)) := EQ_jit (I := (fun _ => True)) (fun s _ => eX14_says_b41 i1 i2 i3 i4 s hS) trivial
noncomputable def gX14_says_b2 (i1 : Int) (i2 : Int) (s : Int × AH) : Option ((Int × AH) ⊕ ((AH) ⊕ ((AH) ⊕ ((AH))))) := jt2 s fun a3 h => if h 454 109 ≤ a3 then (some (.inr (.inr (.inr h)))) else (jg (jI (w32 (w32 (8 * i1) + a3)) 3216) <| jl (h 821 (w32 (w32 (8 * i1) + a3))) fun x8 => jg (jI a3 8) <| if w32 (x8 + i2) ≤ h 818 a3 then (jb (gX14_says_l41 i1 i2 a3 x8 0 h) fun o10 => jm o10 (fun o12 => some (.inr (.inr (.inl h)))) (fun o13 => jl (jst h 828 a3 (w32 (x8 + i2))) fun h14 => jl (w32 (a3 + 1)) fun x15 => some (.inl (x15, h14)))) else (some (.inr (.inl h))))
theorem eX14_says_b2 (i1 : Int) (i2 : Int) {s : Int × AH} (hS : (fun r => Sh S r.2) s) : EQ (fX14_says_b2 454 i1 i2 s) (gX14_says_b2 i1 i2 s) (Sum.elim (fun r => Sh S r.2) (Sum.elim (fun r => Sh S r) (Sum.elim (fun r => Sh S r) (fun r => Sh S r)))) := by
  unfold fX14_says_b2 gX14_says_b2
  obtain ⟨a3, h⟩ := s
  refine EQ_jt2 ?_
  replace hS : Sh S h := hS
  refine EQ_jgd (show h 454 (-2) = 15 from by rw [k_454 hS]) ?_
  refine EQ_if Iff.rfl (fun c1 => ?_) (fun c1 => ?_)
  · exact EQ_some hS
  · refine EQ_jgd (show h 454 (-2) = 15 from by rw [k_454 hS]) ?_
    refine EQ_jg ⟨fun ⟨_, x0⟩ => (show jI (w32 (w32 (8 * i1) + a3)) (h (h 454 115) (-1)) ↔ jI (w32 (w32 (8 * i1) + a3)) 3216 from by rw [r_454_115 hS, l_821 hS]).mp x0, fun x0 => ⟨(show h (h 454 115) (-2) = 101 from by rw [r_454_115 hS, k_821 hS]), (show jI (w32 (w32 (8 * i1) + a3)) (h (h 454 115) (-1)) ↔ jI (w32 (w32 (8 * i1) + a3)) 3216 from by rw [r_454_115 hS, l_821 hS]).mpr x0⟩⟩ (fun g2 => ?_)
    refine EQ_jl (by rw [r_454_115 hS]) (fun x8 ex8 => ?_)
    clear ex8
    refine EQ_jgd (show h 454 (-2) = 15 from by rw [k_454 hS]) ?_
    refine EQ_jg ⟨fun ⟨_, x0⟩ => (show jI a3 (h (h 454 111) (-1)) ↔ jI a3 8 from by rw [r_454_111 hS, l_818 hS]).mp x0, fun x0 => ⟨(show h (h 454 111) (-2) = 101 from by rw [r_454_111 hS, k_818 hS]), (show jI a3 (h (h 454 111) (-1)) ↔ jI a3 8 from by rw [r_454_111 hS, l_818 hS]).mpr x0⟩⟩ (fun g3 => ?_)
    refine EQ_if (show w32 (x8 + i2) ≤ h (h 454 111) a3 ↔ w32 (x8 + i2) ≤ h 818 a3 from by rw [r_454_111 hS]) (fun c4 => ?_) (fun c4 => ?_)
    · refine EQ_jb (eX14_says_l41 i1 i2 a3 x8 0 hS) (fun o10 r5 => ?_)
      refine EQ_jm r5 (fun o12 r6 => ?_) (fun o13 r7 => ?_)
      · exact EQ_some hS
      · refine EQ_jgd (show h 454 (-2) = 15 from by rw [k_454 hS]) ?_
        refine EQ_jgd ⟨(show h (h 454 122) (-2) = 101 from by rw [r_454_122 hS, k_828 hS]), (show 200 ≤ h 454 122 from by rw [r_454_122 hS]; exact (by decide)), ((show jI a3 (h (h 454 122) (-1)) ↔ jI a3 8 from by rw [r_454_122 hS, l_828 hS]).mpr g3)⟩ ?_
        refine EQ_jl (by rw [r_454_122 hS]) (fun h14 eh14 => ?_)
        have s8 := Sh_of eh14 (Sh_sta hS (by decide +kernel) (jI_nn g3) (fun e => absurd ((k_828 hS).symm.trans e) (by decide)))
        clear eh14
        refine EQ_jl rfl (fun x15 ex15 => ?_)
        clear ex15
        exact EQ_some s8
    · exact EQ_some hS
noncomputable def gX14_says_l2 (i1 : Int) (i2 : Int) (a3 : Int) (h : AH) : Option ((AH) ⊕ ((AH) ⊕ ((AH)))) := jit (gX14_says_b2 i1 i2) (a3, h)
theorem eX14_says_l2 (i1 : Int) (i2 : Int) (a3 : Int) {h : AH} (hS : Sh S h) : EQ (fX14_says_l2 454 i1 i2 a3 h) (gX14_says_l2 i1 i2 a3 h) (Sum.elim (fun r => Sh S r) (Sum.elim (fun r => Sh S r) (fun r => Sh S r))) := EQ_jit (I := (fun r => Sh S r.2)) (fun s hs => eX14_says_b2 i1 i2 hs) hS
noncomputable def gX14_says (a1 : Int) (a2 : Int) (h : AH) : Option (Int × AH) := jb (gX14_says_l2 a1 a2 0 h) fun o1 => jm o1 (fun o3 => some (0, o3)) (fun o4 => jm o4 (fun o5 => some (0, o5)) (fun o6 => some (1, o6)))
theorem eX14_says (a1 : Int) (a2 : Int) {h : AH} (hS : Sh S h) : EQ (fX14_says 454 a1 a2 h) (gX14_says a1 a2 h) (fun r => Sh S r.2) := by
  unfold fX14_says gX14_says
  refine EQ_jb (eX14_says_l2 a1 a2 0 hS) (fun o1 r1 => ?_)
  refine EQ_jm r1 (fun o3 r2 => ?_) (fun o4 r3 => ?_)
  · exact EQ_some r2
  · refine EQ_jm r3 (fun o5 r4 => ?_) (fun o6 r5 => ?_)
    · exact EQ_some r4
    · exact EQ_some r5
noncomputable def gX14_cuts_b85 (i1 : Int) (i2 : Int) (i3 : Int) (i4 : Int) (i5 : Int) (i6 : Int) (i7 : Int) (h : AH) (a8 : Int) : Option ((Int) ⊕ ((Unit) ⊕ (Unit))) := if i6 ≤ a8 then (some (.inr (.inr ()))) else (jg (jI (w32 (w32 (10 * i4) + a8)) 80) <| jg (jI (w32 (w32 (w32 (w32 (10 * i4) + i7) + a8) - i5)) 80) <| if h 819 (w32 (w32 (10 * i4) + a8)) = h 820 (w32 (w32 (w32 (w32 (10 * i4) + i7) + a8) - i5)) then (jl (w32 (a8 + 1)) fun x21 => some (.inl x21)) else (some (.inr (.inl ()))))
theorem eX14_cuts_b85 (i1 : Int) (i2 : Int) (i3 : Int) (i4 : Int) (i5 : Int) (i6 : Int) (i7 : Int) (a8 : Int) {h : AH} (hS : Sh S h) : EQ (fX14_cuts_b85 454 i1 i2 i3 i4 i5 i6 i7 h a8) (gX14_cuts_b85 i1 i2 i3 i4 i5 i6 i7 h a8) (Sum.elim (fun _ => True) (Sum.elim (fun _ => True) (fun _ => True))) := by
  unfold fX14_cuts_b85 gX14_cuts_b85
  refine EQ_if Iff.rfl (fun c1 => ?_) (fun c1 => ?_)
  · exact EQ_some trivial
  · refine EQ_jgd (show h 454 (-2) = 15 from by rw [k_454 hS]) ?_
    refine EQ_jg ⟨fun ⟨_, x0⟩ => (show jI (w32 (w32 (10 * i4) + a8)) (h (h 454 112) (-1)) ↔ jI (w32 (w32 (10 * i4) + a8)) 80 from by rw [r_454_112 hS, l_819 hS]).mp x0, fun x0 => ⟨(show h (h 454 112) (-2) = 101 from by rw [r_454_112 hS, k_819 hS]), (show jI (w32 (w32 (10 * i4) + a8)) (h (h 454 112) (-1)) ↔ jI (w32 (w32 (10 * i4) + a8)) 80 from by rw [r_454_112 hS, l_819 hS]).mpr x0⟩⟩ (fun g2 => ?_)
    refine EQ_jgd (show h 454 (-2) = 15 from by rw [k_454 hS]) ?_
    refine EQ_jg ⟨fun ⟨_, x0⟩ => (show jI (w32 (w32 (w32 (w32 (10 * i4) + i7) + a8) - i5)) (h (h 454 113) (-1)) ↔ jI (w32 (w32 (w32 (w32 (10 * i4) + i7) + a8) - i5)) 80 from by rw [r_454_113 hS, l_820 hS]).mp x0, fun x0 => ⟨(show h (h 454 113) (-2) = 101 from by rw [r_454_113 hS, k_820 hS]), (show jI (w32 (w32 (w32 (w32 (10 * i4) + i7) + a8) - i5)) (h (h 454 113) (-1)) ↔ jI (w32 (w32 (w32 (w32 (10 * i4) + i7) + a8) - i5)) 80 from by rw [r_454_113 hS, l_820 hS]).mpr x0⟩⟩ (fun g3 => ?_)
    refine EQ_if (show h (h 454 112) (w32 (w32 (10 * i4) + a8)) = h (h 454 113) (w32 (w32 (w32 (w32 (10 * i4) + i7) + a8) - i5)) ↔ h 819 (w32 (w32 (10 * i4) + a8)) = h 820 (w32 (w32 (w32 (w32 (10 * i4) + i7) + a8) - i5)) from by rw [r_454_112 hS, r_454_113 hS]) (fun c4 => ?_) (fun c4 => ?_)
    · refine EQ_jl rfl (fun x21 ex21 => ?_)
      clear ex21
      exact EQ_some trivial
    · exact EQ_some trivial
noncomputable def gX14_cuts_l85 (i1 : Int) (i2 : Int) (i3 : Int) (i4 : Int) (i5 : Int) (i6 : Int) (i7 : Int) (a8 : Int) (h : AH) : Option ((Unit) ⊕ (Unit)) := jit (gX14_cuts_b85 i1 i2 i3 i4 i5 i6 i7 h) a8
theorem eX14_cuts_l85 (i1 : Int) (i2 : Int) (i3 : Int) (i4 : Int) (i5 : Int) (i6 : Int) (i7 : Int) (a8 : Int) {h : AH} (hS : Sh S h) : EQ (fX14_cuts_l85 454 i1 i2 i3 i4 i5 i6 i7 a8 h) (gX14_cuts_l85 i1 i2 i3 i4 i5 i6 i7 a8 h) (Sum.elim (fun _ => True) (fun _ => True)) := EQ_jit (I := (fun _ => True)) (fun s _ => eX14_cuts_b85 i1 i2 i3 i4 i5 i6 i7 s hS) trivial
noncomputable def gX14_cuts_b3 (i1 : Int) (i2 : Int) (i3 : Int) (s : Int × AH) : Option ((Int × AH) ⊕ ((AH) ⊕ ((AH) ⊕ ((AH))))) := jt2 s fun a4 h => if h 454 109 ≤ a4 then (some (.inr (.inr (.inr h)))) else (jg (jI (w32 (w32 (8 * i2) + a4)) 1424) <| jl (h 823 (w32 (w32 (8 * i2) + a4))) fun x8 => jg (jI (w32 (w32 (8 * i3) + a4)) 1424) <| jl (h 823 (w32 (w32 (8 * i3) + a4))) fun x9 => jg (jI (w32 (w32 (8 * i1) + a4)) 3216) <| jl (h 821 (w32 (w32 (8 * i1) + a4))) fun x10 => if x9 ≤ x8 then (some (.inr (.inl h))) else (jg (jI a4 8) <| if w32 (w32 (x10 + x9) - x8) ≤ h 818 a4 then (jb (gX14_cuts_l85 i1 i2 i3 a4 x8 x9 x10 x8 h) fun o13 => jm o13 (fun o15 => some (.inr (.inr (.inl h)))) (fun o16 => jl (jst h 828 a4 (w32 (w32 (x10 + x9) - x8))) fun h17 => jl (w32 (a4 + 1)) fun x18 => some (.inl (x18, h17)))) else (some (.inr (.inl h)))))
theorem eX14_cuts_b3 (i1 : Int) (i2 : Int) (i3 : Int) {s : Int × AH} (hS : (fun r => Sh S r.2) s) : EQ (fX14_cuts_b3 454 i1 i2 i3 s) (gX14_cuts_b3 i1 i2 i3 s) (Sum.elim (fun r => Sh S r.2) (Sum.elim (fun r => Sh S r) (Sum.elim (fun r => Sh S r) (fun r => Sh S r)))) := by
  unfold fX14_cuts_b3 gX14_cuts_b3
  obtain ⟨a4, h⟩ := s
  refine EQ_jt2 ?_
  replace hS : Sh S h := hS
  refine EQ_jgd (show h 454 (-2) = 15 from by rw [k_454 hS]) ?_
  refine EQ_if Iff.rfl (fun c1 => ?_) (fun c1 => ?_)
  · exact EQ_some hS
  · refine EQ_jgd (show h 454 (-2) = 15 from by rw [k_454 hS]) ?_
    refine EQ_jg ⟨fun ⟨_, x0⟩ => (show jI (w32 (w32 (8 * i2) + a4)) (h (h 454 117) (-1)) ↔ jI (w32 (w32 (8 * i2) + a4)) 1424 from by rw [r_454_117 hS, l_823 hS]).mp x0, fun x0 => ⟨(show h (h 454 117) (-2) = 101 from by rw [r_454_117 hS, k_823 hS]), (show jI (w32 (w32 (8 * i2) + a4)) (h (h 454 117) (-1)) ↔ jI (w32 (w32 (8 * i2) + a4)) 1424 from by rw [r_454_117 hS, l_823 hS]).mpr x0⟩⟩ (fun g2 => ?_)
    refine EQ_jl (by rw [r_454_117 hS]) (fun x8 ex8 => ?_)
    clear ex8
    refine EQ_jgd (show h 454 (-2) = 15 from by rw [k_454 hS]) ?_
    refine EQ_jg ⟨fun ⟨_, x0⟩ => (show jI (w32 (w32 (8 * i3) + a4)) (h (h 454 117) (-1)) ↔ jI (w32 (w32 (8 * i3) + a4)) 1424 from by rw [r_454_117 hS, l_823 hS]).mp x0, fun x0 => ⟨(show h (h 454 117) (-2) = 101 from by rw [r_454_117 hS, k_823 hS]), (show jI (w32 (w32 (8 * i3) + a4)) (h (h 454 117) (-1)) ↔ jI (w32 (w32 (8 * i3) + a4)) 1424 from by rw [r_454_117 hS, l_823 hS]).mpr x0⟩⟩ (fun g3 => ?_)
    refine EQ_jl (by rw [r_454_117 hS]) (fun x9 ex9 => ?_)
    clear ex9
    refine EQ_jgd (show h 454 (-2) = 15 from by rw [k_454 hS]) ?_
    refine EQ_jg ⟨fun ⟨_, x0⟩ => (show jI (w32 (w32 (8 * i1) + a4)) (h (h 454 115) (-1)) ↔ jI (w32 (w32 (8 * i1) + a4)) 3216 from by rw [r_454_115 hS, l_821 hS]).mp x0, fun x0 => ⟨(show h (h 454 115) (-2) = 101 from by rw [r_454_115 hS, k_821 hS]), (show jI (w32 (w32 (8 * i1) + a4)) (h (h 454 115) (-1)) ↔ jI (w32 (w32 (8 * i1) + a4)) 3216 from by rw [r_454_115 hS, l_821 hS]).mpr x0⟩⟩ (fun g4 => ?_)
    refine EQ_jl (by rw [r_454_115 hS]) (fun x10 ex10 => ?_)
    clear ex10
    refine EQ_if Iff.rfl (fun c5 => ?_) (fun c5 => ?_)
    · exact EQ_some hS
    · refine EQ_jgd (show h 454 (-2) = 15 from by rw [k_454 hS]) ?_
      refine EQ_jg ⟨fun ⟨_, x0⟩ => (show jI a4 (h (h 454 111) (-1)) ↔ jI a4 8 from by rw [r_454_111 hS, l_818 hS]).mp x0, fun x0 => ⟨(show h (h 454 111) (-2) = 101 from by rw [r_454_111 hS, k_818 hS]), (show jI a4 (h (h 454 111) (-1)) ↔ jI a4 8 from by rw [r_454_111 hS, l_818 hS]).mpr x0⟩⟩ (fun g6 => ?_)
      refine EQ_if (show w32 (w32 (x10 + x9) - x8) ≤ h (h 454 111) a4 ↔ w32 (w32 (x10 + x9) - x8) ≤ h 818 a4 from by rw [r_454_111 hS]) (fun c7 => ?_) (fun c7 => ?_)
      · refine EQ_jb (eX14_cuts_l85 i1 i2 i3 a4 x8 x9 x10 x8 hS) (fun o13 r8 => ?_)
        refine EQ_jm r8 (fun o15 r9 => ?_) (fun o16 r10 => ?_)
        · exact EQ_some hS
        · refine EQ_jgd (show h 454 (-2) = 15 from by rw [k_454 hS]) ?_
          refine EQ_jgd ⟨(show h (h 454 122) (-2) = 101 from by rw [r_454_122 hS, k_828 hS]), (show 200 ≤ h 454 122 from by rw [r_454_122 hS]; exact (by decide)), ((show jI a4 (h (h 454 122) (-1)) ↔ jI a4 8 from by rw [r_454_122 hS, l_828 hS]).mpr g6)⟩ ?_
          refine EQ_jl (by rw [r_454_122 hS]) (fun h17 eh17 => ?_)
          have s11 := Sh_of eh17 (Sh_sta hS (by decide +kernel) (jI_nn g6) (fun e => absurd ((k_828 hS).symm.trans e) (by decide)))
          clear eh17
          refine EQ_jl rfl (fun x18 ex18 => ?_)
          clear ex18
          exact EQ_some s11
      · exact EQ_some hS
noncomputable def gX14_cuts_l3 (i1 : Int) (i2 : Int) (i3 : Int) (a4 : Int) (h : AH) : Option ((AH) ⊕ ((AH) ⊕ ((AH)))) := jit (gX14_cuts_b3 i1 i2 i3) (a4, h)
theorem eX14_cuts_l3 (i1 : Int) (i2 : Int) (i3 : Int) (a4 : Int) {h : AH} (hS : Sh S h) : EQ (fX14_cuts_l3 454 i1 i2 i3 a4 h) (gX14_cuts_l3 i1 i2 i3 a4 h) (Sum.elim (fun r => Sh S r) (Sum.elim (fun r => Sh S r) (fun r => Sh S r))) := EQ_jit (I := (fun r => Sh S r.2)) (fun s hs => eX14_cuts_b3 i1 i2 i3 hs) hS
noncomputable def gX14_cuts (a1 : Int) (a2 : Int) (a3 : Int) (h : AH) : Option (Int × AH) := jb (gX14_cuts_l3 a1 a2 a3 0 h) fun o1 => jm o1 (fun o3 => some (0, o3)) (fun o4 => jm o4 (fun o5 => some (0, o5)) (fun o6 => some (1, o6)))
theorem eX14_cuts (a1 : Int) (a2 : Int) (a3 : Int) {h : AH} (hS : Sh S h) : EQ (fX14_cuts 454 a1 a2 a3 h) (gX14_cuts a1 a2 a3 h) (fun r => Sh S r.2) := by
  unfold fX14_cuts gX14_cuts
  refine EQ_jb (eX14_cuts_l3 a1 a2 a3 0 hS) (fun o1 r1 => ?_)
  refine EQ_jm r1 (fun o3 r2 => ?_) (fun o4 r3 => ?_)
  · exact EQ_some r2
  · refine EQ_jm r3 (fun o5 r4 => ?_) (fun o6 r5 => ?_)
    · exact EQ_some r4
    · exact EQ_some r5
noncomputable def gX14_expand_j21_2 (a1 : Int) (a2 : Int) (h : AH) : Option ((Int × AH) ⊕ (AH)) := jl (w32 (a2 + 1)) fun x13 => some (.inl (x13, h))
theorem eX14_expand_j21_2 (a1 : Int) (a2 : Int) {h : AH} (hS : Sh S h) : EQ (fX14_expand_j21_2 454 a1 a2 h) (gX14_expand_j21_2 a1 a2 h) (Sum.elim (fun r => Sh S r.2) (fun r => Sh S r)) := by
  unfold fX14_expand_j21_2 gX14_expand_j21_2
  refine EQ_jl rfl (fun x13 ex13 => ?_)
  clear ex13
  exact EQ_some hS
noncomputable def gX14_expand_b2 (i1 : Int) (s : Int × AH) : Option ((Int × AH) ⊕ (AH)) := jt2 s fun a2 h => if 4 ≤ a2 then (some (.inr h)) else (jb2 (gX14_says i1 a2 h) fun v7 h8 => if v7 = 0 then (gX14_expand_j21_2 i1 a2 h8) else (jb2 (gX14_nodeOf h8) fun v11 h12 => gX14_expand_j21_2 i1 a2 h12))
theorem eX14_expand_b2 (i1 : Int) {s : Int × AH} (hS : (fun r => Sh S r.2) s) : EQ (fX14_expand_b2 454 i1 s) (gX14_expand_b2 i1 s) (Sum.elim (fun r => Sh S r.2) (fun r => Sh S r)) := by
  unfold fX14_expand_b2 gX14_expand_b2
  obtain ⟨a2, h⟩ := s
  refine EQ_jt2 ?_
  replace hS : Sh S h := hS
  refine EQ_if Iff.rfl (fun c1 => ?_) (fun c1 => ?_)
  · exact EQ_some hS
  · refine EQ_jgd (show h 454 (-2) = 15 from by rw [k_454 hS]) ?_
    refine EQ_jb2 (eX14_says i1 a2 hS) (fun v7 h8 r2 => ?_)
    replace r2 : Sh S h8 := r2
    refine EQ_if Iff.rfl (fun c3 => ?_) (fun c3 => ?_)
    · exact (eX14_expand_j21_2 i1 a2 r2)
    · refine EQ_jgd (show h8 454 (-2) = 15 from by rw [k_454 r2]) ?_
      refine EQ_jb2 (eX14_nodeOf r2) (fun v11 h12 r4 => ?_)
      replace r4 : Sh S h12 := r4
      exact (eX14_expand_j21_2 i1 a2 r4)
noncomputable def gX14_expand_l2 (i1 : Int) (a2 : Int) (h : AH) : Option (AH) := jit (gX14_expand_b2 i1) (a2, h)
theorem eX14_expand_l2 (i1 : Int) (a2 : Int) {h : AH} (hS : Sh S h) : EQ (fX14_expand_l2 454 i1 a2 h) (gX14_expand_l2 i1 a2 h) (fun r => Sh S r) := EQ_jit (I := (fun r => Sh S r.2)) (fun s hs => eX14_expand_b2 i1 hs) hS
noncomputable def gX14_expand_j105_29 (a1 : Int) (a2 : Int) (h : AH) : Option ((Int × AH) ⊕ (AH)) := jl (w32 (a2 + 1)) fun x17 => some (.inl (x17, h))
theorem eX14_expand_j105_29 (a1 : Int) (a2 : Int) {h : AH} (hS : Sh S h) : EQ (fX14_expand_j105_29 454 a1 a2 h) (gX14_expand_j105_29 a1 a2 h) (Sum.elim (fun r => Sh S r.2) (fun r => Sh S r)) := by
  unfold fX14_expand_j105_29 gX14_expand_j105_29
  refine EQ_jl rfl (fun x17 ex17 => ?_)
  clear ex17
  exact EQ_some hS
noncomputable def gX14_expand_j99_38 (a1 : Int) (a2 : Int) (a3 : Int) (h : AH) : Option ((Int × AH) ⊕ (AH)) := jl (w32 (a3 + 1)) fun x30 => some (.inl (x30, h))
theorem eX14_expand_j99_38 (a1 : Int) (a2 : Int) (a3 : Int) {h : AH} (hS : Sh S h) : EQ (fX14_expand_j99_38 454 a1 a2 a3 h) (gX14_expand_j99_38 a1 a2 a3 h) (Sum.elim (fun r => Sh S r.2) (fun r => Sh S r)) := by
  unfold fX14_expand_j99_38 gX14_expand_j99_38
  refine EQ_jl rfl (fun x30 ex30 => ?_)
  clear ex30
  exact EQ_some hS
noncomputable def gX14_expand_b38 (i1 : Int) (i2 : Int) (s : Int × AH) : Option ((Int × AH) ⊕ (AH)) := jt2 s fun a3 h => if 178 ≤ a3 then (some (.inr h)) else (jg (jI i2 178) <| if h 824 i2 = 0 then (some (.inr h)) else (if h 825 i2 = i2 then (jg (jI a3 178) <| if h 824 a3 = 0 then (gX14_expand_j99_38 i1 i2 a3 h) else (if h 825 a3 = a3 then (jb2 (gX14_cuts i1 i2 a3 h) fun v24 h25 => if v24 = 0 then (gX14_expand_j99_38 i1 i2 a3 h25) else (jb2 (gX14_nodeOf h25) fun v28 h29 => gX14_expand_j99_38 i1 i2 a3 h29)) else (gX14_expand_j99_38 i1 i2 a3 h))) else (some (.inr h))))
theorem eX14_expand_b38 (i1 : Int) (i2 : Int) {s : Int × AH} (hS : (fun r => Sh S r.2) s) : EQ (fX14_expand_b38 454 i1 i2 s) (gX14_expand_b38 i1 i2 s) (Sum.elim (fun r => Sh S r.2) (fun r => Sh S r)) := by
  unfold fX14_expand_b38 gX14_expand_b38
  obtain ⟨a3, h⟩ := s
  refine EQ_jt2 ?_
  replace hS : Sh S h := hS
  refine EQ_if Iff.rfl (fun c1 => ?_) (fun c1 => ?_)
  · exact EQ_some hS
  · refine EQ_jgd (show h 454 (-2) = 15 from by rw [k_454 hS]) ?_
    refine EQ_jg ⟨fun ⟨_, x0⟩ => (show jI i2 (h (h 454 118) (-1)) ↔ jI i2 178 from by rw [r_454_118 hS, l_824 hS]).mp x0, fun x0 => ⟨(show h (h 454 118) (-2) = 104 from by rw [r_454_118 hS, k_824 hS]), (show jI i2 (h (h 454 118) (-1)) ↔ jI i2 178 from by rw [r_454_118 hS, l_824 hS]).mpr x0⟩⟩ (fun g2 => ?_)
    refine EQ_if (show h (h 454 118) i2 = 0 ↔ h 824 i2 = 0 from by rw [r_454_118 hS]) (fun c3 => ?_) (fun c3 => ?_)
    · exact EQ_some hS
    · refine EQ_jgd (show h 454 (-2) = 15 from by rw [k_454 hS]) ?_
      refine EQ_jgd ⟨(show h (h 454 119) (-2) = 101 from by rw [r_454_119 hS, k_825 hS]), ((show jI i2 (h (h 454 119) (-1)) ↔ jI i2 178 from by rw [r_454_119 hS, l_825 hS]).mpr g2)⟩ ?_
      refine EQ_if (show h (h 454 119) i2 = i2 ↔ h 825 i2 = i2 from by rw [r_454_119 hS]) (fun c4 => ?_) (fun c4 => ?_)
      · refine EQ_jgd (show h 454 (-2) = 15 from by rw [k_454 hS]) ?_
        refine EQ_jg ⟨fun ⟨_, x0⟩ => (show jI a3 (h (h 454 118) (-1)) ↔ jI a3 178 from by rw [r_454_118 hS, l_824 hS]).mp x0, fun x0 => ⟨(show h (h 454 118) (-2) = 104 from by rw [r_454_118 hS, k_824 hS]), (show jI a3 (h (h 454 118) (-1)) ↔ jI a3 178 from by rw [r_454_118 hS, l_824 hS]).mpr x0⟩⟩ (fun g5 => ?_)
        refine EQ_if (show h (h 454 118) a3 = 0 ↔ h 824 a3 = 0 from by rw [r_454_118 hS]) (fun c6 => ?_) (fun c6 => ?_)
        · exact (eX14_expand_j99_38 i1 i2 a3 hS)
        · refine EQ_jgd (show h 454 (-2) = 15 from by rw [k_454 hS]) ?_
          refine EQ_jgd ⟨(show h (h 454 119) (-2) = 101 from by rw [r_454_119 hS, k_825 hS]), ((show jI a3 (h (h 454 119) (-1)) ↔ jI a3 178 from by rw [r_454_119 hS, l_825 hS]).mpr g5)⟩ ?_
          refine EQ_if (show h (h 454 119) a3 = a3 ↔ h 825 a3 = a3 from by rw [r_454_119 hS]) (fun c7 => ?_) (fun c7 => ?_)
          · refine EQ_jgd (show h 454 (-2) = 15 from by rw [k_454 hS]) ?_
            refine EQ_jb2 (eX14_cuts i1 i2 a3 hS) (fun v24 h25 r8 => ?_)
            replace r8 : Sh S h25 := r8
            refine EQ_if Iff.rfl (fun c9 => ?_) (fun c9 => ?_)
            · exact (eX14_expand_j99_38 i1 i2 a3 r8)
            · refine EQ_jgd (show h25 454 (-2) = 15 from by rw [k_454 r8]) ?_
              refine EQ_jb2 (eX14_nodeOf r8) (fun v28 h29 r10 => ?_)
              replace r10 : Sh S h29 := r10
              exact (eX14_expand_j99_38 i1 i2 a3 r10)
          · exact (eX14_expand_j99_38 i1 i2 a3 hS)
      · exact EQ_some hS
noncomputable def gX14_expand_l38 (i1 : Int) (i2 : Int) (a3 : Int) (h : AH) : Option (AH) := jit (gX14_expand_b38 i1 i2) (a3, h)
theorem eX14_expand_l38 (i1 : Int) (i2 : Int) (a3 : Int) {h : AH} (hS : Sh S h) : EQ (fX14_expand_l38 454 i1 i2 a3 h) (gX14_expand_l38 i1 i2 a3 h) (fun r => Sh S r) := EQ_jit (I := (fun r => Sh S r.2)) (fun s hs => eX14_expand_b38 i1 i2 hs) hS
noncomputable def gX14_expand_b29 (i1 : Int) (s : Int × AH) : Option ((Int × AH) ⊕ (AH)) := jt2 s fun a2 h => if 178 ≤ a2 then (some (.inr h)) else (jb (gX14_expand_l38 i1 a2 0 h) fun o15 => gX14_expand_j105_29 i1 a2 o15)
theorem eX14_expand_b29 (i1 : Int) {s : Int × AH} (hS : (fun r => Sh S r.2) s) : EQ (fX14_expand_b29 454 i1 s) (gX14_expand_b29 i1 s) (Sum.elim (fun r => Sh S r.2) (fun r => Sh S r)) := by
  unfold fX14_expand_b29 gX14_expand_b29
  obtain ⟨a2, h⟩ := s
  refine EQ_jt2 ?_
  replace hS : Sh S h := hS
  refine EQ_if Iff.rfl (fun c1 => ?_) (fun c1 => ?_)
  · exact EQ_some hS
  · refine EQ_jb (eX14_expand_l38 i1 a2 0 hS) (fun o15 r2 => ?_)
    exact (eX14_expand_j105_29 i1 a2 r2)
noncomputable def gX14_expand_l29 (i1 : Int) (a2 : Int) (h : AH) : Option (AH) := jit (gX14_expand_b29 i1) (a2, h)
theorem eX14_expand_l29 (i1 : Int) (a2 : Int) {h : AH} (hS : Sh S h) : EQ (fX14_expand_l29 454 i1 a2 h) (gX14_expand_l29 i1 a2 h) (fun r => Sh S r) := EQ_jit (I := (fun r => Sh S r.2)) (fun s hs => eX14_expand_b29 i1 hs) hS
noncomputable def gX14_expand (a1 : Int) (h : AH) : Option (AH) := jb (gX14_expand_l2 a1 1 h) fun o1 => jb (gX14_expand_l29 a1 0 o1) fun o3 => some o3
theorem eX14_expand (a1 : Int) {h : AH} (hS : Sh S h) : EQ (fX14_expand 454 a1 h) (gX14_expand a1 h) (fun r => Sh S r) := by
  unfold fX14_expand gX14_expand
  refine EQ_jb (eX14_expand_l2 a1 1 hS) (fun o1 r1 => ?_)
  refine EQ_jb (eX14_expand_l29 a1 0 r1) (fun o3 r2 => ?_)
  exact EQ_some r2
noncomputable def gX14_makeNodes_b2 (s : Int × AH) : Option ((Int × AH) ⊕ (AH)) := jt2 s fun a1 h => if 1024 ≤ a1 then (some (.inr h)) else (jg (jI a1 1024) <| jl (jst h 822 a1 0) fun h15 => jl (w32 (a1 + 1)) fun x16 => some (.inl (x16, h15)))
theorem eX14_makeNodes_b2 {s : Int × AH} (hS : (fun r => Sh S r.2) s) : EQ (fX14_makeNodes_b2 454 s) (gX14_makeNodes_b2 s) (Sum.elim (fun r => Sh S r.2) (fun r => Sh S r)) := by
  unfold fX14_makeNodes_b2 gX14_makeNodes_b2
  obtain ⟨a1, h⟩ := s
  refine EQ_jt2 ?_
  replace hS : Sh S h := hS
  refine EQ_if Iff.rfl (fun c1 => ?_) (fun c1 => ?_)
  · exact EQ_some hS
  · refine EQ_jgd (show h 454 (-2) = 15 from by rw [k_454 hS]) ?_
    refine EQ_jg ⟨fun ⟨_, _, x0⟩ => (show jI a1 (h (h 454 116) (-1)) ↔ jI a1 1024 from by rw [r_454_116 hS, l_822 hS]).mp x0, fun x0 => ⟨(show h (h 454 116) (-2) = 101 from by rw [r_454_116 hS, k_822 hS]), (show 200 ≤ h 454 116 from by rw [r_454_116 hS]; exact (by decide)), (show jI a1 (h (h 454 116) (-1)) ↔ jI a1 1024 from by rw [r_454_116 hS, l_822 hS]).mpr x0⟩⟩ (fun g2 => ?_)
    refine EQ_jl (by rw [r_454_116 hS]) (fun h15 eh15 => ?_)
    have s3 := Sh_of eh15 (Sh_sta hS (by decide +kernel) (jI_nn g2) (fun e => absurd ((k_822 hS).symm.trans e) (by decide)))
    clear eh15
    refine EQ_jl rfl (fun x16 ex16 => ?_)
    clear ex16
    exact EQ_some s3
noncomputable def gX14_makeNodes_l2 (a1 : Int) (h : AH) : Option (AH) := jit gX14_makeNodes_b2 (a1, h)
theorem eX14_makeNodes_l2 (a1 : Int) {h : AH} (hS : Sh S h) : EQ (fX14_makeNodes_l2 454 a1 h) (gX14_makeNodes_l2 a1 h) (fun r => Sh S r) := EQ_jit (I := (fun r => Sh S r.2)) (fun s hs => eX14_makeNodes_b2 hs) hS
noncomputable def gX14_makeNodes_b29 (s : Int × AH) : Option ((Int × AH) ⊕ (AH)) := jt2 s fun a1 h => if h 454 109 ≤ a1 then (some (.inr h)) else (jg (jI a1 8) <| jl (jst h 828 a1 0) fun h18 => jl (w32 (a1 + 1)) fun x19 => some (.inl (x19, h18)))
theorem eX14_makeNodes_b29 {s : Int × AH} (hS : (fun r => Sh S r.2) s) : EQ (fX14_makeNodes_b29 454 s) (gX14_makeNodes_b29 s) (Sum.elim (fun r => Sh S r.2) (fun r => Sh S r)) := by
  unfold fX14_makeNodes_b29 gX14_makeNodes_b29
  obtain ⟨a1, h⟩ := s
  refine EQ_jt2 ?_
  replace hS : Sh S h := hS
  refine EQ_jgd (show h 454 (-2) = 15 from by rw [k_454 hS]) ?_
  refine EQ_if Iff.rfl (fun c1 => ?_) (fun c1 => ?_)
  · exact EQ_some hS
  · refine EQ_jgd (show h 454 (-2) = 15 from by rw [k_454 hS]) ?_
    refine EQ_jg ⟨fun ⟨_, _, x0⟩ => (show jI a1 (h (h 454 122) (-1)) ↔ jI a1 8 from by rw [r_454_122 hS, l_828 hS]).mp x0, fun x0 => ⟨(show h (h 454 122) (-2) = 101 from by rw [r_454_122 hS, k_828 hS]), (show 200 ≤ h 454 122 from by rw [r_454_122 hS]; exact (by decide)), (show jI a1 (h (h 454 122) (-1)) ↔ jI a1 8 from by rw [r_454_122 hS, l_828 hS]).mpr x0⟩⟩ (fun g2 => ?_)
    refine EQ_jl (by rw [r_454_122 hS]) (fun h18 eh18 => ?_)
    have s3 := Sh_of eh18 (Sh_sta hS (by decide +kernel) (jI_nn g2) (fun e => absurd ((k_828 hS).symm.trans e) (by decide)))
    clear eh18
    refine EQ_jl rfl (fun x19 ex19 => ?_)
    clear ex19
    exact EQ_some s3
noncomputable def gX14_makeNodes_l29 (a1 : Int) (h : AH) : Option (AH) := jit gX14_makeNodes_b29 (a1, h)
theorem eX14_makeNodes_l29 (a1 : Int) {h : AH} (hS : Sh S h) : EQ (fX14_makeNodes_l29 454 a1 h) (gX14_makeNodes_l29 a1 h) (fun r => Sh S r) := EQ_jit (I := (fun r => Sh S r.2)) (fun s hs => eX14_makeNodes_b29 hs) hS
noncomputable def gX14_makeNodes_j106_63 (a3 : Int) (a4 : Int) (h : AH) : Option ((Int × Int × AH) ⊕ (AH)) := jl (w32 (a3 + 1)) fun x24 => some (.inl (a4, x24, h))
theorem eX14_makeNodes_j106_63 (a3 : Int) (a4 : Int) {h : AH} (hS : Sh S h) : EQ (fX14_makeNodes_j106_63 454 a3 a4 h) (gX14_makeNodes_j106_63 a3 a4 h) (Sum.elim (fun r => Sh S r.2.2) (fun r => Sh S r)) := by
  unfold fX14_makeNodes_j106_63 gX14_makeNodes_j106_63
  refine EQ_jl rfl (fun x24 ex24 => ?_)
  clear ex24
  exact EQ_some hS
noncomputable def gX14_makeNodes_b77 (i3 : Int) (i4 : Int) (s : Int × AH) : Option ((Int × AH) ⊕ (AH)) := jt2 s fun a5 h => if i4 ≤ a5 then (some (.inr h)) else (if 400 < h 454 114 then (some (.inr h)) else (jb (gX14_expand a5 h) fun h28 => jl (w32 (a5 + 1)) fun x29 => some (.inl (x29, h28))))
theorem eX14_makeNodes_b77 (i3 : Int) (i4 : Int) {s : Int × AH} (hS : (fun r => Sh S r.2) s) : EQ (fX14_makeNodes_b77 454 i3 i4 s) (gX14_makeNodes_b77 i3 i4 s) (Sum.elim (fun r => Sh S r.2) (fun r => Sh S r)) := by
  unfold fX14_makeNodes_b77 gX14_makeNodes_b77
  obtain ⟨a5, h⟩ := s
  refine EQ_jt2 ?_
  replace hS : Sh S h := hS
  refine EQ_if Iff.rfl (fun c1 => ?_) (fun c1 => ?_)
  · exact EQ_some hS
  · refine EQ_jgd (show h 454 (-2) = 15 from by rw [k_454 hS]) ?_
    refine EQ_if Iff.rfl (fun c2 => ?_) (fun c2 => ?_)
    · exact EQ_some hS
    · refine EQ_jgd (show h 454 (-2) = 15 from by rw [k_454 hS]) ?_
      refine EQ_jb (eX14_expand a5 hS) (fun h28 r3 => ?_)
      refine EQ_jl rfl (fun x29 ex29 => ?_)
      clear ex29
      exact EQ_some r3
noncomputable def gX14_makeNodes_l77 (i3 : Int) (i4 : Int) (a5 : Int) (h : AH) : Option (AH) := jit (gX14_makeNodes_b77 i3 i4) (a5, h)
theorem eX14_makeNodes_l77 (i3 : Int) (i4 : Int) (a5 : Int) {h : AH} (hS : Sh S h) : EQ (fX14_makeNodes_l77 454 i3 i4 a5 h) (gX14_makeNodes_l77 i3 i4 a5 h) (fun r => Sh S r) := EQ_jit (I := (fun r => Sh S r.2)) (fun s hs => eX14_makeNodes_b77 i3 i4 hs) hS
noncomputable def gX14_makeNodes_b63 (s : Int × Int × AH) : Option ((Int × Int × AH) ⊕ (AH)) := jt3 s fun a2 a3 h => if 4 ≤ a3 then (some (.inr h)) else (jl (h 454 114) fun x21 => jb (gX14_makeNodes_l77 a3 x21 a2 h) fun o22 => gX14_makeNodes_j106_63 a3 x21 o22)
theorem eX14_makeNodes_b63 {s : Int × Int × AH} (hS : (fun r => Sh S r.2.2) s) : EQ (fX14_makeNodes_b63 454 s) (gX14_makeNodes_b63 s) (Sum.elim (fun r => Sh S r.2.2) (fun r => Sh S r)) := by
  unfold fX14_makeNodes_b63 gX14_makeNodes_b63
  obtain ⟨a2, a3, h⟩ := s
  refine EQ_jt3 ?_
  replace hS : Sh S h := hS
  refine EQ_if Iff.rfl (fun c1 => ?_) (fun c1 => ?_)
  · exact EQ_some hS
  · refine EQ_jgd (show h 454 (-2) = 15 from by rw [k_454 hS]) ?_
    refine EQ_jl rfl (fun x21 ex21 => ?_)
    clear ex21
    refine EQ_jb (eX14_makeNodes_l77 a3 x21 a2 hS) (fun o22 r2 => ?_)
    exact (eX14_makeNodes_j106_63 a3 x21 r2)
noncomputable def gX14_makeNodes_l63 (a2 : Int) (a3 : Int) (h : AH) : Option (AH) := jit gX14_makeNodes_b63 (a2, a3, h)
theorem eX14_makeNodes_l63 (a2 : Int) (a3 : Int) {h : AH} (hS : Sh S h) : EQ (fX14_makeNodes_l63 454 a2 a3 h) (gX14_makeNodes_l63 a2 a3 h) (fun r => Sh S r) := EQ_jit (I := (fun r => Sh S r.2.2)) (fun s hs => eX14_makeNodes_b63 hs) hS
noncomputable def gX14_makeNodes (h : AH) : Option (Int × AH) := jb (gX14_makeNodes_l2 0 h) fun o1 => jl (jst o1 454 114 0) fun h3 => jb (gX14_makeNodes_l29 0 h3) fun o4 => jb2 (gX14_nodeOf o4) fun v7 h8 => jb (gX14_makeSpots h8) fun h10 => jb (gX14_makeNodes_l63 0 0 h10) fun o11 => if 400 < o11 454 114 then (some (0, o11)) else (some (1, o11))
theorem eX14_makeNodes {h : AH} (hS : Sh S h) : EQ (fX14_makeNodes 454 h) (gX14_makeNodes h) (fun r => Sh S r.2) := by
  unfold fX14_makeNodes gX14_makeNodes
  refine EQ_jb (eX14_makeNodes_l2 0 hS) (fun o1 r1 => ?_)
  refine EQ_jgd ⟨(show o1 454 (-2) = 15 from by rw [k_454 r1]), (show (200 : Int) ≤ 454 from (by decide))⟩ ?_
  refine EQ_jl rfl (fun h3 eh3 => ?_)
  have s2 := Sh_of eh3 (Sh_sto r1 (a := 454) (i := 114) (by decide +kernel))
  clear eh3
  refine EQ_jb (eX14_makeNodes_l29 0 s2) (fun o4 r3 => ?_)
  refine EQ_jgd (show o4 454 (-2) = 15 from by rw [k_454 r3]) ?_
  refine EQ_jb2 (eX14_nodeOf r3) (fun v7 h8 r4 => ?_)
  replace r4 : Sh S h8 := r4
  refine EQ_jgd (show h8 454 (-2) = 15 from by rw [k_454 r4]) ?_
  refine EQ_jb (eX14_makeSpots r4) (fun h10 r5 => ?_)
  refine EQ_jb (eX14_makeNodes_l63 0 0 r5) (fun o11 r6 => ?_)
  refine EQ_jgd (show o11 454 (-2) = 15 from by rw [k_454 r6]) ?_
  refine EQ_if Iff.rfl (fun c7 => ?_) (fun c7 => ?_)
  · exact EQ_some r6
  · exact EQ_some r6
noncomputable def gX14_isEnd_j41_4 (a1 : Int) (a3 : Int) (t0 : Int) (h : AH) : Option ((Int × Int) ⊕ (Int)) := jl (w32 (a3 + 1)) fun x6 => some (.inl (t0, x6))
theorem eX14_isEnd_j41_4 (a1 : Int) (a3 : Int) (t0 : Int) {h : AH} (hS : Sh S h) : EQ (fX14_isEnd_j41_4 454 a1 a3 t0 h) (gX14_isEnd_j41_4 a1 a3 t0 h) (Sum.elim (fun _ => True) (fun _ => True)) := by
  unfold fX14_isEnd_j41_4 gX14_isEnd_j41_4
  refine EQ_jl rfl (fun x6 ex6 => ?_)
  clear ex6
  exact EQ_some trivial
noncomputable def gX14_isEnd_b4 (i1 : Int) (h : AH) (s : Int × Int) : Option ((Int × Int) ⊕ (Int)) := jt2 s fun a2 a3 => if h 454 109 ≤ a3 then (some (.inr a2)) else (if a2 = 0 then (gX14_isEnd_j41_4 i1 a3 0 h) else (jg (jI (w32 (w32 (8 * i1) + a3)) 3216) <| jg (jI a3 8) <| if h 821 (w32 (w32 (8 * i1) + a3)) = h 818 a3 then (gX14_isEnd_j41_4 i1 a3 1 h) else (gX14_isEnd_j41_4 i1 a3 0 h)))
theorem eX14_isEnd_b4 (i1 : Int) (s : Int × Int) {h : AH} (hS : Sh S h) : EQ (fX14_isEnd_b4 454 i1 h s) (gX14_isEnd_b4 i1 h s) (Sum.elim (fun _ => True) (fun _ => True)) := by
  unfold fX14_isEnd_b4 gX14_isEnd_b4
  obtain ⟨a2, a3⟩ := s
  refine EQ_jt2 ?_
  refine EQ_jgd (show h 454 (-2) = 15 from by rw [k_454 hS]) ?_
  refine EQ_if Iff.rfl (fun c1 => ?_) (fun c1 => ?_)
  · exact EQ_some trivial
  · refine EQ_if Iff.rfl (fun c2 => ?_) (fun c2 => ?_)
    · exact (eX14_isEnd_j41_4 i1 a3 0 hS)
    · refine EQ_jgd (show h 454 (-2) = 15 from by rw [k_454 hS]) ?_
      refine EQ_jg ⟨fun ⟨_, x0⟩ => (show jI (w32 (w32 (8 * i1) + a3)) (h (h 454 115) (-1)) ↔ jI (w32 (w32 (8 * i1) + a3)) 3216 from by rw [r_454_115 hS, l_821 hS]).mp x0, fun x0 => ⟨(show h (h 454 115) (-2) = 101 from by rw [r_454_115 hS, k_821 hS]), (show jI (w32 (w32 (8 * i1) + a3)) (h (h 454 115) (-1)) ↔ jI (w32 (w32 (8 * i1) + a3)) 3216 from by rw [r_454_115 hS, l_821 hS]).mpr x0⟩⟩ (fun g3 => ?_)
      refine EQ_jgd (show h 454 (-2) = 15 from by rw [k_454 hS]) ?_
      refine EQ_jg ⟨fun ⟨_, x0⟩ => (show jI a3 (h (h 454 111) (-1)) ↔ jI a3 8 from by rw [r_454_111 hS, l_818 hS]).mp x0, fun x0 => ⟨(show h (h 454 111) (-2) = 101 from by rw [r_454_111 hS, k_818 hS]), (show jI a3 (h (h 454 111) (-1)) ↔ jI a3 8 from by rw [r_454_111 hS, l_818 hS]).mpr x0⟩⟩ (fun g4 => ?_)
      refine EQ_if (show h (h 454 115) (w32 (w32 (8 * i1) + a3)) = h (h 454 111) a3 ↔ h 821 (w32 (w32 (8 * i1) + a3)) = h 818 a3 from by rw [r_454_115 hS, r_454_111 hS]) (fun c5 => ?_) (fun c5 => ?_)
      · exact (eX14_isEnd_j41_4 i1 a3 1 hS)
      · exact (eX14_isEnd_j41_4 i1 a3 0 hS)
noncomputable def gX14_isEnd_l4 (i1 : Int) (a2 : Int) (a3 : Int) (h : AH) : Option (Int) := jit (gX14_isEnd_b4 i1 h) (a2, a3)
theorem eX14_isEnd_l4 (i1 : Int) (a2 : Int) (a3 : Int) {h : AH} (hS : Sh S h) : EQ (fX14_isEnd_l4 454 i1 a2 a3 h) (gX14_isEnd_l4 i1 a2 a3 h) (fun _ => True) := EQ_jit (I := (fun _ => True)) (fun s _ => eX14_isEnd_b4 i1 s hS) trivial
noncomputable def gX14_isEnd (a1 : Int) (h : AH) : Option (Int) := jb (gX14_isEnd_l4 a1 1 0 h) fun o1 => jg (jZ o1) <| some o1
theorem eX14_isEnd (a1 : Int) {h : AH} (hS : Sh S h) : EQ (fX14_isEnd 454 a1 h) (gX14_isEnd a1 h) (fun _ => True) := by
  unfold fX14_isEnd gX14_isEnd
  refine EQ_jb (eX14_isEnd_l4 a1 1 0 hS) (fun o1 r1 => ?_)
  refine EQ_jg Iff.rfl (fun g2 => ?_)
  exact EQ_some trivial
noncomputable def gX14_at_b4 (h : AH) (s : Int × Int) : Option ((Int × Int) ⊕ (Int)) := jt2 s fun a2 a3 => if h 454 109 ≤ a3 then (some (.inr a2)) else (jg (jI a3 8) <| jl (w32 (w32 (31 * a2) + h 828 a3)) fun x9 => jl (w32 (a3 + 1)) fun x10 => some (.inl (x9, x10)))
theorem eX14_at_b4 (s : Int × Int) {h : AH} (hS : Sh S h) : EQ (fX14_at_b4 454 h s) (gX14_at_b4 h s) (Sum.elim (fun _ => True) (fun _ => True)) := by
  unfold fX14_at_b4 gX14_at_b4
  obtain ⟨a2, a3⟩ := s
  refine EQ_jt2 ?_
  refine EQ_jgd (show h 454 (-2) = 15 from by rw [k_454 hS]) ?_
  refine EQ_if Iff.rfl (fun c1 => ?_) (fun c1 => ?_)
  · exact EQ_some trivial
  · refine EQ_jgd (show h 454 (-2) = 15 from by rw [k_454 hS]) ?_
    refine EQ_jg ⟨fun ⟨_, x0⟩ => (show jI a3 (h (h 454 122) (-1)) ↔ jI a3 8 from by rw [r_454_122 hS, l_828 hS]).mp x0, fun x0 => ⟨(show h (h 454 122) (-2) = 101 from by rw [r_454_122 hS, k_828 hS]), (show jI a3 (h (h 454 122) (-1)) ↔ jI a3 8 from by rw [r_454_122 hS, l_828 hS]).mpr x0⟩⟩ (fun g2 => ?_)
    refine EQ_jl (by rw [r_454_122 hS]) (fun x9 ex9 => ?_)
    clear ex9
    refine EQ_jl rfl (fun x10 ex10 => ?_)
    clear ex10
    exact EQ_some trivial
noncomputable def gX14_at_l4 (a2 : Int) (a3 : Int) (h : AH) : Option (Int) := jit (gX14_at_b4 h) (a2, a3)
theorem eX14_at_l4 (a2 : Int) (a3 : Int) {h : AH} (hS : Sh S h) : EQ (fX14_at_l4 454 a2 a3 h) (gX14_at_l4 a2 a3 h) (fun _ => True) := EQ_jit (I := (fun _ => True)) (fun s _ => eX14_at_b4 s hS) trivial
noncomputable def gX14_at_j112_41 (a3 : Int) (a4 : Int) (h : AH) : Option ((Int) ⊕ ((Int) ⊕ (Unit))) := if a4 = 0 then (jl (jand (w32 (a3 + 1)) 1023) fun x15 => some (.inl x15)) else (some (.inr (.inl a3)))
theorem eX14_at_j112_41 (a3 : Int) (a4 : Int) {h : AH} (hS : Sh S h) : EQ (fX14_at_j112_41 454 a3 a4 h) (gX14_at_j112_41 a3 a4 h) (Sum.elim (fun _ => True) (Sum.elim (fun _ => True) (fun _ => True))) := by
  unfold fX14_at_j112_41 gX14_at_j112_41
  refine EQ_if Iff.rfl (fun c1 => ?_) (fun c1 => ?_)
  · refine EQ_jl rfl (fun x15 ex15 => ?_)
    clear ex15
    exact EQ_some trivial
  · exact EQ_some trivial
noncomputable def gX14_at_j104_56 (a3 : Int) (a5 : Int) (t0 : Int) (h : AH) : Option ((Int × Int) ⊕ (Int)) := jl (w32 (a5 + 1)) fun x19 => some (.inl (t0, x19))
theorem eX14_at_j104_56 (a3 : Int) (a5 : Int) (t0 : Int) {h : AH} (hS : Sh S h) : EQ (fX14_at_j104_56 454 a3 a5 t0 h) (gX14_at_j104_56 a3 a5 t0 h) (Sum.elim (fun _ => True) (fun _ => True)) := by
  unfold fX14_at_j104_56 gX14_at_j104_56
  refine EQ_jl rfl (fun x19 ex19 => ?_)
  clear ex19
  exact EQ_some trivial
noncomputable def gX14_at_b56 (i3 : Int) (h : AH) (s : Int × Int) : Option ((Int × Int) ⊕ (Int)) := jt2 s fun a4 a5 => if h 454 109 ≤ a5 then (some (.inr a4)) else (if a4 = 0 then (some (.inr a4)) else (jg (jI i3 1024) <| jg (jI (w32 (w32 (8 * w32 (h 822 i3 - 1)) + a5)) 3216) <| jg (jI a5 8) <| if h 821 (w32 (w32 (8 * w32 (h 822 i3 - 1)) + a5)) = h 828 a5 then (gX14_at_j104_56 i3 a5 1 h) else (gX14_at_j104_56 i3 a5 0 h)))
theorem eX14_at_b56 (i3 : Int) (s : Int × Int) {h : AH} (hS : Sh S h) : EQ (fX14_at_b56 454 i3 h s) (gX14_at_b56 i3 h s) (Sum.elim (fun _ => True) (fun _ => True)) := by
  unfold fX14_at_b56 gX14_at_b56
  obtain ⟨a4, a5⟩ := s
  refine EQ_jt2 ?_
  refine EQ_jgd (show h 454 (-2) = 15 from by rw [k_454 hS]) ?_
  refine EQ_if Iff.rfl (fun c1 => ?_) (fun c1 => ?_)
  · exact EQ_some trivial
  · refine EQ_if Iff.rfl (fun c2 => ?_) (fun c2 => ?_)
    · exact EQ_some trivial
    · refine EQ_jgd (show h 454 (-2) = 15 from by rw [k_454 hS]) ?_
      refine EQ_jgd (show h 454 (-2) = 15 from by rw [k_454 hS]) ?_
      refine EQ_jg ⟨fun ⟨_, x0⟩ => (show jI i3 (h (h 454 116) (-1)) ↔ jI i3 1024 from by rw [r_454_116 hS, l_822 hS]).mp x0, fun x0 => ⟨(show h (h 454 116) (-2) = 101 from by rw [r_454_116 hS, k_822 hS]), (show jI i3 (h (h 454 116) (-1)) ↔ jI i3 1024 from by rw [r_454_116 hS, l_822 hS]).mpr x0⟩⟩ (fun g3 => ?_)
      refine EQ_jg ⟨fun ⟨_, x0⟩ => (show jI (w32 (w32 (8 * w32 (h (h 454 116) i3 - 1)) + a5)) (h (h 454 115) (-1)) ↔ jI (w32 (w32 (8 * w32 (h 822 i3 - 1)) + a5)) 3216 from by rw [r_454_116 hS, r_454_115 hS, l_821 hS]).mp x0, fun x0 => ⟨(show h (h 454 115) (-2) = 101 from by rw [r_454_115 hS, k_821 hS]), (show jI (w32 (w32 (8 * w32 (h (h 454 116) i3 - 1)) + a5)) (h (h 454 115) (-1)) ↔ jI (w32 (w32 (8 * w32 (h 822 i3 - 1)) + a5)) 3216 from by rw [r_454_116 hS, r_454_115 hS, l_821 hS]).mpr x0⟩⟩ (fun g4 => ?_)
      refine EQ_jgd (show h 454 (-2) = 15 from by rw [k_454 hS]) ?_
      refine EQ_jg ⟨fun ⟨_, x0⟩ => (show jI a5 (h (h 454 122) (-1)) ↔ jI a5 8 from by rw [r_454_122 hS, l_828 hS]).mp x0, fun x0 => ⟨(show h (h 454 122) (-2) = 101 from by rw [r_454_122 hS, k_828 hS]), (show jI a5 (h (h 454 122) (-1)) ↔ jI a5 8 from by rw [r_454_122 hS, l_828 hS]).mpr x0⟩⟩ (fun g5 => ?_)
      refine EQ_if (show h (h 454 115) (w32 (w32 (8 * w32 (h (h 454 116) i3 - 1)) + a5)) = h (h 454 122) a5 ↔ h 821 (w32 (w32 (8 * w32 (h 822 i3 - 1)) + a5)) = h 828 a5 from by rw [r_454_115 hS, r_454_116 hS, r_454_122 hS]) (fun c6 => ?_) (fun c6 => ?_)
      · exact (eX14_at_j104_56 i3 a5 1 hS)
      · exact (eX14_at_j104_56 i3 a5 0 hS)
noncomputable def gX14_at_l56 (i3 : Int) (a4 : Int) (a5 : Int) (h : AH) : Option (Int) := jit (gX14_at_b56 i3 h) (a4, a5)
theorem eX14_at_l56 (i3 : Int) (a4 : Int) (a5 : Int) {h : AH} (hS : Sh S h) : EQ (fX14_at_l56 454 i3 a4 a5 h) (gX14_at_l56 i3 a4 a5 h) (fun _ => True) := EQ_jit (I := (fun _ => True)) (fun s _ => eX14_at_b56 i3 s hS) trivial
noncomputable def gX14_at_b41 (h : AH) (a3 : Int) : Option ((Int) ⊕ ((Int) ⊕ (Unit))) := jg (jI a3 1024) <| if h 822 a3 ≤ 0 then (some (.inr (.inr ()))) else (jb (gX14_at_l56 a3 1 0 h) fun o12 => gX14_at_j112_41 a3 o12 h)
theorem eX14_at_b41 (a3 : Int) {h : AH} (hS : Sh S h) : EQ (fX14_at_b41 454 h a3) (gX14_at_b41 h a3) (Sum.elim (fun _ => True) (Sum.elim (fun _ => True) (fun _ => True))) := by
  unfold fX14_at_b41 gX14_at_b41
  refine EQ_jgd (show h 454 (-2) = 15 from by rw [k_454 hS]) ?_
  refine EQ_jg ⟨fun ⟨_, x0⟩ => (show jI a3 (h (h 454 116) (-1)) ↔ jI a3 1024 from by rw [r_454_116 hS, l_822 hS]).mp x0, fun x0 => ⟨(show h (h 454 116) (-2) = 101 from by rw [r_454_116 hS, k_822 hS]), (show jI a3 (h (h 454 116) (-1)) ↔ jI a3 1024 from by rw [r_454_116 hS, l_822 hS]).mpr x0⟩⟩ (fun g1 => ?_)
  refine EQ_if (show h (h 454 116) a3 ≤ 0 ↔ h 822 a3 ≤ 0 from by rw [r_454_116 hS]) (fun c2 => ?_) (fun c2 => ?_)
  · exact EQ_some trivial
  · refine EQ_jb (eX14_at_l56 a3 1 0 hS) (fun o12 r3 => ?_)
    exact (eX14_at_j112_41 a3 o12 hS)
noncomputable def gX14_at_l41 (a3 : Int) (h : AH) : Option ((Int) ⊕ (Unit)) := jit (gX14_at_b41 h) a3
theorem eX14_at_l41 (a3 : Int) {h : AH} (hS : Sh S h) : EQ (fX14_at_l41 454 a3 h) (gX14_at_l41 a3 h) (Sum.elim (fun _ => True) (fun _ => True)) := EQ_jit (I := (fun _ => True)) (fun s _ => eX14_at_b41 s hS) trivial
noncomputable def gX14_at (a1 : Int) (h : AH) : Option (Int) := jb (gX14_at_l4 0 0 h) fun o1 => jl (jand (jxor o1 (jushr o1 10)) 1023) fun x3 => jb (gX14_at_l41 x3 h) fun o4 => jm o4 (fun o6 => jg (jI o6 1024) <| some (w32 (h 822 o6 - 1))) (fun o7 => some (-1))
theorem eX14_at (a1 : Int) {h : AH} (hS : Sh S h) : EQ (fX14_at 454 a1 h) (gX14_at a1 h) (fun _ => True) := by
  unfold fX14_at gX14_at
  refine EQ_jb (eX14_at_l4 0 0 hS) (fun o1 r1 => ?_)
  refine EQ_jl rfl (fun x3 ex3 => ?_)
  clear ex3
  refine EQ_jb (eX14_at_l41 x3 hS) (fun o4 r2 => ?_)
  refine EQ_jm r2 (fun o6 r3 => ?_) (fun o7 r4 => ?_)
  · refine EQ_jgd (show h 454 (-2) = 15 from by rw [k_454 hS]) ?_
    refine EQ_jg ⟨fun ⟨_, x0⟩ => (show jI o6 (h (h 454 116) (-1)) ↔ jI o6 1024 from by rw [r_454_116 hS, l_822 hS]).mp x0, fun x0 => ⟨(show h (h 454 116) (-2) = 101 from by rw [r_454_116 hS, k_822 hS]), (show jI o6 (h (h 454 116) (-1)) ↔ jI o6 1024 from by rw [r_454_116 hS, l_822 hS]).mpr x0⟩⟩ (fun g5 => ?_)
    exact EQ_some' (by rw [r_454_116 hS]) trivial
  · exact EQ_some trivial
noncomputable def gX14_add (a1 : Int) (a2 : Int) (a3 : Int) (a5 : Int) (a6 : Int) (h : AH) : Option (AH) := jb (gX14_at a6 h) fun v2 => if 0 ≤ v2 then (jg (jI a2 5) <| jg (jI a1 402) <| jg (jI (w32 (a2 - 1)) 5) <| jg (jI v2 402) <| jl (jst h (830 + a2) a1 (w64 (h (830 + a2) a1 + w64 (a3 * h (830 + w32 (a2 - 1)) v2)))) fun h4 => jl (jst h4 (836 + a2) a1 (min (h4 (836 + a2) a1) (w32 (a5 + h4 (836 + w32 (a2 - 1)) v2)))) fun h5 => some h5) else (some h)
theorem eX14_add (a1 : Int) (a2 : Int) (a3 : Int) (a5 : Int) (a6 : Int) {h : AH} (hS : Sh S h) : EQ (fX14_add 454 a1 a2 a3 a5 a6 h) (gX14_add a1 a2 a3 a5 a6 h) (fun r => Sh S r) := by
  unfold fX14_add gX14_add
  refine EQ_jgd (show h 454 (-2) = 15 from by rw [k_454 hS]) ?_
  refine EQ_jb (eX14_at a6 hS) (fun v2 r1 => ?_)
  refine EQ_if Iff.rfl (fun c2 => ?_) (fun c2 => ?_)
  · refine EQ_jgd (show h 454 (-2) = 15 from by rw [k_454 hS]) ?_
    refine EQ_jg ⟨fun ⟨_, x0⟩ => (show jI a2 (h (h 454 123) (-1)) ↔ jI a2 5 from by rw [r_454_123 hS, l_829 hS]).mp x0, fun x0 => ⟨(show h (h 454 123) (-2) = 106 from by rw [r_454_123 hS, k_829 hS]), (show jI a2 (h (h 454 123) (-1)) ↔ jI a2 5 from by rw [r_454_123 hS, l_829 hS]).mpr x0⟩⟩ (fun g3 => ?_)
    refine EQ_jg ⟨fun ⟨_, x0⟩ => (show jI a1 (h (h (h 454 123) a2) (-1)) ↔ jI a1 402 from by rw [r_454_123 hS, rr_829 hS g3, rl_829 hS g3]).mp x0, fun x0 => ⟨(show h (h (h 454 123) a2) (-2) = 102 from by rw [r_454_123 hS, rr_829 hS g3, rk_829 hS g3]), (show jI a1 (h (h (h 454 123) a2) (-1)) ↔ jI a1 402 from by rw [r_454_123 hS, rr_829 hS g3, rl_829 hS g3]).mpr x0⟩⟩ (fun g4 => ?_)
    refine EQ_jgd (show h 454 (-2) = 15 from by rw [k_454 hS]) ?_
    refine EQ_jg ⟨fun ⟨_, x0⟩ => (show jI (w32 (a2 - 1)) (h (h 454 123) (-1)) ↔ jI (w32 (a2 - 1)) 5 from by rw [r_454_123 hS, l_829 hS]).mp x0, fun x0 => ⟨(show h (h 454 123) (-2) = 106 from by rw [r_454_123 hS, k_829 hS]), (show jI (w32 (a2 - 1)) (h (h 454 123) (-1)) ↔ jI (w32 (a2 - 1)) 5 from by rw [r_454_123 hS, l_829 hS]).mpr x0⟩⟩ (fun g5 => ?_)
    refine EQ_jg ⟨fun ⟨_, x0⟩ => (show jI v2 (h (h (h 454 123) (w32 (a2 - 1))) (-1)) ↔ jI v2 402 from by rw [r_454_123 hS, rr_829 hS g5, rl_829 hS g5]).mp x0, fun x0 => ⟨(show h (h (h 454 123) (w32 (a2 - 1))) (-2) = 102 from by rw [r_454_123 hS, rr_829 hS g5, rk_829 hS g5]), (show jI v2 (h (h (h 454 123) (w32 (a2 - 1))) (-1)) ↔ jI v2 402 from by rw [r_454_123 hS, rr_829 hS g5, rl_829 hS g5]).mpr x0⟩⟩ (fun g6 => ?_)
    refine EQ_jgd ⟨(show h (h (h 454 123) a2) (-2) = 102 from by rw [r_454_123 hS, rr_829 hS g3, rk_829 hS g3]), (show 200 ≤ h (h 454 123) a2 from by rw [r_454_123 hS, rr_829 hS g3]; exact rge_829 g3), ((show jI a1 (h (h (h 454 123) a2) (-1)) ↔ jI a1 402 from by rw [r_454_123 hS, rr_829 hS g3, rl_829 hS g3]).mpr g4)⟩ ?_
    refine EQ_jl (by rw [r_454_123 hS, rr_829 hS g3, rr_829 hS g5]) (fun h4 eh4 => ?_)
    have s7 := Sh_of eh4 (Sh_sta hS (arr_829 g3) (jI_nn g4) (fun e => absurd ((rk_829 hS g3).symm.trans e) (by decide)))
    clear eh4
    refine EQ_jgd (show h4 454 (-2) = 15 from by rw [k_454 s7]) ?_
    refine EQ_jgd ⟨(show h4 (h4 454 124) (-2) = 105 from by rw [r_454_124 s7, k_835 s7]), ((show jI a2 (h4 (h4 454 124) (-1)) ↔ jI a2 5 from by rw [r_454_124 s7, l_835 s7]).mpr g3)⟩ ?_
    refine EQ_jgd (show h4 454 (-2) = 15 from by rw [k_454 s7]) ?_
    refine EQ_jgd ⟨(show h4 (h4 454 124) (-2) = 105 from by rw [r_454_124 s7, k_835 s7]), ((show jI a2 (h4 (h4 454 124) (-1)) ↔ jI a2 5 from by rw [r_454_124 s7, l_835 s7]).mpr g3)⟩ ?_
    refine EQ_jgd ⟨(show h4 (h4 (h4 454 124) a2) (-2) = 101 from by rw [r_454_124 s7, rr_835 s7 g3, rk_835 s7 g3]), ((show jI a1 (h4 (h4 (h4 454 124) a2) (-1)) ↔ jI a1 402 from by rw [r_454_124 s7, rr_835 s7 g3, rl_835 s7 g3]).mpr g4)⟩ ?_
    refine EQ_jgd (show h4 454 (-2) = 15 from by rw [k_454 s7]) ?_
    refine EQ_jgd ⟨(show h4 (h4 454 124) (-2) = 105 from by rw [r_454_124 s7, k_835 s7]), ((show jI (w32 (a2 - 1)) (h4 (h4 454 124) (-1)) ↔ jI (w32 (a2 - 1)) 5 from by rw [r_454_124 s7, l_835 s7]).mpr g5)⟩ ?_
    refine EQ_jgd ⟨(show h4 (h4 (h4 454 124) (w32 (a2 - 1))) (-2) = 101 from by rw [r_454_124 s7, rr_835 s7 g5, rk_835 s7 g5]), ((show jI v2 (h4 (h4 (h4 454 124) (w32 (a2 - 1))) (-1)) ↔ jI v2 402 from by rw [r_454_124 s7, rr_835 s7 g5, rl_835 s7 g5]).mpr g6)⟩ ?_
    refine EQ_jgd ⟨(show h4 (h4 (h4 454 124) a2) (-2) = 101 from by rw [r_454_124 s7, rr_835 s7 g3, rk_835 s7 g3]), (show 200 ≤ h4 (h4 454 124) a2 from by rw [r_454_124 s7, rr_835 s7 g3]; exact rge_835 g3), ((show jI a1 (h4 (h4 (h4 454 124) a2) (-1)) ↔ jI a1 402 from by rw [r_454_124 s7, rr_835 s7 g3, rl_835 s7 g3]).mpr g4)⟩ ?_
    refine EQ_jl (by rw [r_454_124 s7, rr_835 s7 g3, rr_835 s7 g5]) (fun h5 eh5 => ?_)
    have s8 := Sh_of eh5 (Sh_sta s7 (arr_835 g3) (jI_nn g4) (fun e => absurd ((rk_835 s7 g3).symm.trans e) (by decide)))
    clear eh5
    exact EQ_some s8
  · exact EQ_some hS
noncomputable def gX14_weighNode_j51_23 (a1 : Int) (a2 : Int) (a3 : Int) (a4 : Int) (h : AH) : Option ((Int × AH) ⊕ (AH)) := jl (w32 (a4 + 1)) fun x14 => some (.inl (x14, h))
theorem eX14_weighNode_j51_23 (a1 : Int) (a2 : Int) (a3 : Int) (a4 : Int) {h : AH} (hS : Sh S h) : EQ (fX14_weighNode_j51_23 454 a1 a2 a3 a4 h) (gX14_weighNode_j51_23 a1 a2 a3 a4 h) (Sum.elim (fun r => Sh S r.2) (fun r => Sh S r)) := by
  unfold fX14_weighNode_j51_23 gX14_weighNode_j51_23
  refine EQ_jl rfl (fun x14 ex14 => ?_)
  clear ex14
  exact EQ_some hS
noncomputable def gX14_weighNode_b23 (i1 : Int) (i2 : Int) (i3 : Int) (s : Int × AH) : Option ((Int × AH) ⊕ (AH)) := jt2 s fun a4 h => if 4 ≤ a4 then (some (.inr h)) else (jb2 (gX14_says i1 a4 h) fun v9 h10 => if v9 = 0 then (gX14_weighNode_j51_23 i1 i2 i3 a4 h10) else (jb (gX14_add i1 i2 1 (w32 (2 * a4)) i3 h10) fun h13 => gX14_weighNode_j51_23 i1 i2 i3 a4 h13))
theorem eX14_weighNode_b23 (i1 : Int) (i2 : Int) (i3 : Int) {s : Int × AH} (hS : (fun r => Sh S r.2) s) : EQ (fX14_weighNode_b23 454 i1 i2 i3 s) (gX14_weighNode_b23 i1 i2 i3 s) (Sum.elim (fun r => Sh S r.2) (fun r => Sh S r)) := by
  unfold fX14_weighNode_b23 gX14_weighNode_b23
  obtain ⟨a4, h⟩ := s
  refine EQ_jt2 ?_
  replace hS : Sh S h := hS
  refine EQ_if Iff.rfl (fun c1 => ?_) (fun c1 => ?_)
  · exact EQ_some hS
  · refine EQ_jgd (show h 454 (-2) = 15 from by rw [k_454 hS]) ?_
    refine EQ_jb2 (eX14_says i1 a4 hS) (fun v9 h10 r2 => ?_)
    replace r2 : Sh S h10 := r2
    refine EQ_if Iff.rfl (fun c3 => ?_) (fun c3 => ?_)
    · exact (eX14_weighNode_j51_23 i1 i2 i3 a4 r2)
    · refine EQ_jgd (show h10 454 (-2) = 15 from by rw [k_454 r2]) ?_
      refine EQ_jb (eX14_add i1 i2 1 (w32 (2 * a4)) i3 r2) (fun h13 r4 => ?_)
      exact (eX14_weighNode_j51_23 i1 i2 i3 a4 r4)
noncomputable def gX14_weighNode_l23 (i1 : Int) (i2 : Int) (i3 : Int) (a4 : Int) (h : AH) : Option (AH) := jit (gX14_weighNode_b23 i1 i2 i3) (a4, h)
theorem eX14_weighNode_l23 (i1 : Int) (i2 : Int) (i3 : Int) (a4 : Int) {h : AH} (hS : Sh S h) : EQ (fX14_weighNode_l23 454 i1 i2 i3 a4 h) (gX14_weighNode_l23 i1 i2 i3 a4 h) (fun r => Sh S r) := EQ_jit (I := (fun r => Sh S r.2)) (fun s hs => eX14_weighNode_b23 i1 i2 i3 hs) hS
noncomputable def gX14_weighNode_j180_60 (a1 : Int) (a2 : Int) (a3 : Int) (a4 : Int) (h : AH) : Option ((Int × AH) ⊕ (AH)) := jl (w32 (a4 + 1)) fun x18 => some (.inl (x18, h))
theorem eX14_weighNode_j180_60 (a1 : Int) (a2 : Int) (a3 : Int) (a4 : Int) {h : AH} (hS : Sh S h) : EQ (fX14_weighNode_j180_60 454 a1 a2 a3 a4 h) (gX14_weighNode_j180_60 a1 a2 a3 a4 h) (Sum.elim (fun r => Sh S r.2) (fun r => Sh S r)) := by
  unfold fX14_weighNode_j180_60 gX14_weighNode_j180_60
  refine EQ_jl rfl (fun x18 ex18 => ?_)
  clear ex18
  exact EQ_some hS
noncomputable def gX14_weighNode_j174_71 (a1 : Int) (a2 : Int) (a3 : Int) (a4 : Int) (a5 : Int) (h : AH) : Option ((Int × AH) ⊕ (AH)) := jl (w32 (a5 + 1)) fun x30 => some (.inl (x30, h))
theorem eX14_weighNode_j174_71 (a1 : Int) (a2 : Int) (a3 : Int) (a4 : Int) (a5 : Int) {h : AH} (hS : Sh S h) : EQ (fX14_weighNode_j174_71 454 a1 a2 a3 a4 a5 h) (gX14_weighNode_j174_71 a1 a2 a3 a4 a5 h) (Sum.elim (fun r => Sh S r.2) (fun r => Sh S r)) := by
  unfold fX14_weighNode_j174_71 gX14_weighNode_j174_71
  refine EQ_jl rfl (fun x30 ex30 => ?_)
  clear ex30
  exact EQ_some hS
noncomputable def gX14_weighNode_b71 (i1 : Int) (i2 : Int) (i3 : Int) (i4 : Int) (s : Int × AH) : Option ((Int × AH) ⊕ (AH)) := jt2 s fun a5 h => if 178 ≤ a5 then (some (.inr h)) else (jg (jI i4 178) <| if h 824 i4 = 0 then (some (.inr h)) else (if h 825 i4 = i4 then (jg (jI a5 178) <| if h 824 a5 = 0 then (gX14_weighNode_j174_71 i1 i2 i3 i4 a5 h) else (if h 825 a5 = a5 then (jb2 (gX14_cuts i1 i4 a5 h) fun v25 h26 => if v25 = 0 then (gX14_weighNode_j174_71 i1 i2 i3 i4 a5 h26) else (jb (gX14_add i1 i2 (w64 (h26 826 i4 * h26 826 a5)) (w32 (h26 827 i4 + h26 827 a5)) i3 h26) fun h29 => gX14_weighNode_j174_71 i1 i2 i3 i4 a5 h29)) else (gX14_weighNode_j174_71 i1 i2 i3 i4 a5 h))) else (some (.inr h))))
theorem eX14_weighNode_b71 (i1 : Int) (i2 : Int) (i3 : Int) (i4 : Int) {s : Int × AH} (hS : (fun r => Sh S r.2) s) : EQ (fX14_weighNode_b71 454 i1 i2 i3 i4 s) (gX14_weighNode_b71 i1 i2 i3 i4 s) (Sum.elim (fun r => Sh S r.2) (fun r => Sh S r)) := by
  unfold fX14_weighNode_b71 gX14_weighNode_b71
  obtain ⟨a5, h⟩ := s
  refine EQ_jt2 ?_
  replace hS : Sh S h := hS
  refine EQ_if Iff.rfl (fun c1 => ?_) (fun c1 => ?_)
  · exact EQ_some hS
  · refine EQ_jgd (show h 454 (-2) = 15 from by rw [k_454 hS]) ?_
    refine EQ_jg ⟨fun ⟨_, x0⟩ => (show jI i4 (h (h 454 118) (-1)) ↔ jI i4 178 from by rw [r_454_118 hS, l_824 hS]).mp x0, fun x0 => ⟨(show h (h 454 118) (-2) = 104 from by rw [r_454_118 hS, k_824 hS]), (show jI i4 (h (h 454 118) (-1)) ↔ jI i4 178 from by rw [r_454_118 hS, l_824 hS]).mpr x0⟩⟩ (fun g2 => ?_)
    refine EQ_if (show h (h 454 118) i4 = 0 ↔ h 824 i4 = 0 from by rw [r_454_118 hS]) (fun c3 => ?_) (fun c3 => ?_)
    · exact EQ_some hS
    · refine EQ_jgd (show h 454 (-2) = 15 from by rw [k_454 hS]) ?_
      refine EQ_jgd ⟨(show h (h 454 119) (-2) = 101 from by rw [r_454_119 hS, k_825 hS]), ((show jI i4 (h (h 454 119) (-1)) ↔ jI i4 178 from by rw [r_454_119 hS, l_825 hS]).mpr g2)⟩ ?_
      refine EQ_if (show h (h 454 119) i4 = i4 ↔ h 825 i4 = i4 from by rw [r_454_119 hS]) (fun c4 => ?_) (fun c4 => ?_)
      · refine EQ_jgd (show h 454 (-2) = 15 from by rw [k_454 hS]) ?_
        refine EQ_jg ⟨fun ⟨_, x0⟩ => (show jI a5 (h (h 454 118) (-1)) ↔ jI a5 178 from by rw [r_454_118 hS, l_824 hS]).mp x0, fun x0 => ⟨(show h (h 454 118) (-2) = 104 from by rw [r_454_118 hS, k_824 hS]), (show jI a5 (h (h 454 118) (-1)) ↔ jI a5 178 from by rw [r_454_118 hS, l_824 hS]).mpr x0⟩⟩ (fun g5 => ?_)
        refine EQ_if (show h (h 454 118) a5 = 0 ↔ h 824 a5 = 0 from by rw [r_454_118 hS]) (fun c6 => ?_) (fun c6 => ?_)
        · exact (eX14_weighNode_j174_71 i1 i2 i3 i4 a5 hS)
        · refine EQ_jgd (show h 454 (-2) = 15 from by rw [k_454 hS]) ?_
          refine EQ_jgd ⟨(show h (h 454 119) (-2) = 101 from by rw [r_454_119 hS, k_825 hS]), ((show jI a5 (h (h 454 119) (-1)) ↔ jI a5 178 from by rw [r_454_119 hS, l_825 hS]).mpr g5)⟩ ?_
          refine EQ_if (show h (h 454 119) a5 = a5 ↔ h 825 a5 = a5 from by rw [r_454_119 hS]) (fun c7 => ?_) (fun c7 => ?_)
          · refine EQ_jgd (show h 454 (-2) = 15 from by rw [k_454 hS]) ?_
            refine EQ_jb2 (eX14_cuts i1 i4 a5 hS) (fun v25 h26 r8 => ?_)
            replace r8 : Sh S h26 := r8
            refine EQ_if Iff.rfl (fun c9 => ?_) (fun c9 => ?_)
            · exact (eX14_weighNode_j174_71 i1 i2 i3 i4 a5 r8)
            · refine EQ_jgd (show h26 454 (-2) = 15 from by rw [k_454 r8]) ?_
              refine EQ_jgd ⟨(show h26 (h26 454 120) (-2) = 101 from by rw [r_454_120 r8, k_826 r8]), ((show jI i4 (h26 (h26 454 120) (-1)) ↔ jI i4 178 from by rw [r_454_120 r8, l_826 r8]).mpr g2)⟩ ?_
              refine EQ_jgd (show h26 454 (-2) = 15 from by rw [k_454 r8]) ?_
              refine EQ_jgd ⟨(show h26 (h26 454 120) (-2) = 101 from by rw [r_454_120 r8, k_826 r8]), ((show jI a5 (h26 (h26 454 120) (-1)) ↔ jI a5 178 from by rw [r_454_120 r8, l_826 r8]).mpr g5)⟩ ?_
              refine EQ_jgd (show h26 454 (-2) = 15 from by rw [k_454 r8]) ?_
              refine EQ_jgd ⟨(show h26 (h26 454 121) (-2) = 101 from by rw [r_454_121 r8, k_827 r8]), ((show jI i4 (h26 (h26 454 121) (-1)) ↔ jI i4 178 from by rw [r_454_121 r8, l_827 r8]).mpr g2)⟩ ?_
              refine EQ_jgd (show h26 454 (-2) = 15 from by rw [k_454 r8]) ?_
              refine EQ_jgd ⟨(show h26 (h26 454 121) (-2) = 101 from by rw [r_454_121 r8, k_827 r8]), ((show jI a5 (h26 (h26 454 121) (-1)) ↔ jI a5 178 from by rw [r_454_121 r8, l_827 r8]).mpr g5)⟩ ?_
              refine EQ_jgd (show h26 454 (-2) = 15 from by rw [k_454 r8]) ?_
              refine EQ_jb (by rw [r_454_120 r8, r_454_121 r8]; exact eX14_add i1 i2 (w64 (h26 826 i4 * h26 826 a5)) (w32 (h26 827 i4 + h26 827 a5)) i3 r8) (fun h29 r10 => ?_)
              exact (eX14_weighNode_j174_71 i1 i2 i3 i4 a5 r10)
          · exact (eX14_weighNode_j174_71 i1 i2 i3 i4 a5 hS)
      · exact EQ_some hS
noncomputable def gX14_weighNode_l71 (i1 : Int) (i2 : Int) (i3 : Int) (i4 : Int) (a5 : Int) (h : AH) : Option (AH) := jit (gX14_weighNode_b71 i1 i2 i3 i4) (a5, h)
theorem eX14_weighNode_l71 (i1 : Int) (i2 : Int) (i3 : Int) (i4 : Int) (a5 : Int) {h : AH} (hS : Sh S h) : EQ (fX14_weighNode_l71 454 i1 i2 i3 i4 a5 h) (gX14_weighNode_l71 i1 i2 i3 i4 a5 h) (fun r => Sh S r) := EQ_jit (I := (fun r => Sh S r.2)) (fun s hs => eX14_weighNode_b71 i1 i2 i3 i4 hs) hS
noncomputable def gX14_weighNode_b60 (i1 : Int) (i2 : Int) (i3 : Int) (s : Int × AH) : Option ((Int × AH) ⊕ (AH)) := jt2 s fun a4 h => if 178 ≤ a4 then (some (.inr h)) else (jb (gX14_weighNode_l71 i1 i2 i3 a4 0 h) fun o16 => gX14_weighNode_j180_60 i1 i2 i3 a4 o16)
theorem eX14_weighNode_b60 (i1 : Int) (i2 : Int) (i3 : Int) {s : Int × AH} (hS : (fun r => Sh S r.2) s) : EQ (fX14_weighNode_b60 454 i1 i2 i3 s) (gX14_weighNode_b60 i1 i2 i3 s) (Sum.elim (fun r => Sh S r.2) (fun r => Sh S r)) := by
  unfold fX14_weighNode_b60 gX14_weighNode_b60
  obtain ⟨a4, h⟩ := s
  refine EQ_jt2 ?_
  replace hS : Sh S h := hS
  refine EQ_if Iff.rfl (fun c1 => ?_) (fun c1 => ?_)
  · exact EQ_some hS
  · refine EQ_jb (eX14_weighNode_l71 i1 i2 i3 a4 0 hS) (fun o16 r2 => ?_)
    exact (eX14_weighNode_j180_60 i1 i2 i3 a4 r2)
noncomputable def gX14_weighNode_l60 (i1 : Int) (i2 : Int) (i3 : Int) (a4 : Int) (h : AH) : Option (AH) := jit (gX14_weighNode_b60 i1 i2 i3) (a4, h)
theorem eX14_weighNode_l60 (i1 : Int) (i2 : Int) (i3 : Int) (a4 : Int) {h : AH} (hS : Sh S h) : EQ (fX14_weighNode_l60 454 i1 i2 i3 a4 h) (gX14_weighNode_l60 i1 i2 i3 a4 h) (fun r => Sh S r) := EQ_jit (I := (fun r => Sh S r.2)) (fun s hs => eX14_weighNode_b60 i1 i2 i3 hs) hS
noncomputable def gX14_weighNode (a1 : Int) (a2 : Int) (a3 : Int) (h : AH) : Option (AH) := jg (jI a2 5) <| jg (jI a1 402) <| jl (jst h (830 + a2) a1 0) fun h1 => jl (jst h1 (836 + a2) a1 1000000) fun h2 => jb (gX14_weighNode_l23 a1 a2 a3 1 h2) fun o3 => jb (gX14_weighNode_l60 a1 a2 a3 0 o3) fun o5 => some o5
theorem eX14_weighNode (a1 : Int) (a2 : Int) (a3 : Int) {h : AH} (hS : Sh S h) : EQ (fX14_weighNode 454 a1 a2 a3 h) (gX14_weighNode a1 a2 a3 h) (fun r => Sh S r) := by
  unfold fX14_weighNode gX14_weighNode
  refine EQ_jgd (show h 454 (-2) = 15 from by rw [k_454 hS]) ?_
  refine EQ_jg ⟨fun ⟨_, x0⟩ => (show jI a2 (h (h 454 123) (-1)) ↔ jI a2 5 from by rw [r_454_123 hS, l_829 hS]).mp x0, fun x0 => ⟨(show h (h 454 123) (-2) = 106 from by rw [r_454_123 hS, k_829 hS]), (show jI a2 (h (h 454 123) (-1)) ↔ jI a2 5 from by rw [r_454_123 hS, l_829 hS]).mpr x0⟩⟩ (fun g1 => ?_)
  refine EQ_jg ⟨fun ⟨_, _, x0⟩ => (show jI a1 (h (h (h 454 123) a2) (-1)) ↔ jI a1 402 from by rw [r_454_123 hS, rr_829 hS g1, rl_829 hS g1]).mp x0, fun x0 => ⟨(show h (h (h 454 123) a2) (-2) = 102 from by rw [r_454_123 hS, rr_829 hS g1, rk_829 hS g1]), (show 200 ≤ h (h 454 123) a2 from by rw [r_454_123 hS, rr_829 hS g1]; exact rge_829 g1), (show jI a1 (h (h (h 454 123) a2) (-1)) ↔ jI a1 402 from by rw [r_454_123 hS, rr_829 hS g1, rl_829 hS g1]).mpr x0⟩⟩ (fun g2 => ?_)
  refine EQ_jl (by rw [r_454_123 hS, rr_829 hS g1]) (fun h1 eh1 => ?_)
  have s3 := Sh_of eh1 (Sh_sta hS (arr_829 g1) (jI_nn g2) (fun e => absurd ((rk_829 hS g1).symm.trans e) (by decide)))
  clear eh1
  refine EQ_jgd (show h1 454 (-2) = 15 from by rw [k_454 s3]) ?_
  refine EQ_jgd ⟨(show h1 (h1 454 124) (-2) = 105 from by rw [r_454_124 s3, k_835 s3]), ((show jI a2 (h1 (h1 454 124) (-1)) ↔ jI a2 5 from by rw [r_454_124 s3, l_835 s3]).mpr g1)⟩ ?_
  refine EQ_jgd ⟨(show h1 (h1 (h1 454 124) a2) (-2) = 101 from by rw [r_454_124 s3, rr_835 s3 g1, rk_835 s3 g1]), (show 200 ≤ h1 (h1 454 124) a2 from by rw [r_454_124 s3, rr_835 s3 g1]; exact rge_835 g1), ((show jI a1 (h1 (h1 (h1 454 124) a2) (-1)) ↔ jI a1 402 from by rw [r_454_124 s3, rr_835 s3 g1, rl_835 s3 g1]).mpr g2)⟩ ?_
  refine EQ_jl (by rw [r_454_124 s3, rr_835 s3 g1]) (fun h2 eh2 => ?_)
  have s4 := Sh_of eh2 (Sh_sta s3 (arr_835 g1) (jI_nn g2) (fun e => absurd ((rk_835 s3 g1).symm.trans e) (by decide)))
  clear eh2
  refine EQ_jb (eX14_weighNode_l23 a1 a2 a3 1 s4) (fun o3 r5 => ?_)
  refine EQ_jb (eX14_weighNode_l60 a1 a2 a3 0 r5) (fun o5 r6 => ?_)
  exact EQ_some r6
noncomputable def gX14_weighNodes_j55_7 (a1 : Int) (a2 : Int) (t0 : Int) (t1 : Int) (t2 : Int) (h : AH) : Option ((Int × AH) ⊕ (AH)) := jg (h t0 (-2) = 101 ∧ 200 ≤ t0 ∧ jI t1 (h t0 (-1))) <| jl (jst h t0 t1 t2) fun h14 => jl (w32 (a2 + 1)) fun x15 => some (.inl (x15, h14))
theorem eX14_weighNodes_j55_7 (a1 : Int) (a2 : Int) (t0 : Int) (t1 : Int) (t2 : Int) {h : AH} (hS : Sh S h) : EQ (fX14_weighNodes_j55_7 454 a1 a2 t0 t1 t2 h) (gX14_weighNodes_j55_7 a1 a2 t0 t1 t2 h) (Sum.elim (fun r => Sh S r.2) (fun r => Sh S r)) := by
  unfold fX14_weighNodes_j55_7 gX14_weighNodes_j55_7
  refine EQ_jg Iff.rfl (fun g1 => ?_)
  refine EQ_jl rfl (fun h14 eh14 => ?_)
  have s2 := Sh_of eh14 (Sh_stk hS (Or.inl (g1.1)) (g1.2.1) (jI_nn (g1.2.2)) (fun e => absurd (((g1.1)).symm.trans e) (by decide)))
  clear eh14
  refine EQ_jl rfl (fun x15 ex15 => ?_)
  clear ex15
  exact EQ_some s2
noncomputable def gX14_weighNodes_j32_7 (a1 : Int) (a2 : Int) (t0 : Int) (t1 : Int) (t2 : Int) (h : AH) : Option ((Int × AH) ⊕ (AH)) := jg (h t0 (-2) = 102 ∧ 200 ≤ t0 ∧ jI t1 (h t0 (-1))) <| jl (jst h t0 t1 t2) fun h10 => jb (gX14_isEnd a2 h10) fun v12 => if v12 = 0 then (gX14_weighNodes_j55_7 a1 a2 (h10 835 0) a2 1000000 h10) else (gX14_weighNodes_j55_7 a1 a2 (h10 835 0) a2 0 h10)
theorem eX14_weighNodes_j32_7 (a1 : Int) (a2 : Int) (t0 : Int) (t1 : Int) (t2 : Int) {h : AH} (hS : Sh S h) : EQ (fX14_weighNodes_j32_7 454 a1 a2 t0 t1 t2 h) (gX14_weighNodes_j32_7 a1 a2 t0 t1 t2 h) (Sum.elim (fun r => Sh S r.2) (fun r => Sh S r)) := by
  unfold fX14_weighNodes_j32_7 gX14_weighNodes_j32_7
  refine EQ_jg Iff.rfl (fun g1 => ?_)
  refine EQ_jl rfl (fun h10 eh10 => ?_)
  have s2 := Sh_of eh10 (Sh_stk hS (Or.inr (Or.inl (g1.1))) (g1.2.1) (jI_nn (g1.2.2)) (fun e => absurd (((g1.1)).symm.trans e) (by decide)))
  clear eh10
  refine EQ_jgd (show h10 454 (-2) = 15 from by rw [k_454 s2]) ?_
  refine EQ_jgd ⟨(show h10 (h10 454 124) (-2) = 105 from by rw [r_454_124 s2, k_835 s2]), (show jI 0 (h10 (h10 454 124) (-1)) from by rw [r_454_124 s2, l_835 s2]; unfold jI; decide)⟩ ?_
  refine EQ_jgd (show h10 454 (-2) = 15 from by rw [k_454 s2]) ?_
  refine EQ_jb (eX14_isEnd a2 s2) (fun v12 r3 => ?_)
  refine EQ_if Iff.rfl (fun c4 => ?_) (fun c4 => ?_)
  · exact (by rw [r_454_124 s2]; exact eX14_weighNodes_j55_7 a1 a2 (h10 835 0) a2 1000000 s2)
  · exact (by rw [r_454_124 s2]; exact eX14_weighNodes_j55_7 a1 a2 (h10 835 0) a2 0 s2)
noncomputable def gX14_weighNodes_b7 (i1 : Int) (s : Int × AH) : Option ((Int × AH) ⊕ (AH)) := jt2 s fun a2 h => if i1 ≤ a2 then (some (.inr h)) else (jb (gX14_isEnd a2 h) fun v8 => if v8 = 0 then (gX14_weighNodes_j32_7 i1 a2 (h 829 0) a2 0 h) else (gX14_weighNodes_j32_7 i1 a2 (h 829 0) a2 1 h))
theorem eX14_weighNodes_b7 (i1 : Int) {s : Int × AH} (hS : (fun r => Sh S r.2) s) : EQ (fX14_weighNodes_b7 454 i1 s) (gX14_weighNodes_b7 i1 s) (Sum.elim (fun r => Sh S r.2) (fun r => Sh S r)) := by
  unfold fX14_weighNodes_b7 gX14_weighNodes_b7
  obtain ⟨a2, h⟩ := s
  refine EQ_jt2 ?_
  replace hS : Sh S h := hS
  refine EQ_if Iff.rfl (fun c1 => ?_) (fun c1 => ?_)
  · exact EQ_some hS
  · refine EQ_jgd (show h 454 (-2) = 15 from by rw [k_454 hS]) ?_
    refine EQ_jgd ⟨(show h (h 454 123) (-2) = 106 from by rw [r_454_123 hS, k_829 hS]), (show jI 0 (h (h 454 123) (-1)) from by rw [r_454_123 hS, l_829 hS]; unfold jI; decide)⟩ ?_
    refine EQ_jgd (show h 454 (-2) = 15 from by rw [k_454 hS]) ?_
    refine EQ_jb (eX14_isEnd a2 hS) (fun v8 r2 => ?_)
    refine EQ_if Iff.rfl (fun c3 => ?_) (fun c3 => ?_)
    · exact (by rw [r_454_123 hS]; exact eX14_weighNodes_j32_7 i1 a2 (h 829 0) a2 0 hS)
    · exact (by rw [r_454_123 hS]; exact eX14_weighNodes_j32_7 i1 a2 (h 829 0) a2 1 hS)
noncomputable def gX14_weighNodes_l7 (i1 : Int) (a2 : Int) (h : AH) : Option (AH) := jit (gX14_weighNodes_b7 i1) (a2, h)
theorem eX14_weighNodes_l7 (i1 : Int) (a2 : Int) {h : AH} (hS : Sh S h) : EQ (fX14_weighNodes_l7 454 i1 a2 h) (gX14_weighNodes_l7 i1 a2 h) (fun r => Sh S r) := EQ_jit (I := (fun r => Sh S r.2)) (fun s hs => eX14_weighNodes_b7 i1 hs) hS
noncomputable def gX14_weighNodes_b71 (i1 : Int) (i2 : Int) (s : Int × AH) : Option ((Int × AH) ⊕ (AH)) := jt2 s fun a3 h => if i1 ≤ a3 then (some (.inr h)) else (jb (gX14_weighNode a3 i2 i1 h) fun h22 => jl (w32 (a3 + 1)) fun x23 => some (.inl (x23, h22)))
theorem eX14_weighNodes_b71 (i1 : Int) (i2 : Int) {s : Int × AH} (hS : (fun r => Sh S r.2) s) : EQ (fX14_weighNodes_b71 454 i1 i2 s) (gX14_weighNodes_b71 i1 i2 s) (Sum.elim (fun r => Sh S r.2) (fun r => Sh S r)) := by
  unfold fX14_weighNodes_b71 gX14_weighNodes_b71
  obtain ⟨a3, h⟩ := s
  refine EQ_jt2 ?_
  replace hS : Sh S h := hS
  refine EQ_if Iff.rfl (fun c1 => ?_) (fun c1 => ?_)
  · exact EQ_some hS
  · refine EQ_jgd (show h 454 (-2) = 15 from by rw [k_454 hS]) ?_
    refine EQ_jb (eX14_weighNode a3 i2 i1 hS) (fun h22 r2 => ?_)
    refine EQ_jl rfl (fun x23 ex23 => ?_)
    clear ex23
    exact EQ_some r2
noncomputable def gX14_weighNodes_l71 (i1 : Int) (i2 : Int) (a3 : Int) (h : AH) : Option (AH) := jit (gX14_weighNodes_b71 i1 i2) (a3, h)
theorem eX14_weighNodes_l71 (i1 : Int) (i2 : Int) (a3 : Int) {h : AH} (hS : Sh S h) : EQ (fX14_weighNodes_l71 454 i1 i2 a3 h) (gX14_weighNodes_l71 i1 i2 a3 h) (fun r => Sh S r) := EQ_jit (I := (fun r => Sh S r.2)) (fun s hs => eX14_weighNodes_b71 i1 i2 hs) hS
noncomputable def gX14_weighNodes_b64 (i1 : Int) (s : Int × AH) : Option ((Int × AH) ⊕ (AH)) := jt2 s fun a2 h => if 5 ≤ a2 then (some (.inr h)) else (jb (gX14_weighNodes_l71 i1 a2 0 h) fun o17 => jl (w32 (a2 + 1)) fun x19 => some (.inl (x19, o17)))
theorem eX14_weighNodes_b64 (i1 : Int) {s : Int × AH} (hS : (fun r => Sh S r.2) s) : EQ (fX14_weighNodes_b64 454 i1 s) (gX14_weighNodes_b64 i1 s) (Sum.elim (fun r => Sh S r.2) (fun r => Sh S r)) := by
  unfold fX14_weighNodes_b64 gX14_weighNodes_b64
  obtain ⟨a2, h⟩ := s
  refine EQ_jt2 ?_
  replace hS : Sh S h := hS
  refine EQ_if Iff.rfl (fun c1 => ?_) (fun c1 => ?_)
  · exact EQ_some hS
  · refine EQ_jb (eX14_weighNodes_l71 i1 a2 0 hS) (fun o17 r2 => ?_)
    refine EQ_jl rfl (fun x19 ex19 => ?_)
    clear ex19
    exact EQ_some r2
noncomputable def gX14_weighNodes_l64 (i1 : Int) (a2 : Int) (h : AH) : Option (AH) := jit (gX14_weighNodes_b64 i1) (a2, h)
theorem eX14_weighNodes_l64 (i1 : Int) (a2 : Int) {h : AH} (hS : Sh S h) : EQ (fX14_weighNodes_l64 454 i1 a2 h) (gX14_weighNodes_l64 i1 a2 h) (fun r => Sh S r) := EQ_jit (I := (fun r => Sh S r.2)) (fun s hs => eX14_weighNodes_b64 i1 hs) hS
noncomputable def gX14_weighNodes (h : AH) : Option (AH) := jl (h 454 114) fun x1 => jb (gX14_weighNodes_l7 x1 0 h) fun o2 => jb (gX14_weighNodes_l64 x1 1 o2) fun o4 => some o4
theorem eX14_weighNodes {h : AH} (hS : Sh S h) : EQ (fX14_weighNodes 454 h) (gX14_weighNodes h) (fun r => Sh S r) := by
  unfold fX14_weighNodes gX14_weighNodes
  refine EQ_jgd (show h 454 (-2) = 15 from by rw [k_454 hS]) ?_
  refine EQ_jl rfl (fun x1 ex1 => ?_)
  clear ex1
  refine EQ_jb (eX14_weighNodes_l7 x1 0 hS) (fun o2 r1 => ?_)
  refine EQ_jb (eX14_weighNodes_l64 x1 1 r1) (fun o4 r2 => ?_)
  exact EQ_some r2
noncomputable def gX14_firstWay_j281_139 (a1 : Int) (a2 : Int) (a3 : Int) (a5 : Int) (h : AH) : Option ((Int × AH) ⊕ ((Int × Int × Int × AH) ⊕ (AH))) := jl (w32 (a5 + 1)) fun x31 => some (.inl (x31, h))
theorem eX14_firstWay_j281_139 (a1 : Int) (a2 : Int) (a3 : Int) (a5 : Int) {h : AH} (hS : Sh S h) : EQ (fX14_firstWay_j281_139 454 a1 a2 a3 a5 h) (gX14_firstWay_j281_139 a1 a2 a3 a5 h) (Sum.elim (fun r => Sh S r.2) (Sum.elim (fun r => Sh S r.2.2.2) (fun r => Sh S r))) := by
  unfold fX14_firstWay_j281_139 gX14_firstWay_j281_139
  refine EQ_jl rfl (fun x31 ex31 => ?_)
  clear ex31
  exact EQ_some hS
noncomputable def gX14_firstWay_j275_150 (a1 : Int) (a2 : Int) (a3 : Int) (a5 : Int) (a6 : Int) (h : AH) : Option ((Int × AH) ⊕ ((Int × Int × AH) ⊕ (AH))) := jl (w32 (a6 + 1)) fun x47 => some (.inl (x47, h))
theorem eX14_firstWay_j275_150 (a1 : Int) (a2 : Int) (a3 : Int) (a5 : Int) (a6 : Int) {h : AH} (hS : Sh S h) : EQ (fX14_firstWay_j275_150 454 a1 a2 a3 a5 a6 h) (gX14_firstWay_j275_150 a1 a2 a3 a5 a6 h) (Sum.elim (fun r => Sh S r.2) (Sum.elim (fun r => Sh S r.2.2) (fun r => Sh S r))) := by
  unfold fX14_firstWay_j275_150 gX14_firstWay_j275_150
  refine EQ_jl rfl (fun x47 ex47 => ?_)
  clear ex47
  exact EQ_some hS
noncomputable def gX14_firstWay_b150 (i1 : Int) (i2 : Int) (i3 : Int) (i5 : Int) (s : Int × AH) : Option ((Int × AH) ⊕ ((Int × Int × AH) ⊕ (AH))) := jt2 s fun a6 h => if 178 ≤ a6 then (some (.inr (.inr h))) else (jg (jI i5 178) <| if h 824 i5 = 0 then (some (.inr (.inr h))) else (jg (jI a6 178) <| if h 824 a6 = 0 then (gX14_firstWay_j275_150 i1 i2 i3 i5 a6 h) else (jb2 (gX14_cuts i1 i5 a6 h) fun v36 h37 => if v36 = 0 then (gX14_firstWay_j275_150 i1 i2 i3 i5 a6 h37) else (jb (gX14_at i3 h37) fun v40 => if v40 < 0 then (gX14_firstWay_j275_150 i1 i2 i3 i5 a6 h37) else (jb (gX14_spotPrice i5) fun v43 => jb (gX14_spotPrice a6) fun v45 => jg (jI (w32 (i2 - 1)) 5) <| jg (jI v40 402) <| jg (jI i2 5) <| jg (jI i1 402) <| if w32 (w32 (v43 + v45) + h37 (836 + w32 (i2 - 1)) v40) = h37 (836 + i2) i1 then (some (.inr (.inl (a6, v40, h37)))) else (gX14_firstWay_j275_150 i1 i2 i3 i5 a6 h37))))))
theorem eX14_firstWay_b150 (i1 : Int) (i2 : Int) (i3 : Int) (i5 : Int) {s : Int × AH} (hS : (fun r => Sh S r.2) s) : EQ (fX14_firstWay_b150 454 i1 i2 i3 i5 s) (gX14_firstWay_b150 i1 i2 i3 i5 s) (Sum.elim (fun r => Sh S r.2) (Sum.elim (fun r => Sh S r.2.2) (fun r => Sh S r))) := by
  unfold fX14_firstWay_b150 gX14_firstWay_b150
  obtain ⟨a6, h⟩ := s
  refine EQ_jt2 ?_
  replace hS : Sh S h := hS
  refine EQ_if Iff.rfl (fun c1 => ?_) (fun c1 => ?_)
  · exact EQ_some hS
  · refine EQ_jgd (show h 454 (-2) = 15 from by rw [k_454 hS]) ?_
    refine EQ_jg ⟨fun ⟨_, x0⟩ => (show jI i5 (h (h 454 118) (-1)) ↔ jI i5 178 from by rw [r_454_118 hS, l_824 hS]).mp x0, fun x0 => ⟨(show h (h 454 118) (-2) = 104 from by rw [r_454_118 hS, k_824 hS]), (show jI i5 (h (h 454 118) (-1)) ↔ jI i5 178 from by rw [r_454_118 hS, l_824 hS]).mpr x0⟩⟩ (fun g2 => ?_)
    refine EQ_if (show h (h 454 118) i5 = 0 ↔ h 824 i5 = 0 from by rw [r_454_118 hS]) (fun c3 => ?_) (fun c3 => ?_)
    · exact EQ_some hS
    · refine EQ_jgd (show h 454 (-2) = 15 from by rw [k_454 hS]) ?_
      refine EQ_jg ⟨fun ⟨_, x0⟩ => (show jI a6 (h (h 454 118) (-1)) ↔ jI a6 178 from by rw [r_454_118 hS, l_824 hS]).mp x0, fun x0 => ⟨(show h (h 454 118) (-2) = 104 from by rw [r_454_118 hS, k_824 hS]), (show jI a6 (h (h 454 118) (-1)) ↔ jI a6 178 from by rw [r_454_118 hS, l_824 hS]).mpr x0⟩⟩ (fun g4 => ?_)
      refine EQ_if (show h (h 454 118) a6 = 0 ↔ h 824 a6 = 0 from by rw [r_454_118 hS]) (fun c5 => ?_) (fun c5 => ?_)
      · exact (eX14_firstWay_j275_150 i1 i2 i3 i5 a6 hS)
      · refine EQ_jgd (show h 454 (-2) = 15 from by rw [k_454 hS]) ?_
        refine EQ_jb2 (eX14_cuts i1 i5 a6 hS) (fun v36 h37 r6 => ?_)
        replace r6 : Sh S h37 := r6
        refine EQ_if Iff.rfl (fun c7 => ?_) (fun c7 => ?_)
        · exact (eX14_firstWay_j275_150 i1 i2 i3 i5 a6 r6)
        · refine EQ_jgd (show h37 454 (-2) = 15 from by rw [k_454 r6]) ?_
          refine EQ_jb (eX14_at i3 r6) (fun v40 r8 => ?_)
          refine EQ_if Iff.rfl (fun c9 => ?_) (fun c9 => ?_)
          · exact (eX14_firstWay_j275_150 i1 i2 i3 i5 a6 r6)
          · refine EQ_jb (eX14_spotPrice i5) (fun v43 r10 => ?_)
            refine EQ_jb (eX14_spotPrice a6) (fun v45 r11 => ?_)
            refine EQ_jgd (show h37 454 (-2) = 15 from by rw [k_454 r6]) ?_
            refine EQ_jg ⟨fun ⟨_, x0⟩ => (show jI (w32 (i2 - 1)) (h37 (h37 454 124) (-1)) ↔ jI (w32 (i2 - 1)) 5 from by rw [r_454_124 r6, l_835 r6]).mp x0, fun x0 => ⟨(show h37 (h37 454 124) (-2) = 105 from by rw [r_454_124 r6, k_835 r6]), (show jI (w32 (i2 - 1)) (h37 (h37 454 124) (-1)) ↔ jI (w32 (i2 - 1)) 5 from by rw [r_454_124 r6, l_835 r6]).mpr x0⟩⟩ (fun g12 => ?_)
            refine EQ_jg ⟨fun ⟨_, x0⟩ => (show jI v40 (h37 (h37 (h37 454 124) (w32 (i2 - 1))) (-1)) ↔ jI v40 402 from by rw [r_454_124 r6, rr_835 r6 g12, rl_835 r6 g12]).mp x0, fun x0 => ⟨(show h37 (h37 (h37 454 124) (w32 (i2 - 1))) (-2) = 101 from by rw [r_454_124 r6, rr_835 r6 g12, rk_835 r6 g12]), (show jI v40 (h37 (h37 (h37 454 124) (w32 (i2 - 1))) (-1)) ↔ jI v40 402 from by rw [r_454_124 r6, rr_835 r6 g12, rl_835 r6 g12]).mpr x0⟩⟩ (fun g13 => ?_)
            refine EQ_jgd (show h37 454 (-2) = 15 from by rw [k_454 r6]) ?_
            refine EQ_jg ⟨fun ⟨_, x0⟩ => (show jI i2 (h37 (h37 454 124) (-1)) ↔ jI i2 5 from by rw [r_454_124 r6, l_835 r6]).mp x0, fun x0 => ⟨(show h37 (h37 454 124) (-2) = 105 from by rw [r_454_124 r6, k_835 r6]), (show jI i2 (h37 (h37 454 124) (-1)) ↔ jI i2 5 from by rw [r_454_124 r6, l_835 r6]).mpr x0⟩⟩ (fun g14 => ?_)
            refine EQ_jg ⟨fun ⟨_, x0⟩ => (show jI i1 (h37 (h37 (h37 454 124) i2) (-1)) ↔ jI i1 402 from by rw [r_454_124 r6, rr_835 r6 g14, rl_835 r6 g14]).mp x0, fun x0 => ⟨(show h37 (h37 (h37 454 124) i2) (-2) = 101 from by rw [r_454_124 r6, rr_835 r6 g14, rk_835 r6 g14]), (show jI i1 (h37 (h37 (h37 454 124) i2) (-1)) ↔ jI i1 402 from by rw [r_454_124 r6, rr_835 r6 g14, rl_835 r6 g14]).mpr x0⟩⟩ (fun g15 => ?_)
            refine EQ_if (show w32 (w32 (v43 + v45) + h37 (h37 (h37 454 124) (w32 (i2 - 1))) v40) = h37 (h37 (h37 454 124) i2) i1 ↔ w32 (w32 (v43 + v45) + h37 (836 + w32 (i2 - 1)) v40) = h37 (836 + i2) i1 from by rw [r_454_124 r6, rr_835 r6 g12, rr_835 r6 g14]) (fun c16 => ?_) (fun c16 => ?_)
            · exact EQ_some r6
            · exact (eX14_firstWay_j275_150 i1 i2 i3 i5 a6 r6)
noncomputable def gX14_firstWay_l150 (i1 : Int) (i2 : Int) (i3 : Int) (i5 : Int) (a6 : Int) (h : AH) : Option ((Int × Int × AH) ⊕ (AH)) := jit (gX14_firstWay_b150 i1 i2 i3 i5) (a6, h)
theorem eX14_firstWay_l150 (i1 : Int) (i2 : Int) (i3 : Int) (i5 : Int) (a6 : Int) {h : AH} (hS : Sh S h) : EQ (fX14_firstWay_l150 454 i1 i2 i3 i5 a6 h) (gX14_firstWay_l150 i1 i2 i3 i5 a6 h) (Sum.elim (fun r => Sh S r.2.2) (fun r => Sh S r)) := EQ_jit (I := (fun r => Sh S r.2)) (fun s hs => eX14_firstWay_b150 i1 i2 i3 i5 hs) hS
noncomputable def gX14_firstWay_b139 (i1 : Int) (i2 : Int) (i3 : Int) (s : Int × AH) : Option ((Int × AH) ⊕ ((Int × Int × Int × AH) ⊕ (AH))) := jt2 s fun a5 h => if 178 ≤ a5 then (some (.inr (.inr h))) else (jb (gX14_firstWay_l150 i1 i2 i3 a5 0 h) fun o24 => jm o24 (fun o26 => jt3 o26 fun y28 y29 h30 => some (.inr (.inl (a5, y28, y29, h30)))) (fun o27 => gX14_firstWay_j281_139 i1 i2 i3 a5 o27))
theorem eX14_firstWay_b139 (i1 : Int) (i2 : Int) (i3 : Int) {s : Int × AH} (hS : (fun r => Sh S r.2) s) : EQ (fX14_firstWay_b139 454 i1 i2 i3 s) (gX14_firstWay_b139 i1 i2 i3 s) (Sum.elim (fun r => Sh S r.2) (Sum.elim (fun r => Sh S r.2.2.2) (fun r => Sh S r))) := by
  unfold fX14_firstWay_b139 gX14_firstWay_b139
  obtain ⟨a5, h⟩ := s
  refine EQ_jt2 ?_
  replace hS : Sh S h := hS
  refine EQ_if Iff.rfl (fun c1 => ?_) (fun c1 => ?_)
  · exact EQ_some hS
  · refine EQ_jb (eX14_firstWay_l150 i1 i2 i3 a5 0 hS) (fun o24 r2 => ?_)
    refine EQ_jm r2 (fun o26 r3 => ?_) (fun o27 r4 => ?_)
    · obtain ⟨y28, y29, h30⟩ := o26
      refine EQ_jt3 ?_
      replace r3 : Sh S h30 := r3
      exact EQ_some r3
    · exact (eX14_firstWay_j281_139 i1 i2 i3 a5 r4)
noncomputable def gX14_firstWay_l139 (i1 : Int) (i2 : Int) (i3 : Int) (a5 : Int) (h : AH) : Option ((Int × Int × Int × AH) ⊕ (AH)) := jit (gX14_firstWay_b139 i1 i2 i3) (a5, h)
theorem eX14_firstWay_l139 (i1 : Int) (i2 : Int) (i3 : Int) (a5 : Int) {h : AH} (hS : Sh S h) : EQ (fX14_firstWay_l139 454 i1 i2 i3 a5 h) (gX14_firstWay_l139 i1 i2 i3 a5 h) (Sum.elim (fun r => Sh S r.2.2.2) (fun r => Sh S r)) := EQ_jit (I := (fun r => Sh S r.2)) (fun s hs => eX14_firstWay_b139 i1 i2 i3 hs) hS
noncomputable def gX14_firstWay_j136 (a1 : Int) (a2 : Int) (a3 : Int) (h : AH) : Option (Int × AH) := jb (gX14_firstWay_l139 a1 a2 a3 0 h) fun o13 => jm o13 (fun o15 => jt4 o15 fun y17 y18 y19 h20 => jg (jI (h20 454 125) 4) <| jl (jst h20 841 (h20 454 125) (w32 (w32 (1 + w32 (200 * y17)) + y18))) fun h21 => jl (jst h21 454 125 (w32 (h21 454 125 + 1))) fun h22 => some (y19, h22)) (fun o16 => some ((-1), o16))
theorem eX14_firstWay_j136 (a1 : Int) (a2 : Int) (a3 : Int) {h : AH} (hS : Sh S h) : EQ (fX14_firstWay_j136 454 a1 a2 a3 h) (gX14_firstWay_j136 a1 a2 a3 h) (fun r => Sh S r.2) := by
  unfold fX14_firstWay_j136 gX14_firstWay_j136
  refine EQ_jb (eX14_firstWay_l139 a1 a2 a3 0 hS) (fun o13 r1 => ?_)
  refine EQ_jm r1 (fun o15 r2 => ?_) (fun o16 r3 => ?_)
  · obtain ⟨y17, y18, y19, h20⟩ := o15
    refine EQ_jt4 ?_
    replace r2 : Sh S h20 := r2
    refine EQ_jgd (show h20 454 (-2) = 15 from by rw [k_454 r2]) ?_
    refine EQ_jgd (show h20 454 (-2) = 15 from by rw [k_454 r2]) ?_
    refine EQ_jg ⟨fun ⟨_, _, x0⟩ => (show jI (h20 454 125) (h20 (h20 454 126) (-1)) ↔ jI (h20 454 125) 4 from by rw [r_454_126 r2, l_841 r2]).mp x0, fun x0 => ⟨(show h20 (h20 454 126) (-2) = 101 from by rw [r_454_126 r2, k_841 r2]), (show 200 ≤ h20 454 126 from by rw [r_454_126 r2]; exact (by decide)), (show jI (h20 454 125) (h20 (h20 454 126) (-1)) ↔ jI (h20 454 125) 4 from by rw [r_454_126 r2, l_841 r2]).mpr x0⟩⟩ (fun g4 => ?_)
    refine EQ_jl (by rw [r_454_126 r2]) (fun h21 eh21 => ?_)
    have s5 := Sh_of eh21 (Sh_sta r2 (by decide +kernel) (jI_nn g4) (fun e => absurd ((k_841 r2).symm.trans e) (by decide)))
    clear eh21
    refine EQ_jgd (show h21 454 (-2) = 15 from by rw [k_454 s5]) ?_
    refine EQ_jgd ⟨(show h21 454 (-2) = 15 from by rw [k_454 s5]), (show (200 : Int) ≤ 454 from (by decide))⟩ ?_
    refine EQ_jl rfl (fun h22 eh22 => ?_)
    have s6 := Sh_of eh22 (Sh_sto s5 (a := 454) (i := 125) (by decide +kernel))
    clear eh22
    exact EQ_some s6
  · exact EQ_some r3
noncomputable def gX14_firstWay_j130_6 (a1 : Int) (a2 : Int) (a3 : Int) (a4 : Int) (a5 : Int) (h : AH) : Option ((Int × Int × AH) ⊕ ((AH) ⊕ ((Int × Int × AH) ⊕ ((AH))))) := jl (w32 (a5 + 1)) fun x58 => some (.inl (a4, x58, h))
theorem eX14_firstWay_j130_6 (a1 : Int) (a2 : Int) (a3 : Int) (a4 : Int) (a5 : Int) {h : AH} (hS : Sh S h) : EQ (fX14_firstWay_j130_6 454 a1 a2 a3 a4 a5 h) (gX14_firstWay_j130_6 a1 a2 a3 a4 a5 h) (Sum.elim (fun r => Sh S r.2.2) (Sum.elim (fun r => Sh S r) (Sum.elim (fun r => Sh S r.2.2) (fun r => Sh S r)))) := by
  unfold fX14_firstWay_j130_6 gX14_firstWay_j130_6
  refine EQ_jl rfl (fun x58 ex58 => ?_)
  clear ex58
  exact EQ_some hS
noncomputable def gX14_firstWay_b6 (i1 : Int) (i2 : Int) (i3 : Int) (s : Int × Int × AH) : Option ((Int × Int × AH) ⊕ ((AH) ⊕ ((Int × Int × AH) ⊕ ((AH))))) := jt3 s fun a4 a5 h => if 4 ≤ a5 then (some (.inr (.inr (.inr h)))) else (jb2 (gX14_says i1 a5 h) fun v50 h51 => if v50 = 0 then (some (.inr (.inl h51))) else (jg (jI (w32 (8 * i1)) 3216) <| jg (jI (w32 (w32 (h51 821 (w32 (8 * i1)) + a5) - 1)) 80) <| jl (w32 (w32 (w32 (a4 * 27) + h51 820 (w32 (w32 (h51 821 (w32 (8 * i1)) + a5) - 1))) + 1)) fun x53 => jb (gX14_at i3 h51) fun v55 => if v55 < 0 then (gX14_firstWay_j130_6 i1 i2 i3 x53 a5 h51) else (jg (jI (w32 (i2 - 1)) 5) <| jg (jI v55 402) <| jg (jI i2 5) <| jg (jI i1 402) <| if w32 (w32 (2 * a5) + h51 (836 + w32 (i2 - 1)) v55) = h51 (836 + i2) i1 then (some (.inr (.inr (.inl (x53, v55, h51))))) else (gX14_firstWay_j130_6 i1 i2 i3 x53 a5 h51))))
theorem eX14_firstWay_b6 (i1 : Int) (i2 : Int) (i3 : Int) {s : Int × Int × AH} (hS : (fun r => Sh S r.2.2) s) : EQ (fX14_firstWay_b6 454 i1 i2 i3 s) (gX14_firstWay_b6 i1 i2 i3 s) (Sum.elim (fun r => Sh S r.2.2) (Sum.elim (fun r => Sh S r) (Sum.elim (fun r => Sh S r.2.2) (fun r => Sh S r)))) := by
  unfold fX14_firstWay_b6 gX14_firstWay_b6
  obtain ⟨a4, a5, h⟩ := s
  refine EQ_jt3 ?_
  replace hS : Sh S h := hS
  refine EQ_if Iff.rfl (fun c1 => ?_) (fun c1 => ?_)
  · exact EQ_some hS
  · refine EQ_jgd (show h 454 (-2) = 15 from by rw [k_454 hS]) ?_
    refine EQ_jb2 (eX14_says i1 a5 hS) (fun v50 h51 r2 => ?_)
    replace r2 : Sh S h51 := r2
    refine EQ_if Iff.rfl (fun c3 => ?_) (fun c3 => ?_)
    · exact EQ_some r2
    · refine EQ_jgd (show h51 454 (-2) = 15 from by rw [k_454 r2]) ?_
      refine EQ_jgd (show h51 454 (-2) = 15 from by rw [k_454 r2]) ?_
      refine EQ_jg ⟨fun ⟨_, x0⟩ => (show jI (w32 (8 * i1)) (h51 (h51 454 115) (-1)) ↔ jI (w32 (8 * i1)) 3216 from by rw [r_454_115 r2, l_821 r2]).mp x0, fun x0 => ⟨(show h51 (h51 454 115) (-2) = 101 from by rw [r_454_115 r2, k_821 r2]), (show jI (w32 (8 * i1)) (h51 (h51 454 115) (-1)) ↔ jI (w32 (8 * i1)) 3216 from by rw [r_454_115 r2, l_821 r2]).mpr x0⟩⟩ (fun g4 => ?_)
      refine EQ_jg ⟨fun ⟨_, x0⟩ => (show jI (w32 (w32 (h51 (h51 454 115) (w32 (8 * i1)) + a5) - 1)) (h51 (h51 454 113) (-1)) ↔ jI (w32 (w32 (h51 821 (w32 (8 * i1)) + a5) - 1)) 80 from by rw [r_454_115 r2, r_454_113 r2, l_820 r2]).mp x0, fun x0 => ⟨(show h51 (h51 454 113) (-2) = 101 from by rw [r_454_113 r2, k_820 r2]), (show jI (w32 (w32 (h51 (h51 454 115) (w32 (8 * i1)) + a5) - 1)) (h51 (h51 454 113) (-1)) ↔ jI (w32 (w32 (h51 821 (w32 (8 * i1)) + a5) - 1)) 80 from by rw [r_454_115 r2, r_454_113 r2, l_820 r2]).mpr x0⟩⟩ (fun g5 => ?_)
      refine EQ_jl (by rw [r_454_113 r2, r_454_115 r2]) (fun x53 ex53 => ?_)
      clear ex53
      refine EQ_jgd (show h51 454 (-2) = 15 from by rw [k_454 r2]) ?_
      refine EQ_jb (eX14_at i3 r2) (fun v55 r6 => ?_)
      refine EQ_if Iff.rfl (fun c7 => ?_) (fun c7 => ?_)
      · exact (eX14_firstWay_j130_6 i1 i2 i3 x53 a5 r2)
      · refine EQ_jgd (show h51 454 (-2) = 15 from by rw [k_454 r2]) ?_
        refine EQ_jg ⟨fun ⟨_, x0⟩ => (show jI (w32 (i2 - 1)) (h51 (h51 454 124) (-1)) ↔ jI (w32 (i2 - 1)) 5 from by rw [r_454_124 r2, l_835 r2]).mp x0, fun x0 => ⟨(show h51 (h51 454 124) (-2) = 105 from by rw [r_454_124 r2, k_835 r2]), (show jI (w32 (i2 - 1)) (h51 (h51 454 124) (-1)) ↔ jI (w32 (i2 - 1)) 5 from by rw [r_454_124 r2, l_835 r2]).mpr x0⟩⟩ (fun g8 => ?_)
        refine EQ_jg ⟨fun ⟨_, x0⟩ => (show jI v55 (h51 (h51 (h51 454 124) (w32 (i2 - 1))) (-1)) ↔ jI v55 402 from by rw [r_454_124 r2, rr_835 r2 g8, rl_835 r2 g8]).mp x0, fun x0 => ⟨(show h51 (h51 (h51 454 124) (w32 (i2 - 1))) (-2) = 101 from by rw [r_454_124 r2, rr_835 r2 g8, rk_835 r2 g8]), (show jI v55 (h51 (h51 (h51 454 124) (w32 (i2 - 1))) (-1)) ↔ jI v55 402 from by rw [r_454_124 r2, rr_835 r2 g8, rl_835 r2 g8]).mpr x0⟩⟩ (fun g9 => ?_)
        refine EQ_jgd (show h51 454 (-2) = 15 from by rw [k_454 r2]) ?_
        refine EQ_jg ⟨fun ⟨_, x0⟩ => (show jI i2 (h51 (h51 454 124) (-1)) ↔ jI i2 5 from by rw [r_454_124 r2, l_835 r2]).mp x0, fun x0 => ⟨(show h51 (h51 454 124) (-2) = 105 from by rw [r_454_124 r2, k_835 r2]), (show jI i2 (h51 (h51 454 124) (-1)) ↔ jI i2 5 from by rw [r_454_124 r2, l_835 r2]).mpr x0⟩⟩ (fun g10 => ?_)
        refine EQ_jg ⟨fun ⟨_, x0⟩ => (show jI i1 (h51 (h51 (h51 454 124) i2) (-1)) ↔ jI i1 402 from by rw [r_454_124 r2, rr_835 r2 g10, rl_835 r2 g10]).mp x0, fun x0 => ⟨(show h51 (h51 (h51 454 124) i2) (-2) = 101 from by rw [r_454_124 r2, rr_835 r2 g10, rk_835 r2 g10]), (show jI i1 (h51 (h51 (h51 454 124) i2) (-1)) ↔ jI i1 402 from by rw [r_454_124 r2, rr_835 r2 g10, rl_835 r2 g10]).mpr x0⟩⟩ (fun g11 => ?_)
        refine EQ_if (show w32 (w32 (2 * a5) + h51 (h51 (h51 454 124) (w32 (i2 - 1))) v55) = h51 (h51 (h51 454 124) i2) i1 ↔ w32 (w32 (2 * a5) + h51 (836 + w32 (i2 - 1)) v55) = h51 (836 + i2) i1 from by rw [r_454_124 r2, rr_835 r2 g8, rr_835 r2 g10]) (fun c12 => ?_) (fun c12 => ?_)
        · exact EQ_some r2
        · exact (eX14_firstWay_j130_6 i1 i2 i3 x53 a5 r2)
noncomputable def gX14_firstWay_l6 (i1 : Int) (i2 : Int) (i3 : Int) (a4 : Int) (a5 : Int) (h : AH) : Option ((AH) ⊕ ((Int × Int × AH) ⊕ ((AH)))) := jit (gX14_firstWay_b6 i1 i2 i3) (a4, a5, h)
theorem eX14_firstWay_l6 (i1 : Int) (i2 : Int) (i3 : Int) (a4 : Int) (a5 : Int) {h : AH} (hS : Sh S h) : EQ (fX14_firstWay_l6 454 i1 i2 i3 a4 a5 h) (gX14_firstWay_l6 i1 i2 i3 a4 a5 h) (Sum.elim (fun r => Sh S r) (Sum.elim (fun r => Sh S r.2.2) (fun r => Sh S r))) := EQ_jit (I := (fun r => Sh S r.2.2)) (fun s hs => eX14_firstWay_b6 i1 i2 i3 hs) hS
noncomputable def gX14_firstWay (a1 : Int) (a2 : Int) (a3 : Int) (h : AH) : Option (Int × AH) := jb (gX14_firstWay_l6 a1 a2 a3 0 1 h) fun o1 => jm o1 (fun o3 => gX14_firstWay_j136 a1 a2 a3 o3) (fun o4 => jm o4 (fun o5 => jt3 o5 fun y7 y8 h9 => jg (jI (h9 454 125) 4) <| jl (jst h9 841 (h9 454 125) 0) fun h10 => jg (jI (h10 454 125) 4) <| jl (jst h10 842 (h10 454 125) y7) fun h11 => jl (jst h11 454 125 (w32 (h11 454 125 + 1))) fun h12 => some (y8, h12)) (fun o6 => gX14_firstWay_j136 a1 a2 a3 o6))
theorem eX14_firstWay (a1 : Int) (a2 : Int) (a3 : Int) {h : AH} (hS : Sh S h) : EQ (fX14_firstWay 454 a1 a2 a3 h) (gX14_firstWay a1 a2 a3 h) (fun r => Sh S r.2) := by
  unfold fX14_firstWay gX14_firstWay
  refine EQ_jb (eX14_firstWay_l6 a1 a2 a3 0 1 hS) (fun o1 r1 => ?_)
  refine EQ_jm r1 (fun o3 r2 => ?_) (fun o4 r3 => ?_)
  · exact (eX14_firstWay_j136 a1 a2 a3 r2)
  · refine EQ_jm r3 (fun o5 r4 => ?_) (fun o6 r5 => ?_)
    · obtain ⟨y7, y8, h9⟩ := o5
      refine EQ_jt3 ?_
      replace r4 : Sh S h9 := r4
      refine EQ_jgd (show h9 454 (-2) = 15 from by rw [k_454 r4]) ?_
      refine EQ_jgd (show h9 454 (-2) = 15 from by rw [k_454 r4]) ?_
      refine EQ_jg ⟨fun ⟨_, _, x0⟩ => (show jI (h9 454 125) (h9 (h9 454 126) (-1)) ↔ jI (h9 454 125) 4 from by rw [r_454_126 r4, l_841 r4]).mp x0, fun x0 => ⟨(show h9 (h9 454 126) (-2) = 101 from by rw [r_454_126 r4, k_841 r4]), (show 200 ≤ h9 454 126 from by rw [r_454_126 r4]; exact (by decide)), (show jI (h9 454 125) (h9 (h9 454 126) (-1)) ↔ jI (h9 454 125) 4 from by rw [r_454_126 r4, l_841 r4]).mpr x0⟩⟩ (fun g6 => ?_)
      refine EQ_jl (by rw [r_454_126 r4]) (fun h10 eh10 => ?_)
      have s7 := Sh_of eh10 (Sh_sta r4 (by decide +kernel) (jI_nn g6) (fun e => absurd ((k_841 r4).symm.trans e) (by decide)))
      clear eh10
      refine EQ_jgd (show h10 454 (-2) = 15 from by rw [k_454 s7]) ?_
      refine EQ_jgd (show h10 454 (-2) = 15 from by rw [k_454 s7]) ?_
      refine EQ_jg ⟨fun ⟨_, _, x0⟩ => (show jI (h10 454 125) (h10 (h10 454 127) (-1)) ↔ jI (h10 454 125) 4 from by rw [r_454_127 s7, l_842 s7]).mp x0, fun x0 => ⟨(show h10 (h10 454 127) (-2) = 101 from by rw [r_454_127 s7, k_842 s7]), (show 200 ≤ h10 454 127 from by rw [r_454_127 s7]; exact (by decide)), (show jI (h10 454 125) (h10 (h10 454 127) (-1)) ↔ jI (h10 454 125) 4 from by rw [r_454_127 s7, l_842 s7]).mpr x0⟩⟩ (fun g8 => ?_)
      refine EQ_jl (by rw [r_454_127 s7]) (fun h11 eh11 => ?_)
      have s9 := Sh_of eh11 (Sh_sta s7 (by decide +kernel) (jI_nn g8) (fun e => absurd ((k_842 s7).symm.trans e) (by decide)))
      clear eh11
      refine EQ_jgd (show h11 454 (-2) = 15 from by rw [k_454 s9]) ?_
      refine EQ_jgd ⟨(show h11 454 (-2) = 15 from by rw [k_454 s9]), (show (200 : Int) ≤ 454 from (by decide))⟩ ?_
      refine EQ_jl rfl (fun h12 eh12 => ?_)
      have s10 := Sh_of eh12 (Sh_sto s9 (a := 454) (i := 125) (by decide +kernel))
      clear eh12
      exact EQ_some s10
    · exact (eX14_firstWay_j136 a1 a2 a3 r5)
noncomputable def gX14_fit_j95_38 (a2 : Int) (t0 : Int) (h : AH) : Option ((Int × Int) ⊕ (Int)) := jl (w32 (a2 + 1)) fun x24 => some (.inl (t0, x24))
theorem eX14_fit_j95_38 (a2 : Int) (t0 : Int) {h : AH} (hS : Sh S h) : EQ (fX14_fit_j95_38 454 a2 t0 h) (gX14_fit_j95_38 a2 t0 h) (Sum.elim (fun _ => True) (fun _ => True)) := by
  unfold fX14_fit_j95_38 gX14_fit_j95_38
  refine EQ_jl rfl (fun x24 ex24 => ?_)
  clear ex24
  exact EQ_some trivial
noncomputable def gX14_fit_j85_38 (a1 : Int) (a2 : Int) (t0 : Int) (h : AH) : Option ((Int × Int) ⊕ (Int)) := if t0 = 0 then (gX14_fit_j95_38 a2 a1 h) else (gX14_fit_j95_38 a2 a2 h)
theorem eX14_fit_j85_38 (a1 : Int) (a2 : Int) (t0 : Int) {h : AH} (hS : Sh S h) : EQ (fX14_fit_j85_38 454 a1 a2 t0 h) (gX14_fit_j85_38 a1 a2 t0 h) (Sum.elim (fun _ => True) (fun _ => True)) := by
  unfold fX14_fit_j85_38 gX14_fit_j85_38
  refine EQ_if Iff.rfl (fun c1 => ?_) (fun c1 => ?_)
  · exact (eX14_fit_j95_38 a2 a1 hS)
  · exact (eX14_fit_j95_38 a2 a2 hS)
noncomputable def gX14_fit_b38 (h : AH) (s : Int × Int) : Option ((Int × Int) ⊕ (Int)) := jt2 s fun a1 a2 => if 5 ≤ a2 then (some (.inr a1)) else (jg (jI a2 5) <| if 1000000 ≤ h (836 + a2) 0 then (gX14_fit_j85_38 a1 a2 0 h) else (if a1 = 0 then (gX14_fit_j85_38 a1 a2 1 h) else (jg (jI a1 5) <| if h (836 + a1) 0 ≤ h (836 + a2) 0 then (gX14_fit_j85_38 a1 a2 0 h) else (gX14_fit_j85_38 a1 a2 1 h))))
theorem eX14_fit_b38 (s : Int × Int) {h : AH} (hS : Sh S h) : EQ (fX14_fit_b38 454 h s) (gX14_fit_b38 h s) (Sum.elim (fun _ => True) (fun _ => True)) := by
  unfold fX14_fit_b38 gX14_fit_b38
  obtain ⟨a1, a2⟩ := s
  refine EQ_jt2 ?_
  refine EQ_if Iff.rfl (fun c1 => ?_) (fun c1 => ?_)
  · exact EQ_some trivial
  · refine EQ_jgd (show h 454 (-2) = 15 from by rw [k_454 hS]) ?_
    refine EQ_jg ⟨fun ⟨_, x0⟩ => (show jI a2 (h (h 454 124) (-1)) ↔ jI a2 5 from by rw [r_454_124 hS, l_835 hS]).mp x0, fun x0 => ⟨(show h (h 454 124) (-2) = 105 from by rw [r_454_124 hS, k_835 hS]), (show jI a2 (h (h 454 124) (-1)) ↔ jI a2 5 from by rw [r_454_124 hS, l_835 hS]).mpr x0⟩⟩ (fun g2 => ?_)
    refine EQ_jgd ⟨(show h (h (h 454 124) a2) (-2) = 101 from by rw [r_454_124 hS, rr_835 hS g2, rk_835 hS g2]), (show jI 0 (h (h (h 454 124) a2) (-1)) from by rw [r_454_124 hS, rr_835 hS g2, rl_835 hS g2]; unfold jI; decide)⟩ ?_
    refine EQ_if (show 1000000 ≤ h (h (h 454 124) a2) 0 ↔ 1000000 ≤ h (836 + a2) 0 from by rw [r_454_124 hS, rr_835 hS g2]) (fun c3 => ?_) (fun c3 => ?_)
    · exact (eX14_fit_j85_38 a1 a2 0 hS)
    · refine EQ_if Iff.rfl (fun c4 => ?_) (fun c4 => ?_)
      · exact (eX14_fit_j85_38 a1 a2 1 hS)
      · refine EQ_jgd (show h 454 (-2) = 15 from by rw [k_454 hS]) ?_
        refine EQ_jgd ⟨(show h (h 454 124) (-2) = 105 from by rw [r_454_124 hS, k_835 hS]), ((show jI a2 (h (h 454 124) (-1)) ↔ jI a2 5 from by rw [r_454_124 hS, l_835 hS]).mpr g2)⟩ ?_
        refine EQ_jgd ⟨(show h (h (h 454 124) a2) (-2) = 101 from by rw [r_454_124 hS, rr_835 hS g2, rk_835 hS g2]), (show jI 0 (h (h (h 454 124) a2) (-1)) from by rw [r_454_124 hS, rr_835 hS g2, rl_835 hS g2]; unfold jI; decide)⟩ ?_
        refine EQ_jgd (show h 454 (-2) = 15 from by rw [k_454 hS]) ?_
        refine EQ_jg ⟨fun ⟨_, x0⟩ => (show jI a1 (h (h 454 124) (-1)) ↔ jI a1 5 from by rw [r_454_124 hS, l_835 hS]).mp x0, fun x0 => ⟨(show h (h 454 124) (-2) = 105 from by rw [r_454_124 hS, k_835 hS]), (show jI a1 (h (h 454 124) (-1)) ↔ jI a1 5 from by rw [r_454_124 hS, l_835 hS]).mpr x0⟩⟩ (fun g5 => ?_)
        refine EQ_jgd ⟨(show h (h (h 454 124) a1) (-2) = 101 from by rw [r_454_124 hS, rr_835 hS g5, rk_835 hS g5]), (show jI 0 (h (h (h 454 124) a1) (-1)) from by rw [r_454_124 hS, rr_835 hS g5, rl_835 hS g5]; unfold jI; decide)⟩ ?_
        refine EQ_if (show h (h (h 454 124) a1) 0 ≤ h (h (h 454 124) a2) 0 ↔ h (836 + a1) 0 ≤ h (836 + a2) 0 from by rw [r_454_124 hS, rr_835 hS g5, rr_835 hS g2]) (fun c6 => ?_) (fun c6 => ?_)
        · exact (eX14_fit_j85_38 a1 a2 0 hS)
        · exact (eX14_fit_j85_38 a1 a2 1 hS)
noncomputable def gX14_fit_l38 (a1 : Int) (a2 : Int) (h : AH) : Option (Int) := jit (gX14_fit_b38 h) (a1, a2)
theorem eX14_fit_l38 (a1 : Int) (a2 : Int) {h : AH} (hS : Sh S h) : EQ (fX14_fit_l38 454 a1 a2 h) (gX14_fit_l38 a1 a2 h) (fun _ => True) := EQ_jit (I := (fun _ => True)) (fun s _ => eX14_fit_b38 s hS) trivial
noncomputable def gX14_fit_b123 (i1 : Int) (i3 : Int) (s : Int × Int × AH) : Option ((Int × Int × AH) ⊕ (AH)) := jt3 s fun a2 a4 h => if a4 ≤ 0 then (some (.inr h)) else (jb2 (gX14_firstWay a2 a4 i3 h) fun v27 h28 => jl (w32 (a4 + (-1))) fun x29 => some (.inl (v27, x29, h28)))
theorem eX14_fit_b123 (i1 : Int) (i3 : Int) {s : Int × Int × AH} (hS : (fun r => Sh S r.2.2) s) : EQ (fX14_fit_b123 454 i1 i3 s) (gX14_fit_b123 i1 i3 s) (Sum.elim (fun r => Sh S r.2.2) (fun r => Sh S r)) := by
  unfold fX14_fit_b123 gX14_fit_b123
  obtain ⟨a2, a4, h⟩ := s
  refine EQ_jt3 ?_
  replace hS : Sh S h := hS
  refine EQ_if Iff.rfl (fun c1 => ?_) (fun c1 => ?_)
  · exact EQ_some hS
  · refine EQ_jgd (show h 454 (-2) = 15 from by rw [k_454 hS]) ?_
    refine EQ_jb2 (eX14_firstWay a2 a4 i3 hS) (fun v27 h28 r2 => ?_)
    replace r2 : Sh S h28 := r2
    refine EQ_jl rfl (fun x29 ex29 => ?_)
    clear ex29
    exact EQ_some r2
noncomputable def gX14_fit_l123 (i1 : Int) (i3 : Int) (a2 : Int) (a4 : Int) (h : AH) : Option (AH) := jit (gX14_fit_b123 i1 i3) (a2, a4, h)
theorem eX14_fit_l123 (i1 : Int) (i3 : Int) (a2 : Int) (a4 : Int) {h : AH} (hS : Sh S h) : EQ (fX14_fit_l123 454 i1 i3 a2 a4 h) (gX14_fit_l123 i1 i3 a2 a4 h) (fun r => Sh S r) := EQ_jit (I := (fun r => Sh S r.2.2)) (fun s hs => eX14_fit_b123 i1 i3 hs) hS
noncomputable def gX14_fit (h : AH) : Option (Int × AH) := jb2 (gX14_isDown h) fun v2 h3 => if v2 = 0 then (if h3 454 109 = 0 then (some ((-2), h3)) else (jb2 (gX14_makeNodes h3) fun v7 h8 => if v7 = 0 then (some ((-3), h8)) else (jb (gX14_weighNodes h8) fun h11 => jb (gX14_fit_l38 0 1 h11) fun o12 => if o12 = 0 then (some (0, h11)) else (jl (jst h11 454 125 0) fun h15 => jl (h15 454 114) fun x16 => jb (gX14_fit_l123 o12 x16 0 o12 h15) fun o17 => jg (jI o12 5) <| some (o17 (836 + o12) 0, o17))))) else (some ((-5), h3))
theorem eX14_fit {h : AH} (hS : Sh S h) : EQ (fX14_fit 454 h) (gX14_fit h) (fun r => Sh S r.2) := by
  unfold fX14_fit gX14_fit
  refine EQ_jgd (show h 454 (-2) = 15 from by rw [k_454 hS]) ?_
  refine EQ_jb2 (eX14_isDown hS) (fun v2 h3 r1 => ?_)
  replace r1 : Sh S h3 := r1
  refine EQ_if Iff.rfl (fun c2 => ?_) (fun c2 => ?_)
  · refine EQ_jgd (show h3 454 (-2) = 15 from by rw [k_454 r1]) ?_
    refine EQ_if Iff.rfl (fun c3 => ?_) (fun c3 => ?_)
    · exact EQ_some r1
    · refine EQ_jgd (show h3 454 (-2) = 15 from by rw [k_454 r1]) ?_
      refine EQ_jb2 (eX14_makeNodes r1) (fun v7 h8 r4 => ?_)
      replace r4 : Sh S h8 := r4
      refine EQ_if Iff.rfl (fun c5 => ?_) (fun c5 => ?_)
      · exact EQ_some r4
      · refine EQ_jgd (show h8 454 (-2) = 15 from by rw [k_454 r4]) ?_
        refine EQ_jb (eX14_weighNodes r4) (fun h11 r6 => ?_)
        refine EQ_jb (eX14_fit_l38 0 1 r6) (fun o12 r7 => ?_)
        refine EQ_if Iff.rfl (fun c8 => ?_) (fun c8 => ?_)
        · exact EQ_some r6
        · refine EQ_jgd ⟨(show h11 454 (-2) = 15 from by rw [k_454 r6]), (show (200 : Int) ≤ 454 from (by decide))⟩ ?_
          refine EQ_jl rfl (fun h15 eh15 => ?_)
          have s9 := Sh_of eh15 (Sh_sto r6 (a := 454) (i := 125) (by decide +kernel))
          clear eh15
          refine EQ_jgd (show h15 454 (-2) = 15 from by rw [k_454 s9]) ?_
          refine EQ_jl rfl (fun x16 ex16 => ?_)
          clear ex16
          refine EQ_jb (eX14_fit_l123 o12 x16 0 o12 s9) (fun o17 r10 => ?_)
          refine EQ_jgd (show o17 454 (-2) = 15 from by rw [k_454 r10]) ?_
          refine EQ_jg ⟨fun ⟨_, x0⟩ => (show jI o12 (o17 (o17 454 124) (-1)) ↔ jI o12 5 from by rw [r_454_124 r10, l_835 r10]).mp x0, fun x0 => ⟨(show o17 (o17 454 124) (-2) = 105 from by rw [r_454_124 r10, k_835 r10]), (show jI o12 (o17 (o17 454 124) (-1)) ↔ jI o12 5 from by rw [r_454_124 r10, l_835 r10]).mpr x0⟩⟩ (fun g11 => ?_)
          refine EQ_jgd ⟨(show o17 (o17 (o17 454 124) o12) (-2) = 101 from by rw [r_454_124 r10, rr_835 r10 g11, rk_835 r10 g11]), (show jI 0 (o17 (o17 (o17 454 124) o12) (-1)) from by rw [r_454_124 r10, rr_835 r10 g11, rl_835 r10 g11]; unfold jI; decide)⟩ ?_
          exact EQ_some' (by rw [r_454_124 r10, rr_835 r10 g11]) r10
  · exact EQ_some r1
noncomputable def gX14_fitting (a1 : Int) (h : AH) : Option (Int × AH) := jb2 (gX14_isDown h) fun v2 h3 => if v2 = 0 then (jb (gX14_in a1 1 4) fun v6 => if v6 = 0 then (some ((-1), h3)) else (if h3 454 109 = 0 then (some ((-2), h3)) else (jb2 (gX14_makeNodes h3) fun v10 h11 => if v10 = 0 then (some ((-3), h11)) else (jb (gX14_weighNodes h11) fun h14 => jg (jI a1 5) <| some (h14 (830 + a1) 0, h14))))) else (some ((-5), h3))
theorem eX14_fitting (a1 : Int) {h : AH} (hS : Sh S h) : EQ (fX14_fitting 454 a1 h) (gX14_fitting a1 h) (fun r => Sh S r.2) := by
  unfold fX14_fitting gX14_fitting
  refine EQ_jgd (show h 454 (-2) = 15 from by rw [k_454 hS]) ?_
  refine EQ_jb2 (eX14_isDown hS) (fun v2 h3 r1 => ?_)
  replace r1 : Sh S h3 := r1
  refine EQ_if Iff.rfl (fun c2 => ?_) (fun c2 => ?_)
  · refine EQ_jb (eX14_in a1 1 4) (fun v6 r3 => ?_)
    refine EQ_if Iff.rfl (fun c4 => ?_) (fun c4 => ?_)
    · exact EQ_some r1
    · refine EQ_jgd (show h3 454 (-2) = 15 from by rw [k_454 r1]) ?_
      refine EQ_if Iff.rfl (fun c5 => ?_) (fun c5 => ?_)
      · exact EQ_some r1
      · refine EQ_jgd (show h3 454 (-2) = 15 from by rw [k_454 r1]) ?_
        refine EQ_jb2 (eX14_makeNodes r1) (fun v10 h11 r6 => ?_)
        replace r6 : Sh S h11 := r6
        refine EQ_if Iff.rfl (fun c7 => ?_) (fun c7 => ?_)
        · exact EQ_some r6
        · refine EQ_jgd (show h11 454 (-2) = 15 from by rw [k_454 r6]) ?_
          refine EQ_jb (eX14_weighNodes r6) (fun h14 r8 => ?_)
          refine EQ_jgd (show h14 454 (-2) = 15 from by rw [k_454 r8]) ?_
          refine EQ_jg ⟨fun ⟨_, x0⟩ => (show jI a1 (h14 (h14 454 123) (-1)) ↔ jI a1 5 from by rw [r_454_123 r8, l_829 r8]).mp x0, fun x0 => ⟨(show h14 (h14 454 123) (-2) = 106 from by rw [r_454_123 r8, k_829 r8]), (show jI a1 (h14 (h14 454 123) (-1)) ↔ jI a1 5 from by rw [r_454_123 r8, l_829 r8]).mpr x0⟩⟩ (fun g9 => ?_)
          refine EQ_jgd ⟨(show h14 (h14 (h14 454 123) a1) (-2) = 102 from by rw [r_454_123 r8, rr_829 r8 g9, rk_829 r8 g9]), (show jI 0 (h14 (h14 (h14 454 123) a1) (-1)) from by rw [r_454_123 r8, rr_829 r8 g9, rl_829 r8 g9]; unfold jI; decide)⟩ ?_
          exact EQ_some' (by rw [r_454_123 r8, rr_829 r8 g9]) r8
  · exact EQ_some r1
noncomputable def gX14_part_j69 (a1 : Int) (a2 : Int) (t0 : Int) (h : AH) : Option (Int × AH) := if a2 = 1 then (if t0 = 0 then (some (0, h)) else (some (1, h))) else (if a2 = 2 then (if t0 = 0 then (jg (jI a1 4) <| some (h 842 a1, h)) else (some ((-1), h))) else (if t0 = 0 then (some ((-1), h)) else (if a2 = 3 then (jg (jI a1 4) <| some (jdiv (w32 (h 841 a1 - 1)) 200, h)) else (jg (jI a1 4) <| some (jrem (w32 (h 841 a1 - 1)) 200, h)))))
theorem eX14_part_j69 (a1 : Int) (a2 : Int) (t0 : Int) {h : AH} (hS : Sh S h) : EQ (fX14_part_j69 454 a1 a2 t0 h) (gX14_part_j69 a1 a2 t0 h) (fun r => Sh S r.2) := by
  unfold fX14_part_j69 gX14_part_j69
  refine EQ_if Iff.rfl (fun c1 => ?_) (fun c1 => ?_)
  · refine EQ_if Iff.rfl (fun c2 => ?_) (fun c2 => ?_)
    · exact EQ_some hS
    · exact EQ_some hS
  · refine EQ_if Iff.rfl (fun c3 => ?_) (fun c3 => ?_)
    · refine EQ_if Iff.rfl (fun c4 => ?_) (fun c4 => ?_)
      · refine EQ_jgd (show h 454 (-2) = 15 from by rw [k_454 hS]) ?_
        refine EQ_jg ⟨fun ⟨_, x0⟩ => (show jI a1 (h (h 454 127) (-1)) ↔ jI a1 4 from by rw [r_454_127 hS, l_842 hS]).mp x0, fun x0 => ⟨(show h (h 454 127) (-2) = 101 from by rw [r_454_127 hS, k_842 hS]), (show jI a1 (h (h 454 127) (-1)) ↔ jI a1 4 from by rw [r_454_127 hS, l_842 hS]).mpr x0⟩⟩ (fun g5 => ?_)
        exact EQ_some' (by rw [r_454_127 hS]) hS
      · exact EQ_some hS
    · refine EQ_if Iff.rfl (fun c6 => ?_) (fun c6 => ?_)
      · exact EQ_some hS
      · refine EQ_if Iff.rfl (fun c7 => ?_) (fun c7 => ?_)
        · refine EQ_jgd (show h 454 (-2) = 15 from by rw [k_454 hS]) ?_
          refine EQ_jg ⟨fun ⟨_, x0⟩ => (show jI a1 (h (h 454 126) (-1)) ↔ jI a1 4 from by rw [r_454_126 hS, l_841 hS]).mp x0, fun x0 => ⟨(show h (h 454 126) (-2) = 101 from by rw [r_454_126 hS, k_841 hS]), (show jI a1 (h (h 454 126) (-1)) ↔ jI a1 4 from by rw [r_454_126 hS, l_841 hS]).mpr x0⟩⟩ (fun g8 => ?_)
          exact EQ_some' (by rw [r_454_126 hS]) hS
        · refine EQ_jgd (show h 454 (-2) = 15 from by rw [k_454 hS]) ?_
          refine EQ_jg ⟨fun ⟨_, x0⟩ => (show jI a1 (h (h 454 126) (-1)) ↔ jI a1 4 from by rw [r_454_126 hS, l_841 hS]).mp x0, fun x0 => ⟨(show h (h 454 126) (-2) = 101 from by rw [r_454_126 hS, k_841 hS]), (show jI a1 (h (h 454 126) (-1)) ↔ jI a1 4 from by rw [r_454_126 hS, l_841 hS]).mpr x0⟩⟩ (fun g9 => ?_)
          exact EQ_some' (by rw [r_454_126 hS]) hS
noncomputable def gX14_part (a1 : Int) (a2 : Int) (h : AH) : Option (Int × AH) := jl (jst h 454 51 0) fun h1 => if a2 = 0 then (if h1 454 125 = 0 then (some ((-1), h1)) else (some (h1 454 125, h1))) else (jb (gX14_in a1 0 (w32 (h1 454 125 - 1))) fun v5 => if v5 = 0 then (some ((-1), h1)) else (jb (gX14_in a2 1 4) fun v8 => if v8 = 0 then (some ((-1), h1)) else (jg (jI a1 4) <| if h1 841 a1 ≤ 0 then (gX14_part_j69 a1 a2 0 h1) else (gX14_part_j69 a1 a2 1 h1))))
theorem eX14_part (a1 : Int) (a2 : Int) {h : AH} (hS : Sh S h) : EQ (fX14_part 454 a1 a2 h) (gX14_part a1 a2 h) (fun r => Sh S r.2) := by
  unfold fX14_part gX14_part
  refine EQ_jgd ⟨(show h 454 (-2) = 15 from by rw [k_454 hS]), (show (200 : Int) ≤ 454 from (by decide))⟩ ?_
  refine EQ_jl rfl (fun h1 eh1 => ?_)
  have s1 := Sh_of eh1 (Sh_sto hS (a := 454) (i := 51) (by decide +kernel))
  clear eh1
  refine EQ_if Iff.rfl (fun c2 => ?_) (fun c2 => ?_)
  · refine EQ_jgd (show h1 454 (-2) = 15 from by rw [k_454 s1]) ?_
    refine EQ_if Iff.rfl (fun c3 => ?_) (fun c3 => ?_)
    · exact EQ_some s1
    · refine EQ_jgd (show h1 454 (-2) = 15 from by rw [k_454 s1]) ?_
      exact EQ_some s1
  · refine EQ_jgd (show h1 454 (-2) = 15 from by rw [k_454 s1]) ?_
    refine EQ_jb (eX14_in a1 0 (w32 (h1 454 125 - 1))) (fun v5 r4 => ?_)
    refine EQ_if Iff.rfl (fun c5 => ?_) (fun c5 => ?_)
    · exact EQ_some s1
    · refine EQ_jb (eX14_in a2 1 4) (fun v8 r6 => ?_)
      refine EQ_if Iff.rfl (fun c7 => ?_) (fun c7 => ?_)
      · exact EQ_some s1
      · refine EQ_jgd (show h1 454 (-2) = 15 from by rw [k_454 s1]) ?_
        refine EQ_jg ⟨fun ⟨_, x0⟩ => (show jI a1 (h1 (h1 454 126) (-1)) ↔ jI a1 4 from by rw [r_454_126 s1, l_841 s1]).mp x0, fun x0 => ⟨(show h1 (h1 454 126) (-2) = 101 from by rw [r_454_126 s1, k_841 s1]), (show jI a1 (h1 (h1 454 126) (-1)) ↔ jI a1 4 from by rw [r_454_126 s1, l_841 s1]).mpr x0⟩⟩ (fun g8 => ?_)
        refine EQ_if (show h1 (h1 454 126) a1 ≤ 0 ↔ h1 841 a1 ≤ 0 from by rw [r_454_126 s1]) (fun c9 => ?_) (fun c9 => ?_)
        · exact (eX14_part_j69 a1 a2 0 s1)
        · exact (eX14_part_j69 a1 a2 1 s1)
noncomputable def gX14_apply_b49 (s : Int × AH) : Option ((Int × AH) ⊕ (AH)) := jt2 s fun a1 h => if h 454 25 ≤ a1 then (some (.inr h)) else (jg (jI a1 2000) <| jl (jst h 473 a1 (w32 (h 473 a1 - 97))) fun h23 => jl (w32 (a1 + 1)) fun x24 => some (.inl (x24, h23)))
theorem eX14_apply_b49 {s : Int × AH} (hS : (fun r => Sh S r.2) s) : EQ (fX14_apply_b49 454 s) (gX14_apply_b49 s) (Sum.elim (fun r => Sh S r.2) (fun r => Sh S r)) := by
  unfold fX14_apply_b49 gX14_apply_b49
  obtain ⟨a1, h⟩ := s
  refine EQ_jt2 ?_
  replace hS : Sh S h := hS
  refine EQ_jgd (show h 454 (-2) = 15 from by rw [k_454 hS]) ?_
  refine EQ_if Iff.rfl (fun c1 => ?_) (fun c1 => ?_)
  · exact EQ_some hS
  · refine EQ_jgd (show h 454 (-2) = 15 from by rw [k_454 hS]) ?_
    refine EQ_jg ⟨fun ⟨_, x0⟩ => (show jI a1 (h (h 454 24) (-1)) ↔ jI a1 2000 from by rw [r_454_24 hS, l_473 hS]).mp x0, fun x0 => ⟨(show h (h 454 24) (-2) = 101 from by rw [r_454_24 hS, k_473 hS]), (show jI a1 (h (h 454 24) (-1)) ↔ jI a1 2000 from by rw [r_454_24 hS, l_473 hS]).mpr x0⟩⟩ (fun g2 => ?_)
    refine EQ_jgd ⟨(show h (h 454 24) (-2) = 101 from by rw [r_454_24 hS, k_473 hS]), (show 200 ≤ h 454 24 from by rw [r_454_24 hS]; exact (by decide)), ((show jI a1 (h (h 454 24) (-1)) ↔ jI a1 2000 from by rw [r_454_24 hS, l_473 hS]).mpr g2)⟩ ?_
    refine EQ_jl (by rw [r_454_24 hS]) (fun h23 eh23 => ?_)
    have s3 := Sh_of eh23 (Sh_sta hS (by decide +kernel) (jI_nn g2) (fun e => absurd ((k_473 hS).symm.trans e) (by decide)))
    clear eh23
    refine EQ_jl rfl (fun x24 ex24 => ?_)
    clear ex24
    exact EQ_some s3
noncomputable def gX14_apply_l49 (a1 : Int) (h : AH) : Option (AH) := jit gX14_apply_b49 (a1, h)
theorem eX14_apply_l49 (a1 : Int) {h : AH} (hS : Sh S h) : EQ (fX14_apply_l49 454 a1 h) (gX14_apply_l49 a1 h) (fun r => Sh S r) := EQ_jit (I := (fun r => Sh S r.2)) (fun s hs => eX14_apply_b49 hs) hS
noncomputable def gX14_apply_j204_81 (a1 : Int) (h : AH) : Option ((Int × AH) ⊕ ((AH) ⊕ (AH))) := jl (w32 (a1 + 1)) fun x37 => some (.inl (x37, h))
theorem eX14_apply_j204_81 (a1 : Int) {h : AH} (hS : Sh S h) : EQ (fX14_apply_j204_81 454 a1 h) (gX14_apply_j204_81 a1 h) (Sum.elim (fun r => Sh S r.2) (Sum.elim (fun r => Sh S r) (fun r => Sh S r))) := by
  unfold fX14_apply_j204_81 gX14_apply_j204_81
  refine EQ_jl rfl (fun x37 ex37 => ?_)
  clear ex37
  exact EQ_some hS
noncomputable def gX14_apply_b178 (i1 : Int) (i3 : Int) (s : Int × AH) : Option ((Int × AH) ⊕ (AH)) := jt2 s fun a4 h => if i3 ≤ a4 then (some (.inr h)) else (jg (jI a4 2000) <| jb (gX14_letter (w32 (h 473 a4 + 97)) h) fun h40 => jl (w32 (a4 + 1)) fun x41 => some (.inl (x41, h40)))
theorem eX14_apply_b178 (i1 : Int) (i3 : Int) {s : Int × AH} (hS : (fun r => Sh S r.2) s) : EQ (fX14_apply_b178 454 i1 i3 s) (gX14_apply_b178 i1 i3 s) (Sum.elim (fun r => Sh S r.2) (fun r => Sh S r)) := by
  unfold fX14_apply_b178 gX14_apply_b178
  obtain ⟨a4, h⟩ := s
  refine EQ_jt2 ?_
  replace hS : Sh S h := hS
  refine EQ_if Iff.rfl (fun c1 => ?_) (fun c1 => ?_)
  · exact EQ_some hS
  · refine EQ_jgd (show h 454 (-2) = 15 from by rw [k_454 hS]) ?_
    refine EQ_jg ⟨fun ⟨_, x0⟩ => (show jI a4 (h (h 454 24) (-1)) ↔ jI a4 2000 from by rw [r_454_24 hS, l_473 hS]).mp x0, fun x0 => ⟨(show h (h 454 24) (-2) = 101 from by rw [r_454_24 hS, k_473 hS]), (show jI a4 (h (h 454 24) (-1)) ↔ jI a4 2000 from by rw [r_454_24 hS, l_473 hS]).mpr x0⟩⟩ (fun g2 => ?_)
    refine EQ_jgd (show h 454 (-2) = 15 from by rw [k_454 hS]) ?_
    refine EQ_jb (by rw [r_454_24 hS]; exact eX14_letter (w32 (h 473 a4 + 97)) hS) (fun h40 r3 => ?_)
    refine EQ_jl rfl (fun x41 ex41 => ?_)
    clear ex41
    exact EQ_some r3
noncomputable def gX14_apply_l178 (i1 : Int) (i3 : Int) (a4 : Int) (h : AH) : Option (AH) := jit (gX14_apply_b178 i1 i3) (a4, h)
theorem eX14_apply_l178 (i1 : Int) (i3 : Int) (a4 : Int) {h : AH} (hS : Sh S h) : EQ (fX14_apply_l178 454 i1 i3 a4 h) (gX14_apply_l178 i1 i3 a4 h) (fun r => Sh S r) := EQ_jit (I := (fun r => Sh S r.2)) (fun s hs => eX14_apply_b178 i1 i3 hs) hS
noncomputable def gX14_apply_b81 (s : Int × AH) : Option ((Int × AH) ⊕ ((AH) ⊕ (AH))) := jt2 s fun a1 h => if h 454 125 ≤ a1 then (some (.inr (.inr h))) else (jg (jI a1 4) <| if h 841 a1 = 0 then (jb (gX14_say (h 842 a1) h) fun h28 => gX14_apply_j204_81 a1 h28) else (jb (gX14_spot 473 0 (h 454 25) (jdiv (w32 (h 841 a1 - 1)) 200) h) fun v30 => jb (gX14_spot 473 0 (h 454 25) (jrem (w32 (h 841 a1 - 1)) 200) h) fun v32 => if v30 < 0 then (some (.inr (.inl h))) else (if v30 < v32 then (jb (gX14_apply_l178 a1 v32 v30 h) fun o35 => gX14_apply_j204_81 a1 o35) else (some (.inr (.inl h))))))
theorem eX14_apply_b81 {s : Int × AH} (hS : (fun r => Sh S r.2) s) : EQ (fX14_apply_b81 454 s) (gX14_apply_b81 s) (Sum.elim (fun r => Sh S r.2) (Sum.elim (fun r => Sh S r) (fun r => Sh S r))) := by
  unfold fX14_apply_b81 gX14_apply_b81
  obtain ⟨a1, h⟩ := s
  refine EQ_jt2 ?_
  replace hS : Sh S h := hS
  refine EQ_jgd (show h 454 (-2) = 15 from by rw [k_454 hS]) ?_
  refine EQ_if Iff.rfl (fun c1 => ?_) (fun c1 => ?_)
  · exact EQ_some hS
  · refine EQ_jgd (show h 454 (-2) = 15 from by rw [k_454 hS]) ?_
    refine EQ_jg ⟨fun ⟨_, x0⟩ => (show jI a1 (h (h 454 126) (-1)) ↔ jI a1 4 from by rw [r_454_126 hS, l_841 hS]).mp x0, fun x0 => ⟨(show h (h 454 126) (-2) = 101 from by rw [r_454_126 hS, k_841 hS]), (show jI a1 (h (h 454 126) (-1)) ↔ jI a1 4 from by rw [r_454_126 hS, l_841 hS]).mpr x0⟩⟩ (fun g2 => ?_)
    refine EQ_if (show h (h 454 126) a1 = 0 ↔ h 841 a1 = 0 from by rw [r_454_126 hS]) (fun c3 => ?_) (fun c3 => ?_)
    · refine EQ_jgd (show h 454 (-2) = 15 from by rw [k_454 hS]) ?_
      refine EQ_jgd ⟨(show h (h 454 127) (-2) = 101 from by rw [r_454_127 hS, k_842 hS]), ((show jI a1 (h (h 454 127) (-1)) ↔ jI a1 4 from by rw [r_454_127 hS, l_842 hS]).mpr g2)⟩ ?_
      refine EQ_jgd (show h 454 (-2) = 15 from by rw [k_454 hS]) ?_
      refine EQ_jb (by rw [r_454_127 hS]; exact eX14_say (h 842 a1) hS) (fun h28 r4 => ?_)
      exact (eX14_apply_j204_81 a1 r4)
    · refine EQ_jgd (show h 454 (-2) = 15 from by rw [k_454 hS]) ?_
      refine EQ_jgd (show h 454 (-2) = 15 from by rw [k_454 hS]) ?_
      refine EQ_jgd (show h 454 (-2) = 15 from by rw [k_454 hS]) ?_
      refine EQ_jgd ⟨(show h (h 454 126) (-2) = 101 from by rw [r_454_126 hS, k_841 hS]), ((show jI a1 (h (h 454 126) (-1)) ↔ jI a1 4 from by rw [r_454_126 hS, l_841 hS]).mpr g2)⟩ ?_
      refine EQ_jgd (show h 454 (-2) = 15 from by rw [k_454 hS]) ?_
      refine EQ_jb (by rw [r_454_24 hS, r_454_126 hS]; exact eX14_spot 473 0 (h 454 25) (jdiv (w32 (h 841 a1 - 1)) 200) hS) (fun v30 r5 => ?_)
      refine EQ_jgd (show h 454 (-2) = 15 from by rw [k_454 hS]) ?_
      refine EQ_jgd (show h 454 (-2) = 15 from by rw [k_454 hS]) ?_
      refine EQ_jgd (show h 454 (-2) = 15 from by rw [k_454 hS]) ?_
      refine EQ_jgd ⟨(show h (h 454 126) (-2) = 101 from by rw [r_454_126 hS, k_841 hS]), ((show jI a1 (h (h 454 126) (-1)) ↔ jI a1 4 from by rw [r_454_126 hS, l_841 hS]).mpr g2)⟩ ?_
      refine EQ_jgd (show h 454 (-2) = 15 from by rw [k_454 hS]) ?_
      refine EQ_jb (by rw [r_454_24 hS, r_454_126 hS]; exact eX14_spot 473 0 (h 454 25) (jrem (w32 (h 841 a1 - 1)) 200) hS) (fun v32 r6 => ?_)
      refine EQ_if Iff.rfl (fun c7 => ?_) (fun c7 => ?_)
      · exact EQ_some hS
      · refine EQ_if Iff.rfl (fun c8 => ?_) (fun c8 => ?_)
        · refine EQ_jb (eX14_apply_l178 a1 v32 v30 hS) (fun o35 r9 => ?_)
          exact (eX14_apply_j204_81 a1 r9)
        · exact EQ_some hS
noncomputable def gX14_apply_l81 (a1 : Int) (h : AH) : Option ((AH) ⊕ (AH)) := jit gX14_apply_b81 (a1, h)
theorem eX14_apply_l81 (a1 : Int) {h : AH} (hS : Sh S h) : EQ (fX14_apply_l81 454 a1 h) (gX14_apply_l81 a1 h) (Sum.elim (fun r => Sh S r) (fun r => Sh S r)) := EQ_jit (I := (fun r => Sh S r.2)) (fun s hs => eX14_apply_b81 hs) hS
noncomputable def gX14_apply_b212 (s : Int × AH) : Option ((Int × AH) ⊕ (AH)) := jt2 s fun a1 h => if h 454 19 ≤ a1 then (some (.inr h)) else (jg (jI a1 4000) <| jg (jI a1 2000) <| jl (jst h 790 a1 (h 471 a1)) fun h43 => jl (w32 (a1 + 1)) fun x44 => some (.inl (x44, h43)))
theorem eX14_apply_b212 {s : Int × AH} (hS : (fun r => Sh S r.2) s) : EQ (fX14_apply_b212 454 s) (gX14_apply_b212 s) (Sum.elim (fun r => Sh S r.2) (fun r => Sh S r)) := by
  unfold fX14_apply_b212 gX14_apply_b212
  obtain ⟨a1, h⟩ := s
  refine EQ_jt2 ?_
  replace hS : Sh S h := hS
  refine EQ_jgd (show h 454 (-2) = 15 from by rw [k_454 hS]) ?_
  refine EQ_if Iff.rfl (fun c1 => ?_) (fun c1 => ?_)
  · exact EQ_some hS
  · refine EQ_jgd (show h 454 (-2) = 15 from by rw [k_454 hS]) ?_
    refine EQ_jgd (show h 454 (-2) = 15 from by rw [k_454 hS]) ?_
    refine EQ_jg ⟨fun ⟨_, x0⟩ => (show jI a1 (h (h 454 18) (-1)) ↔ jI a1 4000 from by rw [r_454_18 hS, l_471 hS]).mp x0, fun x0 => ⟨(show h (h 454 18) (-2) = 101 from by rw [r_454_18 hS, k_471 hS]), (show jI a1 (h (h 454 18) (-1)) ↔ jI a1 4000 from by rw [r_454_18 hS, l_471 hS]).mpr x0⟩⟩ (fun g2 => ?_)
    refine EQ_jg ⟨fun ⟨_, _, x0⟩ => (show jI a1 (h (h 454 52) (-1)) ↔ jI a1 2000 from by rw [r_454_52 hS, l_790 hS]).mp x0, fun x0 => ⟨(show h (h 454 52) (-2) = 101 from by rw [r_454_52 hS, k_790 hS]), (show 200 ≤ h 454 52 from by rw [r_454_52 hS]; exact (by decide)), (show jI a1 (h (h 454 52) (-1)) ↔ jI a1 2000 from by rw [r_454_52 hS, l_790 hS]).mpr x0⟩⟩ (fun g3 => ?_)
    refine EQ_jl (by rw [r_454_52 hS, r_454_18 hS]) (fun h43 eh43 => ?_)
    have s4 := Sh_of eh43 (Sh_sta hS (by decide +kernel) (jI_nn g2) (fun e => absurd ((k_790 hS).symm.trans e) (by decide)))
    clear eh43
    refine EQ_jl rfl (fun x44 ex44 => ?_)
    clear ex44
    exact EQ_some s4
