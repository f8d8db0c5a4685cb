set_option maxRecDepth 100000
variable {S : Nat → Nat}
noncomputable def gX1_workAct_j101 (F : Int → Int → Int → AH → Option (Int × AH)) (a1 : Int) (a2 : Int) (a3 : Int) (a4 : Int) (a5 : Int) (h : AH) : Option (Int × AH) := jl (h 200 9) fun x19 => if a5 = 0 then (jb (gX1_operandsOf a4 h) fun v22 => gX1_workAct_j128 F a1 a2 a3 a4 a5 x19 v22 h) else (gX1_workAct_j128 F a1 a2 a3 a4 a5 x19 (h (h 200 16) 1) h)
theorem eX1_workAct_j101 {F0 : Int → Int → Int → Int → AH → Option (Int × AH)} {F : Int → Int → Int → AH → Option (Int × AH)} (hF : ∀ (b_a1 : Int) (b_a2 : Int) (b_a3 : Int), isX3 b_a1 → ∀ {b_h : AH}, Sh S b_h → EQ (F0 200 b_a1 b_a2 b_a3 b_h) (F b_a1 b_a2 b_a3 b_h) (fun r => Sh S r.2)) (a1 : Int) (a2 : Int) (a3 : Int) (a4 : Int) (a5 : Int) (hT_a1 : isX3 a1) {h : AH} (hS : Sh S h) : EQ (fX1_workAct_j101 F0 200 a1 a2 a3 a4 a5 h) (gX1_workAct_j101 F a1 a2 a3 a4 a5 h) (fun r => Sh S r.2) := by
  unfold fX1_workAct_j101 gX1_workAct_j101
  refine EQ_jgd (show h 200 (-2) = 2 from by rw [k_200 hS]) ?_
  refine EQ_jl rfl (fun x19 ex19 => ?_)
  clear ex19
  refine EQ_if Iff.rfl (fun c1 => ?_) (fun c1 => ?_)
  · refine EQ_jgd (show h 200 (-2) = 2 from by rw [k_200 hS]) ?_
    refine EQ_jb (eX1_operandsOf a4 hS) (fun v22 r2 => ?_)
    exact (eX1_workAct_j128 hF a1 a2 a3 a4 a5 x19 v22 hT_a1 hS)
  · refine EQ_jgd (show h 200 (-2) = 2 from by rw [k_200 hS]) ?_
    refine EQ_jgd (show h (h 200 16) (-2) = 5 from by rw [kd_X4 hS (dy_200_16 hS)]) ?_
    exact (eX1_workAct_j128 hF a1 a2 a3 a4 a5 x19 (h (h 200 16) 1) hT_a1 hS)
noncomputable def gX1_workAct_j23 (F : Int → Int → Int → AH → Option (Int × AH)) (a1 : Int) (a2 : Int) (a3 : Int) (a4 : Int) (t0 : Int) (h : AH) : Option (Int × AH) := if t0 = 0 then (if a4 = 15 then (gX1_workAct_j44 F a1 a2 a3 h) else (if a4 = 16 then (gX1_workAct_j44 F a1 a2 a3 h) else (gX1_workAct_j101 F a1 a2 a3 a4 t0 h))) else (gX1_workAct_j101 F a1 a2 a3 a4 t0 h)
theorem eX1_workAct_j23 {F0 : Int → Int → Int → Int → AH → Option (Int × AH)} {F : Int → Int → Int → AH → Option (Int × AH)} (hF : ∀ (b_a1 : Int) (b_a2 : Int) (b_a3 : Int), isX3 b_a1 → ∀ {b_h : AH}, Sh S b_h → EQ (F0 200 b_a1 b_a2 b_a3 b_h) (F b_a1 b_a2 b_a3 b_h) (fun r => Sh S r.2)) (a1 : Int) (a2 : Int) (a3 : Int) (a4 : Int) (t0 : Int) (hT_a1 : isX3 a1) {h : AH} (hS : Sh S h) : EQ (fX1_workAct_j23 F0 200 a1 a2 a3 a4 t0 h) (gX1_workAct_j23 F a1 a2 a3 a4 t0 h) (fun r => Sh S r.2) := by
  unfold fX1_workAct_j23 gX1_workAct_j23
  refine EQ_if Iff.rfl (fun c1 => ?_) (fun c1 => ?_)
  · refine EQ_if Iff.rfl (fun c2 => ?_) (fun c2 => ?_)
    · exact (eX1_workAct_j44 hF a1 a2 a3 hT_a1 hS)
    · refine EQ_if Iff.rfl (fun c3 => ?_) (fun c3 => ?_)
      · exact (eX1_workAct_j44 hF a1 a2 a3 hT_a1 hS)
      · exact (eX1_workAct_j101 hF a1 a2 a3 a4 t0 hT_a1 hS)
  · exact (eX1_workAct_j101 hF a1 a2 a3 a4 t0 hT_a1 hS)
noncomputable def gX1_workAct_ (F : Int → Int → Int → AH → Option (Int × AH)) (a1 : Int) (a2 : Int) (a3 : Int) (h : AH) : Option (Int × AH) := jg (jI a2 (h (a1 + 2) (-1))) <| jl (h (a1 + 2) a2) fun x1 => jg (jI a2 (h (a1 + 1) (-1))) <| if h (a1 + 1) a2 = 4 then (gX1_workAct_j23 F a1 a2 a3 x1 1 h) else (gX1_workAct_j23 F a1 a2 a3 x1 0 h)
theorem eX1_workAct_ {F0 : Int → Int → Int → Int → AH → Option (Int × AH)} {F : Int → Int → Int → AH → Option (Int × AH)} (hF : ∀ (b_a1 : Int) (b_a2 : Int) (b_a3 : Int), isX3 b_a1 → ∀ {b_h : AH}, Sh S b_h → EQ (F0 200 b_a1 b_a2 b_a3 b_h) (F b_a1 b_a2 b_a3 b_h) (fun r => Sh S r.2)) (a1 : Int) (a2 : Int) (a3 : Int) (hT_a1 : isX3 a1) {h : AH} (hS : Sh S h) : EQ (fX1_workAct_ F0 200 a1 a2 a3 h) (gX1_workAct_ F a1 a2 a3 h) (fun r => Sh S r.2) := by
  unfold fX1_workAct_ gX1_workAct_
  refine EQ_jgd (show h a1 (-2) = 4 from by rw [kd_X3 hS hT_a1]) ?_
  refine EQ_jg ⟨fun ⟨_, x0⟩ => (show jI a2 (h (h a1 2) (-1)) ↔ jI a2 (h (a1 + 2) (-1)) from by rw [ft_X3_2 hS hT_a1]).mp x0, fun x0 => ⟨(show h (h a1 2) (-2) = 101 from by rw [ft_X3_2 hS hT_a1, ka_X3_2 hS hT_a1]), (show jI a2 (h (h a1 2) (-1)) ↔ jI a2 (h (a1 + 2) (-1)) from by rw [ft_X3_2 hS hT_a1]).mpr x0⟩⟩ (fun g1 => ?_)
  refine EQ_jl (by rw [ft_X3_2 hS hT_a1]) (fun x1 ex1 => ?_)
  clear ex1
  refine EQ_jgd (show h a1 (-2) = 4 from by rw [kd_X3 hS hT_a1]) ?_
  refine EQ_jg ⟨fun ⟨_, x0⟩ => (show jI a2 (h (h a1 1) (-1)) ↔ jI a2 (h (a1 + 1) (-1)) from by rw [ft_X3_1 hS hT_a1]).mp x0, fun x0 => ⟨(show h (h a1 1) (-2) = 101 from by rw [ft_X3_1 hS hT_a1, ka_X3_1 hS hT_a1]), (show jI a2 (h (h a1 1) (-1)) ↔ jI a2 (h (a1 + 1) (-1)) from by rw [ft_X3_1 hS hT_a1]).mpr x0⟩⟩ (fun g2 => ?_)
  refine EQ_if (show h (h a1 1) a2 = 4 ↔ h (a1 + 1) a2 = 4 from by rw [ft_X3_1 hS hT_a1]) (fun c3 => ?_) (fun c3 => ?_)
  · exact (eX1_workAct_j23 hF a1 a2 a3 x1 1 hT_a1 hS)
  · exact (eX1_workAct_j23 hF a1 a2 a3 x1 0 hT_a1 hS)
noncomputable def gX1_workActD : Nat → Int → Int → Int → AH → Option (Int × AH)
  | 0 => fun _ _ _ _ => none
  | d + 1 => gX1_workAct_ (gX1_workActD d)
theorem eX1_workActD : ∀ (d : Nat) (a1 : Int) (a2 : Int) (a3 : Int) (hT_a1 : isX3 a1) {h : AH} (hS : Sh S h) , EQ (fX1_workActD d 200 a1 a2 a3 h) (gX1_workActD d a1 a2 a3 h) (fun r => Sh S r.2) := by
  intro d
  induction d with
  | zero => intro a1 a2 a3 hT_a1 h hS; exact EQ_none
  | succ d ih => intro a1 a2 a3 hT_a1 h hS; exact eX1_workAct_ ih a1 a2 a3 hT_a1 hS
noncomputable def gX1_workAct : Int → Int → Int → AH → Option (Int × AH) := gX1_workActD 100
theorem eX1_workAct (a1 : Int) (a2 : Int) (a3 : Int) (hT_a1 : isX3 a1) {h : AH} (hS : Sh S h) : EQ (fX1_workAct 200 a1 a2 a3 h) (gX1_workAct a1 a2 a3 h) (fun r => Sh S r.2) := eX1_workActD 100 a1 a2 a3 hT_a1 hS
noncomputable def gX1_work : Int → Int → Int → AH → Option (Int × AH) := gX1_work_ gX1_workAct
theorem eX1_work (a1 : Int) (a2 : Int) (a3 : Int) {h : AH} (hS : Sh S h) : EQ (fX1_work 200 a1 a2 a3 h) (gX1_work a1 a2 a3 h) (fun r => Sh S r.2) := eX1_work_ eX1_workAct a1 a2 a3 hS
noncomputable def gX1_workOwn : Int → Int → AH → Option (Int × AH) := gX1_workOwn_ gX1_workAct
theorem eX1_workOwn (a1 : Int) (a2 : Int) {h : AH} (hS : Sh S h) : EQ (fX1_workOwn 200 a1 a2 h) (gX1_workOwn a1 a2 h) (fun r => Sh S r.2) := eX1_workOwn_ eX1_workAct a1 a2 hS
noncomputable def gX1_give_j12 (a2 : Int) (a3 : Int) (a4 : Int) (h : AH) : Option (Int × AH) := if a2 = (-1) then (some ((-1), h)) else (if a2 = 1 then (some (a3, h)) else (some (a4, h)))
theorem eX1_give_j12 (a2 : Int) (a3 : Int) (a4 : Int) {h : AH} (hS : Sh S h) : EQ (fX1_give_j12 a2 a3 a4 h) (gX1_give_j12 a2 a3 a4 h) (fun r => Sh S r.2) := by
  unfold fX1_give_j12 gX1_give_j12
  refine EQ_if Iff.rfl (fun c1 => ?_) (fun c1 => ?_)
  · exact EQ_some hS
  · refine EQ_if Iff.rfl (fun c2 => ?_) (fun c2 => ?_)
    · exact EQ_some hS
    · exact EQ_some hS
noncomputable def gX1_give_j58 (a1 : Int) (a2 : Int) (a3 : Int) (a4 : Int) (h : AH) : Option (Int × AH) := if 26 ≤ a1 then (jl (jst h 269 0 a2) fun h11 => jl (jst h11 269 1 a3) fun h12 => jl (jst h12 200 9 2) fun h13 => jb2 (gX1_workOwn (w32 (a1 - 26)) 0 h13) fun v15 h16 => jl (jst h16 200 9 0) fun h17 => some (v15, h17)) else (jb (gX2_give a1 a2 a3 a4) fun v19 => some (v19, h))
theorem eX1_give_j58 (a1 : Int) (a2 : Int) (a3 : Int) (a4 : Int) {h : AH} (hS : Sh S h) : EQ (fX1_give_j58 200 a1 a2 a3 a4 h) (gX1_give_j58 a1 a2 a3 a4 h) (fun r => Sh S r.2) := by
  unfold fX1_give_j58 gX1_give_j58
  refine EQ_if Iff.rfl (fun c1 => ?_) (fun c1 => ?_)
  · refine EQ_jgd (show h 200 (-2) = 2 from by rw [k_200 hS]) ?_
    refine EQ_jgd ⟨(show h (h 200 8) (-2) = 101 from by rw [r_200_8 hS, k_269 hS]), (show 200 ≤ h 200 8 from by rw [r_200_8 hS]; exact (by decide)), (show jI 0 (h (h 200 8) (-1)) from by rw [r_200_8 hS, l_269 hS]; unfold jI; decide)⟩ ?_
    refine EQ_jl (by rw [r_200_8 hS]) (fun h11 eh11 => ?_)
    have s2 := Sh_of eh11 (Sh_sta hS (by decide +kernel) (by decide) (fun e => absurd ((k_269 hS).symm.trans e) (by decide)))
    clear eh11
    refine EQ_jgd (show h11 200 (-2) = 2 from by rw [k_200 s2]) ?_
    refine EQ_jgd ⟨(show h11 (h11 200 8) (-2) = 101 from by rw [r_200_8 s2, k_269 s2]), (show 200 ≤ h11 200 8 from by rw [r_200_8 s2]; exact (by decide)), (show jI 1 (h11 (h11 200 8) (-1)) from by rw [r_200_8 s2, l_269 s2]; unfold jI; decide)⟩ ?_
    refine EQ_jl (by rw [r_200_8 s2]) (fun h12 eh12 => ?_)
    have s3 := Sh_of eh12 (Sh_sta s2 (by decide +kernel) (by decide) (fun e => absurd ((k_269 s2).symm.trans e) (by decide)))
    clear eh12
    refine EQ_jgd ⟨(show h12 200 (-2) = 2 from by rw [k_200 s3]), (show (200 : Int) ≤ 200 from (by decide))⟩ ?_
    refine EQ_jl rfl (fun h13 eh13 => ?_)
    have s4 := Sh_of eh13 (Sh_sto s3 (a := 200) (i := 9) (by decide +kernel))
    clear eh13
    refine EQ_jgd (show h13 200 (-2) = 2 from by rw [k_200 s4]) ?_
    refine EQ_jb2 (eX1_workOwn (w32 (a1 - 26)) 0 s4) (fun v15 h16 r5 => ?_)
    replace r5 : Sh S h16 := r5
    refine EQ_jgd ⟨(show h16 200 (-2) = 2 from by rw [k_200 r5]), (show (200 : Int) ≤ 200 from (by decide))⟩ ?_
    refine EQ_jl rfl (fun h17 eh17 => ?_)
    have s6 := Sh_of eh17 (Sh_sto r5 (a := 200) (i := 9) (by decide +kernel))
    clear eh17
    exact EQ_some s6
  · refine EQ_jb (eX2_give a1 a2 a3 a4) (fun v19 r7 => ?_)
    exact EQ_some hS
noncomputable def gX1_give (a1 : Int) (a2 : Int) (a3 : Int) (a4 : Int) (h : AH) : Option (Int × AH) := if a1 = 15 then (gX1_give_j12 a2 a3 a4 h) else (if a1 = 16 then (gX1_give_j12 a2 a3 a4 h) else (jb (gX1_operandsOf a1 h) fun v4 => if a2 = (-1) then (some ((-1), h)) else (if v4 ≤ 1 then (gX1_give_j58 a1 a2 a3 a4 h) else (if a3 = (-1) then (some ((-1), h)) else (gX1_give_j58 a1 a2 a3 a4 h)))))
theorem eX1_give (a1 : Int) (a2 : Int) (a3 : Int) (a4 : Int) {h : AH} (hS : Sh S h) : EQ (fX1_give 200 a1 a2 a3 a4 h) (gX1_give a1 a2 a3 a4 h) (fun r => Sh S r.2) := by
  unfold fX1_give gX1_give
  refine EQ_if Iff.rfl (fun c1 => ?_) (fun c1 => ?_)
  · exact (eX1_give_j12 a2 a3 a4 hS)
  · refine EQ_if Iff.rfl (fun c2 => ?_) (fun c2 => ?_)
    · exact (eX1_give_j12 a2 a3 a4 hS)
    · refine EQ_jgd (show h 200 (-2) = 2 from by rw [k_200 hS]) ?_
      refine EQ_jb (eX1_operandsOf a1 hS) (fun v4 r3 => ?_)
      refine EQ_if Iff.rfl (fun c4 => ?_) (fun c4 => ?_)
      · exact EQ_some hS
      · refine EQ_if Iff.rfl (fun c5 => ?_) (fun c5 => ?_)
        · exact (eX1_give_j58 a1 a2 a3 a4 hS)
        · refine EQ_if Iff.rfl (fun c6 => ?_) (fun c6 => ?_)
          · exact EQ_some hS
          · exact (eX1_give_j58 a1 a2 a3 a4 hS)
noncomputable def gX5_three (a0 : Int) (a1 : Int) (a2 : Int) : Option (Int) := some (w32 (w32 (w32 (w32 (a0 * 120) + a1) * 120) + a2))
theorem eX5_three (a0 : Int) (a1 : Int) (a2 : Int) : EQ (fX5_three a0 a1 a2) (gX5_three a0 a1 a2) (fun _ => True) := by
  unfold fX5_three gX5_three
  exact EQ_some trivial
noncomputable def gX5_note (a1 : Int) (a2 : Int) (a3 : Int) (a4 : Int) (a5 : Int) (h : AH) : Option (AH) := if 0 ≤ a4 then (jb (gX5_three a2 a3 a4) fun v3 => jg (jI v3 1728000) <| jl (jst h 317 v3 (ji2b (ji2b (w32 (a5 + 1))))) fun h4 => some h4) else (jg (jI (w32 (w32 (w32 (w32 (a1 * 120) + a2) * 120) + max 0 a3)) 172800) <| jl (jst h 316 (w32 (w32 (w32 (w32 (a1 * 120) + a2) * 120) + max 0 a3)) (ji2b (ji2b (w32 (a5 + 1))))) fun h5 => some h5)
theorem eX5_note (a1 : Int) (a2 : Int) (a3 : Int) (a4 : Int) (a5 : Int) {h : AH} (hS : Sh S h) : EQ (fX5_note 307 a1 a2 a3 a4 a5 h) (gX5_note a1 a2 a3 a4 a5 h) (fun r => Sh S r) := by
  unfold fX5_note gX5_note
  refine EQ_if Iff.rfl (fun c1 => ?_) (fun c1 => ?_)
  · refine EQ_jgd (show h 307 (-2) = 6 from by rw [k_307 hS]) ?_
    refine EQ_jb (eX5_three a2 a3 a4) (fun v3 r2 => ?_)
    refine EQ_jg ⟨fun ⟨_, _, x0⟩ => (show jI v3 (h (h 307 12) (-1)) ↔ jI v3 1728000 from by rw [r_307_12 hS, l_317 hS]).mp x0, fun x0 => ⟨(show h (h 307 12) (-2) = 103 from by rw [r_307_12 hS, k_317 hS]), (show 200 ≤ h 307 12 from by rw [r_307_12 hS]; exact (by decide)), (show jI v3 (h (h 307 12) (-1)) ↔ jI v3 1728000 from by rw [r_307_12 hS, l_317 hS]).mpr x0⟩⟩ (fun g3 => ?_)
    refine EQ_jl (by rw [r_307_12 hS]) (fun h4 eh4 => ?_)
    have s4 := Sh_of eh4 (Sh_sta hS (by decide +kernel) (jI_nn g3) (fun _ => jBy_b _))
    clear eh4
    exact EQ_some s4
  · refine EQ_jgd (show h 307 (-2) = 6 from by rw [k_307 hS]) ?_
    refine EQ_jg ⟨fun ⟨_, _, x0⟩ => (show jI (w32 (w32 (w32 (w32 (a1 * 120) + a2) * 120) + max 0 a3)) (h (h 307 11) (-1)) ↔ jI (w32 (w32 (w32 (w32 (a1 * 120) + a2) * 120) + max 0 a3)) 172800 from by rw [r_307_11 hS, l_316 hS]).mp x0, fun x0 => ⟨(show h (h 307 11) (-2) = 103 from by rw [r_307_11 hS, k_316 hS]), (show 200 ≤ h 307 11 from by rw [r_307_11 hS]; exact (by decide)), (show jI (w32 (w32 (w32 (w32 (a1 * 120) + a2) * 120) + max 0 a3)) (h (h 307 11) (-1)) ↔ jI (w32 (w32 (w32 (w32 (a1 * 120) + a2) * 120) + max 0 a3)) 172800 from by rw [r_307_11 hS, l_316 hS]).mpr x0⟩⟩ (fun g5 => ?_)
    refine EQ_jl (by rw [r_307_11 hS]) (fun h5 eh5 => ?_)
    have s6 := Sh_of eh5 (Sh_sta hS (by decide +kernel) (jI_nn g5) (fun _ => jBy_b _))
    clear eh5
    exact EQ_some s6
noncomputable def gX5_makes_j98_17 (a1 : Int) (a2 : Int) (a3 : Int) (a4 : Int) (a5 : Int) (a6 : Int) (a7 : Int) (a8 : Int) (t1 : Int) (t3 : Int) (t4 : Int) (t5 : Int) (t6 : Int) (h : AH) : Option ((Int × AH) ⊕ (AH)) := jb2 (gX1_give t3 t4 t5 t6 h) fun v20 h21 => jg (jI t1 256) <| jl (jst h21 320 t1 v20) fun h22 => jl (w32 (a8 + 1)) fun x23 => some (.inl (x23, h22))
theorem eX5_makes_j98_17 (a1 : Int) (a2 : Int) (a3 : Int) (a4 : Int) (a5 : Int) (a6 : Int) (a7 : Int) (a8 : Int) (t1 : Int) (t3 : Int) (t4 : Int) (t5 : Int) (t6 : Int) {h : AH} (hS : Sh S h) : EQ (fX5_makes_j98_17 307 a1 a2 a3 a4 a5 a6 a7 a8 320 t1 200 t3 t4 t5 t6 h) (gX5_makes_j98_17 a1 a2 a3 a4 a5 a6 a7 a8 t1 t3 t4 t5 t6 h) (Sum.elim (fun r => Sh S r.2) (fun r => Sh S r)) := by
  unfold fX5_makes_j98_17 gX5_makes_j98_17
  refine EQ_jgd (show h 200 (-2) = 2 from by rw [k_200 hS]) ?_
  refine EQ_jb2 (eX1_give t3 t4 t5 t6 hS) (fun v20 h21 r1 => ?_)
  replace r1 : Sh S h21 := r1
  refine EQ_jg ⟨fun ⟨_, _, x0⟩ => (show jI t1 (h21 320 (-1)) ↔ jI t1 256 from by rw [l_320 r1]).mp x0, fun x0 => ⟨(show h21 320 (-2) = 101 from by rw [k_320 r1]), (show (200 : Int) ≤ 320 from (by decide)), (show jI t1 (h21 320 (-1)) ↔ jI t1 256 from by rw [l_320 r1]).mpr x0⟩⟩ (fun g2 => ?_)
  refine EQ_jl rfl (fun h22 eh22 => ?_)
  have s3 := Sh_of eh22 (Sh_sta r1 (by decide +kernel) (jI_nn g2) (fun e => absurd ((k_320 r1).symm.trans e) (by decide)))
  clear eh22
  refine EQ_jl rfl (fun x23 ex23 => ?_)
  clear ex23
  exact EQ_some s3
noncomputable def gX5_makes_j75_17 (a1 : Int) (a2 : Int) (a3 : Int) (a4 : Int) (a5 : Int) (a6 : Int) (a7 : Int) (a8 : Int) (t1 : Int) (t3 : Int) (t4 : Int) (t5 : Int) (h : AH) : Option ((Int × AH) ⊕ (AH)) := if 0 ≤ a6 then (jg (jI (w32 (w32 (a6 * 256) + a8)) 30976) <| gX5_makes_j98_17 a1 a2 a3 a4 a5 a6 a7 a8 t1 t3 t4 t5 (h 312 (w32 (w32 (a6 * 256) + a8))) h) else (gX5_makes_j98_17 a1 a2 a3 a4 a5 a6 a7 a8 t1 t3 t4 t5 0 h)
theorem eX5_makes_j75_17 (a1 : Int) (a2 : Int) (a3 : Int) (a4 : Int) (a5 : Int) (a6 : Int) (a7 : Int) (a8 : Int) (t1 : Int) (t3 : Int) (t4 : Int) (t5 : Int) {h : AH} (hS : Sh S h) : EQ (fX5_makes_j75_17 307 a1 a2 a3 a4 a5 a6 a7 a8 320 t1 200 t3 t4 t5 h) (gX5_makes_j75_17 a1 a2 a3 a4 a5 a6 a7 a8 t1 t3 t4 t5 h) (Sum.elim (fun r => Sh S r.2) (fun r => Sh S r)) := by
  unfold fX5_makes_j75_17 gX5_makes_j75_17
  refine EQ_if Iff.rfl (fun c1 => ?_) (fun c1 => ?_)
  · refine EQ_jgd (show h 307 (-2) = 6 from by rw [k_307 hS]) ?_
    refine EQ_jg ⟨fun ⟨_, x0⟩ => (show jI (w32 (w32 (a6 * 256) + a8)) (h (h 307 5) (-1)) ↔ jI (w32 (w32 (a6 * 256) + a8)) 30976 from by rw [r_307_5 hS, l_312 hS]).mp x0, fun x0 => ⟨(show h (h 307 5) (-2) = 101 from by rw [r_307_5 hS, k_312 hS]), (show jI (w32 (w32 (a6 * 256) + a8)) (h (h 307 5) (-1)) ↔ jI (w32 (w32 (a6 * 256) + a8)) 30976 from by rw [r_307_5 hS, l_312 hS]).mpr x0⟩⟩ (fun g2 => ?_)
    exact (by rw [r_307_5 hS]; exact eX5_makes_j98_17 a1 a2 a3 a4 a5 a6 a7 a8 t1 t3 t4 t5 (h 312 (w32 (w32 (a6 * 256) + a8))) hS)
  · exact (eX5_makes_j98_17 a1 a2 a3 a4 a5 a6 a7 a8 t1 t3 t4 t5 0 hS)
noncomputable def gX5_makes_b17 (i1 : Int) (i2 : Int) (i3 : Int) (i4 : Int) (i5 : Int) (i6 : Int) (i7 : Int) (s : Int × AH) : Option ((Int × AH) ⊕ (AH)) := jt2 s fun a8 h => jb (gX5_points h) fun v15 => if v15 ≤ a8 then (some (.inr h)) else (jg (jI (w32 (w32 (i4 * 256) + a8)) 30976) <| if 0 ≤ i5 then (jg (jI (w32 (w32 (i5 * 256) + a8)) 30976) <| gX5_makes_j75_17 i1 i2 i3 i4 i5 i6 i7 a8 a8 i7 (h 312 (w32 (w32 (i4 * 256) + a8))) (h 312 (w32 (w32 (i5 * 256) + a8))) h) else (gX5_makes_j75_17 i1 i2 i3 i4 i5 i6 i7 a8 a8 i7 (h 312 (w32 (w32 (i4 * 256) + a8))) 0 h))
theorem eX5_makes_b17 (i1 : Int) (i2 : Int) (i3 : Int) (i4 : Int) (i5 : Int) (i6 : Int) (i7 : Int) {s : Int × AH} (hS : (fun r => Sh S r.2) s) : EQ (fX5_makes_b17 307 i1 i2 i3 i4 i5 i6 i7 s) (gX5_makes_b17 i1 i2 i3 i4 i5 i6 i7 s) (Sum.elim (fun r => Sh S r.2) (fun r => Sh S r)) := by
  unfold fX5_makes_b17 gX5_makes_b17
  obtain ⟨a8, h⟩ := s
  refine EQ_jt2 ?_
  replace hS : Sh S h := hS
  refine EQ_jgd (show h 307 (-2) = 6 from by rw [k_307 hS]) ?_
  refine EQ_jb (eX5_points hS) (fun v15 r1 => ?_)
  refine EQ_if Iff.rfl (fun c2 => ?_) (fun c2 => ?_)
  · exact EQ_some hS
  · refine EQ_jgd (show h 307 (-2) = 6 from by rw [k_307 hS]) ?_
    refine EQ_jgd (show h 307 (-2) = 6 from by rw [k_307 hS]) ?_
    refine EQ_jgd (show h 307 (-2) = 6 from by rw [k_307 hS]) ?_
    refine EQ_jg ⟨fun ⟨_, x0⟩ => (show jI (w32 (w32 (i4 * 256) + a8)) (h (h 307 5) (-1)) ↔ jI (w32 (w32 (i4 * 256) + a8)) 30976 from by rw [r_307_5 hS, l_312 hS]).mp x0, fun x0 => ⟨(show h (h 307 5) (-2) = 101 from by rw [r_307_5 hS, k_312 hS]), (show jI (w32 (w32 (i4 * 256) + a8)) (h (h 307 5) (-1)) ↔ jI (w32 (w32 (i4 * 256) + a8)) 30976 from by rw [r_307_5 hS, l_312 hS]).mpr x0⟩⟩ (fun g3 => ?_)
    refine EQ_if Iff.rfl (fun c4 => ?_) (fun c4 => ?_)
    · refine EQ_jgd (show h 307 (-2) = 6 from by rw [k_307 hS]) ?_
      refine EQ_jg ⟨fun ⟨_, x0⟩ => (show jI (w32 (w32 (i5 * 256) + a8)) (h (h 307 5) (-1)) ↔ jI (w32 (w32 (i5 * 256) + a8)) 30976 from by rw [r_307_5 hS, l_312 hS]).mp x0, fun x0 => ⟨(show h (h 307 5) (-2) = 101 from by rw [r_307_5 hS, k_312 hS]), (show jI (w32 (w32 (i5 * 256) + a8)) (h (h 307 5) (-1)) ↔ jI (w32 (w32 (i5 * 256) + a8)) 30976 from by rw [r_307_5 hS, l_312 hS]).mpr x0⟩⟩ (fun g5 => ?_)
      exact (by rw [r_307_15 hS, r_307_22 hS, r_307_5 hS]; exact eX5_makes_j75_17 i1 i2 i3 i4 i5 i6 i7 a8 a8 i7 (h 312 (w32 (w32 (i4 * 256) + a8))) (h 312 (w32 (w32 (i5 * 256) + a8))) hS)
    · exact (by rw [r_307_15 hS, r_307_22 hS, r_307_5 hS]; exact eX5_makes_j75_17 i1 i2 i3 i4 i5 i6 i7 a8 a8 i7 (h 312 (w32 (w32 (i4 * 256) + a8))) 0 hS)
noncomputable def gX5_makes_l17 (i1 : Int) (i2 : Int) (i3 : Int) (i4 : Int) (i5 : Int) (i6 : Int) (i7 : Int) (a8 : Int) (h : AH) : Option (AH) := jit (gX5_makes_b17 i1 i2 i3 i4 i5 i6 i7) (a8, h)
theorem eX5_makes_l17 (i1 : Int) (i2 : Int) (i3 : Int) (i4 : Int) (i5 : Int) (i6 : Int) (i7 : Int) (a8 : Int) {h : AH} (hS : Sh S h) : EQ (fX5_makes_l17 307 i1 i2 i3 i4 i5 i6 i7 a8 h) (gX5_makes_l17 i1 i2 i3 i4 i5 i6 i7 a8 h) (fun r => Sh S r) := EQ_jit (I := (fun r => Sh S r.2)) (fun s hs => eX5_makes_b17 i1 i2 i3 i4 i5 i6 i7 hs) hS
noncomputable def gX5_makes (a1 : Int) (a2 : Int) (a3 : Int) (a4 : Int) (a5 : Int) (a6 : Int) (h : AH) : Option (Int × AH) := jg (jI a2 12) <| jl (h (h 200 16 + 2) a2) fun x1 => jb (gX5_makes_l17 a1 a2 a3 a4 a5 a6 x1 0 h) fun o2 => jb (gX1_operandsOf x1 o2) fun v5 => jb (gX1_kindOf x1 v5 o2) fun v7 => jb2 (gX5_place v7 a1 a3 a4 a5 a6 o2) fun v9 h10 => if v9 = (-1) then (some (v9, h10)) else (jb (gX5_note a2 a4 a5 a6 v9 h10) fun h13 => some (v9, h13))
theorem eX5_makes (a1 : Int) (a2 : Int) (a3 : Int) (a4 : Int) (a5 : Int) (a6 : Int) {h : AH} (hS : Sh S h) : EQ (fX5_makes 307 a1 a2 a3 a4 a5 a6 h) (gX5_makes a1 a2 a3 a4 a5 a6 h) (fun r => Sh S r.2) := by
  unfold fX5_makes gX5_makes
  refine EQ_jgd (show h 307 (-2) = 6 from by rw [k_307 hS]) ?_
  refine EQ_jgd (show h (h 307 22) (-2) = 2 from by rw [r_307_22 hS, k_200 hS]) ?_
  refine EQ_jgd (show h (h (h 307 22) 16) (-2) = 5 from by rw [r_307_22 hS, kd_X4 hS (dy_200_16 hS)]) ?_
  refine EQ_jg ⟨fun ⟨_, x0⟩ => (show jI a2 (h (h (h (h 307 22) 16) 4) (-1)) ↔ jI a2 12 from by rw [r_307_22 hS, ft_X4_4 hS (dy_200_16 hS), la_X4_4 hS (dy_200_16 hS)]).mp x0, fun x0 => ⟨(show h (h (h (h 307 22) 16) 4) (-2) = 101 from by rw [r_307_22 hS, ft_X4_4 hS (dy_200_16 hS), ka_X4_4 hS (dy_200_16 hS)]), (show jI a2 (h (h (h (h 307 22) 16) 4) (-1)) ↔ jI a2 12 from by rw [r_307_22 hS, ft_X4_4 hS (dy_200_16 hS), la_X4_4 hS (dy_200_16 hS)]).mpr x0⟩⟩ (fun g1 => ?_)
  refine EQ_jl (by rw [r_307_22 hS, ft_X4_4 hS (dy_200_16 hS)]) (fun x1 ex1 => ?_)
  clear ex1
  refine EQ_jb (eX5_makes_l17 a1 a2 a3 a4 a5 a6 x1 0 hS) (fun o2 r2 => ?_)
  refine EQ_jgd (show o2 307 (-2) = 6 from by rw [k_307 r2]) ?_
  refine EQ_jgd (show o2 307 (-2) = 6 from by rw [k_307 r2]) ?_
  refine EQ_jgd (show o2 (o2 307 22) (-2) = 2 from by rw [r_307_22 r2, k_200 r2]) ?_
  refine EQ_jb (by rw [r_307_22 r2]; exact eX1_operandsOf x1 r2) (fun v5 r3 => ?_)
  refine EQ_jgd (show o2 (o2 307 22) (-2) = 2 from by rw [r_307_22 r2, k_200 r2]) ?_
  refine EQ_jb (by rw [r_307_22 r2]; exact eX1_kindOf x1 v5 r2) (fun v7 r4 => ?_)
  refine EQ_jgd (show o2 307 (-2) = 6 from by rw [k_307 r2]) ?_
  refine EQ_jb2 (eX5_place v7 a1 a3 a4 a5 a6 r2) (fun v9 h10 r5 => ?_)
  replace r5 : Sh S h10 := r5
  refine EQ_if Iff.rfl (fun c6 => ?_) (fun c6 => ?_)
  · exact EQ_some r5
  · refine EQ_jgd (show h10 307 (-2) = 6 from by rw [k_307 r5]) ?_
    refine EQ_jb (eX5_note a2 a4 a5 a6 v9 r5) (fun h13 r7 => ?_)
    exact EQ_some r7
noncomputable def gX5_growAct_j327_28 (a1 : Int) (a2 : Int) (a3 : Int) (a4 : Int) (a5 : Int) (a6 : Int) (a7 : Int) (h : AH) : Option ((Int × AH) ⊕ ((AH) ⊕ ((AH) ⊕ ((AH) ⊕ ((AH)))))) := jl (w32 (a7 + 1)) fun x31 => some (.inl (x31, h))
theorem eX5_growAct_j327_28 (a1 : Int) (a2 : Int) (a3 : Int) (a4 : Int) (a5 : Int) (a6 : Int) (a7 : Int) {h : AH} (hS : Sh S h) : EQ (fX5_growAct_j327_28 307 a1 a2 a3 a4 a5 a6 a7 h) (gX5_growAct_j327_28 a1 a2 a3 a4 a5 a6 a7 h) (Sum.elim (fun r => Sh S r.2) (Sum.elim (fun r => Sh S r) (Sum.elim (fun r => Sh S r) (Sum.elim (fun r => Sh S r) (fun r => Sh S r))))) := by
  unfold fX5_growAct_j327_28 gX5_growAct_j327_28
  refine EQ_jl rfl (fun x31 ex31 => ?_)
  clear ex31
  exact EQ_some hS
noncomputable def gX5_growAct_j321_133 (a1 : Int) (a2 : Int) (a3 : Int) (a4 : Int) (a5 : Int) (a6 : Int) (a7 : Int) (a8 : Int) (a9 : Int) (h : AH) : Option ((Int × AH) ⊕ ((AH) ⊕ ((AH) ⊕ ((AH))))) := jl (w32 (a9 + 1)) fun x48 => some (.inl (x48, h))
theorem eX5_growAct_j321_133 (a1 : Int) (a2 : Int) (a3 : Int) (a4 : Int) (a5 : Int) (a6 : Int) (a7 : Int) (a8 : Int) (a9 : Int) {h : AH} (hS : Sh S h) : EQ (fX5_growAct_j321_133 307 a1 a2 a3 a4 a5 a6 a7 a8 a9 h) (gX5_growAct_j321_133 a1 a2 a3 a4 a5 a6 a7 a8 a9 h) (Sum.elim (fun r => Sh S r.2) (Sum.elim (fun r => Sh S r) (Sum.elim (fun r => Sh S r) (fun r => Sh S r)))) := by
  unfold fX5_growAct_j321_133 gX5_growAct_j321_133
  refine EQ_jl rfl (fun x48 ex48 => ?_)
  clear ex48
  exact EQ_some hS
noncomputable def gX5_growAct_j315_227 (a1 : Int) (a2 : Int) (a3 : Int) (a4 : Int) (a5 : Int) (a6 : Int) (a7 : Int) (a8 : Int) (a9 : Int) (a10 : Int) (h : AH) : Option ((Int × AH) ⊕ ((AH) ⊕ (AH))) := jl (w32 (a10 + 1)) fun x59 => some (.inl (x59, h))
theorem eX5_growAct_j315_227 (a1 : Int) (a2 : Int) (a3 : Int) (a4 : Int) (a5 : Int) (a6 : Int) (a7 : Int) (a8 : Int) (a9 : Int) (a10 : Int) {h : AH} (hS : Sh S h) : EQ (fX5_growAct_j315_227 307 a1 a2 a3 a4 a5 a6 a7 a8 a9 a10 h) (gX5_growAct_j315_227 a1 a2 a3 a4 a5 a6 a7 a8 a9 a10 h) (Sum.elim (fun r => Sh S r.2) (Sum.elim (fun r => Sh S r) (fun r => Sh S r))) := by
  unfold fX5_growAct_j315_227 gX5_growAct_j315_227
  refine EQ_jl rfl (fun x59 ex59 => ?_)
  clear ex59
  exact EQ_some hS
noncomputable def gX5_growAct_b227 (i1 : Int) (i2 : Int) (i3 : Int) (i4 : Int) (i5 : Int) (i6 : Int) (i7 : Int) (i8 : Int) (i9 : Int) (s : Int × AH) : Option ((Int × AH) ⊕ ((AH) ⊕ (AH))) := jt2 s fun a10 h => if h 307 0 ≤ a10 then (some (.inr (.inr h))) else (jg (jI a10 121) <| jg (jI i9 121) <| if w32 (i8 - h 309 i9) < h 309 a10 then (some (.inr (.inr h))) else (jb (gX1_kindOf i5 2 h) fun v52 => if h 308 a10 = v52 then (if h 309 a10 = w32 (i8 - h 309 i9) then (jb2 (gX5_makes i1 i2 i3 i7 i9 a10 h) fun v56 h57 => if v56 = (-1) then (some (.inr (.inl h57))) else (gX5_growAct_j315_227 i1 i2 i3 i4 i5 i6 i7 i8 i9 a10 h57)) else (gX5_growAct_j315_227 i1 i2 i3 i4 i5 i6 i7 i8 i9 a10 h)) else (gX5_growAct_j315_227 i1 i2 i3 i4 i5 i6 i7 i8 i9 a10 h)))
theorem eX5_growAct_b227 (i1 : Int) (i2 : Int) (i3 : Int) (i4 : Int) (i5 : Int) (i6 : Int) (i7 : Int) (i8 : Int) (i9 : Int) {s : Int × AH} (hS : (fun r => Sh S r.2) s) : EQ (fX5_growAct_b227 307 i1 i2 i3 i4 i5 i6 i7 i8 i9 s) (gX5_growAct_b227 i1 i2 i3 i4 i5 i6 i7 i8 i9 s) (Sum.elim (fun r => Sh S r.2) (Sum.elim (fun r => Sh S r) (fun r => Sh S r))) := by
  unfold fX5_growAct_b227 gX5_growAct_b227
  obtain ⟨a10, h⟩ := s
  refine EQ_jt2 ?_
  replace hS : Sh S h := hS
  refine EQ_jgd (show h 307 (-2) = 6 from by rw [k_307 hS]) ?_
  refine EQ_if Iff.rfl (fun c1 => ?_) (fun c1 => ?_)
  · exact EQ_some hS
  · refine EQ_jgd (show h 307 (-2) = 6 from by rw [k_307 hS]) ?_
    refine EQ_jg ⟨fun ⟨_, x0⟩ => (show jI a10 (h (h 307 2) (-1)) ↔ jI a10 121 from by rw [r_307_2 hS, l_309 hS]).mp x0, fun x0 => ⟨(show h (h 307 2) (-2) = 101 from by rw [r_307_2 hS, k_309 hS]), (show jI a10 (h (h 307 2) (-1)) ↔ jI a10 121 from by rw [r_307_2 hS, l_309 hS]).mpr x0⟩⟩ (fun g2 => ?_)
    refine EQ_jgd (show h 307 (-2) = 6 from by rw [k_307 hS]) ?_
    refine EQ_jg ⟨fun ⟨_, x0⟩ => (show jI i9 (h (h 307 2) (-1)) ↔ jI i9 121 from by rw [r_307_2 hS, l_309 hS]).mp x0, fun x0 => ⟨(show h (h 307 2) (-2) = 101 from by rw [r_307_2 hS, k_309 hS]), (show jI i9 (h (h 307 2) (-1)) ↔ jI i9 121 from by rw [r_307_2 hS, l_309 hS]).mpr x0⟩⟩ (fun g3 => ?_)
    refine EQ_if (show w32 (i8 - h (h 307 2) i9) < h (h 307 2) a10 ↔ w32 (i8 - h 309 i9) < h 309 a10 from by rw [r_307_2 hS]) (fun c4 => ?_) (fun c4 => ?_)
    · exact EQ_some hS
    · refine EQ_jgd (show h 307 (-2) = 6 from by rw [k_307 hS]) ?_
      refine EQ_jgd ⟨(show h (h 307 1) (-2) = 101 from by rw [r_307_1 hS, k_308 hS]), ((show jI a10 (h (h 307 1) (-1)) ↔ jI a10 121 from by rw [r_307_1 hS, l_308 hS]).mpr g2)⟩ ?_
      refine EQ_jgd (show h 307 (-2) = 6 from by rw [k_307 hS]) ?_
      refine EQ_jgd (show h (h 307 22) (-2) = 2 from by rw [r_307_22 hS, k_200 hS]) ?_
      refine EQ_jb (by rw [r_307_22 hS]; exact eX1_kindOf i5 2 hS) (fun v52 r5 => ?_)
      refine EQ_if (show h (h 307 1) a10 = v52 ↔ h 308 a10 = v52 from by rw [r_307_1 hS]) (fun c6 => ?_) (fun c6 => ?_)
      · refine EQ_jgd (show h 307 (-2) = 6 from by rw [k_307 hS]) ?_
        refine EQ_jgd ⟨(show h (h 307 2) (-2) = 101 from by rw [r_307_2 hS, k_309 hS]), ((show jI a10 (h (h 307 2) (-1)) ↔ jI a10 121 from by rw [r_307_2 hS, l_309 hS]).mpr g2)⟩ ?_
        refine EQ_jgd (show h 307 (-2) = 6 from by rw [k_307 hS]) ?_
        refine EQ_jgd ⟨(show h (h 307 2) (-2) = 101 from by rw [r_307_2 hS, k_309 hS]), ((show jI i9 (h (h 307 2) (-1)) ↔ jI i9 121 from by rw [r_307_2 hS, l_309 hS]).mpr g3)⟩ ?_
        refine EQ_if (show h (h 307 2) a10 = w32 (i8 - h (h 307 2) i9) ↔ h 309 a10 = w32 (i8 - h 309 i9) from by rw [r_307_2 hS]) (fun c7 => ?_) (fun c7 => ?_)
        · refine EQ_jgd (show h 307 (-2) = 6 from by rw [k_307 hS]) ?_
          refine EQ_jb2 (eX5_makes i1 i2 i3 i7 i9 a10 hS) (fun v56 h57 r8 => ?_)
          replace r8 : Sh S h57 := r8
          refine EQ_if Iff.rfl (fun c9 => ?_) (fun c9 => ?_)
          · exact EQ_some r8
          · exact (eX5_growAct_j315_227 i1 i2 i3 i4 i5 i6 i7 i8 i9 a10 r8)
        · exact (eX5_growAct_j315_227 i1 i2 i3 i4 i5 i6 i7 i8 i9 a10 hS)
      · exact (eX5_growAct_j315_227 i1 i2 i3 i4 i5 i6 i7 i8 i9 a10 hS)
noncomputable def gX5_growAct_l227 (i1 : Int) (i2 : Int) (i3 : Int) (i4 : Int) (i5 : Int) (i6 : Int) (i7 : Int) (i8 : Int) (i9 : Int) (a10 : Int) (h : AH) : Option ((AH) ⊕ (AH)) := jit (gX5_growAct_b227 i1 i2 i3 i4 i5 i6 i7 i8 i9) (a10, h)
theorem eX5_growAct_l227 (i1 : Int) (i2 : Int) (i3 : Int) (i4 : Int) (i5 : Int) (i6 : Int) (i7 : Int) (i8 : Int) (i9 : Int) (a10 : Int) {h : AH} (hS : Sh S h) : EQ (fX5_growAct_l227 307 i1 i2 i3 i4 i5 i6 i7 i8 i9 a10 h) (gX5_growAct_l227 i1 i2 i3 i4 i5 i6 i7 i8 i9 a10 h) (Sum.elim (fun r => Sh S r) (fun r => Sh S r)) := EQ_jit (I := (fun r => Sh S r.2)) (fun s hs => eX5_growAct_b227 i1 i2 i3 i4 i5 i6 i7 i8 i9 hs) hS
noncomputable def gX5_growAct_j200_133 (a1 : Int) (a2 : Int) (a3 : Int) (a4 : Int) (a5 : Int) (a6 : Int) (a7 : Int) (a8 : Int) (a9 : Int) (h : AH) : Option ((Int × AH) ⊕ ((AH) ⊕ ((AH) ⊕ ((AH))))) := if a6 = 2 then (jb2 (gX5_makes a1 a2 a3 a7 a9 (-1) h) fun v41 h42 => if v41 = (-1) then (some (.inr (.inl h42))) else (gX5_growAct_j321_133 a1 a2 a3 a4 a5 a6 a7 a8 a9 h42)) else (jb (gX5_growAct_l227 a1 a2 a3 a4 a5 a6 a7 a8 a9 0 h) fun o44 => jm o44 (fun o46 => some (.inr (.inr (.inl o46)))) (fun o47 => gX5_growAct_j321_133 a1 a2 a3 a4 a5 a6 a7 a8 a9 o47))
theorem eX5_growAct_j200_133 (a1 : Int) (a2 : Int) (a3 : Int) (a4 : Int) (a5 : Int) (a6 : Int) (a7 : Int) (a8 : Int) (a9 : Int) {h : AH} (hS : Sh S h) : EQ (fX5_growAct_j200_133 307 a1 a2 a3 a4 a5 a6 a7 a8 a9 h) (gX5_growAct_j200_133 a1 a2 a3 a4 a5 a6 a7 a8 a9 h) (Sum.elim (fun r => Sh S r.2) (Sum.elim (fun r => Sh S r) (Sum.elim (fun r => Sh S r) (fun r => Sh S r)))) := by
  unfold fX5_growAct_j200_133 gX5_growAct_j200_133
  refine EQ_if Iff.rfl (fun c1 => ?_) (fun c1 => ?_)
  · refine EQ_jgd (show h 307 (-2) = 6 from by rw [k_307 hS]) ?_
    refine EQ_jb2 (eX5_makes a1 a2 a3 a7 a9 (-1) hS) (fun v41 h42 r2 => ?_)
    replace r2 : Sh S h42 := r2
    refine EQ_if Iff.rfl (fun c3 => ?_) (fun c3 => ?_)
    · exact EQ_some r2
    · exact (eX5_growAct_j321_133 a1 a2 a3 a4 a5 a6 a7 a8 a9 r2)
  · refine EQ_jb (eX5_growAct_l227 a1 a2 a3 a4 a5 a6 a7 a8 a9 0 hS) (fun o44 r4 => ?_)
    refine EQ_jm r4 (fun o46 r5 => ?_) (fun o47 r6 => ?_)
    · exact EQ_some r5
    · exact (eX5_growAct_j321_133 a1 a2 a3 a4 a5 a6 a7 a8 a9 r6)
noncomputable def gX5_growAct_b133 (i1 : Int) (i2 : Int) (i3 : Int) (i4 : Int) (i5 : Int) (i6 : Int) (i7 : Int) (i8 : Int) (s : Int × AH) : Option ((Int × AH) ⊕ ((AH) ⊕ ((AH) ⊕ ((AH))))) := jt2 s fun a9 h => if h 307 0 ≤ a9 then (some (.inr (.inr (.inr h)))) else (jg (jI a9 121) <| if w32 (w32 (i8 - i6) + 2) < h 309 a9 then (some (.inr (.inr (.inr h)))) else (jb (gX1_kindOf i5 1 h) fun v35 => if h 308 a9 = v35 then (if i6 = 2 then (if h 309 a9 = i8 then (gX5_growAct_j200_133 i1 i2 i3 i4 i5 i6 i7 i8 a9 h) else (gX5_growAct_j321_133 i1 i2 i3 i4 i5 i6 i7 i8 a9 h)) else (gX5_growAct_j200_133 i1 i2 i3 i4 i5 i6 i7 i8 a9 h)) else (gX5_growAct_j321_133 i1 i2 i3 i4 i5 i6 i7 i8 a9 h)))
theorem eX5_growAct_b133 (i1 : Int) (i2 : Int) (i3 : Int) (i4 : Int) (i5 : Int) (i6 : Int) (i7 : Int) (i8 : Int) {s : Int × AH} (hS : (fun r => Sh S r.2) s) : EQ (fX5_growAct_b133 307 i1 i2 i3 i4 i5 i6 i7 i8 s) (gX5_growAct_b133 i1 i2 i3 i4 i5 i6 i7 i8 s) (Sum.elim (fun r => Sh S r.2) (Sum.elim (fun r => Sh S r) (Sum.elim (fun r => Sh S r) (fun r => Sh S r)))) := by
  unfold fX5_growAct_b133 gX5_growAct_b133
  obtain ⟨a9, h⟩ := s
  refine EQ_jt2 ?_
  replace hS : Sh S h := hS
  refine EQ_jgd (show h 307 (-2) = 6 from by rw [k_307 hS]) ?_
  refine EQ_if Iff.rfl (fun c1 => ?_) (fun c1 => ?_)
  · exact EQ_some hS
  · refine EQ_jgd (show h 307 (-2) = 6 from by rw [k_307 hS]) ?_
    refine EQ_jg ⟨fun ⟨_, x0⟩ => (show jI a9 (h (h 307 2) (-1)) ↔ jI a9 121 from by rw [r_307_2 hS, l_309 hS]).mp x0, fun x0 => ⟨(show h (h 307 2) (-2) = 101 from by rw [r_307_2 hS, k_309 hS]), (show jI a9 (h (h 307 2) (-1)) ↔ jI a9 121 from by rw [r_307_2 hS, l_309 hS]).mpr x0⟩⟩ (fun g2 => ?_)
    refine EQ_if (show w32 (w32 (i8 - i6) + 2) < h (h 307 2) a9 ↔ w32 (w32 (i8 - i6) + 2) < h 309 a9 from by rw [r_307_2 hS]) (fun c3 => ?_) (fun c3 => ?_)
    · exact EQ_some hS
    · refine EQ_jgd (show h 307 (-2) = 6 from by rw [k_307 hS]) ?_
      refine EQ_jgd ⟨(show h (h 307 1) (-2) = 101 from by rw [r_307_1 hS, k_308 hS]), ((show jI a9 (h (h 307 1) (-1)) ↔ jI a9 121 from by rw [r_307_1 hS, l_308 hS]).mpr g2)⟩ ?_
      refine EQ_jgd (show h 307 (-2) = 6 from by rw [k_307 hS]) ?_
      refine EQ_jgd (show h (h 307 22) (-2) = 2 from by rw [r_307_22 hS, k_200 hS]) ?_
      refine EQ_jb (by rw [r_307_22 hS]; exact eX1_kindOf i5 1 hS) (fun v35 r4 => ?_)
      refine EQ_if (show h (h 307 1) a9 = v35 ↔ h 308 a9 = v35 from by rw [r_307_1 hS]) (fun c5 => ?_) (fun c5 => ?_)
      · refine EQ_if Iff.rfl (fun c6 => ?_) (fun c6 => ?_)
        · refine EQ_jgd (show h 307 (-2) = 6 from by rw [k_307 hS]) ?_
          refine EQ_jgd ⟨(show h (h 307 2) (-2) = 101 from by rw [r_307_2 hS, k_309 hS]), ((show jI a9 (h (h 307 2) (-1)) ↔ jI a9 121 from by rw [r_307_2 hS, l_309 hS]).mpr g2)⟩ ?_
          refine EQ_if (show h (h 307 2) a9 = i8 ↔ h 309 a9 = i8 from by rw [r_307_2 hS]) (fun c7 => ?_) (fun c7 => ?_)
          · exact (eX5_growAct_j200_133 i1 i2 i3 i4 i5 i6 i7 i8 a9 hS)
          · exact (eX5_growAct_j321_133 i1 i2 i3 i4 i5 i6 i7 i8 a9 hS)
        · exact (eX5_growAct_j200_133 i1 i2 i3 i4 i5 i6 i7 i8 a9 hS)
      · exact (eX5_growAct_j321_133 i1 i2 i3 i4 i5 i6 i7 i8 a9 hS)
noncomputable def gX5_growAct_l133 (i1 : Int) (i2 : Int) (i3 : Int) (i4 : Int) (i5 : Int) (i6 : Int) (i7 : Int) (i8 : Int) (a9 : Int) (h : AH) : Option ((AH) ⊕ ((AH) ⊕ ((AH)))) := jit (gX5_growAct_b133 i1 i2 i3 i4 i5 i6 i7 i8) (a9, h)
theorem eX5_growAct_l133 (i1 : Int) (i2 : Int) (i3 : Int) (i4 : Int) (i5 : Int) (i6 : Int) (i7 : Int) (i8 : Int) (a9 : Int) {h : AH} (hS : Sh S h) : EQ (fX5_growAct_l133 307 i1 i2 i3 i4 i5 i6 i7 i8 a9 h) (gX5_growAct_l133 i1 i2 i3 i4 i5 i6 i7 i8 a9 h) (Sum.elim (fun r => Sh S r) (Sum.elim (fun r => Sh S r) (fun r => Sh S r))) := EQ_jit (I := (fun r => Sh S r.2)) (fun s hs => eX5_growAct_b133 i1 i2 i3 i4 i5 i6 i7 i8 hs) hS
noncomputable def gX5_growAct_j95_28 (a1 : Int) (a2 : Int) (a3 : Int) (a4 : Int) (a5 : Int) (a6 : Int) (a7 : Int) (h : AH) : Option ((Int × AH) ⊕ ((AH) ⊕ ((AH) ⊕ ((AH) ⊕ ((AH)))))) := if a6 = 1 then (jb2 (gX5_makes a1 a2 a3 a7 (-1) (-1) h) fun v21 h22 => if v21 = (-1) then (some (.inr (.inl h22))) else (gX5_growAct_j327_28 a1 a2 a3 a4 a5 a6 a7 h22)) else (jg (jI a7 121) <| jl (w32 (a4 - h 309 a7)) fun x24 => jb (gX5_growAct_l133 a1 a2 a3 a4 a5 a6 a7 x24 0 h) fun o25 => jm o25 (fun o27 => some (.inr (.inr (.inl o27)))) (fun o28 => jm o28 (fun o29 => some (.inr (.inr (.inr (.inl o29))))) (fun o30 => gX5_growAct_j327_28 a1 a2 a3 a4 a5 a6 a7 o30)))
theorem eX5_growAct_j95_28 (a1 : Int) (a2 : Int) (a3 : Int) (a4 : Int) (a5 : Int) (a6 : Int) (a7 : Int) {h : AH} (hS : Sh S h) : EQ (fX5_growAct_j95_28 307 a1 a2 a3 a4 a5 a6 a7 h) (gX5_growAct_j95_28 a1 a2 a3 a4 a5 a6 a7 h) (Sum.elim (fun r => Sh S r.2) (Sum.elim (fun r => Sh S r) (Sum.elim (fun r => Sh S r) (Sum.elim (fun r => Sh S r) (fun r => Sh S r))))) := by
  unfold fX5_growAct_j95_28 gX5_growAct_j95_28
  refine EQ_if Iff.rfl (fun c1 => ?_) (fun c1 => ?_)
  · refine EQ_jgd (show h 307 (-2) = 6 from by rw [k_307 hS]) ?_
    refine EQ_jb2 (eX5_makes a1 a2 a3 a7 (-1) (-1) hS) (fun v21 h22 r2 => ?_)
    replace r2 : Sh S h22 := r2
    refine EQ_if Iff.rfl (fun c3 => ?_) (fun c3 => ?_)
    · exact EQ_some r2
    · exact (eX5_growAct_j327_28 a1 a2 a3 a4 a5 a6 a7 r2)
  · refine EQ_jgd (show h 307 (-2) = 6 from by rw [k_307 hS]) ?_
    refine EQ_jg ⟨fun ⟨_, x0⟩ => (show jI a7 (h (h 307 2) (-1)) ↔ jI a7 121 from by rw [r_307_2 hS, l_309 hS]).mp x0, fun x0 => ⟨(show h (h 307 2) (-2) = 101 from by rw [r_307_2 hS, k_309 hS]), (show jI a7 (h (h 307 2) (-1)) ↔ jI a7 121 from by rw [r_307_2 hS, l_309 hS]).mpr x0⟩⟩ (fun g4 => ?_)
    refine EQ_jl (by rw [r_307_2 hS]) (fun x24 ex24 => ?_)
    clear ex24
    refine EQ_jb (eX5_growAct_l133 a1 a2 a3 a4 a5 a6 a7 x24 0 hS) (fun o25 r5 => ?_)
    refine EQ_jm r5 (fun o27 r6 => ?_) (fun o28 r7 => ?_)
    · exact EQ_some r6
    · refine EQ_jm r7 (fun o29 r8 => ?_) (fun o30 r9 => ?_)
      · exact EQ_some r8
      · exact (eX5_growAct_j327_28 a1 a2 a3 a4 a5 a6 a7 r9)
noncomputable def gX5_growAct_b28 (i1 : Int) (i2 : Int) (i3 : Int) (i4 : Int) (i5 : Int) (i6 : Int) (s : Int × AH) : Option ((Int × AH) ⊕ ((AH) ⊕ ((AH) ⊕ ((AH) ⊕ ((AH)))))) := jt2 s fun a7 h => if h 307 0 ≤ a7 then (some (.inr (.inr (.inr (.inr h))))) else (jg (jI a7 121) <| if w32 (w32 (i4 - i6) + 1) < h 309 a7 then (some (.inr (.inr (.inr (.inr h))))) else (jb (gX1_kindOf i5 0 h) fun v15 => if h 308 a7 = v15 then (if i6 = 1 then (if h 309 a7 = i4 then (gX5_growAct_j95_28 i1 i2 i3 i4 i5 i6 a7 h) else (gX5_growAct_j327_28 i1 i2 i3 i4 i5 i6 a7 h)) else (gX5_growAct_j95_28 i1 i2 i3 i4 i5 i6 a7 h)) else (gX5_growAct_j327_28 i1 i2 i3 i4 i5 i6 a7 h)))
theorem eX5_growAct_b28 (i1 : Int) (i2 : Int) (i3 : Int) (i4 : Int) (i5 : Int) (i6 : Int) {s : Int × AH} (hS : (fun r => Sh S r.2) s) : EQ (fX5_growAct_b28 307 i1 i2 i3 i4 i5 i6 s) (gX5_growAct_b28 i1 i2 i3 i4 i5 i6 s) (Sum.elim (fun r => Sh S r.2) (Sum.elim (fun r => Sh S r) (Sum.elim (fun r => Sh S r) (Sum.elim (fun r => Sh S r) (fun r => Sh S r))))) := by
  unfold fX5_growAct_b28 gX5_growAct_b28
  obtain ⟨a7, h⟩ := s
  refine EQ_jt2 ?_
  replace hS : Sh S h := hS
  refine EQ_jgd (show h 307 (-2) = 6 from by rw [k_307 hS]) ?_
  refine EQ_if Iff.rfl (fun c1 => ?_) (fun c1 => ?_)
  · exact EQ_some hS
  · refine EQ_jgd (show h 307 (-2) = 6 from by rw [k_307 hS]) ?_
    refine EQ_jg ⟨fun ⟨_, x0⟩ => (show jI a7 (h (h 307 2) (-1)) ↔ jI a7 121 from by rw [r_307_2 hS, l_309 hS]).mp x0, fun x0 => ⟨(show h (h 307 2) (-2) = 101 from by rw [r_307_2 hS, k_309 hS]), (show jI a7 (h (h 307 2) (-1)) ↔ jI a7 121 from by rw [r_307_2 hS, l_309 hS]).mpr x0⟩⟩ (fun g2 => ?_)
    refine EQ_if (show w32 (w32 (i4 - i6) + 1) < h (h 307 2) a7 ↔ w32 (w32 (i4 - i6) + 1) < h 309 a7 from by rw [r_307_2 hS]) (fun c3 => ?_) (fun c3 => ?_)
    · exact EQ_some hS
    · refine EQ_jgd (show h 307 (-2) = 6 from by rw [k_307 hS]) ?_
      refine EQ_jgd ⟨(show h (h 307 1) (-2) = 101 from by rw [r_307_1 hS, k_308 hS]), ((show jI a7 (h (h 307 1) (-1)) ↔ jI a7 121 from by rw [r_307_1 hS, l_308 hS]).mpr g2)⟩ ?_
      refine EQ_jgd (show h 307 (-2) = 6 from by rw [k_307 hS]) ?_
      refine EQ_jgd (show h (h 307 22) (-2) = 2 from by rw [r_307_22 hS, k_200 hS]) ?_
      refine EQ_jb (by rw [r_307_22 hS]; exact eX1_kindOf i5 0 hS) (fun v15 r4 => ?_)
      refine EQ_if (show h (h 307 1) a7 = v15 ↔ h 308 a7 = v15 from by rw [r_307_1 hS]) (fun c5 => ?_) (fun c5 => ?_)
      · refine EQ_if Iff.rfl (fun c6 => ?_) (fun c6 => ?_)
        · refine EQ_jgd (show h 307 (-2) = 6 from by rw [k_307 hS]) ?_
          refine EQ_jgd ⟨(show h (h 307 2) (-2) = 101 from by rw [r_307_2 hS, k_309 hS]), ((show jI a7 (h (h 307 2) (-1)) ↔ jI a7 121 from by rw [r_307_2 hS, l_309 hS]).mpr g2)⟩ ?_
          refine EQ_if (show h (h 307 2) a7 = i4 ↔ h 309 a7 = i4 from by rw [r_307_2 hS]) (fun c7 => ?_) (fun c7 => ?_)
          · exact (eX5_growAct_j95_28 i1 i2 i3 i4 i5 i6 a7 hS)
          · exact (eX5_growAct_j327_28 i1 i2 i3 i4 i5 i6 a7 hS)
        · exact (eX5_growAct_j95_28 i1 i2 i3 i4 i5 i6 a7 hS)
      · exact (eX5_growAct_j327_28 i1 i2 i3 i4 i5 i6 a7 hS)
noncomputable def gX5_growAct_l28 (i1 : Int) (i2 : Int) (i3 : Int) (i4 : Int) (i5 : Int) (i6 : Int) (a7 : Int) (h : AH) : Option ((AH) ⊕ ((AH) ⊕ ((AH) ⊕ ((AH))))) := jit (gX5_growAct_b28 i1 i2 i3 i4 i5 i6) (a7, h)
theorem eX5_growAct_l28 (i1 : Int) (i2 : Int) (i3 : Int) (i4 : Int) (i5 : Int) (i6 : Int) (a7 : Int) {h : AH} (hS : Sh S h) : EQ (fX5_growAct_l28 307 i1 i2 i3 i4 i5 i6 a7 h) (gX5_growAct_l28 i1 i2 i3 i4 i5 i6 a7 h) (Sum.elim (fun r => Sh S r) (Sum.elim (fun r => Sh S r) (Sum.elim (fun r => Sh S r) (fun r => Sh S r)))) := EQ_jit (I := (fun r => Sh S r.2)) (fun s hs => eX5_growAct_b28 i1 i2 i3 i4 i5 i6 hs) hS
noncomputable def gX5_growAct (a1 : Int) (a2 : Int) (a3 : Int) (a4 : Int) (h : AH) : Option (Int × AH) := jg (jI a2 12) <| jl (h (h 200 16 + 2) a2) fun x1 => jb (gX1_operandsOf x1 h) fun v3 => jb (gX5_growAct_l28 a1 a2 a3 a4 x1 v3 0 h) fun o4 => jm o4 (fun o6 => some (0, o6)) (fun o7 => jm o7 (fun o8 => some (0, o8)) (fun o9 => jm o9 (fun o10 => some (0, o10)) (fun o11 => some (1, o11))))
theorem eX5_growAct (a1 : Int) (a2 : Int) (a3 : Int) (a4 : Int) {h : AH} (hS : Sh S h) : EQ (fX5_growAct 307 a1 a2 a3 a4 h) (gX5_growAct a1 a2 a3 a4 h) (fun r => Sh S r.2) := by
  unfold fX5_growAct gX5_growAct
  refine EQ_jgd (show h 307 (-2) = 6 from by rw [k_307 hS]) ?_
  refine EQ_jgd (show h (h 307 22) (-2) = 2 from by rw [r_307_22 hS, k_200 hS]) ?_
  refine EQ_jgd (show h (h (h 307 22) 16) (-2) = 5 from by rw [r_307_22 hS, kd_X4 hS (dy_200_16 hS)]) ?_
  refine EQ_jg ⟨fun ⟨_, x0⟩ => (show jI a2 (h (h (h (h 307 22) 16) 4) (-1)) ↔ jI a2 12 from by rw [r_307_22 hS, ft_X4_4 hS (dy_200_16 hS), la_X4_4 hS (dy_200_16 hS)]).mp x0, fun x0 => ⟨(show h (h (h (h 307 22) 16) 4) (-2) = 101 from by rw [r_307_22 hS, ft_X4_4 hS (dy_200_16 hS), ka_X4_4 hS (dy_200_16 hS)]), (show jI a2 (h (h (h (h 307 22) 16) 4) (-1)) ↔ jI a2 12 from by rw [r_307_22 hS, ft_X4_4 hS (dy_200_16 hS), la_X4_4 hS (dy_200_16 hS)]).mpr x0⟩⟩ (fun g1 => ?_)
  refine EQ_jl (by rw [r_307_22 hS, ft_X4_4 hS (dy_200_16 hS)]) (fun x1 ex1 => ?_)
  clear ex1
  refine EQ_jgd (show h 307 (-2) = 6 from by rw [k_307 hS]) ?_
  refine EQ_jgd (show h (h 307 22) (-2) = 2 from by rw [r_307_22 hS, k_200 hS]) ?_
  refine EQ_jb (by rw [r_307_22 hS]; exact eX1_operandsOf x1 hS) (fun v3 r2 => ?_)
  refine EQ_jb (eX5_growAct_l28 a1 a2 a3 a4 x1 v3 0 hS) (fun o4 r3 => ?_)
  refine EQ_jm r3 (fun o6 r4 => ?_) (fun o7 r5 => ?_)
  · exact EQ_some r4
  · refine EQ_jm r5 (fun o8 r6 => ?_) (fun o9 r7 => ?_)
    · exact EQ_some r6
    · refine EQ_jm r7 (fun o10 r8 => ?_) (fun o11 r9 => ?_)
      · exact EQ_some r8
      · exact EQ_some r9
noncomputable def gX5_growOnce_j243_90 (a1 : Int) (a2 : Int) (h : AH) : Option ((Int × AH) ⊕ ((AH) ⊕ ((AH) ⊕ ((AH))))) := jl (w32 (a2 + 1)) fun x27 => some (.inl (x27, h))
theorem eX5_growOnce_j243_90 (a1 : Int) (a2 : Int) {h : AH} (hS : Sh S h) : EQ (fX5_growOnce_j243_90 307 a1 a2 h) (gX5_growOnce_j243_90 a1 a2 h) (Sum.elim (fun r => Sh S r.2) (Sum.elim (fun r => Sh S r) (Sum.elim (fun r => Sh S r) (fun r => Sh S r)))) := by
  unfold fX5_growOnce_j243_90 gX5_growOnce_j243_90
  refine EQ_jl rfl (fun x27 ex27 => ?_)
  clear ex27
  exact EQ_some hS
noncomputable def gX5_growOnce_b168 (i1 : Int) (i2 : Int) (i3 : Int) (s : Int × AH) : Option ((Int × AH) ⊕ (AH)) := jt2 s fun a5 h => jb (gX5_points h) fun v29 => if v29 ≤ a5 then (some (.inr h)) else (jg (jI i2 12) <| jg (jI a5 256) <| jl (jst h 320 a5 (h (h 200 16 + 4) i2)) fun h31 => jl (w32 (a5 + 1)) fun x32 => some (.inl (x32, h31)))
theorem eX5_growOnce_b168 (i1 : Int) (i2 : Int) (i3 : Int) {s : Int × AH} (hS : (fun r => Sh S r.2) s) : EQ (fX5_growOnce_b168 307 i1 i2 i3 s) (gX5_growOnce_b168 i1 i2 i3 s) (Sum.elim (fun r => Sh S r.2) (fun r => Sh S r)) := by
  unfold fX5_growOnce_b168 gX5_growOnce_b168
  obtain ⟨a5, h⟩ := s
  refine EQ_jt2 ?_
  replace hS : Sh S h := hS
  refine EQ_jgd (show h 307 (-2) = 6 from by rw [k_307 hS]) ?_
  refine EQ_jb (eX5_points hS) (fun v29 r1 => ?_)
  refine EQ_if Iff.rfl (fun c2 => ?_) (fun c2 => ?_)
  · exact EQ_some hS
  · refine EQ_jgd (show h 307 (-2) = 6 from by rw [k_307 hS]) ?_
    refine EQ_jgd (show h 307 (-2) = 6 from by rw [k_307 hS]) ?_
    refine EQ_jgd (show h (h 307 22) (-2) = 2 from by rw [r_307_22 hS, k_200 hS]) ?_
    refine EQ_jgd (show h (h (h 307 22) 16) (-2) = 5 from by rw [r_307_22 hS, kd_X4 hS (dy_200_16 hS)]) ?_
    refine EQ_jg ⟨fun ⟨_, x0⟩ => (show jI i2 (h (h (h (h 307 22) 16) 6) (-1)) ↔ jI i2 12 from by rw [r_307_22 hS, ft_X4_6 hS (dy_200_16 hS), la_X4_6 hS (dy_200_16 hS)]).mp x0, fun x0 => ⟨(show h (h (h (h 307 22) 16) 6) (-2) = 101 from by rw [r_307_22 hS, ft_X4_6 hS (dy_200_16 hS), ka_X4_6 hS (dy_200_16 hS)]), (show jI i2 (h (h (h (h 307 22) 16) 6) (-1)) ↔ jI i2 12 from by rw [r_307_22 hS, ft_X4_6 hS (dy_200_16 hS), la_X4_6 hS (dy_200_16 hS)]).mpr x0⟩⟩ (fun g3 => ?_)
    refine EQ_jg ⟨fun ⟨_, _, x0⟩ => (show jI a5 (h (h 307 15) (-1)) ↔ jI a5 256 from by rw [r_307_15 hS, l_320 hS]).mp x0, fun x0 => ⟨(show h (h 307 15) (-2) = 101 from by rw [r_307_15 hS, k_320 hS]), (show 200 ≤ h 307 15 from by rw [r_307_15 hS]; exact (by decide)), (show jI a5 (h (h 307 15) (-1)) ↔ jI a5 256 from by rw [r_307_15 hS, l_320 hS]).mpr x0⟩⟩ (fun g4 => ?_)
    refine EQ_jl (by rw [r_307_15 hS, r_307_22 hS, ft_X4_6 hS (dy_200_16 hS)]) (fun h31 eh31 => ?_)
    have s5 := Sh_of eh31 (Sh_sta hS (by decide +kernel) (jI_nn g4) (fun e => absurd ((k_320 hS).symm.trans e) (by decide)))
    clear eh31
    refine EQ_jl rfl (fun x32 ex32 => ?_)
    clear ex32
    exact EQ_some s5
noncomputable def gX5_growOnce_l168 (i1 : Int) (i2 : Int) (i3 : Int) (a5 : Int) (h : AH) : Option (AH) := jit (gX5_growOnce_b168 i1 i2 i3) (a5, h)
theorem eX5_growOnce_l168 (i1 : Int) (i2 : Int) (i3 : Int) (a5 : Int) {h : AH} (hS : Sh S h) : EQ (fX5_growOnce_l168 307 i1 i2 i3 a5 h) (gX5_growOnce_l168 i1 i2 i3 a5 h) (fun r => Sh S r) := EQ_jit (I := (fun r => Sh S r.2)) (fun s hs => eX5_growOnce_b168 i1 i2 i3 hs) hS
noncomputable def gX5_growOnce_b90 (i1 : Int) (s : Int × AH) : Option ((Int × AH) ⊕ ((AH) ⊕ ((AH) ⊕ ((AH))))) := jt2 s fun a2 h => if h (h 200 16) 3 ≤ a2 then (some (.inr (.inr (.inr h)))) else (jl (w32 (h (h 200 16) 1 + a2)) fun x12 => jg (jI a2 12) <| jl (w32 (i1 - h (h 200 16 + 5) a2)) fun x13 => if 0 ≤ x13 then (if h (h 200 16 + 2) a2 = (-1) then (if x13 ≤ 0 then (jb (gX5_growOnce_l168 i1 a2 x12 0 h) fun o17 => jb2 (gX5_place (o17 (o17 200 16 + 3) a2) i1 x12 (-1) (-1) (-1) o17) fun v20 h21 => if v20 = (-1) then (some (.inr (.inl h21))) else (gX5_growOnce_j243_90 i1 a2 h21)) else (gX5_growOnce_j243_90 i1 a2 h)) else (jb2 (gX5_growAct i1 a2 x12 x13 h) fun v24 h25 => if v24 = 0 then (some (.inr (.inr (.inl h25)))) else (gX5_growOnce_j243_90 i1 a2 h25))) else (gX5_growOnce_j243_90 i1 a2 h))
theorem eX5_growOnce_b90 (i1 : Int) {s : Int × AH} (hS : (fun r => Sh S r.2) s) : EQ (fX5_growOnce_b90 307 i1 s) (gX5_growOnce_b90 i1 s) (Sum.elim (fun r => Sh S r.2) (Sum.elim (fun r => Sh S r) (Sum.elim (fun r => Sh S r) (fun r => Sh S r)))) := by
  unfold fX5_growOnce_b90 gX5_growOnce_b90
  obtain ⟨a2, h⟩ := s
  refine EQ_jt2 ?_
  replace hS : Sh S h := hS
  refine EQ_jgd (show h 307 (-2) = 6 from by rw [k_307 hS]) ?_
  refine EQ_jgd (show h (h 307 22) (-2) = 2 from by rw [r_307_22 hS, k_200 hS]) ?_
  refine EQ_jgd (show h (h (h 307 22) 16) (-2) = 5 from by rw [r_307_22 hS, kd_X4 hS (dy_200_16 hS)]) ?_
  refine EQ_if (show h (h (h 307 22) 16) 3 ≤ a2 ↔ h (h 200 16) 3 ≤ a2 from by rw [r_307_22 hS]) (fun c1 => ?_) (fun c1 => ?_)
  · exact EQ_some hS
  · refine EQ_jgd (show h 307 (-2) = 6 from by rw [k_307 hS]) ?_
    refine EQ_jgd (show h (h 307 22) (-2) = 2 from by rw [r_307_22 hS, k_200 hS]) ?_
    refine EQ_jgd (show h (h (h 307 22) 16) (-2) = 5 from by rw [r_307_22 hS, kd_X4 hS (dy_200_16 hS)]) ?_
    refine EQ_jl (by rw [r_307_22 hS]) (fun x12 ex12 => ?_)
    clear ex12
    refine EQ_jgd (show h 307 (-2) = 6 from by rw [k_307 hS]) ?_
    refine EQ_jgd (show h (h 307 22) (-2) = 2 from by rw [r_307_22 hS, k_200 hS]) ?_
    refine EQ_jgd (show h (h (h 307 22) 16) (-2) = 5 from by rw [r_307_22 hS, kd_X4 hS (dy_200_16 hS)]) ?_
    refine EQ_jg ⟨fun ⟨_, x0⟩ => (show jI a2 (h (h (h (h 307 22) 16) 7) (-1)) ↔ jI a2 12 from by rw [r_307_22 hS, ft_X4_7 hS (dy_200_16 hS), la_X4_7 hS (dy_200_16 hS)]).mp x0, fun x0 => ⟨(show h (h (h (h 307 22) 16) 7) (-2) = 101 from by rw [r_307_22 hS, ft_X4_7 hS (dy_200_16 hS), ka_X4_7 hS (dy_200_16 hS)]), (show jI a2 (h (h (h (h 307 22) 16) 7) (-1)) ↔ jI a2 12 from by rw [r_307_22 hS, ft_X4_7 hS (dy_200_16 hS), la_X4_7 hS (dy_200_16 hS)]).mpr x0⟩⟩ (fun g2 => ?_)
    refine EQ_jl (by rw [r_307_22 hS, ft_X4_7 hS (dy_200_16 hS)]) (fun x13 ex13 => ?_)
    clear ex13
    refine EQ_if Iff.rfl (fun c3 => ?_) (fun c3 => ?_)
    · refine EQ_jgd (show h 307 (-2) = 6 from by rw [k_307 hS]) ?_
      refine EQ_jgd (show h (h 307 22) (-2) = 2 from by rw [r_307_22 hS, k_200 hS]) ?_
      refine EQ_jgd (show h (h (h 307 22) 16) (-2) = 5 from by rw [r_307_22 hS, kd_X4 hS (dy_200_16 hS)]) ?_
      refine EQ_jgd ⟨(show h (h (h (h 307 22) 16) 4) (-2) = 101 from by rw [r_307_22 hS, ft_X4_4 hS (dy_200_16 hS), ka_X4_4 hS (dy_200_16 hS)]), ((show jI a2 (h (h (h (h 307 22) 16) 4) (-1)) ↔ jI a2 12 from by rw [r_307_22 hS, ft_X4_4 hS (dy_200_16 hS), la_X4_4 hS (dy_200_16 hS)]).mpr g2)⟩ ?_
      refine EQ_if (show h (h (h (h 307 22) 16) 4) a2 = (-1) ↔ h (h 200 16 + 2) a2 = (-1) from by rw [r_307_22 hS, ft_X4_4 hS (dy_200_16 hS)]) (fun c4 => ?_) (fun c4 => ?_)
      · refine EQ_if Iff.rfl (fun c5 => ?_) (fun c5 => ?_)
        · refine EQ_jb (eX5_growOnce_l168 i1 a2 x12 0 hS) (fun o17 r6 => ?_)
          refine EQ_jgd (show o17 307 (-2) = 6 from by rw [k_307 r6]) ?_
          refine EQ_jgd (show o17 (o17 307 22) (-2) = 2 from by rw [r_307_22 r6, k_200 r6]) ?_
          refine EQ_jgd (show o17 (o17 (o17 307 22) 16) (-2) = 5 from by rw [r_307_22 r6, kd_X4 r6 (dy_200_16 r6)]) ?_
          refine EQ_jgd ⟨(show o17 (o17 (o17 (o17 307 22) 16) 5) (-2) = 101 from by rw [r_307_22 r6, ft_X4_5 r6 (dy_200_16 r6), ka_X4_5 r6 (dy_200_16 r6)]), ((show jI a2 (o17 (o17 (o17 (o17 307 22) 16) 5) (-1)) ↔ jI a2 12 from by rw [r_307_22 r6, ft_X4_5 r6 (dy_200_16 r6), la_X4_5 r6 (dy_200_16 r6)]).mpr g2)⟩ ?_
          refine EQ_jgd (show o17 307 (-2) = 6 from by rw [k_307 r6]) ?_
          refine EQ_jb2 (by rw [r_307_22 r6, ft_X4_5 r6 (dy_200_16 r6)]; exact eX5_place (o17 (o17 200 16 + 3) a2) i1 x12 (-1) (-1) (-1) r6) (fun v20 h21 r7 => ?_)
          replace r7 : Sh S h21 := r7
          refine EQ_if Iff.rfl (fun c8 => ?_) (fun c8 => ?_)
          · exact EQ_some r7
          · exact (eX5_growOnce_j243_90 i1 a2 r7)
        · exact (eX5_growOnce_j243_90 i1 a2 hS)
      · refine EQ_jgd (show h 307 (-2) = 6 from by rw [k_307 hS]) ?_
        refine EQ_jb2 (eX5_growAct i1 a2 x12 x13 hS) (fun v24 h25 r9 => ?_)
        replace r9 : Sh S h25 := r9
        refine EQ_if Iff.rfl (fun c10 => ?_) (fun c10 => ?_)
        · exact EQ_some r9
        · exact (eX5_growOnce_j243_90 i1 a2 r9)
    · exact (eX5_growOnce_j243_90 i1 a2 hS)
noncomputable def gX5_growOnce_l90 (i1 : Int) (a2 : Int) (h : AH) : Option ((AH) ⊕ ((AH) ⊕ ((AH)))) := jit (gX5_growOnce_b90 i1) (a2, h)
theorem eX5_growOnce_l90 (i1 : Int) (a2 : Int) {h : AH} (hS : Sh S h) : EQ (fX5_growOnce_l90 307 i1 a2 h) (gX5_growOnce_l90 i1 a2 h) (Sum.elim (fun r => Sh S r) (Sum.elim (fun r => Sh S r) (fun r => Sh S r))) := EQ_jit (I := (fun r => Sh S r.2)) (fun s hs => eX5_growOnce_b90 i1 hs) hS
noncomputable def gX5_growOnce_j88 (a1 : Int) (h : AH) : Option (Int × AH) := jb (gX5_growOnce_l90 a1 0 h) fun o5 => jm o5 (fun o7 => some (0, o7)) (fun o8 => jm o8 (fun o9 => some (0, o9)) (fun o10 => some (1, o10)))
theorem eX5_growOnce_j88 (a1 : Int) {h : AH} (hS : Sh S h) : EQ (fX5_growOnce_j88 307 a1 h) (gX5_growOnce_j88 a1 h) (fun r => Sh S r.2) := by
  unfold fX5_growOnce_j88 gX5_growOnce_j88
  refine EQ_jb (eX5_growOnce_l90 a1 0 hS) (fun o5 r1 => ?_)
  refine EQ_jm r1 (fun o7 r2 => ?_) (fun o8 r3 => ?_)
  · exact EQ_some r2
  · refine EQ_jm r3 (fun o9 r4 => ?_) (fun o10 r5 => ?_)
    · exact EQ_some r4
    · exact EQ_some r5
noncomputable def gX5_growOnce_b23 (i1 : Int) (i2 : Int) (s : Int × AH) : Option ((Int × AH) ⊕ (AH)) := jt2 s fun a3 h => jb (gX5_points h) fun v43 => if v43 ≤ a3 then (some (.inr h)) else (jb (gX4_valueAt (h 200 16) a3 i2 h) fun v46 => jg (jI a3 256) <| jl (jst h 320 a3 v46) fun h47 => jl (w32 (a3 + 1)) fun x48 => some (.inl (x48, h47)))
theorem eX5_growOnce_b23 (i1 : Int) (i2 : Int) {s : Int × AH} (hS : (fun r => Sh S r.2) s) : EQ (fX5_growOnce_b23 307 i1 i2 s) (gX5_growOnce_b23 i1 i2 s) (Sum.elim (fun r => Sh S r.2) (fun r => Sh S r)) := by
  unfold fX5_growOnce_b23 gX5_growOnce_b23
  obtain ⟨a3, h⟩ := s
  refine EQ_jt2 ?_
  replace hS : Sh S h := hS
  refine EQ_jgd (show h 307 (-2) = 6 from by rw [k_307 hS]) ?_
  refine EQ_jb (eX5_points hS) (fun v43 r1 => ?_)
  refine EQ_if Iff.rfl (fun c2 => ?_) (fun c2 => ?_)
  · exact EQ_some hS
  · refine EQ_jgd (show h 307 (-2) = 6 from by rw [k_307 hS]) ?_
    refine EQ_jgd (show h 307 (-2) = 6 from by rw [k_307 hS]) ?_
    refine EQ_jgd (show h (h 307 22) (-2) = 2 from by rw [r_307_22 hS, k_200 hS]) ?_
    refine EQ_jgd (show h (h (h 307 22) 16) (-2) = 5 from by rw [r_307_22 hS, kd_X4 hS (dy_200_16 hS)]) ?_
    refine EQ_jb (by rw [r_307_22 hS]; exact eX4_valueAt (h 200 16) a3 i2 (dy_200_16 hS) hS) (fun v46 r3 => ?_)
    refine EQ_jg ⟨fun ⟨_, _, x0⟩ => (show jI a3 (h (h 307 15) (-1)) ↔ jI a3 256 from by rw [r_307_15 hS, l_320 hS]).mp x0, fun x0 => ⟨(show h (h 307 15) (-2) = 101 from by rw [r_307_15 hS, k_320 hS]), (show 200 ≤ h 307 15 from by rw [r_307_15 hS]; exact (by decide)), (show jI a3 (h (h 307 15) (-1)) ↔ jI a3 256 from by rw [r_307_15 hS, l_320 hS]).mpr x0⟩⟩ (fun g4 => ?_)
    refine EQ_jl (by rw [r_307_15 hS]) (fun h47 eh47 => ?_)
    have s5 := Sh_of eh47 (Sh_sta hS (by decide +kernel) (jI_nn g4) (fun e => absurd ((k_320 hS).symm.trans e) (by decide)))
    clear eh47
    refine EQ_jl rfl (fun x48 ex48 => ?_)
    clear ex48
    exact EQ_some s5
noncomputable def gX5_growOnce_l23 (i1 : Int) (i2 : Int) (a3 : Int) (h : AH) : Option (AH) := jit (gX5_growOnce_b23 i1 i2) (a3, h)
theorem eX5_growOnce_l23 (i1 : Int) (i2 : Int) (a3 : Int) {h : AH} (hS : Sh S h) : EQ (fX5_growOnce_l23 307 i1 i2 a3 h) (gX5_growOnce_l23 i1 i2 a3 h) (fun r => Sh S r) := EQ_jit (I := (fun r => Sh S r.2)) (fun s hs => eX5_growOnce_b23 i1 i2 hs) hS
noncomputable def gX5_growOnce_b2 (i1 : Int) (s : Int × AH) : Option ((Int × AH) ⊕ ((AH) ⊕ (AH))) := jt2 s fun a2 h => if h (h 200 16) 1 ≤ a2 then (some (.inr (.inr h))) else (if i1 = 1 then (jb (gX5_growOnce_l23 i1 a2 0 h) fun o35 => jg (jI a2 3) <| jb2 (gX5_place (o35 (o35 200 16 + 1) a2) 1 a2 (-1) (-1) (-1) o35) fun v38 h39 => if v38 = (-1) then (some (.inr (.inl h39))) else (jl (w32 (a2 + 1)) fun x41 => some (.inl (x41, h39)))) else (some (.inr (.inr h))))
theorem eX5_growOnce_b2 (i1 : Int) {s : Int × AH} (hS : (fun r => Sh S r.2) s) : EQ (fX5_growOnce_b2 307 i1 s) (gX5_growOnce_b2 i1 s) (Sum.elim (fun r => Sh S r.2) (Sum.elim (fun r => Sh S r) (fun r => Sh S r))) := by
  unfold fX5_growOnce_b2 gX5_growOnce_b2
  obtain ⟨a2, h⟩ := s
  refine EQ_jt2 ?_
  replace hS : Sh S h := hS
  refine EQ_jgd (show h 307 (-2) = 6 from by rw [k_307 hS]) ?_
  refine EQ_jgd (show h (h 307 22) (-2) = 2 from by rw [r_307_22 hS, k_200 hS]) ?_
  refine EQ_jgd (show h (h (h 307 22) 16) (-2) = 5 from by rw [r_307_22 hS, kd_X4 hS (dy_200_16 hS)]) ?_
  refine EQ_if (show h (h (h 307 22) 16) 1 ≤ a2 ↔ h (h 200 16) 1 ≤ a2 from by rw [r_307_22 hS]) (fun c1 => ?_) (fun c1 => ?_)
  · exact EQ_some hS
  · refine EQ_if Iff.rfl (fun c2 => ?_) (fun c2 => ?_)
    · refine EQ_jb (eX5_growOnce_l23 i1 a2 0 hS) (fun o35 r3 => ?_)
      refine EQ_jgd (show o35 307 (-2) = 6 from by rw [k_307 r3]) ?_
      refine EQ_jgd (show o35 (o35 307 22) (-2) = 2 from by rw [r_307_22 r3, k_200 r3]) ?_
      refine EQ_jgd (show o35 (o35 (o35 307 22) 16) (-2) = 5 from by rw [r_307_22 r3, kd_X4 r3 (dy_200_16 r3)]) ?_
      refine EQ_jg ⟨fun ⟨_, x0⟩ => (show jI a2 (o35 (o35 (o35 (o35 307 22) 16) 0) (-1)) ↔ jI a2 3 from by rw [r_307_22 r3, ft_X4_0 r3 (dy_200_16 r3), la_X4_0 r3 (dy_200_16 r3)]).mp x0, fun x0 => ⟨(show o35 (o35 (o35 (o35 307 22) 16) 0) (-2) = 101 from by rw [r_307_22 r3, ft_X4_0 r3 (dy_200_16 r3), ka_X4_0 r3 (dy_200_16 r3)]), (show jI a2 (o35 (o35 (o35 (o35 307 22) 16) 0) (-1)) ↔ jI a2 3 from by rw [r_307_22 r3, ft_X4_0 r3 (dy_200_16 r3), la_X4_0 r3 (dy_200_16 r3)]).mpr x0⟩⟩ (fun g4 => ?_)
      refine EQ_jgd (show o35 307 (-2) = 6 from by rw [k_307 r3]) ?_
      refine EQ_jb2 (by rw [r_307_22 r3, ft_X4_0 r3 (dy_200_16 r3)]; exact eX5_place (o35 (o35 200 16 + 1) a2) 1 a2 (-1) (-1) (-1) r3) (fun v38 h39 r5 => ?_)
      replace r5 : Sh S h39 := r5
      refine EQ_if Iff.rfl (fun c6 => ?_) (fun c6 => ?_)
      · exact EQ_some r5
      · refine EQ_jl rfl (fun x41 ex41 => ?_)
        clear ex41
        exact EQ_some r5
    · exact EQ_some hS
noncomputable def gX5_growOnce_l2 (i1 : Int) (a2 : Int) (h : AH) : Option ((AH) ⊕ (AH)) := jit (gX5_growOnce_b2 i1) (a2, h)
theorem eX5_growOnce_l2 (i1 : Int) (a2 : Int) {h : AH} (hS : Sh S h) : EQ (fX5_growOnce_l2 307 i1 a2 h) (gX5_growOnce_l2 i1 a2 h) (Sum.elim (fun r => Sh S r) (fun r => Sh S r)) := EQ_jit (I := (fun r => Sh S r.2)) (fun s hs => eX5_growOnce_b2 i1 hs) hS
noncomputable def gX5_growOnce (a1 : Int) (h : AH) : Option (Int × AH) := jb (gX5_growOnce_l2 a1 0 h) fun o1 => jm o1 (fun o3 => some (0, o3)) (fun o4 => gX5_growOnce_j88 a1 o4)
theorem eX5_growOnce (a1 : Int) {h : AH} (hS : Sh S h) : EQ (fX5_growOnce 307 a1 h) (gX5_growOnce a1 h) (fun r => Sh S r.2) := by
  unfold fX5_growOnce gX5_growOnce
  refine EQ_jb (eX5_growOnce_l2 a1 0 hS) (fun o1 r1 => ?_)
  refine EQ_jm r1 (fun o3 r2 => ?_) (fun o4 r3 => ?_)
  · exact EQ_some r2
  · exact (eX5_growOnce_j88 a1 r3)
noncomputable def gX5_grow_j72 (a1 : Int) (h : AH) : Option (Int × AH) := if h 307 7 < a1 then (some (0, h)) else (some (1, h))
theorem eX5_grow_j72 (a1 : Int) {h : AH} (hS : Sh S h) : EQ (fX5_grow_j72 307 a1 h) (gX5_grow_j72 a1 h) (fun r => Sh S r.2) := by
  unfold fX5_grow_j72 gX5_grow_j72
  refine EQ_jgd (show h 307 (-2) = 6 from by rw [k_307 hS]) ?_
  refine EQ_if Iff.rfl (fun c1 => ?_) (fun c1 => ?_)
  · exact EQ_some hS
  · exact EQ_some hS
noncomputable def gX5_grow_j32_0 (a1 : Int) (h : AH) : Option ((AH) ⊕ ((Int × AH) ⊕ (AH))) := jl (w32 (h 307 7 + 1)) fun x14 => jb2 (gX5_growOnce x14 h) fun v16 h17 => if v16 = 0 then (some (.inr (.inl (x14, h17)))) else (jg (jI x14 13) <| jl (jst h17 314 x14 (h17 307 0)) fun h19 => jl (jst h19 307 7 x14) fun h20 => some (.inl h20))
theorem eX5_grow_j32_0 (a1 : Int) {h : AH} (hS : Sh S h) : EQ (fX5_grow_j32_0 307 a1 h) (gX5_grow_j32_0 a1 h) (Sum.elim (fun r => Sh S r) (Sum.elim (fun r => Sh S r.2) (fun r => Sh S r))) := by
  unfold fX5_grow_j32_0 gX5_grow_j32_0
  refine EQ_jgd (show h 307 (-2) = 6 from by rw [k_307 hS]) ?_
  refine EQ_jl rfl (fun x14 ex14 => ?_)
  clear ex14
  refine EQ_jgd (show h 307 (-2) = 6 from by rw [k_307 hS]) ?_
  refine EQ_jb2 (eX5_growOnce x14 hS) (fun v16 h17 r1 => ?_)
  replace r1 : Sh S h17 := r1
  refine EQ_if Iff.rfl (fun c2 => ?_) (fun c2 => ?_)
  · exact EQ_some r1
  · refine EQ_jgd (show h17 307 (-2) = 6 from by rw [k_307 r1]) ?_
    refine EQ_jgd (show h17 307 (-2) = 6 from by rw [k_307 r1]) ?_
    refine EQ_jg ⟨fun ⟨_, _, x0⟩ => (show jI x14 (h17 (h17 307 9) (-1)) ↔ jI x14 13 from by rw [r_307_9 r1, l_314 r1]).mp x0, fun x0 => ⟨(show h17 (h17 307 9) (-2) = 101 from by rw [r_307_9 r1, k_314 r1]), (show 200 ≤ h17 307 9 from by rw [r_307_9 r1]; exact (by decide)), (show jI x14 (h17 (h17 307 9) (-1)) ↔ jI x14 13 from by rw [r_307_9 r1, l_314 r1]).mpr x0⟩⟩ (fun g3 => ?_)
    refine EQ_jl (by rw [r_307_9 r1]) (fun h19 eh19 => ?_)
    have s4 := Sh_of eh19 (Sh_sta r1 (by decide +kernel) (jI_nn g3) (fun e => absurd ((k_314 r1).symm.trans e) (by decide)))
    clear eh19
    refine EQ_jgd ⟨(show h19 307 (-2) = 6 from by rw [k_307 s4]), (show (200 : Int) ≤ 307 from (by decide))⟩ ?_
    refine EQ_jl rfl (fun h20 eh20 => ?_)
    have s5 := Sh_of eh20 (Sh_sto s4 (a := 307) (i := 7) (by decide +kernel))
    clear eh20
    exact EQ_some s5
noncomputable def gX5_grow_b0 (i1 : Int) (h : AH) : Option ((AH) ⊕ ((Int × AH) ⊕ (AH))) := if i1 ≤ h 307 7 then (some (.inr (.inr h))) else (if h 307 8 ≤ w32 (h 307 7 + 1) then (some (.inr (.inr h))) else (if h 307 7 = 0 then (jb (gX5_begin h) fun h13 => gX5_grow_j32_0 i1 h13) else (gX5_grow_j32_0 i1 h)))
theorem eX5_grow_b0 (i1 : Int) {h : AH} (hS : Sh S h) : EQ (fX5_grow_b0 307 i1 h) (gX5_grow_b0 i1 h) (Sum.elim (fun r => Sh S r) (Sum.elim (fun r => Sh S r.2) (fun r => Sh S r))) := by
  unfold fX5_grow_b0 gX5_grow_b0
  refine EQ_jgd (show h 307 (-2) = 6 from by rw [k_307 hS]) ?_
  refine EQ_if Iff.rfl (fun c1 => ?_) (fun c1 => ?_)
  · exact EQ_some hS
  · refine EQ_jgd (show h 307 (-2) = 6 from by rw [k_307 hS]) ?_
    refine EQ_jgd (show h 307 (-2) = 6 from by rw [k_307 hS]) ?_
    refine EQ_if Iff.rfl (fun c2 => ?_) (fun c2 => ?_)
    · exact EQ_some hS
    · refine EQ_jgd (show h 307 (-2) = 6 from by rw [k_307 hS]) ?_
      refine EQ_if Iff.rfl (fun c3 => ?_) (fun c3 => ?_)
      · refine EQ_jgd (show h 307 (-2) = 6 from by rw [k_307 hS]) ?_
        refine EQ_jb (eX5_begin hS) (fun h13 r4 => ?_)
        exact (eX5_grow_j32_0 i1 r4)
      · exact (eX5_grow_j32_0 i1 hS)
noncomputable def gX5_grow_l0 (i1 : Int) (h : AH) : Option ((Int × AH) ⊕ (AH)) := jit (gX5_grow_b0 i1) h
theorem eX5_grow_l0 (i1 : Int) {h : AH} (hS : Sh S h) : EQ (fX5_grow_l0 307 i1 h) (gX5_grow_l0 i1 h) (Sum.elim (fun r => Sh S r.2) (fun r => Sh S r)) := EQ_jit (I := (fun r => Sh S r)) (fun s hs => eX5_grow_b0 i1 hs) hS
noncomputable def gX5_grow (a1 : Int) (h : AH) : Option (Int × AH) := jb (gX5_grow_l0 a1 h) fun o1 => jm o1 (fun o3 => jt2 o3 fun y5 h6 => jl (jst h6 307 8 y5) fun h7 => some (0, h7)) (fun o4 => gX5_grow_j72 a1 o4)
theorem eX5_grow (a1 : Int) {h : AH} (hS : Sh S h) : EQ (fX5_grow 307 a1 h) (gX5_grow a1 h) (fun r => Sh S r.2) := by
  unfold fX5_grow gX5_grow
  refine EQ_jb (eX5_grow_l0 a1 hS) (fun o1 r1 => ?_)
  refine EQ_jm r1 (fun o3 r2 => ?_) (fun o4 r3 => ?_)
  · obtain ⟨y5, h6⟩ := o3
    refine EQ_jt2 ?_
    replace r2 : Sh S h6 := r2
    refine EQ_jgd ⟨(show h6 307 (-2) = 6 from by rw [k_307 r2]), (show (200 : Int) ≤ 307 from (by decide))⟩ ?_
    refine EQ_jl rfl (fun h7 eh7 => ?_)
    have s4 := Sh_of eh7 (Sh_sto r2 (a := 307) (i := 8) (by decide +kernel))
    clear eh7
    exact EQ_some s4
  · exact (eX5_grow_j72 a1 r3)
noncomputable def gX1_known (a1 : Int) (h : AH) : Option (Int × AH) := if h 200 53 = 0 then (jb (gX1_isIn a1 1 12) fun v3 => if v3 = 0 then (some ((-1), h)) else (if h (h 200 16) 19 = 0 then (some ((-2), h)) else (jb2 (gX5_grow a1 h) fun v7 h8 => if v7 = 0 then (some ((-3), h8)) else (some (0, h8))))) else (some ((-5), h))
theorem eX1_known (a1 : Int) {h : AH} (hS : Sh S h) : EQ (fX1_known 200 a1 h) (gX1_known a1 h) (fun r => Sh S r.2) := by
  unfold fX1_known gX1_known
  refine EQ_jgd (show h 200 (-2) = 2 from by rw [k_200 hS]) ?_
  refine EQ_if Iff.rfl (fun c1 => ?_) (fun c1 => ?_)
  · refine EQ_jb (eX1_isIn a1 1 12) (fun v3 r2 => ?_)
    refine EQ_if Iff.rfl (fun c3 => ?_) (fun c3 => ?_)
    · exact EQ_some hS
    · refine EQ_jgd (show h 200 (-2) = 2 from by rw [k_200 hS]) ?_
      refine EQ_jgd (show h (h 200 16) (-2) = 5 from by rw [kd_X4 hS (dy_200_16 hS)]) ?_
      refine EQ_if Iff.rfl (fun c4 => ?_) (fun c4 => ?_)
      · exact EQ_some hS
      · refine EQ_jgd (show h 200 (-2) = 2 from by rw [k_200 hS]) ?_
        refine EQ_jgd (show h (h 200 18) (-2) = 6 from by rw [r_200_18 hS, k_307 hS]) ?_
        refine EQ_jb2 (by rw [r_200_18 hS]; exact eX5_grow a1 hS) (fun v7 h8 r5 => ?_)
        replace r5 : Sh S h8 := r5
        refine EQ_if Iff.rfl (fun c6 => ?_) (fun c6 => ?_)
        · exact EQ_some r5
        · exact EQ_some r5
  · exact EQ_some hS
noncomputable def gX4_pointOfRow (a0 : Int) (a1 : Int) (h : AH) : Option (Int) := if h a0 17 = 0 then (some a1) else (jb (gX4_pointOf a0 (a0 + 6) (w32 (3 * a1)) h) fun v3 => some v3)
theorem eX4_pointOfRow (a0 : Int) (a1 : Int) (hT_a0 : isX4 a0) {h : AH} (hS : Sh S h) : EQ (fX4_pointOfRow a0 a1 h) (gX4_pointOfRow a0 a1 h) (fun _ => True) := by
  unfold fX4_pointOfRow gX4_pointOfRow
  refine EQ_jgd (show h a0 (-2) = 5 from by rw [kd_X4 hS hT_a0]) ?_
  refine EQ_if Iff.rfl (fun c1 => ?_) (fun c1 => ?_)
  · exact EQ_some trivial
  · refine EQ_jgd (show h a0 (-2) = 5 from by rw [kd_X4 hS hT_a0]) ?_
    refine EQ_jgd (show h a0 (-2) = 5 from by rw [kd_X4 hS hT_a0]) ?_
    refine EQ_jb (by rw [ft_X4_9 hS hT_a0]; exact eX4_pointOf a0 (a0 + 6) (w32 (3 * a1)) hT_a0 hS) (fun v3 r2 => ?_)
    exact EQ_some trivial
noncomputable def gX1_side (a1 : Int) (a2 : Int) (a3 : Int) (h : AH) : Option (Int × AH) := jl (jst h 269 0 a2) fun h1 => jl (jst h1 269 1 a3) fun h2 => jl (jst h2 200 9 2) fun h3 => jb2 (gX1_work (h3 200 16 + 12) a1 0 h3) fun v5 h6 => jl (jst h6 200 9 0) fun h7 => some (v5, h7)
theorem eX1_side (a1 : Int) (a2 : Int) (a3 : Int) {h : AH} (hS : Sh S h) : EQ (fX1_side 200 a1 a2 a3 h) (gX1_side a1 a2 a3 h) (fun r => Sh S r.2) := by
  unfold fX1_side gX1_side
  refine EQ_jgd (show h 200 (-2) = 2 from by rw [k_200 hS]) ?_
  refine EQ_jgd ⟨(show h (h 200 8) (-2) = 101 from by rw [r_200_8 hS, k_269 hS]), (show 200 ≤ h 200 8 from by rw [r_200_8 hS]; exact (by decide)), (show jI 0 (h (h 200 8) (-1)) from by rw [r_200_8 hS, l_269 hS]; unfold jI; decide)⟩ ?_
  refine EQ_jl (by rw [r_200_8 hS]) (fun h1 eh1 => ?_)
  have s1 := Sh_of eh1 (Sh_sta hS (by decide +kernel) (by decide) (fun e => absurd ((k_269 hS).symm.trans e) (by decide)))
  clear eh1
  refine EQ_jgd (show h1 200 (-2) = 2 from by rw [k_200 s1]) ?_
  refine EQ_jgd ⟨(show h1 (h1 200 8) (-2) = 101 from by rw [r_200_8 s1, k_269 s1]), (show 200 ≤ h1 200 8 from by rw [r_200_8 s1]; exact (by decide)), (show jI 1 (h1 (h1 200 8) (-1)) from by rw [r_200_8 s1, l_269 s1]; unfold jI; decide)⟩ ?_
  refine EQ_jl (by rw [r_200_8 s1]) (fun h2 eh2 => ?_)
  have s2 := Sh_of eh2 (Sh_sta s1 (by decide +kernel) (by decide) (fun e => absurd ((k_269 s1).symm.trans e) (by decide)))
  clear eh2
  refine EQ_jgd ⟨(show h2 200 (-2) = 2 from by rw [k_200 s2]), (show (200 : Int) ≤ 200 from (by decide))⟩ ?_
  refine EQ_jl rfl (fun h3 eh3 => ?_)
  have s3 := Sh_of eh3 (Sh_sto s2 (a := 200) (i := 9) (by decide +kernel))
  clear eh3
  refine EQ_jgd (show h3 200 (-2) = 2 from by rw [k_200 s3]) ?_
  refine EQ_jgd (show h3 (h3 200 16) (-2) = 5 from by rw [kd_X4 s3 (dy_200_16 s3)]) ?_
  refine EQ_jgd (show h3 200 (-2) = 2 from by rw [k_200 s3]) ?_
  refine EQ_jb2 (by rw [ft_X4_16 s3 (dy_200_16 s3)]; exact eX1_work (h3 200 16 + 12) a1 0 s3) (fun v5 h6 r4 => ?_)
  replace r4 : Sh S h6 := r4
  refine EQ_jgd ⟨(show h6 200 (-2) = 2 from by rw [k_200 r4]), (show (200 : Int) ≤ 200 from (by decide))⟩ ?_
  refine EQ_jl rfl (fun h7 eh7 => ?_)
  have s5 := Sh_of eh7 (Sh_sto r4 (a := 200) (i := 9) (by decide +kernel))
  clear eh7
  exact EQ_some s5
noncomputable def gX1_holds_b64 (i1 : Int) (i3 : Int) (i4 : Int) (i5 : Int) (s : Int × AH) : Option ((Int × AH) ⊕ ((AH) ⊕ (AH))) := jt2 s fun a6 h => if i4 ≤ a6 then (some (.inr (.inr h))) else (jg (jI i1 4) <| jb2 (gX1_side (h (h 200 16 + 8) i1) i5 a6 h) fun v19 h20 => jb2 (gX1_side (h20 (h20 200 16 + 9) i1) i5 a6 h20) fun v22 h23 => if v19 = v22 then (jl (w32 (a6 + 1)) fun x25 => some (.inl (x25, h23))) else (some (.inr (.inl h23))))
theorem eX1_holds_b64 (i1 : Int) (i3 : Int) (i4 : Int) (i5 : Int) {s : Int × AH} (hS : (fun r => Sh S r.2) s) : EQ (fX1_holds_b64 200 i1 i3 i4 i5 s) (gX1_holds_b64 i1 i3 i4 i5 s) (Sum.elim (fun r => Sh S r.2) (Sum.elim (fun r => Sh S r) (fun r => Sh S r))) := by
  unfold fX1_holds_b64 gX1_holds_b64
  obtain ⟨a6, h⟩ := s
  refine EQ_jt2 ?_
  replace hS : Sh S h := hS
  refine EQ_if Iff.rfl (fun c1 => ?_) (fun c1 => ?_)
  · exact EQ_some hS
  · refine EQ_jgd (show h 200 (-2) = 2 from by rw [k_200 hS]) ?_
    refine EQ_jgd (show h (h 200 16) (-2) = 5 from by rw [kd_X4 hS (dy_200_16 hS)]) ?_
    refine EQ_jg ⟨fun ⟨_, x0⟩ => (show jI i1 (h (h (h 200 16) 12) (-1)) ↔ jI i1 4 from by rw [ft_X4_12 hS (dy_200_16 hS), la_X4_12 hS (dy_200_16 hS)]).mp x0, fun x0 => ⟨(show h (h (h 200 16) 12) (-2) = 101 from by rw [ft_X4_12 hS (dy_200_16 hS), ka_X4_12 hS (dy_200_16 hS)]), (show jI i1 (h (h (h 200 16) 12) (-1)) ↔ jI i1 4 from by rw [ft_X4_12 hS (dy_200_16 hS), la_X4_12 hS (dy_200_16 hS)]).mpr x0⟩⟩ (fun g2 => ?_)
    refine EQ_jgd (show h 200 (-2) = 2 from by rw [k_200 hS]) ?_
    refine EQ_jb2 (by rw [ft_X4_12 hS (dy_200_16 hS)]; exact eX1_side (h (h 200 16 + 8) i1) i5 a6 hS) (fun v19 h20 r3 => ?_)
    replace r3 : Sh S h20 := r3
    refine EQ_jgd (show h20 200 (-2) = 2 from by rw [k_200 r3]) ?_
    refine EQ_jgd (show h20 (h20 200 16) (-2) = 5 from by rw [kd_X4 r3 (dy_200_16 r3)]) ?_
    refine EQ_jgd ⟨(show h20 (h20 (h20 200 16) 13) (-2) = 101 from by rw [ft_X4_13 r3 (dy_200_16 r3), ka_X4_13 r3 (dy_200_16 r3)]), ((show jI i1 (h20 (h20 (h20 200 16) 13) (-1)) ↔ jI i1 4 from by rw [ft_X4_13 r3 (dy_200_16 r3), la_X4_13 r3 (dy_200_16 r3)]).mpr g2)⟩ ?_
    refine EQ_jgd (show h20 200 (-2) = 2 from by rw [k_200 r3]) ?_
    refine EQ_jb2 (by rw [ft_X4_13 r3 (dy_200_16 r3)]; exact eX1_side (h20 (h20 200 16 + 9) i1) i5 a6 r3) (fun v22 h23 r4 => ?_)
    replace r4 : Sh S h23 := r4
    refine EQ_if Iff.rfl (fun c5 => ?_) (fun c5 => ?_)
    · refine EQ_jl rfl (fun x25 ex25 => ?_)
      clear ex25
      exact EQ_some r4
    · exact EQ_some r4
noncomputable def gX1_holds_l64 (i1 : Int) (i3 : Int) (i4 : Int) (i5 : Int) (a6 : Int) (h : AH) : Option ((AH) ⊕ (AH)) := jit (gX1_holds_b64 i1 i3 i4 i5) (a6, h)
theorem eX1_holds_l64 (i1 : Int) (i3 : Int) (i4 : Int) (i5 : Int) (a6 : Int) {h : AH} (hS : Sh S h) : EQ (fX1_holds_l64 200 i1 i3 i4 i5 a6 h) (gX1_holds_l64 i1 i3 i4 i5 a6 h) (Sum.elim (fun r => Sh S r) (fun r => Sh S r)) := EQ_jit (I := (fun r => Sh S r.2)) (fun s hs => eX1_holds_b64 i1 i3 i4 i5 hs) hS
noncomputable def gX1_holds_b55 (i1 : Int) (i3 : Int) (i4 : Int) (s : Int × AH) : Option ((Int × AH) ⊕ ((AH) ⊕ (AH))) := jt2 s fun a5 h => if i3 ≤ a5 then (some (.inr (.inr h))) else (jb (gX1_holds_l64 i1 i3 i4 a5 0 h) fun o12 => jm o12 (fun o14 => some (.inr (.inl o14))) (fun o15 => jl (w32 (a5 + 1)) fun x16 => some (.inl (x16, o15))))
theorem eX1_holds_b55 (i1 : Int) (i3 : Int) (i4 : Int) {s : Int × AH} (hS : (fun r => Sh S r.2) s) : EQ (fX1_holds_b55 200 i1 i3 i4 s) (gX1_holds_b55 i1 i3 i4 s) (Sum.elim (fun r => Sh S r.2) (Sum.elim (fun r => Sh S r) (fun r => Sh S r))) := by
  unfold fX1_holds_b55 gX1_holds_b55
  obtain ⟨a5, h⟩ := s
  refine EQ_jt2 ?_
  replace hS : Sh S h := hS
  refine EQ_if Iff.rfl (fun c1 => ?_) (fun c1 => ?_)
  · exact EQ_some hS
  · refine EQ_jb (eX1_holds_l64 i1 i3 i4 a5 0 hS) (fun o12 r2 => ?_)
    refine EQ_jm r2 (fun o14 r3 => ?_) (fun o15 r4 => ?_)
    · exact EQ_some r3
    · refine EQ_jl rfl (fun x16 ex16 => ?_)
      clear ex16
      exact EQ_some r4
noncomputable def gX1_holds_l55 (i1 : Int) (i3 : Int) (i4 : Int) (a5 : Int) (h : AH) : Option ((AH) ⊕ (AH)) := jit (gX1_holds_b55 i1 i3 i4) (a5, h)
theorem eX1_holds_l55 (i1 : Int) (i3 : Int) (i4 : Int) (a5 : Int) {h : AH} (hS : Sh S h) : EQ (fX1_holds_l55 200 i1 i3 i4 a5 h) (gX1_holds_l55 i1 i3 i4 a5 h) (Sum.elim (fun r => Sh S r) (fun r => Sh S r)) := EQ_jit (I := (fun r => Sh S r.2)) (fun s hs => eX1_holds_b55 i1 i3 i4 hs) hS
noncomputable def gX1_holds_j50 (a1 : Int) (a3 : Int) (t0 : Int) (h : AH) : Option (Int × AH) := jb (gX1_holds_l55 a1 a3 t0 0 h) fun o7 => jm o7 (fun o9 => some (0, o9)) (fun o10 => some (1, o10))
theorem eX1_holds_j50 (a1 : Int) (a3 : Int) (t0 : Int) {h : AH} (hS : Sh S h) : EQ (fX1_holds_j50 200 a1 a3 t0 h) (gX1_holds_j50 a1 a3 t0 h) (fun r => Sh S r.2) := by
  unfold fX1_holds_j50 gX1_holds_j50
  refine EQ_jb (eX1_holds_l55 a1 a3 t0 0 hS) (fun o7 r1 => ?_)
  refine EQ_jm r1 (fun o9 r2 => ?_) (fun o10 r3 => ?_)
  · exact EQ_some r2
  · exact EQ_some r3
noncomputable def gX1_holds (a1 : Int) (h : AH) : Option (Int × AH) := jg (jI a1 4) <| jl (h (h 200 16 + 10) a1) fun x1 => jg (jI (w32 (2 * a1)) 8) <| jb (gX4_valuesOf (h (h 200 16 + 11) (w32 (2 * a1)))) fun v3 => if x1 ≤ 1 then (gX1_holds_j50 a1 v3 1 h) else (jg (jI (w32 (w32 (2 * a1) + 1)) 8) <| jb (gX4_valuesOf (h (h 200 16 + 11) (w32 (w32 (2 * a1) + 1)))) fun v6 => gX1_holds_j50 a1 v3 v6 h)
theorem eX1_holds (a1 : Int) {h : AH} (hS : Sh S h) : EQ (fX1_holds 200 a1 h) (gX1_holds a1 h) (fun r => Sh S r.2) := by
  unfold fX1_holds gX1_holds
  refine EQ_jgd (show h 200 (-2) = 2 from by rw [k_200 hS]) ?_
  refine EQ_jgd (show h (h 200 16) (-2) = 5 from by rw [kd_X4 hS (dy_200_16 hS)]) ?_
  refine EQ_jg ⟨fun ⟨_, x0⟩ => (show jI a1 (h (h (h 200 16) 14) (-1)) ↔ jI a1 4 from by rw [ft_X4_14 hS (dy_200_16 hS), la_X4_14 hS (dy_200_16 hS)]).mp x0, fun x0 => ⟨(show h (h (h 200 16) 14) (-2) = 101 from by rw [ft_X4_14 hS (dy_200_16 hS), ka_X4_14 hS (dy_200_16 hS)]), (show jI a1 (h (h (h 200 16) 14) (-1)) ↔ jI a1 4 from by rw [ft_X4_14 hS (dy_200_16 hS), la_X4_14 hS (dy_200_16 hS)]).mpr x0⟩⟩ (fun g1 => ?_)
  refine EQ_jl (by rw [ft_X4_14 hS (dy_200_16 hS)]) (fun x1 ex1 => ?_)
  clear ex1
  refine EQ_jgd (show h 200 (-2) = 2 from by rw [k_200 hS]) ?_
  refine EQ_jgd (show h (h 200 16) (-2) = 5 from by rw [kd_X4 hS (dy_200_16 hS)]) ?_
  refine EQ_jg ⟨fun ⟨_, x0⟩ => (show jI (w32 (2 * a1)) (h (h (h 200 16) 15) (-1)) ↔ jI (w32 (2 * a1)) 8 from by rw [ft_X4_15 hS (dy_200_16 hS), la_X4_15 hS (dy_200_16 hS)]).mp x0, fun x0 => ⟨(show h (h (h 200 16) 15) (-2) = 101 from by rw [ft_X4_15 hS (dy_200_16 hS), ka_X4_15 hS (dy_200_16 hS)]), (show jI (w32 (2 * a1)) (h (h (h 200 16) 15) (-1)) ↔ jI (w32 (2 * a1)) 8 from by rw [ft_X4_15 hS (dy_200_16 hS), la_X4_15 hS (dy_200_16 hS)]).mpr x0⟩⟩ (fun g2 => ?_)
  refine EQ_jb (by rw [ft_X4_15 hS (dy_200_16 hS)]; exact eX4_valuesOf (h (h 200 16 + 11) (w32 (2 * a1)))) (fun v3 r3 => ?_)
  refine EQ_if Iff.rfl (fun c4 => ?_) (fun c4 => ?_)
  · exact (eX1_holds_j50 a1 v3 1 hS)
  · refine EQ_jgd (show h 200 (-2) = 2 from by rw [k_200 hS]) ?_
    refine EQ_jgd (show h (h 200 16) (-2) = 5 from by rw [kd_X4 hS (dy_200_16 hS)]) ?_
    refine EQ_jg ⟨fun ⟨_, x0⟩ => (show jI (w32 (w32 (2 * a1) + 1)) (h (h (h 200 16) 15) (-1)) ↔ jI (w32 (w32 (2 * a1) + 1)) 8 from by rw [ft_X4_15 hS (dy_200_16 hS), la_X4_15 hS (dy_200_16 hS)]).mp x0, fun x0 => ⟨(show h (h (h 200 16) 15) (-2) = 101 from by rw [ft_X4_15 hS (dy_200_16 hS), ka_X4_15 hS (dy_200_16 hS)]), (show jI (w32 (w32 (2 * a1) + 1)) (h (h (h 200 16) 15) (-1)) ↔ jI (w32 (w32 (2 * a1) + 1)) 8 from by rw [ft_X4_15 hS (dy_200_16 hS), la_X4_15 hS (dy_200_16 hS)]).mpr x0⟩⟩ (fun g5 => ?_)
    refine EQ_jb (by rw [ft_X4_15 hS (dy_200_16 hS)]; exact eX4_valuesOf (h (h 200 16 + 11) (w32 (w32 (2 * a1) + 1)))) (fun v6 r6 => ?_)
    exact (eX1_holds_j50 a1 v3 v6 hS)
noncomputable def gX1_meet_b2 (i1 : Int) (i2 : Int) (h : AH) (a3 : Int) : Option ((Int) ⊕ ((Unit) ⊕ (Unit))) := if h (h 200 16) 8 ≤ a3 then (some (.inr (.inr ()))) else (jb (gX4_pointOfRow (h 200 16) a3 h) fun v13 => jg (h i1 (-2) = 101 ∧ jI (w32 (i2 + v13)) (h i1 (-1))) <| jg (jI a3 12) <| if h i1 (w32 (i2 + v13)) = h (h 200 16 + 7) a3 then (jl (w32 (a3 + 1)) fun x15 => some (.inl x15)) else (some (.inr (.inl ()))))
theorem eX1_meet_b2 (i1 : Int) (i2 : Int) (a3 : Int) {h : AH} (hS : Sh S h) : EQ (fX1_meet_b2 200 i1 i2 h a3) (gX1_meet_b2 i1 i2 h a3) (Sum.elim (fun _ => True) (Sum.elim (fun _ => True) (fun _ => True))) := by
  unfold fX1_meet_b2 gX1_meet_b2
  refine EQ_jgd (show h 200 (-2) = 2 from by rw [k_200 hS]) ?_
  refine EQ_jgd (show h (h 200 16) (-2) = 5 from by rw [kd_X4 hS (dy_200_16 hS)]) ?_
  refine EQ_if Iff.rfl (fun c1 => ?_) (fun c1 => ?_)
  · exact EQ_some trivial
  · refine EQ_jgd (show h 200 (-2) = 2 from by rw [k_200 hS]) ?_
    refine EQ_jgd (show h (h 200 16) (-2) = 5 from by rw [kd_X4 hS (dy_200_16 hS)]) ?_
    refine EQ_jb (eX4_pointOfRow (h 200 16) a3 (dy_200_16 hS) hS) (fun v13 r2 => ?_)
    refine EQ_jg Iff.rfl (fun g3 => ?_)
    refine EQ_jgd (show h 200 (-2) = 2 from by rw [k_200 hS]) ?_
    refine EQ_jgd (show h (h 200 16) (-2) = 5 from by rw [kd_X4 hS (dy_200_16 hS)]) ?_
    refine EQ_jg ⟨fun ⟨_, x0⟩ => (show jI a3 (h (h (h 200 16) 10) (-1)) ↔ jI a3 12 from by rw [ft_X4_10 hS (dy_200_16 hS), la_X4_10 hS (dy_200_16 hS)]).mp x0, fun x0 => ⟨(show h (h (h 200 16) 10) (-2) = 101 from by rw [ft_X4_10 hS (dy_200_16 hS), ka_X4_10 hS (dy_200_16 hS)]), (show jI a3 (h (h (h 200 16) 10) (-1)) ↔ jI a3 12 from by rw [ft_X4_10 hS (dy_200_16 hS), la_X4_10 hS (dy_200_16 hS)]).mpr x0⟩⟩ (fun g4 => ?_)
    refine EQ_if (show h i1 (w32 (i2 + v13)) = h (h (h 200 16) 10) a3 ↔ h i1 (w32 (i2 + v13)) = h (h 200 16 + 7) a3 from by rw [ft_X4_10 hS (dy_200_16 hS)]) (fun c5 => ?_) (fun c5 => ?_)
    · refine EQ_jl rfl (fun x15 ex15 => ?_)
      clear ex15
      exact EQ_some trivial
    · exact EQ_some trivial
noncomputable def gX1_meet_l2 (i1 : Int) (i2 : Int) (a3 : Int) (h : AH) : Option ((Unit) ⊕ (Unit)) := jit (gX1_meet_b2 i1 i2 h) a3
theorem eX1_meet_l2 (i1 : Int) (i2 : Int) (a3 : Int) {h : AH} (hS : Sh S h) : EQ (fX1_meet_l2 200 i1 i2 a3 h) (gX1_meet_l2 i1 i2 a3 h) (Sum.elim (fun _ => True) (fun _ => True)) := EQ_jit (I := (fun _ => True)) (fun s _ => eX1_meet_b2 i1 i2 s hS) trivial
noncomputable def gX1_meet_b60 (s : Int × Int × AH) : Option ((Int × Int × AH) ⊕ (Int × AH)) := jt3 s fun a3 a4 h => if h (h 200 16) 11 ≤ a4 then (some (.inr (a3, h))) else (if a3 = 0 then (some (.inr (a3, h))) else (jb2 (gX1_holds a4 h) fun v19 h20 => jl (w32 (a4 + 1)) fun x21 => some (.inl (v19, x21, h20))))
theorem eX1_meet_b60 {s : Int × Int × AH} (hS : (fun r => Sh S r.2.2) s) : EQ (fX1_meet_b60 200 s) (gX1_meet_b60 s) (Sum.elim (fun r => Sh S r.2.2) (fun r => Sh S r.2)) := by
  unfold fX1_meet_b60 gX1_meet_b60
  obtain ⟨a3, a4, h⟩ := s
  refine EQ_jt3 ?_
  replace hS : Sh S h := hS
  refine EQ_jgd (show h 200 (-2) = 2 from by rw [k_200 hS]) ?_
  refine EQ_jgd (show h (h 200 16) (-2) = 5 from by rw [kd_X4 hS (dy_200_16 hS)]) ?_
  refine EQ_if Iff.rfl (fun c1 => ?_) (fun c1 => ?_)
  · exact EQ_some hS
  · refine EQ_if Iff.rfl (fun c2 => ?_) (fun c2 => ?_)
    · exact EQ_some hS
    · refine EQ_jgd (show h 200 (-2) = 2 from by rw [k_200 hS]) ?_
      refine EQ_jb2 (eX1_holds a4 hS) (fun v19 h20 r3 => ?_)
      replace r3 : Sh S h20 := r3
      refine EQ_jl rfl (fun x21 ex21 => ?_)
      clear ex21
      exact EQ_some r3
noncomputable def gX1_meet_l60 (a3 : Int) (a4 : Int) (h : AH) : Option (Int × AH) := jit gX1_meet_b60 (a3, a4, h)
theorem eX1_meet_l60 (a3 : Int) (a4 : Int) {h : AH} (hS : Sh S h) : EQ (fX1_meet_l60 200 a3 a4 h) (gX1_meet_l60 a3 a4 h) (fun r => Sh S r.2) := EQ_jit (I := (fun r => Sh S r.2.2)) (fun s hs => eX1_meet_b60 hs) hS
noncomputable def gX1_meet (a1 : Int) (a2 : Int) (h : AH) : Option (Int × AH) := jb (gX1_meet_l2 a1 a2 0 h) fun o1 => jm o1 (fun o3 => some (0, h)) (fun o4 => jl (jst h 200 14 a1) fun h5 => jl (jst h5 200 15 a2) fun h6 => jb (gX1_meet_l60 1 0 h6) fun o7 => jt2 o7 fun y9 h10 => jg (jZ y9) <| some (y9, h10))
theorem eX1_meet (a1 : Int) (a2 : Int) {h : AH} (hS : Sh S h) : EQ (fX1_meet 200 a1 a2 h) (gX1_meet a1 a2 h) (fun r => Sh S r.2) := by
  unfold fX1_meet gX1_meet
  refine EQ_jb (eX1_meet_l2 a1 a2 0 hS) (fun o1 r1 => ?_)
  refine EQ_jm r1 (fun o3 r2 => ?_) (fun o4 r3 => ?_)
  · exact EQ_some hS
  · refine EQ_jgd ⟨(show h 200 (-2) = 2 from by rw [k_200 hS]), (show (200 : Int) ≤ 200 from (by decide))⟩ ?_
    refine EQ_jl rfl (fun h5 eh5 => ?_)
    have s4 := Sh_of eh5 (Sh_sto hS (a := 200) (i := 14) (by decide +kernel))
    clear eh5
    refine EQ_jgd ⟨(show h5 200 (-2) = 2 from by rw [k_200 s4]), (show (200 : Int) ≤ 200 from (by decide))⟩ ?_
    refine EQ_jl rfl (fun h6 eh6 => ?_)
    have s5 := Sh_of eh6 (Sh_sto s4 (a := 200) (i := 15) (by decide +kernel))
    clear eh6
    refine EQ_jb (eX1_meet_l60 1 0 s5) (fun o7 r6 => ?_)
    obtain ⟨y9, h10⟩ := o7
    refine EQ_jt2 ?_
    replace r6 : Sh S h10 := r6
    refine EQ_jg Iff.rfl (fun g7 => ?_)
    exact EQ_some r6
noncomputable def gX5_isMeeting_j58 (a1 : Int) (h : AH) : Option (Int × AH) := jg (jI a1 121) <| if h 315 a1 = 1 then (some (1, h)) else (some (0, h))
theorem eX5_isMeeting_j58 (a1 : Int) {h : AH} (hS : Sh S h) : EQ (fX5_isMeeting_j58 307 a1 h) (gX5_isMeeting_j58 a1 h) (fun r => Sh S r.2) := by
  unfold fX5_isMeeting_j58 gX5_isMeeting_j58
  refine EQ_jgd (show h 307 (-2) = 6 from by rw [k_307 hS]) ?_
  refine EQ_jg ⟨fun ⟨_, x0⟩ => (show jI a1 (h (h 307 10) (-1)) ↔ jI a1 121 from by rw [r_307_10 hS, l_315 hS]).mp x0, fun x0 => ⟨(show h (h 307 10) (-2) = 101 from by rw [r_307_10 hS, k_315 hS]), (show jI a1 (h (h 307 10) (-1)) ↔ jI a1 121 from by rw [r_307_10 hS, l_315 hS]).mpr x0⟩⟩ (fun g1 => ?_)
  refine EQ_if (show h (h 307 10) a1 = 1 ↔ h 315 a1 = 1 from by rw [r_307_10 hS]) (fun c2 => ?_) (fun c2 => ?_)
  · exact EQ_some hS
  · exact EQ_some hS
noncomputable def gX5_isMeeting (a1 : Int) (h : AH) : Option (Int × AH) := jg (jI a1 121) <| if 0 ≤ h 315 a1 then (gX5_isMeeting_j58 a1 h) else (if h 308 a1 = h (h 200 16) 2 then (jb2 (gX1_meet 312 (w32 (a1 * 256)) h) fun v4 h5 => if v4 = 0 then (jl (jst h5 315 a1 0) fun h7 => gX5_isMeeting_j58 a1 h7) else (jl (jst h5 315 a1 1) fun h8 => gX5_isMeeting_j58 a1 h8)) else (jl (jst h 315 a1 0) fun h9 => gX5_isMeeting_j58 a1 h9))
theorem eX5_isMeeting (a1 : Int) {h : AH} (hS : Sh S h) : EQ (fX5_isMeeting 307 a1 h) (gX5_isMeeting a1 h) (fun r => Sh S r.2) := by
  unfold fX5_isMeeting gX5_isMeeting
  refine EQ_jgd (show h 307 (-2) = 6 from by rw [k_307 hS]) ?_
  refine EQ_jg ⟨fun ⟨_, x0⟩ => (show jI a1 (h (h 307 10) (-1)) ↔ jI a1 121 from by rw [r_307_10 hS, l_315 hS]).mp x0, fun x0 => ⟨(show h (h 307 10) (-2) = 101 from by rw [r_307_10 hS, k_315 hS]), (show jI a1 (h (h 307 10) (-1)) ↔ jI a1 121 from by rw [r_307_10 hS, l_315 hS]).mpr x0⟩⟩ (fun g1 => ?_)
  refine EQ_if (show 0 ≤ h (h 307 10) a1 ↔ 0 ≤ h 315 a1 from by rw [r_307_10 hS]) (fun c2 => ?_) (fun c2 => ?_)
  · exact (eX5_isMeeting_j58 a1 hS)
  · refine EQ_jgd (show h 307 (-2) = 6 from by rw [k_307 hS]) ?_
    refine EQ_jgd (show h 307 (-2) = 6 from by rw [k_307 hS]) ?_
    refine EQ_jgd ⟨(show h (h 307 1) (-2) = 101 from by rw [r_307_1 hS, k_308 hS]), ((show jI a1 (h (h 307 1) (-1)) ↔ jI a1 121 from by rw [r_307_1 hS, l_308 hS]).mpr g1)⟩ ?_
    refine EQ_jgd (show h 307 (-2) = 6 from by rw [k_307 hS]) ?_
    refine EQ_jgd (show h (h 307 22) (-2) = 2 from by rw [r_307_22 hS, k_200 hS]) ?_
    refine EQ_jgd (show h (h (h 307 22) 16) (-2) = 5 from by rw [r_307_22 hS, kd_X4 hS (dy_200_16 hS)]) ?_
    refine EQ_if (show h (h 307 1) a1 = h (h (h 307 22) 16) 2 ↔ h 308 a1 = h (h 200 16) 2 from by rw [r_307_1 hS, r_307_22 hS]) (fun c3 => ?_) (fun c3 => ?_)
    · refine EQ_jgd (show h 307 (-2) = 6 from by rw [k_307 hS]) ?_
      refine EQ_jgd (show h 307 (-2) = 6 from by rw [k_307 hS]) ?_
      refine EQ_jgd (show h (h 307 22) (-2) = 2 from by rw [r_307_22 hS, k_200 hS]) ?_
      refine EQ_jb2 (by rw [r_307_22 hS, r_307_5 hS]; exact eX1_meet 312 (w32 (a1 * 256)) hS) (fun v4 h5 r4 => ?_)
      replace r4 : Sh S h5 := r4
      refine EQ_if Iff.rfl (fun c5 => ?_) (fun c5 => ?_)
      · refine EQ_jgd ⟨(show h5 (h 307 10) (-2) = 101 from by rw [r_307_10 hS, k_315 r4]), (show 200 ≤ h 307 10 from by rw [r_307_10 hS]; exact (by decide)), ((show jI a1 (h5 (h 307 10) (-1)) ↔ jI a1 121 from by rw [r_307_10 hS, l_315 r4]).mpr g1)⟩ ?_
        refine EQ_jl (by rw [r_307_10 hS]) (fun h7 eh7 => ?_)
        have s6 := Sh_of eh7 (Sh_sta r4 (by decide +kernel) (jI_nn g1) (fun e => absurd ((k_315 r4).symm.trans e) (by decide)))
        clear eh7
        exact (eX5_isMeeting_j58 a1 s6)
      · refine EQ_jgd ⟨(show h5 (h 307 10) (-2) = 101 from by rw [r_307_10 hS, k_315 r4]), (show 200 ≤ h 307 10 from by rw [r_307_10 hS]; exact (by decide)), ((show jI a1 (h5 (h 307 10) (-1)) ↔ jI a1 121 from by rw [r_307_10 hS, l_315 r4]).mpr g1)⟩ ?_
        refine EQ_jl (by rw [r_307_10 hS]) (fun h8 eh8 => ?_)
        have s7 := Sh_of eh8 (Sh_sta r4 (by decide +kernel) (jI_nn g1) (fun e => absurd ((k_315 r4).symm.trans e) (by decide)))
        clear eh8
        exact (eX5_isMeeting_j58 a1 s7)
    · refine EQ_jgd ⟨(show h (h 307 10) (-2) = 101 from by rw [r_307_10 hS, k_315 hS]), (show 200 ≤ h 307 10 from by rw [r_307_10 hS]; exact (by decide)), ((show jI a1 (h (h 307 10) (-1)) ↔ jI a1 121 from by rw [r_307_10 hS, l_315 hS]).mpr g1)⟩ ?_
      refine EQ_jl (by rw [r_307_10 hS]) (fun h9 eh9 => ?_)
      have s8 := Sh_of eh9 (Sh_sta hS (by decide +kernel) (jI_nn g1) (fun e => absurd ((k_315 hS).symm.trans e) (by decide)))
      clear eh9
      exact (eX5_isMeeting_j58 a1 s8)
noncomputable def gX5_first_b2 (i1 : Int) (s : Int × AH) : Option ((Int × AH) ⊕ ((Int × AH) ⊕ (AH))) := jt2 s fun a2 h => jg (jI i1 13) <| if h 314 i1 ≤ a2 then (some (.inr (.inr h))) else (jb2 (gX5_isMeeting a2 h) fun v9 h10 => if v9 = 0 then (jl (w32 (a2 + 1)) fun x12 => some (.inl (x12, h10))) else (some (.inr (.inl (a2, h10)))))
theorem eX5_first_b2 (i1 : Int) {s : Int × AH} (hS : (fun r => Sh S r.2) s) : EQ (fX5_first_b2 307 i1 s) (gX5_first_b2 i1 s) (Sum.elim (fun r => Sh S r.2) (Sum.elim (fun r => Sh S r.2) (fun r => Sh S r))) := by
  unfold fX5_first_b2 gX5_first_b2
  obtain ⟨a2, h⟩ := s
  refine EQ_jt2 ?_
  replace hS : Sh S h := hS
  refine EQ_jgd (show h 307 (-2) = 6 from by rw [k_307 hS]) ?_
  refine EQ_jg ⟨fun ⟨_, x0⟩ => (show jI i1 (h (h 307 9) (-1)) ↔ jI i1 13 from by rw [r_307_9 hS, l_314 hS]).mp x0, fun x0 => ⟨(show h (h 307 9) (-2) = 101 from by rw [r_307_9 hS, k_314 hS]), (show jI i1 (h (h 307 9) (-1)) ↔ jI i1 13 from by rw [r_307_9 hS, l_314 hS]).mpr x0⟩⟩ (fun g1 => ?_)
  refine EQ_if (show h (h 307 9) i1 ≤ a2 ↔ h 314 i1 ≤ a2 from by rw [r_307_9 hS]) (fun c2 => ?_) (fun c2 => ?_)
  · exact EQ_some hS
  · refine EQ_jgd (show h 307 (-2) = 6 from by rw [k_307 hS]) ?_
    refine EQ_jb2 (eX5_isMeeting a2 hS) (fun v9 h10 r3 => ?_)
    replace r3 : Sh S h10 := r3
    refine EQ_if Iff.rfl (fun c4 => ?_) (fun c4 => ?_)
    · refine EQ_jl rfl (fun x12 ex12 => ?_)
      clear ex12
      exact EQ_some r3
    · exact EQ_some r3
noncomputable def gX5_first_l2 (i1 : Int) (a2 : Int) (h : AH) : Option ((Int × AH) ⊕ (AH)) := jit (gX5_first_b2 i1) (a2, h)
theorem eX5_first_l2 (i1 : Int) (a2 : Int) {h : AH} (hS : Sh S h) : EQ (fX5_first_l2 307 i1 a2 h) (gX5_first_l2 i1 a2 h) (Sum.elim (fun r => Sh S r.2) (fun r => Sh S r)) := EQ_jit (I := (fun r => Sh S r.2)) (fun s hs => eX5_first_b2 i1 hs) hS
noncomputable def gX5_first (a1 : Int) (h : AH) : Option (Int × AH) := jb (gX5_first_l2 a1 0 h) fun o1 => jm o1 (fun o3 => jt2 o3 fun y5 h6 => some (y5, h6)) (fun o4 => some ((-1), o4))
theorem eX5_first (a1 : Int) {h : AH} (hS : Sh S h) : EQ (fX5_first 307 a1 h) (gX5_first a1 h) (fun r => Sh S r.2) := by
  unfold fX5_first gX5_first
  refine EQ_jb (eX5_first_l2 a1 0 hS) (fun o1 r1 => ?_)
  refine EQ_jm r1 (fun o3 r2 => ?_) (fun o4 r3 => ?_)
  · obtain ⟨y5, h6⟩ := o3
    refine EQ_jt2 ?_
    replace r2 : Sh S h6 := r2
    exact EQ_some r2
  · exact EQ_some r3
noncomputable def gX5_term_j166_122 (F : Int → AH → Option (Int × AH)) (a1 : Int) (a5 : Int) (a6 : Int) (h : AH) : Option ((Int × AH) ⊕ (AH)) := jl (w32 (a6 + 1)) fun x23 => some (.inl (x23, h))
theorem eX5_term_j166_122 {F0 : Int → Int → Int → AH → Option (Int × AH)} {F : Int → AH → Option (Int × AH)} (hF : ∀ (b_a1 : Int), ∀ {b_h : AH}, Sh S b_h → EQ (F0 307 b_a1 324 b_h) (F b_a1 b_h) (fun r => Sh S r.2)) (a1 : Int) (a5 : Int) (a6 : Int) {h : AH} (hS : Sh S h) : EQ (fX5_term_j166_122 F0 307 a1 324 a5 a6 h) (gX5_term_j166_122 F a1 a5 a6 h) (Sum.elim (fun r => Sh S r.2) (fun r => Sh S r)) := by
  unfold fX5_term_j166_122 gX5_term_j166_122
  refine EQ_jl rfl (fun x23 ex23 => ?_)
  clear ex23
  exact EQ_some hS
noncomputable def gX5_term_b122 (F : Int → AH → Option (Int × AH)) (i1 : Int) (i5 : Int) (s : Int × AH) : Option ((Int × AH) ⊕ (AH)) := jt2 s fun a6 h => if 3 ≤ a6 then (some (.inr h)) else (jg (jI (w32 (w32 (3 * i1) + a6)) 363) <| if h 311 (w32 (w32 (3 * i1) + a6)) < 0 then (gX5_term_j166_122 F i1 i5 a6 h) else (jb2 (F (h 311 (w32 (w32 (3 * i1) + a6))) h) fun v19 h20 => jb (gX3_join 324 i5 a6 v19 h20) fun h22 => gX5_term_j166_122 F i1 i5 a6 h22))
theorem eX5_term_b122 {F0 : Int → Int → Int → AH → Option (Int × AH)} {F : Int → AH → Option (Int × AH)} (hF : ∀ (b_a1 : Int), ∀ {b_h : AH}, Sh S b_h → EQ (F0 307 b_a1 324 b_h) (F b_a1 b_h) (fun r => Sh S r.2)) (i1 : Int) (i5 : Int) {s : Int × AH} (hS : (fun r => Sh S r.2) s) : EQ (fX5_term_b122 F0 307 i1 324 i5 s) (gX5_term_b122 F i1 i5 s) (Sum.elim (fun r => Sh S r.2) (fun r => Sh S r)) := by
  unfold fX5_term_b122 gX5_term_b122
  obtain ⟨a6, h⟩ := s
  refine EQ_jt2 ?_
  replace hS : Sh S h := hS
  refine EQ_if Iff.rfl (fun c1 => ?_) (fun c1 => ?_)
  · exact EQ_some hS
  · refine EQ_jgd (show h 307 (-2) = 6 from by rw [k_307 hS]) ?_
    refine EQ_jg ⟨fun ⟨_, x0⟩ => (show jI (w32 (w32 (3 * i1) + a6)) (h (h 307 4) (-1)) ↔ jI (w32 (w32 (3 * i1) + a6)) 363 from by rw [r_307_4 hS, l_311 hS]).mp x0, fun x0 => ⟨(show h (h 307 4) (-2) = 101 from by rw [r_307_4 hS, k_311 hS]), (show jI (w32 (w32 (3 * i1) + a6)) (h (h 307 4) (-1)) ↔ jI (w32 (w32 (3 * i1) + a6)) 363 from by rw [r_307_4 hS, l_311 hS]).mpr x0⟩⟩ (fun g2 => ?_)
    refine EQ_if (show h (h 307 4) (w32 (w32 (3 * i1) + a6)) < 0 ↔ h 311 (w32 (w32 (3 * i1) + a6)) < 0 from by rw [r_307_4 hS]) (fun c3 => ?_) (fun c3 => ?_)
    · exact (eX5_term_j166_122 hF i1 i5 a6 hS)
    · refine EQ_jgd (show h 307 (-2) = 6 from by rw [k_307 hS]) ?_
      refine EQ_jgd ⟨(show h (h 307 4) (-2) = 101 from by rw [r_307_4 hS, k_311 hS]), ((show jI (w32 (w32 (3 * i1) + a6)) (h (h 307 4) (-1)) ↔ jI (w32 (w32 (3 * i1) + a6)) 363 from by rw [r_307_4 hS, l_311 hS]).mpr g2)⟩ ?_
      refine EQ_jgd (show h 307 (-2) = 6 from by rw [k_307 hS]) ?_
      refine EQ_jb2 (by rw [r_307_4 hS]; exact hF (h 311 (w32 (w32 (3 * i1) + a6))) hS) (fun v19 h20 r4 => ?_)
      replace r4 : Sh S h20 := r4
      refine EQ_jgd (show h20 324 (-2) = 4 from by rw [k_324 r4]) ?_
      refine EQ_jb (eX3_join 324 i5 a6 v19 (by unfold isX3; decide) r4) (fun h22 r5 => ?_)
      exact (eX5_term_j166_122 hF i1 i5 a6 r5)
noncomputable def gX5_term_l122 (F : Int → AH → Option (Int × AH)) (i1 : Int) (i5 : Int) (a6 : Int) (h : AH) : Option (AH) := jit (gX5_term_b122 F i1 i5) (a6, h)
theorem eX5_term_l122 {F0 : Int → Int → Int → AH → Option (Int × AH)} {F : Int → AH → Option (Int × AH)} (hF : ∀ (b_a1 : Int), ∀ {b_h : AH}, Sh S b_h → EQ (F0 307 b_a1 324 b_h) (F b_a1 b_h) (fun r => Sh S r.2)) (i1 : Int) (i5 : Int) (a6 : Int) {h : AH} (hS : Sh S h) : EQ (fX5_term_l122 F0 307 i1 324 i5 a6 h) (gX5_term_l122 F i1 i5 a6 h) (fun r => Sh S r) := EQ_jit (I := (fun r => Sh S r.2)) (fun s hs => eX5_term_b122 hF i1 i5 hs) hS
noncomputable def gX5_term_ (F : Int → AH → Option (Int × AH)) (a1 : Int) (h : AH) : Option (Int × AH) := jg (jI a1 121) <| jl (h 310 a1) fun x1 => if h (h 200 16) 1 ≤ x1 then (jl (w32 (x1 - h (h 200 16) 1)) fun x3 => jg (jI x3 12) <| if h (h 200 16 + 2) x3 = (-1) then (jb2 (gX3_add 324 1 (h (h 200 16 + 4) x3) (h 308 a1) 0 h) fun v6 h7 => some (v6, h7)) else (jb2 (gX3_add 324 2 (h (h 200 16 + 2) x3) (h 308 a1) 0 h) fun v9 h10 => jb (gX5_term_l122 F a1 v9 0 h10) fun o11 => some (v9, o11))) else (jb2 (gX3_add 324 0 x1 (h 308 a1) 0 h) fun v14 h15 => some (v14, h15))
theorem eX5_term_ {F0 : Int → Int → Int → AH → Option (Int × AH)} {F : Int → AH → Option (Int × AH)} (hF : ∀ (b_a1 : Int), ∀ {b_h : AH}, Sh S b_h → EQ (F0 307 b_a1 324 b_h) (F b_a1 b_h) (fun r => Sh S r.2)) (a1 : Int) {h : AH} (hS : Sh S h) : EQ (fX5_term_ F0 307 a1 324 h) (gX5_term_ F a1 h) (fun r => Sh S r.2) := by
  unfold fX5_term_ gX5_term_
  refine EQ_jgd (show h 307 (-2) = 6 from by rw [k_307 hS]) ?_
  refine EQ_jg ⟨fun ⟨_, x0⟩ => (show jI a1 (h (h 307 3) (-1)) ↔ jI a1 121 from by rw [r_307_3 hS, l_310 hS]).mp x0, fun x0 => ⟨(show h (h 307 3) (-2) = 101 from by rw [r_307_3 hS, k_310 hS]), (show jI a1 (h (h 307 3) (-1)) ↔ jI a1 121 from by rw [r_307_3 hS, l_310 hS]).mpr x0⟩⟩ (fun g1 => ?_)
  refine EQ_jl (by rw [r_307_3 hS]) (fun x1 ex1 => ?_)
  clear ex1
  refine EQ_jgd (show h 307 (-2) = 6 from by rw [k_307 hS]) ?_
  refine EQ_jgd (show h (h 307 22) (-2) = 2 from by rw [r_307_22 hS, k_200 hS]) ?_
  refine EQ_jgd (show h (h (h 307 22) 16) (-2) = 5 from by rw [r_307_22 hS, kd_X4 hS (dy_200_16 hS)]) ?_
  refine EQ_if (show h (h (h 307 22) 16) 1 ≤ x1 ↔ h (h 200 16) 1 ≤ x1 from by rw [r_307_22 hS]) (fun c2 => ?_) (fun c2 => ?_)
  · refine EQ_jgd (show h 307 (-2) = 6 from by rw [k_307 hS]) ?_
    refine EQ_jgd (show h (h 307 22) (-2) = 2 from by rw [r_307_22 hS, k_200 hS]) ?_
    refine EQ_jgd (show h (h (h 307 22) 16) (-2) = 5 from by rw [r_307_22 hS, kd_X4 hS (dy_200_16 hS)]) ?_
    refine EQ_jl (by rw [r_307_22 hS]) (fun x3 ex3 => ?_)
    clear ex3
    refine EQ_jgd (show h 307 (-2) = 6 from by rw [k_307 hS]) ?_
    refine EQ_jgd (show h (h 307 22) (-2) = 2 from by rw [r_307_22 hS, k_200 hS]) ?_
    refine EQ_jgd (show h (h (h 307 22) 16) (-2) = 5 from by rw [r_307_22 hS, kd_X4 hS (dy_200_16 hS)]) ?_
    refine EQ_jg ⟨fun ⟨_, x0⟩ => (show jI x3 (h (h (h (h 307 22) 16) 4) (-1)) ↔ jI x3 12 from by rw [r_307_22 hS, ft_X4_4 hS (dy_200_16 hS), la_X4_4 hS (dy_200_16 hS)]).mp x0, fun x0 => ⟨(show h (h (h (h 307 22) 16) 4) (-2) = 101 from by rw [r_307_22 hS, ft_X4_4 hS (dy_200_16 hS), ka_X4_4 hS (dy_200_16 hS)]), (show jI x3 (h (h (h (h 307 22) 16) 4) (-1)) ↔ jI x3 12 from by rw [r_307_22 hS, ft_X4_4 hS (dy_200_16 hS), la_X4_4 hS (dy_200_16 hS)]).mpr x0⟩⟩ (fun g3 => ?_)
    refine EQ_if (show h (h (h (h 307 22) 16) 4) x3 = (-1) ↔ h (h 200 16 + 2) x3 = (-1) from by rw [r_307_22 hS, ft_X4_4 hS (dy_200_16 hS)]) (fun c4 => ?_) (fun c4 => ?_)
    · refine EQ_jgd (show h 307 (-2) = 6 from by rw [k_307 hS]) ?_
      refine EQ_jgd (show h (h 307 22) (-2) = 2 from by rw [r_307_22 hS, k_200 hS]) ?_
      refine EQ_jgd (show h (h (h 307 22) 16) (-2) = 5 from by rw [r_307_22 hS, kd_X4 hS (dy_200_16 hS)]) ?_
      refine EQ_jgd ⟨(show h (h (h (h 307 22) 16) 6) (-2) = 101 from by rw [r_307_22 hS, ft_X4_6 hS (dy_200_16 hS), ka_X4_6 hS (dy_200_16 hS)]), ((show jI x3 (h (h (h (h 307 22) 16) 6) (-1)) ↔ jI x3 12 from by rw [r_307_22 hS, ft_X4_6 hS (dy_200_16 hS), la_X4_6 hS (dy_200_16 hS)]).mpr g3)⟩ ?_
      refine EQ_jgd (show h 307 (-2) = 6 from by rw [k_307 hS]) ?_
      refine EQ_jgd ⟨(show h (h 307 1) (-2) = 101 from by rw [r_307_1 hS, k_308 hS]), ((show jI a1 (h (h 307 1) (-1)) ↔ jI a1 121 from by rw [r_307_1 hS, l_308 hS]).mpr g1)⟩ ?_
      refine EQ_jgd (show h 324 (-2) = 4 from by rw [k_324 hS]) ?_
      refine EQ_jb2 (by rw [r_307_22 hS, ft_X4_6 hS (dy_200_16 hS), r_307_1 hS]; exact eX3_add 324 1 (h (h 200 16 + 4) x3) (h 308 a1) 0 (by unfold isX3; decide) hS) (fun v6 h7 r5 => ?_)
      replace r5 : Sh S h7 := r5
      exact EQ_some r5
    · refine EQ_jgd (show h 307 (-2) = 6 from by rw [k_307 hS]) ?_
      refine EQ_jgd (show h (h 307 22) (-2) = 2 from by rw [r_307_22 hS, k_200 hS]) ?_
      refine EQ_jgd (show h (h (h 307 22) 16) (-2) = 5 from by rw [r_307_22 hS, kd_X4 hS (dy_200_16 hS)]) ?_
      refine EQ_jgd ⟨(show h (h (h (h 307 22) 16) 4) (-2) = 101 from by rw [r_307_22 hS, ft_X4_4 hS (dy_200_16 hS), ka_X4_4 hS (dy_200_16 hS)]), ((show jI x3 (h (h (h (h 307 22) 16) 4) (-1)) ↔ jI x3 12 from by rw [r_307_22 hS, ft_X4_4 hS (dy_200_16 hS), la_X4_4 hS (dy_200_16 hS)]).mpr g3)⟩ ?_
      refine EQ_jgd (show h 307 (-2) = 6 from by rw [k_307 hS]) ?_
      refine EQ_jgd ⟨(show h (h 307 1) (-2) = 101 from by rw [r_307_1 hS, k_308 hS]), ((show jI a1 (h (h 307 1) (-1)) ↔ jI a1 121 from by rw [r_307_1 hS, l_308 hS]).mpr g1)⟩ ?_
      refine EQ_jgd (show h 324 (-2) = 4 from by rw [k_324 hS]) ?_
      refine EQ_jb2 (by rw [r_307_22 hS, ft_X4_4 hS (dy_200_16 hS), r_307_1 hS]; exact eX3_add 324 2 (h (h 200 16 + 2) x3) (h 308 a1) 0 (by unfold isX3; decide) hS) (fun v9 h10 r6 => ?_)
      replace r6 : Sh S h10 := r6
      refine EQ_jb (eX5_term_l122 hF a1 v9 0 r6) (fun o11 r7 => ?_)
      exact EQ_some r7
  · refine EQ_jgd (show h 307 (-2) = 6 from by rw [k_307 hS]) ?_
    refine EQ_jgd ⟨(show h (h 307 1) (-2) = 101 from by rw [r_307_1 hS, k_308 hS]), ((show jI a1 (h (h 307 1) (-1)) ↔ jI a1 121 from by rw [r_307_1 hS, l_308 hS]).mpr g1)⟩ ?_
    refine EQ_jgd (show h 324 (-2) = 4 from by rw [k_324 hS]) ?_
    refine EQ_jb2 (by rw [r_307_1 hS]; exact eX3_add 324 0 x1 (h 308 a1) 0 (by unfold isX3; decide) hS) (fun v14 h15 r8 => ?_)
    replace r8 : Sh S h15 := r8
    exact EQ_some r8
noncomputable def gX5_termD : Nat → Int → AH → Option (Int × AH)
  | 0 => fun _ _ => none
  | d + 1 => gX5_term_ (gX5_termD d)
theorem eX5_termD : ∀ (d : Nat) (a1 : Int) {h : AH} (hS : Sh S h) , EQ (fX5_termD d 307 a1 324 h) (gX5_termD d a1 h) (fun r => Sh S r.2) := by
  intro d
  induction d with
  | zero => intro a1 h hS; exact EQ_none
  | succ d ih => intro a1 h hS; exact eX5_term_ ih a1 hS
noncomputable def gX5_term : Int → AH → Option (Int × AH) := gX5_termD 40
theorem eX5_term (a1 : Int) {h : AH} (hS : Sh S h) : EQ (fX5_term 307 a1 324 h) (gX5_term a1 h) (fun r => Sh S r.2) := eX5_termD 40 a1 hS
noncomputable def gX1_fill_j112_73 (F : Int → AH → Option (Int × AH)) (a2 : Int) (a4 : Int) (a5 : Int) (h : AH) : Option ((Int × AH) ⊕ (AH)) := jl (w32 (a5 + 1)) fun x20 => some (.inl (x20, h))
theorem eX1_fill_j112_73 {F0 : Int → Int → Int → AH → Option (Int × AH)} {F : Int → AH → Option (Int × AH)} (hF : ∀ (b_a2 : Int), ∀ {b_h : AH}, Sh S b_h → EQ (F0 200 324 b_a2 b_h) (F b_a2 b_h) (fun r => Sh S r.2)) (a2 : Int) (a4 : Int) (a5 : Int) {h : AH} (hS : Sh S h) : EQ (fX1_fill_j112_73 F0 200 324 a2 a4 a5 h) (gX1_fill_j112_73 F a2 a4 a5 h) (Sum.elim (fun r => Sh S r.2) (fun r => Sh S r)) := by
  unfold fX1_fill_j112_73 gX1_fill_j112_73
  refine EQ_jl rfl (fun x20 ex20 => ?_)
  clear ex20
  exact EQ_some hS
noncomputable def gX1_fill_b73 (F : Int → AH → Option (Int × AH)) (i2 : Int) (i4 : Int) (s : Int × AH) : Option ((Int × AH) ⊕ (AH)) := jt2 s fun a5 h => if 3 ≤ a5 then (some (.inr h)) else (jb (gX3_part 324 i2 a5 h) fun v11 => if v11 < 0 then (gX1_fill_j112_73 F i2 i4 a5 h) else (jb (gX3_part 324 i2 a5 h) fun v14 => jb2 (F v14 h) fun v16 h17 => jb (gX3_join 330 i4 a5 v16 h17) fun h19 => gX1_fill_j112_73 F i2 i4 a5 h19))
theorem eX1_fill_b73 {F0 : Int → Int → Int → AH → Option (Int × AH)} {F : Int → AH → Option (Int × AH)} (hF : ∀ (b_a2 : Int), ∀ {b_h : AH}, Sh S b_h → EQ (F0 200 324 b_a2 b_h) (F b_a2 b_h) (fun r => Sh S r.2)) (i2 : Int) (i4 : Int) {s : Int × AH} (hS : (fun r => Sh S r.2) s) : EQ (fX1_fill_b73 F0 200 324 i2 i4 s) (gX1_fill_b73 F i2 i4 s) (Sum.elim (fun r => Sh S r.2) (fun r => Sh S r)) := by
  unfold fX1_fill_b73 gX1_fill_b73
  obtain ⟨a5, h⟩ := s
  refine EQ_jt2 ?_
  replace hS : Sh S h := hS
  refine EQ_if Iff.rfl (fun c1 => ?_) (fun c1 => ?_)
  · exact EQ_some hS
  · refine EQ_jgd (show h 324 (-2) = 4 from by rw [k_324 hS]) ?_
    refine EQ_jb (eX3_part 324 i2 a5 (by unfold isX3; decide) hS) (fun v11 r2 => ?_)
    refine EQ_if Iff.rfl (fun c3 => ?_) (fun c3 => ?_)
    · exact (eX1_fill_j112_73 hF i2 i4 a5 hS)
    · refine EQ_jgd (show h 200 (-2) = 2 from by rw [k_200 hS]) ?_
      refine EQ_jgd (show h 324 (-2) = 4 from by rw [k_324 hS]) ?_
      refine EQ_jb (eX3_part 324 i2 a5 (by unfold isX3; decide) hS) (fun v14 r4 => ?_)
      refine EQ_jgd (show h 200 (-2) = 2 from by rw [k_200 hS]) ?_
      refine EQ_jb2 (hF v14 hS) (fun v16 h17 r5 => ?_)
      replace r5 : Sh S h17 := r5
      refine EQ_jgd (show h17 (h 200 21) (-2) = 4 from by rw [r_200_21 hS, k_330 r5]) ?_
      refine EQ_jb (by rw [r_200_21 hS]; exact eX3_join 330 i4 a5 v16 (by unfold isX3; decide) r5) (fun h19 r6 => ?_)
      exact (eX1_fill_j112_73 hF i2 i4 a5 r6)
noncomputable def gX1_fill_l73 (F : Int → AH → Option (Int × AH)) (i2 : Int) (i4 : Int) (a5 : Int) (h : AH) : Option (AH) := jit (gX1_fill_b73 F i2 i4) (a5, h)
theorem eX1_fill_l73 {F0 : Int → Int → Int → AH → Option (Int × AH)} {F : Int → AH → Option (Int × AH)} (hF : ∀ (b_a2 : Int), ∀ {b_h : AH}, Sh S b_h → EQ (F0 200 324 b_a2 b_h) (F b_a2 b_h) (fun r => Sh S r.2)) (i2 : Int) (i4 : Int) (a5 : Int) {h : AH} (hS : Sh S h) : EQ (fX1_fill_l73 F0 200 324 i2 i4 a5 h) (gX1_fill_l73 F i2 i4 a5 h) (fun r => Sh S r) := EQ_jit (I := (fun r => Sh S r.2)) (fun s hs => eX1_fill_b73 hF i2 i4 hs) hS
noncomputable def gX1_fill_j58 (F : Int → AH → Option (Int × AH)) (a2 : Int) (t1 : Int) (t2 : Int) (h : AH) : Option (Int × AH) := jg (jI a2 2200) <| jb2 (gX3_add 330 t1 t2 (h 327 a2) 0 h) fun v5 h6 => jb (gX1_fill_l73 F a2 v5 0 h6) fun o7 => some (v5, o7)
theorem eX1_fill_j58 {F0 : Int → Int → Int → AH → Option (Int × AH)} {F : Int → AH → Option (Int × AH)} (hF : ∀ (b_a2 : Int), ∀ {b_h : AH}, Sh S b_h → EQ (F0 200 324 b_a2 b_h) (F b_a2 b_h) (fun r => Sh S r.2)) (a2 : Int) (t1 : Int) (t2 : Int) {h : AH} (hS : Sh S h) : EQ (fX1_fill_j58 F0 200 324 a2 330 t1 t2 h) (gX1_fill_j58 F a2 t1 t2 h) (fun r => Sh S r.2) := by
  unfold fX1_fill_j58 gX1_fill_j58
  refine EQ_jgd (show h 324 (-2) = 4 from by rw [k_324 hS]) ?_
  refine EQ_jg ⟨fun ⟨_, x0⟩ => (show jI a2 (h (h 324 3) (-1)) ↔ jI a2 2200 from by rw [r_324_3 hS, l_327 hS]).mp x0, fun x0 => ⟨(show h (h 324 3) (-2) = 101 from by rw [r_324_3 hS, k_327 hS]), (show jI a2 (h (h 324 3) (-1)) ↔ jI a2 2200 from by rw [r_324_3 hS, l_327 hS]).mpr x0⟩⟩ (fun g1 => ?_)
  refine EQ_jgd (show h 330 (-2) = 4 from by rw [k_330 hS]) ?_
  refine EQ_jb2 (by rw [r_324_3 hS]; exact eX3_add 330 t1 t2 (h 327 a2) 0 (by unfold isX3; decide) hS) (fun v5 h6 r2 => ?_)
  replace r2 : Sh S h6 := r2
  refine EQ_jb (eX1_fill_l73 hF a2 v5 0 r2) (fun o7 r3 => ?_)
  exact EQ_some r3
noncomputable def gX1_fill_j34 (F : Int → AH → Option (Int × AH)) (a2 : Int) (a3 : Int) (t1 : Int) (h : AH) : Option (Int × AH) := if a3 = 0 then (jg (jI a2 2200) <| gX1_fill_j58 F a2 t1 (h 326 a2) h) else (jg (jI a2 2200) <| jg (jI (h 326 a2) 3) <| gX1_fill_j58 F a2 t1 (h 270 (h 326 a2)) h)
theorem eX1_fill_j34 {F0 : Int → Int → Int → AH → Option (Int × AH)} {F : Int → AH → Option (Int × AH)} (hF : ∀ (b_a2 : Int), ∀ {b_h : AH}, Sh S b_h → EQ (F0 200 324 b_a2 b_h) (F b_a2 b_h) (fun r => Sh S r.2)) (a2 : Int) (a3 : Int) (t1 : Int) {h : AH} (hS : Sh S h) : EQ (fX1_fill_j34 F0 200 324 a2 a3 330 t1 h) (gX1_fill_j34 F a2 a3 t1 h) (fun r => Sh S r.2) := by
  unfold fX1_fill_j34 gX1_fill_j34
  refine EQ_if Iff.rfl (fun c1 => ?_) (fun c1 => ?_)
  · refine EQ_jgd (show h 324 (-2) = 4 from by rw [k_324 hS]) ?_
    refine EQ_jg ⟨fun ⟨_, x0⟩ => (show jI a2 (h (h 324 2) (-1)) ↔ jI a2 2200 from by rw [r_324_2 hS, l_326 hS]).mp x0, fun x0 => ⟨(show h (h 324 2) (-2) = 101 from by rw [r_324_2 hS, k_326 hS]), (show jI a2 (h (h 324 2) (-1)) ↔ jI a2 2200 from by rw [r_324_2 hS, l_326 hS]).mpr x0⟩⟩ (fun g2 => ?_)
    exact (by rw [r_324_2 hS]; exact eX1_fill_j58 hF a2 t1 (h 326 a2) hS)
  · refine EQ_jgd (show h 200 (-2) = 2 from by rw [k_200 hS]) ?_
    refine EQ_jgd (show h 324 (-2) = 4 from by rw [k_324 hS]) ?_
    refine EQ_jg ⟨fun ⟨_, x0⟩ => (show jI a2 (h (h 324 2) (-1)) ↔ jI a2 2200 from by rw [r_324_2 hS, l_326 hS]).mp x0, fun x0 => ⟨(show h (h 324 2) (-2) = 101 from by rw [r_324_2 hS, k_326 hS]), (show jI a2 (h (h 324 2) (-1)) ↔ jI a2 2200 from by rw [r_324_2 hS, l_326 hS]).mpr x0⟩⟩ (fun g3 => ?_)
    refine EQ_jg ⟨fun ⟨_, x0⟩ => (show jI (h (h 324 2) a2) (h (h 200 13) (-1)) ↔ jI (h 326 a2) 3 from by rw [r_324_2 hS, r_200_13 hS, l_270 hS]).mp x0, fun x0 => ⟨(show h (h 200 13) (-2) = 101 from by rw [r_200_13 hS, k_270 hS]), (show jI (h (h 324 2) a2) (h (h 200 13) (-1)) ↔ jI (h 326 a2) 3 from by rw [r_324_2 hS, r_200_13 hS, l_270 hS]).mpr x0⟩⟩ (fun g4 => ?_)
    exact (by rw [r_200_13 hS, r_324_2 hS]; exact eX1_fill_j58 hF a2 t1 (h 270 (h 326 a2)) hS)
noncomputable def gX1_fill_j15 (F : Int → AH → Option (Int × AH)) (a2 : Int) (t0 : Int) (h : AH) : Option (Int × AH) := if t0 = 0 then (jg (jI a2 2200) <| gX1_fill_j34 F a2 t0 (h 325 a2) h) else (gX1_fill_j34 F a2 t0 1 h)
theorem eX1_fill_j15 {F0 : Int → Int → Int → AH → Option (Int × AH)} {F : Int → AH → Option (Int × AH)} (hF : ∀ (b_a2 : Int), ∀ {b_h : AH}, Sh S b_h → EQ (F0 200 324 b_a2 b_h) (F b_a2 b_h) (fun r => Sh S r.2)) (a2 : Int) (t0 : Int) {h : AH} (hS : Sh S h) : EQ (fX1_fill_j15 F0 200 324 a2 t0 h) (gX1_fill_j15 F a2 t0 h) (fun r => Sh S r.2) := by
  unfold fX1_fill_j15 gX1_fill_j15
  refine EQ_jgd (show h 200 (-2) = 2 from by rw [k_200 hS]) ?_
  refine EQ_if Iff.rfl (fun c1 => ?_) (fun c1 => ?_)
  · refine EQ_jgd (show h 324 (-2) = 4 from by rw [k_324 hS]) ?_
    refine EQ_jg ⟨fun ⟨_, x0⟩ => (show jI a2 (h (h 324 1) (-1)) ↔ jI a2 2200 from by rw [r_324_1 hS, l_325 hS]).mp x0, fun x0 => ⟨(show h (h 324 1) (-2) = 101 from by rw [r_324_1 hS, k_325 hS]), (show jI a2 (h (h 324 1) (-1)) ↔ jI a2 2200 from by rw [r_324_1 hS, l_325 hS]).mpr x0⟩⟩ (fun g2 => ?_)
    exact (by rw [r_200_21 hS, r_324_1 hS]; exact eX1_fill_j34 hF a2 t0 (h 325 a2) hS)
  · exact (by rw [r_200_21 hS]; exact eX1_fill_j34 hF a2 t0 1 hS)
noncomputable def gX1_fill_ (F : Int → AH → Option (Int × AH)) (a2 : Int) (h : AH) : Option (Int × AH) := jg (jI a2 2200) <| if h 325 a2 = 3 then (gX1_fill_j15 F a2 1 h) else (gX1_fill_j15 F a2 0 h)
theorem eX1_fill_ {F0 : Int → Int → Int → AH → Option (Int × AH)} {F : Int → AH → Option (Int × AH)} (hF : ∀ (b_a2 : Int), ∀ {b_h : AH}, Sh S b_h → EQ (F0 200 324 b_a2 b_h) (F b_a2 b_h) (fun r => Sh S r.2)) (a2 : Int) {h : AH} (hS : Sh S h) : EQ (fX1_fill_ F0 200 324 a2 h) (gX1_fill_ F a2 h) (fun r => Sh S r.2) := by
  unfold fX1_fill_ gX1_fill_
  refine EQ_jgd (show h 324 (-2) = 4 from by rw [k_324 hS]) ?_
  refine EQ_jg ⟨fun ⟨_, x0⟩ => (show jI a2 (h (h 324 1) (-1)) ↔ jI a2 2200 from by rw [r_324_1 hS, l_325 hS]).mp x0, fun x0 => ⟨(show h (h 324 1) (-2) = 101 from by rw [r_324_1 hS, k_325 hS]), (show jI a2 (h (h 324 1) (-1)) ↔ jI a2 2200 from by rw [r_324_1 hS, l_325 hS]).mpr x0⟩⟩ (fun g1 => ?_)
  refine EQ_if (show h (h 324 1) a2 = 3 ↔ h 325 a2 = 3 from by rw [r_324_1 hS]) (fun c2 => ?_) (fun c2 => ?_)
  · exact (eX1_fill_j15 hF a2 1 hS)
  · exact (eX1_fill_j15 hF a2 0 hS)
noncomputable def gX1_fillD : Nat → Int → AH → Option (Int × AH)
  | 0 => fun _ _ => none
  | d + 1 => gX1_fill_ (gX1_fillD d)
theorem eX1_fillD : ∀ (d : Nat) (a2 : Int) {h : AH} (hS : Sh S h) , EQ (fX1_fillD d 200 324 a2 h) (gX1_fillD d a2 h) (fun r => Sh S r.2) := by
  intro d
  induction d with
  | zero => intro a2 h hS; exact EQ_none
  | succ d ih => intro a2 h hS; exact eX1_fill_ ih a2 hS
noncomputable def gX1_fill : Int → AH → Option (Int × AH) := gX1_fillD 40
theorem eX1_fill (a2 : Int) {h : AH} (hS : Sh S h) : EQ (fX1_fill 200 324 a2 h) (gX1_fill a2 h) (fun r => Sh S r.2) := eX1_fillD 40 a2 hS
noncomputable def gX6_put (a0 : Int) (a1 : Int) (h : AH) : Option (AH) := if h (a0 + 1) (-1) ≤ h a0 1 then (some h) else (jl (jst h a0 1 (w32 (h a0 1 + 1))) fun h2 => jg (jI (h a0 1) (h2 (a0 + 1) (-1))) <| jl (jst h2 (a0 + 1) (h a0 1) (ji2b (ji2b a1))) fun h3 => some h3)
theorem eX6_put (a0 : Int) (a1 : Int) (hT_a0 : isX6 a0) {h : AH} (hS : Sh S h) : EQ (fX6_put a0 a1 h) (gX6_put a0 a1 h) (fun r => Sh S r) := by
  unfold fX6_put gX6_put
  refine EQ_jgd (show h a0 (-2) = 7 from by rw [kd_X6 hS hT_a0]) ?_
  refine EQ_jgd (show h a0 (-2) = 7 from by rw [kd_X6 hS hT_a0]) ?_
  refine EQ_jgd ⟨(show 101 ≤ h (h a0 0) (-2) from by rw [ft_X6_0 hS hT_a0, ka_X6_0 hS hT_a0]; decide), (show h (h a0 0) (-2) ≤ 107 from by rw [ft_X6_0 hS hT_a0, ka_X6_0 hS hT_a0]; decide)⟩ ?_
  refine EQ_if (show h (h a0 0) (-1) ≤ h a0 1 ↔ h (a0 + 1) (-1) ≤ h a0 1 from by rw [ft_X6_0 hS hT_a0]) (fun c1 => ?_) (fun c1 => ?_)
  · exact EQ_some hS
  · refine EQ_jgd (show h a0 (-2) = 7 from by rw [kd_X6 hS hT_a0]) ?_
    refine EQ_jgd (show h a0 (-2) = 7 from by rw [kd_X6 hS hT_a0]) ?_
    refine EQ_jgd ⟨(show h a0 (-2) = 7 from by rw [kd_X6 hS hT_a0]), (show 200 ≤ a0 from ge_X6 hT_a0)⟩ ?_
    refine EQ_jl rfl (fun h2 eh2 => ?_)
    have s2 := Sh_of eh2 (Sh_sto_X6_1 hS hT_a0)
    clear eh2
    refine EQ_jg ⟨fun ⟨_, _, x0⟩ => (show jI (h a0 1) (h2 (h a0 0) (-1)) ↔ jI (h a0 1) (h2 (a0 + 1) (-1)) from by rw [ft_X6_0 hS hT_a0]).mp x0, fun x0 => ⟨(show h2 (h a0 0) (-2) = 103 from by rw [ft_X6_0 hS hT_a0, ka_X6_0 s2 hT_a0]), (show 200 ≤ h a0 0 from by rw [ft_X6_0 hS hT_a0]; exact gea_X6_0 hT_a0), (show jI (h a0 1) (h2 (h a0 0) (-1)) ↔ jI (h a0 1) (h2 (a0 + 1) (-1)) from by rw [ft_X6_0 hS hT_a0]).mpr x0⟩⟩ (fun g3 => ?_)
    refine EQ_jl (by rw [ft_X6_0 hS hT_a0]) (fun h3 eh3 => ?_)
    have s4 := Sh_of eh3 (Sh_sta s2 (ara_X6_0 hT_a0) (jI_nn g3) (fun _ => jBy_b _))
    clear eh3
    exact EQ_some s4
noncomputable def gX6_number_j17 (a0 : Int) (a1 : Int) (h : AH) : Option (AH) := jb (gX6_put a0 (w32 (48 + jrem a1 10)) h) fun h5 => some h5
theorem eX6_number_j17 (a0 : Int) (a1 : Int) (hT_a0 : isX6 a0) {h : AH} (hS : Sh S h) : EQ (fX6_number_j17 a0 a1 h) (gX6_number_j17 a0 a1 h) (fun r => Sh S r) := by
  unfold fX6_number_j17 gX6_number_j17
  refine EQ_jgd (show h a0 (-2) = 7 from by rw [kd_X6 hS hT_a0]) ?_
  refine EQ_jb (eX6_put a0 (w32 (48 + jrem a1 10)) hT_a0 hS) (fun h5 r1 => ?_)
  exact EQ_some r1
noncomputable def gX6_number (a0 : Int) (a1 : Int) (h : AH) : Option (AH) := if a1 ≤ 9 then (gX6_number_j17 a0 a1 h) else (jb (gX6_put a0 (w32 (48 + jdiv a1 10)) h) fun h3 => gX6_number_j17 a0 a1 h3)
theorem eX6_number (a0 : Int) (a1 : Int) (hT_a0 : isX6 a0) {h : AH} (hS : Sh S h) : EQ (fX6_number a0 a1 h) (gX6_number a0 a1 h) (fun r => Sh S r) := by
  unfold fX6_number gX6_number
  refine EQ_if Iff.rfl (fun c1 => ?_) (fun c1 => ?_)
  · exact (eX6_number_j17 a0 a1 hT_a0 hS)
  · refine EQ_jgd (show h a0 (-2) = 7 from by rw [kd_X6 hS hT_a0]) ?_
    refine EQ_jb (eX6_put a0 (w32 (48 + jdiv a1 10)) hT_a0 hS) (fun h3 r2 => ?_)
    exact (eX6_number_j17 a0 a1 hT_a0 r2)
noncomputable def gX6_put_2_b2 (i0 : Int) (i1 : Int) (s : Int × AH) : Option ((Int × AH) ⊕ (AH)) := jt2 s fun a2 h => jg (h i1 (-2) = 1) <| jb (fJ0_length i1 h) fun v4 => if v4 ≤ a2 then (some (.inr h)) else (jb (fJ0_charAt i1 a2 h) fun v7 => jb (gX6_put i0 v7 h) fun h9 => jl (w32 (a2 + 1)) fun x10 => some (.inl (x10, h9)))
theorem eX6_put_2_b2 (i0 : Int) (i1 : Int) (hT_i0 : isX6 i0) {s : Int × AH} (hS : (fun r => Sh S r.2) s) : EQ (fX6_put_2_b2 i0 i1 s) (gX6_put_2_b2 i0 i1 s) (Sum.elim (fun r => Sh S r.2) (fun r => Sh S r)) := by
  unfold fX6_put_2_b2 gX6_put_2_b2
  obtain ⟨a2, h⟩ := s
  refine EQ_jt2 ?_
  replace hS : Sh S h := hS
  refine EQ_jg Iff.rfl (fun g1 => ?_)
  refine EQ_jb (EQ_refl) (fun v4 r2 => ?_)
  refine EQ_if Iff.rfl (fun c3 => ?_) (fun c3 => ?_)
  · exact EQ_some hS
  · refine EQ_jgd g1 ?_
    refine EQ_jb (EQ_refl) (fun v7 r4 => ?_)
    refine EQ_jgd (show h i0 (-2) = 7 from by rw [kd_X6 hS hT_i0]) ?_
    refine EQ_jb (eX6_put i0 v7 hT_i0 hS) (fun h9 r5 => ?_)
    refine EQ_jl rfl (fun x10 ex10 => ?_)
    clear ex10
    exact EQ_some r5
noncomputable def gX6_put_2_l2 (i0 : Int) (i1 : Int) (a2 : Int) (h : AH) : Option (AH) := jit (gX6_put_2_b2 i0 i1) (a2, h)
theorem eX6_put_2_l2 (i0 : Int) (i1 : Int) (a2 : Int) (hT_i0 : isX6 i0) {h : AH} (hS : Sh S h) : EQ (fX6_put_2_l2 i0 i1 a2 h) (gX6_put_2_l2 i0 i1 a2 h) (fun r => Sh S r) := EQ_jit (I := (fun r => Sh S r.2)) (fun s hs => eX6_put_2_b2 i0 i1 hT_i0 hs) hS
noncomputable def gX6_put_2 (a0 : Int) (a1 : Int) (h : AH) : Option (AH) := jb (gX6_put_2_l2 a0 a1 0 h) fun o1 => some o1
theorem eX6_put_2 (a0 : Int) (a1 : Int) (hT_a0 : isX6 a0) {h : AH} (hS : Sh S h) : EQ (fX6_put_2 a0 a1 h) (gX6_put_2 a0 a1 h) (fun r => Sh S r) := by
  unfold fX6_put_2 gX6_put_2
  refine EQ_jb (eX6_put_2_l2 a0 a1 0 hT_a0 hS) (fun o1 r1 => ?_)
  exact EQ_some r1
noncomputable def gX6_letters_ (F : Int → Int → AH → Option (AH)) (a0 : Int) (a1 : Int) (h : AH) : Option (AH) := if a1 = 0 then (some h) else (jb (F a0 (jdiv a1 27) h) fun h3 => jb (gX6_put a0 (w32 (w32 (97 + jrem a1 27) - 1)) h3) fun h5 => some h5)
theorem eX6_letters_ {F0 : Int → Int → AH → Option (AH)} {F : Int → Int → AH → Option (AH)} (hF : ∀ (b_a0 : Int) (b_a1 : Int), isX6 b_a0 → ∀ {b_h : AH}, Sh S b_h → EQ (F0 b_a0 b_a1 b_h) (F b_a0 b_a1 b_h) (fun r => Sh S r)) (a0 : Int) (a1 : Int) (hT_a0 : isX6 a0) {h : AH} (hS : Sh S h) : EQ (fX6_letters_ F0 a0 a1 h) (gX6_letters_ F a0 a1 h) (fun r => Sh S r) := by
  unfold fX6_letters_ gX6_letters_
  refine EQ_if Iff.rfl (fun c1 => ?_) (fun c1 => ?_)
  · exact EQ_some hS
  · refine EQ_jgd (show h a0 (-2) = 7 from by rw [kd_X6 hS hT_a0]) ?_
    refine EQ_jb (hF a0 (jdiv a1 27) hT_a0 hS) (fun h3 r2 => ?_)
    refine EQ_jgd (show h3 a0 (-2) = 7 from by rw [kd_X6 r2 hT_a0]) ?_
    refine EQ_jb (eX6_put a0 (w32 (w32 (97 + jrem a1 27) - 1)) hT_a0 r2) (fun h5 r3 => ?_)
    exact EQ_some r3
noncomputable def gX6_lettersD : Nat → Int → Int → AH → Option (AH)
  | 0 => fun _ _ _ => none
  | d + 1 => gX6_letters_ (gX6_lettersD d)
theorem eX6_lettersD : ∀ (d : Nat) (a0 : Int) (a1 : Int) (hT_a0 : isX6 a0) {h : AH} (hS : Sh S h) , EQ (fX6_lettersD d a0 a1 h) (gX6_lettersD d a0 a1 h) (fun r => Sh S r) := by
  intro d
  induction d with
  | zero => intro a0 a1 hT_a0 h hS; exact EQ_none
  | succ d ih => intro a0 a1 hT_a0 h hS; exact eX6_letters_ ih a0 a1 hT_a0 hS
noncomputable def gX6_letters : Int → Int → AH → Option (AH) := gX6_lettersD 40
theorem eX6_letters (a0 : Int) (a1 : Int) (hT_a0 : isX6 a0) {h : AH} (hS : Sh S h) : EQ (fX6_letters a0 a1 h) (gX6_letters a0 a1 h) (fun r => Sh S r) := eX6_lettersD 40 a0 a1 hT_a0 hS
noncomputable def gX1_tellValue_j30 (t0 : Int) (t1 : Int) (h : AH) : Option (AH) := jb (gX6_put_2 t0 t1 h) fun h13 => some h13
theorem eX1_tellValue_j30 (t0 : Int) (t1 : Int) (hT_t0 : isX6 t0) {h : AH} (hS : Sh S h) : EQ (fX1_tellValue_j30 t0 t1 h) (gX1_tellValue_j30 t0 t1 h) (fun r => Sh S r) := by
  unfold fX1_tellValue_j30 gX1_tellValue_j30
  refine EQ_jgd (show h t0 (-2) = 7 from by rw [kd_X6 hS hT_t0]) ?_
  refine EQ_jb (eX6_put_2 t0 t1 hT_t0 hS) (fun h13 r1 => ?_)
  exact EQ_some r1
noncomputable def gX1_tellValue (a0 : Int) (a1 : Int) (a2 : Int) (h : AH) : Option (AH) := if a0 = 0 then (jb (gX6_number a2 a1 h) fun h3 => some h3) else (if a0 = 1 then (if a1 = 1 then (gX1_tellValue_j30 a2 22 h) else (gX1_tellValue_j30 a2 24 h)) else (jb (gX6_put a2 34 h) fun h7 => jb (gX6_letters a2 a1 h7) fun h9 => jb (gX6_put a2 34 h9) fun h11 => some h11))
theorem eX1_tellValue (a0 : Int) (a1 : Int) (a2 : Int) (hT_a2 : isX6 a2) {h : AH} (hS : Sh S h) : EQ (fX1_tellValue a0 a1 a2 h) (gX1_tellValue a0 a1 a2 h) (fun r => Sh S r) := by
  unfold fX1_tellValue gX1_tellValue
  refine EQ_if Iff.rfl (fun c1 => ?_) (fun c1 => ?_)
  · refine EQ_jgd (show h a2 (-2) = 7 from by rw [kd_X6 hS hT_a2]) ?_
    refine EQ_jb (eX6_number a2 a1 hT_a2 hS) (fun h3 r2 => ?_)
    exact EQ_some r2
  · refine EQ_if Iff.rfl (fun c3 => ?_) (fun c3 => ?_)
    · refine EQ_if Iff.rfl (fun c4 => ?_) (fun c4 => ?_)
      · refine EQ_jgd (show h 22 (-2) = 1 from by rw [k_22 hS]) ?_
        exact (eX1_tellValue_j30 a2 22 hT_a2 hS)
      · refine EQ_jgd (show h 24 (-2) = 1 from by rw [k_24 hS]) ?_
        exact (eX1_tellValue_j30 a2 24 hT_a2 hS)
    · refine EQ_jgd (show h a2 (-2) = 7 from by rw [kd_X6 hS hT_a2]) ?_
      refine EQ_jb (eX6_put a2 34 hT_a2 hS) (fun h7 r5 => ?_)
      refine EQ_jgd (show h7 a2 (-2) = 7 from by rw [kd_X6 r5 hT_a2]) ?_
      refine EQ_jb (eX6_letters a2 a1 hT_a2 r5) (fun h9 r6 => ?_)
      refine EQ_jgd (show h9 a2 (-2) = 7 from by rw [kd_X6 r6 hT_a2]) ?_
      refine EQ_jb (eX6_put a2 34 hT_a2 r6) (fun h11 r7 => ?_)
      exact EQ_some r7
noncomputable def gX1_tell_j152 (F : Int → Int → Int → AH → Option (AH)) (a3 : Int) (h : AH) : Option (AH) := jb (gX6_put a3 41 h) fun h21 => some h21
theorem eX1_tell_j152 {F0 : Int → Int → Int → Int → AH → Option (AH)} {F : Int → Int → Int → AH → Option (AH)} (hF : ∀ (b_a1 : Int) (b_a2 : Int) (b_a3 : Int), isX3 b_a1 → isX6 b_a3 → ∀ {b_h : AH}, Sh S b_h → EQ (F0 200 b_a1 b_a2 b_a3 b_h) (F b_a1 b_a2 b_a3 b_h) (fun r => Sh S r)) (a3 : Int) (hT_a3 : isX6 a3) {h : AH} (hS : Sh S h) : EQ (fX1_tell_j152 F0 a3 h) (gX1_tell_j152 F a3 h) (fun r => Sh S r) := by
  unfold fX1_tell_j152 gX1_tell_j152
  refine EQ_jgd (show h a3 (-2) = 7 from by rw [kd_X6 hS hT_a3]) ?_
  refine EQ_jb (eX6_put a3 41 hT_a3 hS) (fun h21 r1 => ?_)
  exact EQ_some r1
noncomputable def gX1_tell_j133_106 (F : Int → Int → Int → AH → Option (AH)) (a1 : Int) (a2 : Int) (a3 : Int) (a4 : Int) (h : AH) : Option ((Int × AH) ⊕ (AH)) := jb (gX3_part a1 a2 a4 h) fun v30 => jb (F a1 v30 a3 h) fun h32 => jl (w32 (a4 + 1)) fun x33 => some (.inl (x33, h32))
theorem eX1_tell_j133_106 {F0 : Int → Int → Int → Int → AH → Option (AH)} {F : Int → Int → Int → AH → Option (AH)} (hF : ∀ (b_a1 : Int) (b_a2 : Int) (b_a3 : Int), isX3 b_a1 → isX6 b_a3 → ∀ {b_h : AH}, Sh S b_h → EQ (F0 200 b_a1 b_a2 b_a3 b_h) (F b_a1 b_a2 b_a3 b_h) (fun r => Sh S r)) (a1 : Int) (a2 : Int) (a3 : Int) (a4 : Int) (hT_a1 : isX3 a1) (hT_a3 : isX6 a3) {h : AH} (hS : Sh S h) : EQ (fX1_tell_j133_106 F0 200 a1 a2 a3 a4 h) (gX1_tell_j133_106 F a1 a2 a3 a4 h) (Sum.elim (fun r => Sh S r.2) (fun r => Sh S r)) := by
  unfold fX1_tell_j133_106 gX1_tell_j133_106
  refine EQ_jgd (show h a1 (-2) = 4 from by rw [kd_X3 hS hT_a1]) ?_
  refine EQ_jb (eX3_part a1 a2 a4 hT_a1 hS) (fun v30 r1 => ?_)
  refine EQ_jgd (show h 200 (-2) = 2 from by rw [k_200 hS]) ?_
  refine EQ_jb (hF a1 v30 a3 hT_a1 hT_a3 hS) (fun h32 r2 => ?_)
  refine EQ_jl rfl (fun x33 ex33 => ?_)
  clear ex33
  exact EQ_some r2
noncomputable def gX1_tell_b106 (F : Int → Int → Int → AH → Option (AH)) (i1 : Int) (i2 : Int) (i3 : Int) (s : Int × AH) : Option ((Int × AH) ⊕ (AH)) := jt2 s fun a4 h => if 3 ≤ a4 then (some (.inr h)) else (jb (gX3_part i1 i2 a4 h) fun v24 => if v24 < 0 then (some (.inr h)) else (if a4 ≤ 0 then (gX1_tell_j133_106 F i1 i2 i3 a4 h) else (jb (gX6_put i3 44 h) fun h28 => gX1_tell_j133_106 F i1 i2 i3 a4 h28)))
theorem eX1_tell_b106 {F0 : Int → Int → Int → Int → AH → Option (AH)} {F : Int → Int → Int → AH → Option (AH)} (hF : ∀ (b_a1 : Int) (b_a2 : Int) (b_a3 : Int), isX3 b_a1 → isX6 b_a3 → ∀ {b_h : AH}, Sh S b_h → EQ (F0 200 b_a1 b_a2 b_a3 b_h) (F b_a1 b_a2 b_a3 b_h) (fun r => Sh S r)) (i1 : Int) (i2 : Int) (i3 : Int) (hT_i1 : isX3 i1) (hT_i3 : isX6 i3) {s : Int × AH} (hS : (fun r => Sh S r.2) s) : EQ (fX1_tell_b106 F0 200 i1 i2 i3 s) (gX1_tell_b106 F i1 i2 i3 s) (Sum.elim (fun r => Sh S r.2) (fun r => Sh S r)) := by
  unfold fX1_tell_b106 gX1_tell_b106
  obtain ⟨a4, h⟩ := s
  refine EQ_jt2 ?_
  replace hS : Sh S h := hS
  refine EQ_if Iff.rfl (fun c1 => ?_) (fun c1 => ?_)
  · exact EQ_some hS
  · refine EQ_jgd (show h i1 (-2) = 4 from by rw [kd_X3 hS hT_i1]) ?_
    refine EQ_jb (eX3_part i1 i2 a4 hT_i1 hS) (fun v24 r2 => ?_)
    refine EQ_if Iff.rfl (fun c3 => ?_) (fun c3 => ?_)
    · exact EQ_some hS
    · refine EQ_if Iff.rfl (fun c4 => ?_) (fun c4 => ?_)
      · exact (eX1_tell_j133_106 hF i1 i2 i3 a4 hT_i1 hT_i3 hS)
      · refine EQ_jgd (show h i3 (-2) = 7 from by rw [kd_X6 hS hT_i3]) ?_
        refine EQ_jb (eX6_put i3 44 hT_i3 hS) (fun h28 r5 => ?_)
        exact (eX1_tell_j133_106 hF i1 i2 i3 a4 hT_i1 hT_i3 r5)
noncomputable def gX1_tell_l106 (F : Int → Int → Int → AH → Option (AH)) (i1 : Int) (i2 : Int) (i3 : Int) (a4 : Int) (h : AH) : Option (AH) := jit (gX1_tell_b106 F i1 i2 i3) (a4, h)
theorem eX1_tell_l106 {F0 : Int → Int → Int → Int → AH → Option (AH)} {F : Int → Int → Int → AH → Option (AH)} (hF : ∀ (b_a1 : Int) (b_a2 : Int) (b_a3 : Int), isX3 b_a1 → isX6 b_a3 → ∀ {b_h : AH}, Sh S b_h → EQ (F0 200 b_a1 b_a2 b_a3 b_h) (F b_a1 b_a2 b_a3 b_h) (fun r => Sh S r)) (i1 : Int) (i2 : Int) (i3 : Int) (a4 : Int) (hT_i1 : isX3 i1) (hT_i3 : isX6 i3) {h : AH} (hS : Sh S h) : EQ (fX1_tell_l106 F0 200 i1 i2 i3 a4 h) (gX1_tell_l106 F i1 i2 i3 a4 h) (fun r => Sh S r) := EQ_jit (I := (fun r => Sh S r.2)) (fun s hs => eX1_tell_b106 hF i1 i2 i3 hT_i1 hT_i3 hs) hS
noncomputable def gX1_tell_j83 (F : Int → Int → Int → AH → Option (AH)) (a1 : Int) (a2 : Int) (a3 : Int) (h : AH) : Option (AH) := jg (jI a2 (h (a1 + 2) (-1))) <| jb (gX1_nameOf (h (a1 + 2) a2) h) fun v13 => jb (gX6_put_2 a3 v13 h) fun h15 => jb (gX6_put a3 40 h15) fun h17 => jb (gX1_tell_l106 F a1 a2 a3 0 h17) fun o18 => gX1_tell_j152 F a3 o18
theorem eX1_tell_j83 {F0 : Int → Int → Int → Int → AH → Option (AH)} {F : Int → Int → Int → AH → Option (AH)} (hF : ∀ (b_a1 : Int) (b_a2 : Int) (b_a3 : Int), isX3 b_a1 → isX6 b_a3 → ∀ {b_h : AH}, Sh S b_h → EQ (F0 200 b_a1 b_a2 b_a3 b_h) (F b_a1 b_a2 b_a3 b_h) (fun r => Sh S r)) (a1 : Int) (a2 : Int) (a3 : Int) (hT_a1 : isX3 a1) (hT_a3 : isX6 a3) {h : AH} (hS : Sh S h) : EQ (fX1_tell_j83 F0 200 a1 a2 a3 h) (gX1_tell_j83 F a1 a2 a3 h) (fun r => Sh S r) := by
  unfold fX1_tell_j83 gX1_tell_j83
  refine EQ_jgd (show h a1 (-2) = 4 from by rw [kd_X3 hS hT_a1]) ?_
  refine EQ_jg ⟨fun ⟨_, x0⟩ => (show jI a2 (h (h a1 2) (-1)) ↔ jI a2 (h (a1 + 2) (-1)) from by rw [ft_X3_2 hS hT_a1]).mp x0, fun x0 => ⟨(show h (h a1 2) (-2) = 101 from by rw [ft_X3_2 hS hT_a1, ka_X3_2 hS hT_a1]), (show jI a2 (h (h a1 2) (-1)) ↔ jI a2 (h (a1 + 2) (-1)) from by rw [ft_X3_2 hS hT_a1]).mpr x0⟩⟩ (fun g1 => ?_)
  refine EQ_jgd (show h 200 (-2) = 2 from by rw [k_200 hS]) ?_
  refine EQ_jb (by rw [ft_X3_2 hS hT_a1]; exact eX1_nameOf (h (a1 + 2) a2) hS) (fun v13 r2 => ?_)
  refine EQ_jgd (show h a3 (-2) = 7 from by rw [kd_X6 hS hT_a3]) ?_
  refine EQ_jb (eX6_put_2 a3 v13 hT_a3 hS) (fun h15 r3 => ?_)
  refine EQ_jgd (show h15 a3 (-2) = 7 from by rw [kd_X6 r3 hT_a3]) ?_
  refine EQ_jb (eX6_put a3 40 hT_a3 r3) (fun h17 r4 => ?_)
  refine EQ_jb (eX1_tell_l106 hF a1 a2 a3 0 hT_a1 hT_a3 r4) (fun o18 r5 => ?_)
  exact (eX1_tell_j152 hF a3 hT_a3 r5)
noncomputable def gX1_tell_ (F : Int → Int → Int → AH → Option (AH)) (a1 : Int) (a2 : Int) (a3 : Int) (h : AH) : Option (AH) := jg (jI a2 (h (a1 + 1) (-1))) <| if h (a1 + 1) a2 < 0 ∨ 3 < h (a1 + 1) a2 then (gX1_tell_j83 F a1 a2 a3 h) else (if h (a1 + 1) a2 = 0 then (jg (jI a2 (h (a1 + 2) (-1))) <| jb (gX6_put a3 (w32 (97 + h (a1 + 2) a2)) h) fun h4 => some h4) else (if h (a1 + 1) a2 = 1 then (jg (jI a2 (h (a1 + 3) (-1))) <| jg (jI a2 (h (a1 + 2) (-1))) <| jb (gX1_tellValue (h (a1 + 3) a2) (h (a1 + 2) a2) a3 h) fun h7 => some h7) else (if h (a1 + 1) a2 = 2 then (gX1_tell_j83 F a1 a2 a3 h) else (jg (jI a2 (h (a1 + 2) (-1))) <| jg (jI (h (a1 + 2) a2) 3) <| jb (gX6_number a3 (h 270 (h (a1 + 2) a2)) h) fun h11 => some h11))))
theorem eX1_tell_ {F0 : Int → Int → Int → Int → AH → Option (AH)} {F : Int → Int → Int → AH → Option (AH)} (hF : ∀ (b_a1 : Int) (b_a2 : Int) (b_a3 : Int), isX3 b_a1 → isX6 b_a3 → ∀ {b_h : AH}, Sh S b_h → EQ (F0 200 b_a1 b_a2 b_a3 b_h) (F b_a1 b_a2 b_a3 b_h) (fun r => Sh S r)) (a1 : Int) (a2 : Int) (a3 : Int) (hT_a1 : isX3 a1) (hT_a3 : isX6 a3) {h : AH} (hS : Sh S h) : EQ (fX1_tell_ F0 200 a1 a2 a3 h) (gX1_tell_ F a1 a2 a3 h) (fun r => Sh S r) := by
  unfold fX1_tell_ gX1_tell_
  refine EQ_jgd (show h a1 (-2) = 4 from by rw [kd_X3 hS hT_a1]) ?_
  refine EQ_jg ⟨fun ⟨_, x0⟩ => (show jI a2 (h (h a1 1) (-1)) ↔ jI a2 (h (a1 + 1) (-1)) from by rw [ft_X3_1 hS hT_a1]).mp x0, fun x0 => ⟨(show h (h a1 1) (-2) = 101 from by rw [ft_X3_1 hS hT_a1, ka_X3_1 hS hT_a1]), (show jI a2 (h (h a1 1) (-1)) ↔ jI a2 (h (a1 + 1) (-1)) from by rw [ft_X3_1 hS hT_a1]).mpr x0⟩⟩ (fun g1 => ?_)
  refine EQ_if (show h (h a1 1) a2 < 0 ∨ 3 < h (h a1 1) a2 ↔ h (a1 + 1) a2 < 0 ∨ 3 < h (a1 + 1) a2 from by rw [ft_X3_1 hS hT_a1]) (fun c2 => ?_) (fun c2 => ?_)
  · exact (eX1_tell_j83 hF a1 a2 a3 hT_a1 hT_a3 hS)
  · refine EQ_if (show h (h a1 1) a2 = 0 ↔ h (a1 + 1) a2 = 0 from by rw [ft_X3_1 hS hT_a1]) (fun c3 => ?_) (fun c3 => ?_)
    · refine EQ_jgd (show h a1 (-2) = 4 from by rw [kd_X3 hS hT_a1]) ?_
      refine EQ_jg ⟨fun ⟨_, x0⟩ => (show jI a2 (h (h a1 2) (-1)) ↔ jI a2 (h (a1 + 2) (-1)) from by rw [ft_X3_2 hS hT_a1]).mp x0, fun x0 => ⟨(show h (h a1 2) (-2) = 101 from by rw [ft_X3_2 hS hT_a1, ka_X3_2 hS hT_a1]), (show jI a2 (h (h a1 2) (-1)) ↔ jI a2 (h (a1 + 2) (-1)) from by rw [ft_X3_2 hS hT_a1]).mpr x0⟩⟩ (fun g4 => ?_)
      refine EQ_jgd (show h a3 (-2) = 7 from by rw [kd_X6 hS hT_a3]) ?_
      refine EQ_jb (by rw [ft_X3_2 hS hT_a1]; exact eX6_put a3 (w32 (97 + h (a1 + 2) a2)) hT_a3 hS) (fun h4 r5 => ?_)
      exact EQ_some r5
    · refine EQ_if (show h (h a1 1) a2 = 1 ↔ h (a1 + 1) a2 = 1 from by rw [ft_X3_1 hS hT_a1]) (fun c6 => ?_) (fun c6 => ?_)
      · refine EQ_jgd (show h a1 (-2) = 4 from by rw [kd_X3 hS hT_a1]) ?_
        refine EQ_jg ⟨fun ⟨_, x0⟩ => (show jI a2 (h (h a1 3) (-1)) ↔ jI a2 (h (a1 + 3) (-1)) from by rw [ft_X3_3 hS hT_a1]).mp x0, fun x0 => ⟨(show h (h a1 3) (-2) = 101 from by rw [ft_X3_3 hS hT_a1, ka_X3_3 hS hT_a1]), (show jI a2 (h (h a1 3) (-1)) ↔ jI a2 (h (a1 + 3) (-1)) from by rw [ft_X3_3 hS hT_a1]).mpr x0⟩⟩ (fun g7 => ?_)
        refine EQ_jgd (show h a1 (-2) = 4 from by rw [kd_X3 hS hT_a1]) ?_
        refine EQ_jg ⟨fun ⟨_, x0⟩ => (show jI a2 (h (h a1 2) (-1)) ↔ jI a2 (h (a1 + 2) (-1)) from by rw [ft_X3_2 hS hT_a1]).mp x0, fun x0 => ⟨(show h (h a1 2) (-2) = 101 from by rw [ft_X3_2 hS hT_a1, ka_X3_2 hS hT_a1]), (show jI a2 (h (h a1 2) (-1)) ↔ jI a2 (h (a1 + 2) (-1)) from by rw [ft_X3_2 hS hT_a1]).mpr x0⟩⟩ (fun g8 => ?_)
        refine EQ_jb (by rw [ft_X3_3 hS hT_a1, ft_X3_2 hS hT_a1]; exact eX1_tellValue (h (a1 + 3) a2) (h (a1 + 2) a2) a3 hT_a3 hS) (fun h7 r9 => ?_)
        exact EQ_some r9
      · refine EQ_if (show h (h a1 1) a2 = 2 ↔ h (a1 + 1) a2 = 2 from by rw [ft_X3_1 hS hT_a1]) (fun c10 => ?_) (fun c10 => ?_)
        · exact (eX1_tell_j83 hF a1 a2 a3 hT_a1 hT_a3 hS)
        · refine EQ_jgd (show h 200 (-2) = 2 from by rw [k_200 hS]) ?_
          refine EQ_jgd (show h a1 (-2) = 4 from by rw [kd_X3 hS hT_a1]) ?_
          refine EQ_jg ⟨fun ⟨_, x0⟩ => (show jI a2 (h (h a1 2) (-1)) ↔ jI a2 (h (a1 + 2) (-1)) from by rw [ft_X3_2 hS hT_a1]).mp x0, fun x0 => ⟨(show h (h a1 2) (-2) = 101 from by rw [ft_X3_2 hS hT_a1, ka_X3_2 hS hT_a1]), (show jI a2 (h (h a1 2) (-1)) ↔ jI a2 (h (a1 + 2) (-1)) from by rw [ft_X3_2 hS hT_a1]).mpr x0⟩⟩ (fun g11 => ?_)
          refine EQ_jg ⟨fun ⟨_, x0⟩ => (show jI (h (h a1 2) a2) (h (h 200 13) (-1)) ↔ jI (h (a1 + 2) a2) 3 from by rw [ft_X3_2 hS hT_a1, r_200_13 hS, l_270 hS]).mp x0, fun x0 => ⟨(show h (h 200 13) (-2) = 101 from by rw [r_200_13 hS, k_270 hS]), (show jI (h (h a1 2) a2) (h (h 200 13) (-1)) ↔ jI (h (a1 + 2) a2) 3 from by rw [ft_X3_2 hS hT_a1, r_200_13 hS, l_270 hS]).mpr x0⟩⟩ (fun g12 => ?_)
          refine EQ_jgd (show h a3 (-2) = 7 from by rw [kd_X6 hS hT_a3]) ?_
          refine EQ_jb (by rw [r_200_13 hS, ft_X3_2 hS hT_a1]; exact eX6_number a3 (h 270 (h (a1 + 2) a2)) hT_a3 hS) (fun h11 r13 => ?_)
          exact EQ_some r13
noncomputable def gX1_tellD : Nat → Int → Int → Int → AH → Option (AH)
  | 0 => fun _ _ _ _ => none
  | d + 1 => gX1_tell_ (gX1_tellD d)
theorem eX1_tellD : ∀ (d : Nat) (a1 : Int) (a2 : Int) (a3 : Int) (hT_a1 : isX3 a1) (hT_a3 : isX6 a3) {h : AH} (hS : Sh S h) , EQ (fX1_tellD d 200 a1 a2 a3 h) (gX1_tellD d a1 a2 a3 h) (fun r => Sh S r) := by
  intro d
  induction d with
  | zero => intro a1 a2 a3 hT_a1 hT_a3 h hS; exact EQ_none
  | succ d ih => intro a1 a2 a3 hT_a1 hT_a3 h hS; exact eX1_tell_ ih a1 a2 a3 hT_a1 hT_a3 hS
noncomputable def gX1_tell : Int → Int → Int → AH → Option (AH) := gX1_tellD 40
theorem eX1_tell (a1 : Int) (a2 : Int) (a3 : Int) (hT_a1 : isX3 a1) (hT_a3 : isX6 a3) {h : AH} (hS : Sh S h) : EQ (fX1_tell 200 a1 a2 a3 h) (gX1_tell a1 a2 a3 h) (fun r => Sh S r) := eX1_tellD 40 a1 a2 a3 hT_a1 hT_a3 hS
noncomputable def gX1_answer_b16 (i1 : Int) (i2 : Int) (i3 : Int) (s : Int × AH) : Option ((Int × AH) ⊕ (AH)) := jt2 s fun a4 h => if h (h 200 16) 1 ≤ a4 then (some (.inr h)) else (jb (gX4_valueAt (h 200 16) i3 a4 h) fun v15 => jg (jI a4 1000) <| jl (jst h 269 a4 v15) fun h16 => jl (w32 (a4 + 1)) fun x17 => some (.inl (x17, h16)))
theorem eX1_answer_b16 (i1 : Int) (i2 : Int) (i3 : Int) (hT_i1 : isX3 i1) {s : Int × AH} (hS : (fun r => Sh S r.2) s) : EQ (fX1_answer_b16 200 i1 i2 i3 s) (gX1_answer_b16 i1 i2 i3 s) (Sum.elim (fun r => Sh S r.2) (fun r => Sh S r)) := by
  unfold fX1_answer_b16 gX1_answer_b16
  obtain ⟨a4, h⟩ := s
  refine EQ_jt2 ?_
  replace hS : Sh S h := hS
  refine EQ_jgd (show h 200 (-2) = 2 from by rw [k_200 hS]) ?_
  refine EQ_jgd (show h (h 200 16) (-2) = 5 from by rw [kd_X4 hS (dy_200_16 hS)]) ?_
  refine EQ_if Iff.rfl (fun c1 => ?_) (fun c1 => ?_)
  · exact EQ_some hS
  · refine EQ_jgd (show h 200 (-2) = 2 from by rw [k_200 hS]) ?_
    refine EQ_jgd (show h 200 (-2) = 2 from by rw [k_200 hS]) ?_
    refine EQ_jgd (show h (h 200 16) (-2) = 5 from by rw [kd_X4 hS (dy_200_16 hS)]) ?_
    refine EQ_jb (eX4_valueAt (h 200 16) i3 a4 (dy_200_16 hS) hS) (fun v15 r2 => ?_)
    refine EQ_jg ⟨fun ⟨_, _, x0⟩ => (show jI a4 (h (h 200 8) (-1)) ↔ jI a4 1000 from by rw [r_200_8 hS, l_269 hS]).mp x0, fun x0 => ⟨(show h (h 200 8) (-2) = 101 from by rw [r_200_8 hS, k_269 hS]), (show 200 ≤ h 200 8 from by rw [r_200_8 hS]; exact (by decide)), (show jI a4 (h (h 200 8) (-1)) ↔ jI a4 1000 from by rw [r_200_8 hS, l_269 hS]).mpr x0⟩⟩ (fun g3 => ?_)
    refine EQ_jl (by rw [r_200_8 hS]) (fun h16 eh16 => ?_)
    have s4 := Sh_of eh16 (Sh_sta hS (by decide +kernel) (jI_nn g3) (fun e => absurd ((k_269 hS).symm.trans e) (by decide)))
    clear eh16
    refine EQ_jl rfl (fun x17 ex17 => ?_)
    clear ex17
    exact EQ_some s4
noncomputable def gX1_answer_l16 (i1 : Int) (i2 : Int) (i3 : Int) (a4 : Int) (h : AH) : Option (AH) := jit (gX1_answer_b16 i1 i2 i3) (a4, h)
theorem eX1_answer_l16 (i1 : Int) (i2 : Int) (i3 : Int) (a4 : Int) (hT_i1 : isX3 i1) {h : AH} (hS : Sh S h) : EQ (fX1_answer_l16 200 i1 i2 i3 a4 h) (gX1_answer_l16 i1 i2 i3 a4 h) (fun r => Sh S r) := EQ_jit (I := (fun r => Sh S r.2)) (fun s hs => eX1_answer_b16 i1 i2 i3 hT_i1 hs) hS
noncomputable def gX1_answer_b2 (i1 : Int) (i2 : Int) (s : Int × AH) : Option ((Int × AH) ⊕ (AH)) := jt2 s fun a3 h => if h (h 200 16) 18 ≤ a3 then (some (.inr h)) else (jb (gX1_answer_l16 i1 i2 a3 0 h) fun o5 => jl (jst o5 200 9 (o5 (o5 200 16) 1)) fun h7 => jb2 (gX1_work i1 i2 0 h7) fun v9 h10 => jg (jI a3 256) <| jl (jst h10 323 a3 v9) fun h11 => jl (w32 (a3 + 1)) fun x12 => some (.inl (x12, h11)))
theorem eX1_answer_b2 (i1 : Int) (i2 : Int) (hT_i1 : isX3 i1) {s : Int × AH} (hS : (fun r => Sh S r.2) s) : EQ (fX1_answer_b2 200 i1 i2 s) (gX1_answer_b2 i1 i2 s) (Sum.elim (fun r => Sh S r.2) (fun r => Sh S r)) := by
  unfold fX1_answer_b2 gX1_answer_b2
  obtain ⟨a3, h⟩ := s
  refine EQ_jt2 ?_
  replace hS : Sh S h := hS
  refine EQ_jgd (show h 200 (-2) = 2 from by rw [k_200 hS]) ?_
  refine EQ_jgd (show h (h 200 16) (-2) = 5 from by rw [kd_X4 hS (dy_200_16 hS)]) ?_
  refine EQ_if Iff.rfl (fun c1 => ?_) (fun c1 => ?_)
  · exact EQ_some hS
  · refine EQ_jb (eX1_answer_l16 i1 i2 a3 0 hT_i1 hS) (fun o5 r2 => ?_)
    refine EQ_jgd (show o5 200 (-2) = 2 from by rw [k_200 r2]) ?_
    refine EQ_jgd (show o5 (o5 200 16) (-2) = 5 from by rw [kd_X4 r2 (dy_200_16 r2)]) ?_
    refine EQ_jgd ⟨(show o5 200 (-2) = 2 from by rw [k_200 r2]), (show (200 : Int) ≤ 200 from (by decide))⟩ ?_
    refine EQ_jl rfl (fun h7 eh7 => ?_)
    have s3 := Sh_of eh7 (Sh_sto r2 (a := 200) (i := 9) (by decide +kernel))
    clear eh7
    refine EQ_jgd (show h7 200 (-2) = 2 from by rw [k_200 s3]) ?_
    refine EQ_jgd (show h7 200 (-2) = 2 from by rw [k_200 s3]) ?_
    refine EQ_jb2 (eX1_work i1 i2 0 s3) (fun v9 h10 r4 => ?_)
    replace r4 : Sh S h10 := r4
    refine EQ_jg ⟨fun ⟨_, _, x0⟩ => (show jI a3 (h10 (h7 200 19) (-1)) ↔ jI a3 256 from by rw [r_200_19 s3, l_323 r4]).mp x0, fun x0 => ⟨(show h10 (h7 200 19) (-2) = 101 from by rw [r_200_19 s3, k_323 r4]), (show 200 ≤ h7 200 19 from by rw [r_200_19 s3]; exact (by decide)), (show jI a3 (h10 (h7 200 19) (-1)) ↔ jI a3 256 from by rw [r_200_19 s3, l_323 r4]).mpr x0⟩⟩ (fun g5 => ?_)
    refine EQ_jl (by rw [r_200_19 s3]) (fun h11 eh11 => ?_)
    have s6 := Sh_of eh11 (Sh_sta r4 (by decide +kernel) (jI_nn g5) (fun e => absurd ((k_323 r4).symm.trans e) (by decide)))
    clear eh11
    refine EQ_jl rfl (fun x12 ex12 => ?_)
    clear ex12
    exact EQ_some s6
noncomputable def gX1_answer_l2 (i1 : Int) (i2 : Int) (a3 : Int) (h : AH) : Option (AH) := jit (gX1_answer_b2 i1 i2) (a3, h)
theorem eX1_answer_l2 (i1 : Int) (i2 : Int) (a3 : Int) (hT_i1 : isX3 i1) {h : AH} (hS : Sh S h) : EQ (fX1_answer_l2 200 i1 i2 a3 h) (gX1_answer_l2 i1 i2 a3 h) (fun r => Sh S r) := EQ_jit (I := (fun r => Sh S r.2)) (fun s hs => eX1_answer_b2 i1 i2 hT_i1 hs) hS
noncomputable def gX1_answer (a1 : Int) (a2 : Int) (h : AH) : Option (AH) := jb (gX1_answer_l2 a1 a2 0 h) fun o1 => jl (jst o1 200 9 0) fun h3 => some h3
theorem eX1_answer (a1 : Int) (a2 : Int) (hT_a1 : isX3 a1) {h : AH} (hS : Sh S h) : EQ (fX1_answer 200 a1 a2 h) (gX1_answer a1 a2 h) (fun r => Sh S r) := by
  unfold fX1_answer gX1_answer
  refine EQ_jb (eX1_answer_l2 a1 a2 0 hT_a1 hS) (fun o1 r1 => ?_)
  refine EQ_jgd ⟨(show o1 200 (-2) = 2 from by rw [k_200 r1]), (show (200 : Int) ≤ 200 from (by decide))⟩ ?_
  refine EQ_jl rfl (fun h3 eh3 => ?_)
  have s2 := Sh_of eh3 (Sh_sto r1 (a := 200) (i := 9) (by decide +kernel))
  clear eh3
  exact EQ_some s2
noncomputable def gX1_become (a1 : Int) (h : AH) : Option (AH) := jl (jst h 330 0 0) fun h1 => jb2 (gX1_fill a1 h1) fun v3 h4 => jl (jst h4 200 22 v3) fun h5 => jl (jst h5 200 23 1) fun h6 => jl (jst h6 336 1 0) fun h7 => jb (gX1_tell 330 (h7 200 22) 336 h7) fun h9 => jb (gX1_answer 330 (h9 200 22) h9) fun h11 => jg ((0 : Int) ≤ 0 ∧ (0 : Int) ≤ 0 ∧ (0 : Int) ≤ h11 (h11 200 16) 18 ∧ (0 : Int) + h11 (h11 200 16) 18 ≤ 256 ∧ (0 : Int) + h11 (h11 200 16) 18 ≤ 256) <| jl (jcpy h11 323 0 338 0 (h11 (h11 200 16) 18)) fun h12 => jl (jst h12 200 26 (h12 (h12 200 16) 18)) fun h13 => jg (jI (h13 200 22) 2200) <| jl (jst h13 200 27 (h13 333 (h13 200 22))) fun h14 => jl (jst h14 200 29 (h14 (h14 200 16) 1)) fun h15 => jg ((0 : Int) ≤ 0 ∧ (0 : Int) ≤ 0 ∧ (0 : Int) ≤ 3 ∧ (0 : Int) + 3 ≤ 3 ∧ (0 : Int) + 3 ≤ 3) <| jl (jcpy h15 (h15 200 16 + 1) 0 339 0 3) fun h16 => some h16
theorem eX1_become (a1 : Int) {h : AH} (hS : Sh S h) : EQ (fX1_become 200 a1 h) (gX1_become a1 h) (fun r => Sh S r) := by
  unfold fX1_become gX1_become
  refine EQ_jgd (show h 200 (-2) = 2 from by rw [k_200 hS]) ?_
  refine EQ_jgd ⟨(show h (h 200 21) (-2) = 4 from by rw [r_200_21 hS, k_330 hS]), (show 200 ≤ h 200 21 from by rw [r_200_21 hS]; exact (by decide))⟩ ?_
  refine EQ_jl (by rw [r_200_21 hS]) (fun h1 eh1 => ?_)
  have s1 := Sh_of eh1 (Sh_sto hS (a := 330) (i := 0) (by decide +kernel))
  clear eh1
  refine EQ_jgd (show h1 200 (-2) = 2 from by rw [k_200 s1]) ?_
  refine EQ_jgd (show h1 200 (-2) = 2 from by rw [k_200 s1]) ?_
  refine EQ_jb2 (by rw [r_200_20 s1]; exact eX1_fill a1 s1) (fun v3 h4 r2 => ?_)
  replace r2 : Sh S h4 := r2
  refine EQ_jgd ⟨(show h4 200 (-2) = 2 from by rw [k_200 r2]), (show (200 : Int) ≤ 200 from (by decide))⟩ ?_
  refine EQ_jl rfl (fun h5 eh5 => ?_)
  have s3 := Sh_of eh5 (Sh_sto r2 (a := 200) (i := 22) (by decide +kernel))
  clear eh5
  refine EQ_jgd ⟨(show h5 200 (-2) = 2 from by rw [k_200 s3]), (show (200 : Int) ≤ 200 from (by decide)), (show jZ 1 from by unfold jZ; decide)⟩ ?_
  refine EQ_jl rfl (fun h6 eh6 => ?_)
  have s4 := Sh_of eh6 (Sh_sto s3 (a := 200) (i := 23) (by decide +kernel))
  clear eh6
  refine EQ_jgd (show h6 200 (-2) = 2 from by rw [k_200 s4]) ?_
  refine EQ_jgd ⟨(show h6 (h6 200 24) (-2) = 7 from by rw [r_200_24 s4, k_336 s4]), (show 200 ≤ h6 200 24 from by rw [r_200_24 s4]; exact (by decide))⟩ ?_
  refine EQ_jl (by rw [r_200_24 s4]) (fun h7 eh7 => ?_)
  have s5 := Sh_of eh7 (Sh_sto s4 (a := 336) (i := 1) (by decide +kernel))
  clear eh7
  refine EQ_jgd (show h7 200 (-2) = 2 from by rw [k_200 s5]) ?_
  refine EQ_jgd (show h7 200 (-2) = 2 from by rw [k_200 s5]) ?_
  refine EQ_jgd (show h7 200 (-2) = 2 from by rw [k_200 s5]) ?_
  refine EQ_jgd (show h7 200 (-2) = 2 from by rw [k_200 s5]) ?_
  refine EQ_jb (by rw [r_200_21 s5, r_200_24 s5]; exact eX1_tell 330 (h7 200 22) 336 (by unfold isX3; decide) (by unfold isX6; decide) s5) (fun h9 r6 => ?_)
  refine EQ_jgd (show h9 200 (-2) = 2 from by rw [k_200 r6]) ?_
  refine EQ_jgd (show h9 200 (-2) = 2 from by rw [k_200 r6]) ?_
  refine EQ_jgd (show h9 200 (-2) = 2 from by rw [k_200 r6]) ?_
  refine EQ_jb (by rw [r_200_21 r6]; exact eX1_answer 330 (h9 200 22) (by unfold isX3; decide) r6) (fun h11 r7 => ?_)
  refine EQ_jgd (show h11 200 (-2) = 2 from by rw [k_200 r7]) ?_
  refine EQ_jgd (show h11 200 (-2) = 2 from by rw [k_200 r7]) ?_
  refine EQ_jgd (show h11 200 (-2) = 2 from by rw [k_200 r7]) ?_
  refine EQ_jgd (show h11 (h11 200 16) (-2) = 5 from by rw [kd_X4 r7 (dy_200_16 r7)]) ?_
  refine EQ_jg ⟨fun x0 => (show jcpG h11 101 (h11 200 19) 0 (h11 200 25) 0 (h11 (h11 200 16) 18) ↔ (0 : Int) ≤ 0 ∧ (0 : Int) ≤ 0 ∧ (0 : Int) ≤ h11 (h11 200 16) 18 ∧ (0 : Int) + h11 (h11 200 16) 18 ≤ 256 ∧ (0 : Int) + h11 (h11 200 16) 18 ≤ 256 from by rw [r_200_19 r7, r_200_25 r7]; exact cpg (by rw [k_323 r7]) (by rw [k_338 r7]) ((by decide)) ((by decide)) (l_323 r7) (l_338 r7)).mp x0, fun x0 => (show jcpG h11 101 (h11 200 19) 0 (h11 200 25) 0 (h11 (h11 200 16) 18) ↔ (0 : Int) ≤ 0 ∧ (0 : Int) ≤ 0 ∧ (0 : Int) ≤ h11 (h11 200 16) 18 ∧ (0 : Int) + h11 (h11 200 16) 18 ≤ 256 ∧ (0 : Int) + h11 (h11 200 16) 18 ≤ 256 from by rw [r_200_19 r7, r_200_25 r7]; exact cpg (by rw [k_323 r7]) (by rw [k_338 r7]) ((by decide)) ((by decide)) (l_323 r7) (l_338 r7)).mpr x0⟩ (fun g8 => ?_)
  refine EQ_jl (by rw [r_200_19 r7, r_200_25 r7]) (fun h12 eh12 => ?_)
  have s9 := Sh_of eh12 (Sh_cpy r7 (by decide +kernel) (by decide) (fun e => absurd ((k_338 r7).symm.trans e) (by decide)))
  clear eh12
  refine EQ_jgd (show h12 200 (-2) = 2 from by rw [k_200 s9]) ?_
  refine EQ_jgd (show h12 (h12 200 16) (-2) = 5 from by rw [kd_X4 s9 (dy_200_16 s9)]) ?_
  refine EQ_jgd ⟨(show h12 200 (-2) = 2 from by rw [k_200 s9]), (show (200 : Int) ≤ 200 from (by decide))⟩ ?_
  refine EQ_jl rfl (fun h13 eh13 => ?_)
  have s10 := Sh_of eh13 (Sh_sto s9 (a := 200) (i := 26) (by decide +kernel))
  clear eh13
  refine EQ_jgd (show h13 200 (-2) = 2 from by rw [k_200 s10]) ?_
  refine EQ_jgd (show h13 (h13 200 21) (-2) = 4 from by rw [r_200_21 s10, k_330 s10]) ?_
  refine EQ_jgd (show h13 200 (-2) = 2 from by rw [k_200 s10]) ?_
  refine EQ_jg ⟨fun ⟨_, x0⟩ => (show jI (h13 200 22) (h13 (h13 (h13 200 21) 3) (-1)) ↔ jI (h13 200 22) 2200 from by rw [r_200_21 s10, r_330_3 s10, l_333 s10]).mp x0, fun x0 => ⟨(show h13 (h13 (h13 200 21) 3) (-2) = 101 from by rw [r_200_21 s10, r_330_3 s10, k_333 s10]), (show jI (h13 200 22) (h13 (h13 (h13 200 21) 3) (-1)) ↔ jI (h13 200 22) 2200 from by rw [r_200_21 s10, r_330_3 s10, l_333 s10]).mpr x0⟩⟩ (fun g11 => ?_)
  refine EQ_jgd ⟨(show h13 200 (-2) = 2 from by rw [k_200 s10]), (show (200 : Int) ≤ 200 from (by decide))⟩ ?_
  refine EQ_jl (by rw [r_200_21 s10, r_330_3 s10]) (fun h14 eh14 => ?_)
  have s12 := Sh_of eh14 (Sh_sto s10 (a := 200) (i := 27) (by decide +kernel))
  clear eh14
  refine EQ_jgd (show h14 200 (-2) = 2 from by rw [k_200 s12]) ?_
  refine EQ_jgd (show h14 (h14 200 16) (-2) = 5 from by rw [kd_X4 s12 (dy_200_16 s12)]) ?_
  refine EQ_jgd ⟨(show h14 200 (-2) = 2 from by rw [k_200 s12]), (show (200 : Int) ≤ 200 from (by decide))⟩ ?_
  refine EQ_jl rfl (fun h15 eh15 => ?_)
  have s13 := Sh_of eh15 (Sh_sto s12 (a := 200) (i := 29) (by decide +kernel))
  clear eh15
  refine EQ_jgd (show h15 200 (-2) = 2 from by rw [k_200 s13]) ?_
  refine EQ_jgd (show h15 (h15 200 16) (-2) = 5 from by rw [kd_X4 s13 (dy_200_16 s13)]) ?_
  refine EQ_jgd (show h15 200 (-2) = 2 from by rw [k_200 s13]) ?_
  refine EQ_jg ⟨fun x0 => (show jcpG h15 101 (h15 (h15 200 16) 0) 0 (h15 200 28) 0 3 ↔ (0 : Int) ≤ 0 ∧ (0 : Int) ≤ 0 ∧ (0 : Int) ≤ 3 ∧ (0 : Int) + 3 ≤ 3 ∧ (0 : Int) + 3 ≤ 3 from by rw [ft_X4_0 s13 (dy_200_16 s13), r_200_28 s13]; exact cpg (by rw [ka_X4_0 s13 (dy_200_16 s13)]) (by rw [k_339 s13]) (gea_X4_0 (dy_200_16 s13)) ((by decide)) (la_X4_0 s13 (dy_200_16 s13)) (l_339 s13)).mp x0, fun x0 => (show jcpG h15 101 (h15 (h15 200 16) 0) 0 (h15 200 28) 0 3 ↔ (0 : Int) ≤ 0 ∧ (0 : Int) ≤ 0 ∧ (0 : Int) ≤ 3 ∧ (0 : Int) + 3 ≤ 3 ∧ (0 : Int) + 3 ≤ 3 from by rw [ft_X4_0 s13 (dy_200_16 s13), r_200_28 s13]; exact cpg (by rw [ka_X4_0 s13 (dy_200_16 s13)]) (by rw [k_339 s13]) (gea_X4_0 (dy_200_16 s13)) ((by decide)) (la_X4_0 s13 (dy_200_16 s13)) (l_339 s13)).mpr x0⟩ (fun g14 => ?_)
  refine EQ_jl (by rw [ft_X4_0 s13 (dy_200_16 s13), r_200_28 s13]) (fun h16 eh16 => ?_)
  have s15 := Sh_of eh16 (Sh_cpy s13 (by decide +kernel) (by decide) (fun e => absurd ((k_339 s13).symm.trans e) (by decide)))
  clear eh16
  exact EQ_some s15
noncomputable def gX1_becomeFirst (a1 : Int) (h : AH) : Option (AH) := jl (jst h 324 0 0) fun h1 => jb2 (gX5_term a1 h1) fun v3 h4 => jb (gX1_become v3 h4) fun h6 => some h6
theorem eX1_becomeFirst (a1 : Int) {h : AH} (hS : Sh S h) : EQ (fX1_becomeFirst 200 a1 h) (gX1_becomeFirst a1 h) (fun r => Sh S r) := by
  unfold fX1_becomeFirst gX1_becomeFirst
  refine EQ_jgd (show h 200 (-2) = 2 from by rw [k_200 hS]) ?_
  refine EQ_jgd ⟨(show h (h 200 20) (-2) = 4 from by rw [r_200_20 hS, k_324 hS]), (show 200 ≤ h 200 20 from by rw [r_200_20 hS]; exact (by decide))⟩ ?_
  refine EQ_jl (by rw [r_200_20 hS]) (fun h1 eh1 => ?_)
  have s1 := Sh_of eh1 (Sh_sto hS (a := 324) (i := 0) (by decide +kernel))
  clear eh1
  refine EQ_jgd (show h1 200 (-2) = 2 from by rw [k_200 s1]) ?_
  refine EQ_jgd (show h1 200 (-2) = 2 from by rw [k_200 s1]) ?_
  refine EQ_jgd (show h1 (h1 200 18) (-2) = 6 from by rw [r_200_18 s1, k_307 s1]) ?_
  refine EQ_jb2 (by rw [r_200_18 s1, r_200_20 s1]; exact eX5_term a1 s1) (fun v3 h4 r2 => ?_)
  replace r2 : Sh S h4 := r2
  refine EQ_jgd (show h4 200 (-2) = 2 from by rw [k_200 r2]) ?_
  refine EQ_jb (eX1_become v3 r2) (fun h6 r3 => ?_)
  exact EQ_some r3
noncomputable def gX1_find (a1 : Int) (h : AH) : Option (Int × AH) := jb2 (gX1_known a1 h) fun v2 h3 => if 0 ≤ v2 then (jb2 (gX5_first a1 h3) fun v6 h7 => if v6 = (-1) then (some (0, h7)) else (jb (gX1_becomeFirst v6 h7) fun h10 => jg (jI v6 121) <| some (h10 309 v6, h10))) else (some (v2, h3))
theorem eX1_find (a1 : Int) {h : AH} (hS : Sh S h) : EQ (fX1_find 200 a1 h) (gX1_find a1 h) (fun r => Sh S r.2) := by
  unfold fX1_find gX1_find
  refine EQ_jgd (show h 200 (-2) = 2 from by rw [k_200 hS]) ?_
  refine EQ_jb2 (eX1_known a1 hS) (fun v2 h3 r1 => ?_)
  replace r1 : Sh S h3 := r1
  refine EQ_if Iff.rfl (fun c2 => ?_) (fun c2 => ?_)
  · refine EQ_jgd (show h3 200 (-2) = 2 from by rw [k_200 r1]) ?_
    refine EQ_jgd (show h3 (h3 200 18) (-2) = 6 from by rw [r_200_18 r1, k_307 r1]) ?_
    refine EQ_jb2 (by rw [r_200_18 r1]; exact eX5_first a1 r1) (fun v6 h7 r3 => ?_)
    replace r3 : Sh S h7 := r3
    refine EQ_if Iff.rfl (fun c4 => ?_) (fun c4 => ?_)
    · exact EQ_some r3
    · refine EQ_jgd (show h7 200 (-2) = 2 from by rw [k_200 r3]) ?_
      refine EQ_jb (eX1_becomeFirst v6 r3) (fun h10 r5 => ?_)
      refine EQ_jgd (show h10 200 (-2) = 2 from by rw [k_200 r5]) ?_
      refine EQ_jgd (show h10 (h10 200 18) (-2) = 6 from by rw [r_200_18 r5, k_307 r5]) ?_
      refine EQ_jg ⟨fun ⟨_, x0⟩ => (show jI v6 (h10 (h10 (h10 200 18) 2) (-1)) ↔ jI v6 121 from by rw [r_200_18 r5, r_307_2 r5, l_309 r5]).mp x0, fun x0 => ⟨(show h10 (h10 (h10 200 18) 2) (-2) = 101 from by rw [r_200_18 r5, r_307_2 r5, k_309 r5]), (show jI v6 (h10 (h10 (h10 200 18) 2) (-1)) ↔ jI v6 121 from by rw [r_200_18 r5, r_307_2 r5, l_309 r5]).mpr x0⟩⟩ (fun g6 => ?_)
      exact EQ_some' (by rw [r_200_18 r5, r_307_2 r5]) r5
  · exact EQ_some r1
noncomputable def gX5_leafFunction_j127 (a1 : Int) (t1 : Int) (h : AH) : Option (Int × AH) := jb2 (gX5_place t1 13 a1 (-1) (-1) (-1) h) fun v6 h7 => some (v6, h7)
theorem eX5_leafFunction_j127 (a1 : Int) (t1 : Int) {h : AH} (hS : Sh S h) : EQ (fX5_leafFunction_j127 a1 307 t1 h) (gX5_leafFunction_j127 a1 t1 h) (fun r => Sh S r.2) := by
  unfold fX5_leafFunction_j127 gX5_leafFunction_j127
  refine EQ_jgd (show h 307 (-2) = 6 from by rw [k_307 hS]) ?_
  refine EQ_jb2 (eX5_place t1 13 a1 (-1) (-1) (-1) hS) (fun v6 h7 r1 => ?_)
  replace r1 : Sh S h7 := r1
  exact EQ_some r1
noncomputable def gX5_leafFunction_j77_22 (a1 : Int) (a2 : Int) (a3 : Int) (t1 : Int) (t2 : Int) (h : AH) : Option ((Int × AH) ⊕ (AH)) := jg (jI t1 256) <| jl (jst h 320 t1 t2) fun h14 => jl (w32 (a3 + 1)) fun x15 => some (.inl (x15, h14))
theorem eX5_leafFunction_j77_22 (a1 : Int) (a2 : Int) (a3 : Int) (t1 : Int) (t2 : Int) {h : AH} (hS : Sh S h) : EQ (fX5_leafFunction_j77_22 307 a1 a2 a3 320 t1 t2 h) (gX5_leafFunction_j77_22 a1 a2 a3 t1 t2 h) (Sum.elim (fun r => Sh S r.2) (fun r => Sh S r)) := by
  unfold fX5_leafFunction_j77_22 gX5_leafFunction_j77_22
  refine EQ_jg ⟨fun ⟨_, _, x0⟩ => (show jI t1 (h 320 (-1)) ↔ jI t1 256 from by rw [l_320 hS]).mp x0, fun x0 => ⟨(show h 320 (-2) = 101 from by rw [k_320 hS]), (show (200 : Int) ≤ 320 from (by decide)), (show jI t1 (h 320 (-1)) ↔ jI t1 256 from by rw [l_320 hS]).mpr x0⟩⟩ (fun g1 => ?_)
  refine EQ_jl rfl (fun h14 eh14 => ?_)
  have s2 := Sh_of eh14 (Sh_sta hS (by decide +kernel) (jI_nn g1) (fun e => absurd ((k_320 hS).symm.trans e) (by decide)))
  clear eh14
  refine EQ_jl rfl (fun x15 ex15 => ?_)
  clear ex15
  exact EQ_some s2
noncomputable def gX5_leafFunction_b22 (i1 : Int) (i2 : Int) (s : Int × AH) : Option ((Int × AH) ⊕ (AH)) := jt2 s fun a3 h => jb (gX5_points h) fun v9 => if v9 ≤ a3 then (some (.inr h)) else (if i2 = 0 then (jg (jI (w32 (i1 - h (h 200 16) 1)) 12) <| gX5_leafFunction_j77_22 i1 i2 a3 a3 (h (h 200 16 + 4) (w32 (i1 - h (h 200 16) 1))) h) else (jb (gX4_valueAt (h 200 16) a3 i1 h) fun v13 => gX5_leafFunction_j77_22 i1 i2 a3 a3 v13 h))
theorem eX5_leafFunction_b22 (i1 : Int) (i2 : Int) {s : Int × AH} (hS : (fun r => Sh S r.2) s) : EQ (fX5_leafFunction_b22 307 i1 i2 s) (gX5_leafFunction_b22 i1 i2 s) (Sum.elim (fun r => Sh S r.2) (fun r => Sh S r)) := by
  unfold fX5_leafFunction_b22 gX5_leafFunction_b22
  obtain ⟨a3, h⟩ := s
  refine EQ_jt2 ?_
  replace hS : Sh S h := hS
  refine EQ_jgd (show h 307 (-2) = 6 from by rw [k_307 hS]) ?_
  refine EQ_jb (eX5_points hS) (fun v9 r1 => ?_)
  refine EQ_if Iff.rfl (fun c2 => ?_) (fun c2 => ?_)
  · exact EQ_some hS
  · refine EQ_jgd (show h 307 (-2) = 6 from by rw [k_307 hS]) ?_
    refine EQ_if Iff.rfl (fun c3 => ?_) (fun c3 => ?_)
    · refine EQ_jgd (show h 307 (-2) = 6 from by rw [k_307 hS]) ?_
      refine EQ_jgd (show h (h 307 22) (-2) = 2 from by rw [r_307_22 hS, k_200 hS]) ?_
      refine EQ_jgd (show h (h (h 307 22) 16) (-2) = 5 from by rw [r_307_22 hS, kd_X4 hS (dy_200_16 hS)]) ?_
      refine EQ_jgd (show h 307 (-2) = 6 from by rw [k_307 hS]) ?_
      refine EQ_jgd (show h (h 307 22) (-2) = 2 from by rw [r_307_22 hS, k_200 hS]) ?_
      refine EQ_jgd (show h (h (h 307 22) 16) (-2) = 5 from by rw [r_307_22 hS, kd_X4 hS (dy_200_16 hS)]) ?_
      refine EQ_jg ⟨fun ⟨_, x0⟩ => (show jI (w32 (i1 - h (h (h 307 22) 16) 1)) (h (h (h (h 307 22) 16) 6) (-1)) ↔ jI (w32 (i1 - h (h 200 16) 1)) 12 from by rw [r_307_22 hS, ft_X4_6 hS (dy_200_16 hS), la_X4_6 hS (dy_200_16 hS)]).mp x0, fun x0 => ⟨(show h (h (h (h 307 22) 16) 6) (-2) = 101 from by rw [r_307_22 hS, ft_X4_6 hS (dy_200_16 hS), ka_X4_6 hS (dy_200_16 hS)]), (show jI (w32 (i1 - h (h (h 307 22) 16) 1)) (h (h (h (h 307 22) 16) 6) (-1)) ↔ jI (w32 (i1 - h (h 200 16) 1)) 12 from by rw [r_307_22 hS, ft_X4_6 hS (dy_200_16 hS), la_X4_6 hS (dy_200_16 hS)]).mpr x0⟩⟩ (fun g4 => ?_)
      exact (by rw [r_307_15 hS, r_307_22 hS, ft_X4_6 hS (dy_200_16 hS)]; exact eX5_leafFunction_j77_22 i1 i2 a3 a3 (h (h 200 16 + 4) (w32 (i1 - h (h 200 16) 1))) hS)
    · refine EQ_jgd (show h 307 (-2) = 6 from by rw [k_307 hS]) ?_
      refine EQ_jgd (show h (h 307 22) (-2) = 2 from by rw [r_307_22 hS, k_200 hS]) ?_
      refine EQ_jgd (show h (h (h 307 22) 16) (-2) = 5 from by rw [r_307_22 hS, kd_X4 hS (dy_200_16 hS)]) ?_
      refine EQ_jb (by rw [r_307_22 hS]; exact eX4_valueAt (h 200 16) a3 i1 (dy_200_16 hS) hS) (fun v13 r5 => ?_)
      exact (by rw [r_307_15 hS]; exact eX5_leafFunction_j77_22 i1 i2 a3 a3 v13 hS)
noncomputable def gX5_leafFunction_l22 (i1 : Int) (i2 : Int) (a3 : Int) (h : AH) : Option (AH) := jit (gX5_leafFunction_b22 i1 i2) (a3, h)
theorem eX5_leafFunction_l22 (i1 : Int) (i2 : Int) (a3 : Int) {h : AH} (hS : Sh S h) : EQ (fX5_leafFunction_l22 307 i1 i2 a3 h) (gX5_leafFunction_l22 i1 i2 a3 h) (fun r => Sh S r) := EQ_jit (I := (fun r => Sh S r.2)) (fun s hs => eX5_leafFunction_b22 i1 i2 hs) hS
noncomputable def gX5_leafFunction_j19 (a1 : Int) (t0 : Int) (h : AH) : Option (Int × AH) := jb (gX5_leafFunction_l22 a1 t0 0 h) fun o2 => if t0 = 0 then (jg (jI (w32 (a1 - o2 (o2 200 16) 1)) 12) <| gX5_leafFunction_j127 a1 (o2 (o2 200 16 + 3) (w32 (a1 - o2 (o2 200 16) 1))) o2) else (jg (jI a1 3) <| gX5_leafFunction_j127 a1 (o2 (o2 200 16 + 1) a1) o2)
theorem eX5_leafFunction_j19 (a1 : Int) (t0 : Int) {h : AH} (hS : Sh S h) : EQ (fX5_leafFunction_j19 307 a1 t0 h) (gX5_leafFunction_j19 a1 t0 h) (fun r => Sh S r.2) := by
  unfold fX5_leafFunction_j19 gX5_leafFunction_j19
  refine EQ_jb (eX5_leafFunction_l22 a1 t0 0 hS) (fun o2 r1 => ?_)
  refine EQ_if Iff.rfl (fun c2 => ?_) (fun c2 => ?_)
  · refine EQ_jgd (show o2 307 (-2) = 6 from by rw [k_307 r1]) ?_
    refine EQ_jgd (show o2 (o2 307 22) (-2) = 2 from by rw [r_307_22 r1, k_200 r1]) ?_
    refine EQ_jgd (show o2 (o2 (o2 307 22) 16) (-2) = 5 from by rw [r_307_22 r1, kd_X4 r1 (dy_200_16 r1)]) ?_
    refine EQ_jgd (show o2 307 (-2) = 6 from by rw [k_307 r1]) ?_
    refine EQ_jgd (show o2 (o2 307 22) (-2) = 2 from by rw [r_307_22 r1, k_200 r1]) ?_
    refine EQ_jgd (show o2 (o2 (o2 307 22) 16) (-2) = 5 from by rw [r_307_22 r1, kd_X4 r1 (dy_200_16 r1)]) ?_
    refine EQ_jg ⟨fun ⟨_, x0⟩ => (show jI (w32 (a1 - o2 (o2 (o2 307 22) 16) 1)) (o2 (o2 (o2 (o2 307 22) 16) 5) (-1)) ↔ jI (w32 (a1 - o2 (o2 200 16) 1)) 12 from by rw [r_307_22 r1, ft_X4_5 r1 (dy_200_16 r1), la_X4_5 r1 (dy_200_16 r1)]).mp x0, fun x0 => ⟨(show o2 (o2 (o2 (o2 307 22) 16) 5) (-2) = 101 from by rw [r_307_22 r1, ft_X4_5 r1 (dy_200_16 r1), ka_X4_5 r1 (dy_200_16 r1)]), (show jI (w32 (a1 - o2 (o2 (o2 307 22) 16) 1)) (o2 (o2 (o2 (o2 307 22) 16) 5) (-1)) ↔ jI (w32 (a1 - o2 (o2 200 16) 1)) 12 from by rw [r_307_22 r1, ft_X4_5 r1 (dy_200_16 r1), la_X4_5 r1 (dy_200_16 r1)]).mpr x0⟩⟩ (fun g3 => ?_)
    exact (by rw [r_307_22 r1, ft_X4_5 r1 (dy_200_16 r1)]; exact eX5_leafFunction_j127 a1 (o2 (o2 200 16 + 3) (w32 (a1 - o2 (o2 200 16) 1))) r1)
  · refine EQ_jgd (show o2 307 (-2) = 6 from by rw [k_307 r1]) ?_
    refine EQ_jgd (show o2 (o2 307 22) (-2) = 2 from by rw [r_307_22 r1, k_200 r1]) ?_
    refine EQ_jgd (show o2 (o2 (o2 307 22) 16) (-2) = 5 from by rw [r_307_22 r1, kd_X4 r1 (dy_200_16 r1)]) ?_
    refine EQ_jg ⟨fun ⟨_, x0⟩ => (show jI a1 (o2 (o2 (o2 (o2 307 22) 16) 0) (-1)) ↔ jI a1 3 from by rw [r_307_22 r1, ft_X4_0 r1 (dy_200_16 r1), la_X4_0 r1 (dy_200_16 r1)]).mp x0, fun x0 => ⟨(show o2 (o2 (o2 (o2 307 22) 16) 0) (-2) = 101 from by rw [r_307_22 r1, ft_X4_0 r1 (dy_200_16 r1), ka_X4_0 r1 (dy_200_16 r1)]), (show jI a1 (o2 (o2 (o2 (o2 307 22) 16) 0) (-1)) ↔ jI a1 3 from by rw [r_307_22 r1, ft_X4_0 r1 (dy_200_16 r1), la_X4_0 r1 (dy_200_16 r1)]).mpr x0⟩⟩ (fun g4 => ?_)
    exact (by rw [r_307_22 r1, ft_X4_0 r1 (dy_200_16 r1)]; exact eX5_leafFunction_j127 a1 (o2 (o2 200 16 + 1) a1) r1)
noncomputable def gX5_leafFunction (a1 : Int) (h : AH) : Option (Int × AH) := if h (h 200 16) 1 ≤ a1 then (gX5_leafFunction_j19 a1 0 h) else (gX5_leafFunction_j19 a1 1 h)
theorem eX5_leafFunction (a1 : Int) {h : AH} (hS : Sh S h) : EQ (fX5_leafFunction 307 a1 h) (gX5_leafFunction a1 h) (fun r => Sh S r.2) := by
  unfold fX5_leafFunction gX5_leafFunction
  refine EQ_jgd (show h 307 (-2) = 6 from by rw [k_307 hS]) ?_
  refine EQ_jgd (show h (h 307 22) (-2) = 2 from by rw [r_307_22 hS, k_200 hS]) ?_
  refine EQ_jgd (show h (h (h 307 22) 16) (-2) = 5 from by rw [r_307_22 hS, kd_X4 hS (dy_200_16 hS)]) ?_
  refine EQ_if (show h (h (h 307 22) 16) 1 ≤ a1 ↔ h (h 200 16) 1 ≤ a1 from by rw [r_307_22 hS]) (fun c1 => ?_) (fun c1 => ?_)
  · exact (eX5_leafFunction_j19 a1 0 hS)
  · exact (eX5_leafFunction_j19 a1 1 hS)
noncomputable def gX5_countLeaf_j27 (a1 : Int) (a3 : Int) (h : AH) : Option (AH) := jg (jI (w32 (w32 (a1 * 120) + a3)) 1560) <| jl (jst h 321 (w32 (w32 (a1 * 120) + a3)) (w64 (h 321 (w32 (w32 (a1 * 120) + a3)) + 1))) fun h6 => some h6
theorem eX5_countLeaf_j27 (a1 : Int) (a3 : Int) {h : AH} (hS : Sh S h) : EQ (fX5_countLeaf_j27 307 a1 a3 h) (gX5_countLeaf_j27 a1 a3 h) (fun r => Sh S r) := by
  unfold fX5_countLeaf_j27 gX5_countLeaf_j27
  refine EQ_jgd (show h 307 (-2) = 6 from by rw [k_307 hS]) ?_
  refine EQ_jg ⟨fun ⟨_, x0⟩ => (show jI (w32 (w32 (a1 * 120) + a3)) (h (h 307 16) (-1)) ↔ jI (w32 (w32 (a1 * 120) + a3)) 1560 from by rw [r_307_16 hS, l_321 hS]).mp x0, fun x0 => ⟨(show h (h 307 16) (-2) = 102 from by rw [r_307_16 hS, k_321 hS]), (show jI (w32 (w32 (a1 * 120) + a3)) (h (h 307 16) (-1)) ↔ jI (w32 (w32 (a1 * 120) + a3)) 1560 from by rw [r_307_16 hS, l_321 hS]).mpr x0⟩⟩ (fun g1 => ?_)
  refine EQ_jgd ⟨(show h (h 307 16) (-2) = 102 from by rw [r_307_16 hS, k_321 hS]), (show 200 ≤ h 307 16 from by rw [r_307_16 hS]; exact (by decide)), ((show jI (w32 (w32 (a1 * 120) + a3)) (h (h 307 16) (-1)) ↔ jI (w32 (w32 (a1 * 120) + a3)) 1560 from by rw [r_307_16 hS, l_321 hS]).mpr g1)⟩ ?_
  refine EQ_jl (by rw [r_307_16 hS]) (fun h6 eh6 => ?_)
  have s2 := Sh_of eh6 (Sh_sta hS (by decide +kernel) (jI_nn g1) (fun e => absurd ((k_321 hS).symm.trans e) (by decide)))
  clear eh6
  exact EQ_some s2
noncomputable def gX5_countLeaf (a1 : Int) (a2 : Int) (h : AH) : Option (AH) := jb2 (gX5_leafFunction a2 h) fun v2 h3 => jg (jI v2 121) <| if h3 309 v2 = a1 then (if h3 310 v2 = a2 then (some h3) else (gX5_countLeaf_j27 a1 v2 h3)) else (gX5_countLeaf_j27 a1 v2 h3)
theorem eX5_countLeaf (a1 : Int) (a2 : Int) {h : AH} (hS : Sh S h) : EQ (fX5_countLeaf 307 a1 a2 h) (gX5_countLeaf a1 a2 h) (fun r => Sh S r) := by
  unfold fX5_countLeaf gX5_countLeaf
  refine EQ_jgd (show h 307 (-2) = 6 from by rw [k_307 hS]) ?_
  refine EQ_jb2 (eX5_leafFunction a2 hS) (fun v2 h3 r1 => ?_)
  replace r1 : Sh S h3 := r1
  refine EQ_jgd (show h3 307 (-2) = 6 from by rw [k_307 r1]) ?_
  refine EQ_jg ⟨fun ⟨_, x0⟩ => (show jI v2 (h3 (h3 307 2) (-1)) ↔ jI v2 121 from by rw [r_307_2 r1, l_309 r1]).mp x0, fun x0 => ⟨(show h3 (h3 307 2) (-2) = 101 from by rw [r_307_2 r1, k_309 r1]), (show jI v2 (h3 (h3 307 2) (-1)) ↔ jI v2 121 from by rw [r_307_2 r1, l_309 r1]).mpr x0⟩⟩ (fun g2 => ?_)
  refine EQ_if (show h3 (h3 307 2) v2 = a1 ↔ h3 309 v2 = a1 from by rw [r_307_2 r1]) (fun c3 => ?_) (fun c3 => ?_)
  · refine EQ_jgd (show h3 307 (-2) = 6 from by rw [k_307 r1]) ?_
    refine EQ_jgd ⟨(show h3 (h3 307 3) (-2) = 101 from by rw [r_307_3 r1, k_310 r1]), ((show jI v2 (h3 (h3 307 3) (-1)) ↔ jI v2 121 from by rw [r_307_3 r1, l_310 r1]).mpr g2)⟩ ?_
    refine EQ_if (show h3 (h3 307 3) v2 = a2 ↔ h3 310 v2 = a2 from by rw [r_307_3 r1]) (fun c4 => ?_) (fun c4 => ?_)
    · exact EQ_some r1
    · exact (eX5_countLeaf_j27 a1 v2 r1)
  · exact (eX5_countLeaf_j27 a1 v2 r1)
noncomputable def gX5_count_2 (a1 : Int) (a2 : Int) (h : AH) : Option (Int) := jg (jI (w32 (w32 (a1 * 120) + a2)) 1560) <| some (h 321 (w32 (w32 (a1 * 120) + a2)))
theorem eX5_count_2 (a1 : Int) (a2 : Int) {h : AH} (hS : Sh S h) : EQ (fX5_count_2 307 a1 a2 h) (gX5_count_2 a1 a2 h) (fun _ => True) := by
  unfold fX5_count_2 gX5_count_2
  refine EQ_jgd (show h 307 (-2) = 6 from by rw [k_307 hS]) ?_
  refine EQ_jg ⟨fun ⟨_, x0⟩ => (show jI (w32 (w32 (a1 * 120) + a2)) (h (h 307 16) (-1)) ↔ jI (w32 (w32 (a1 * 120) + a2)) 1560 from by rw [r_307_16 hS, l_321 hS]).mp x0, fun x0 => ⟨(show h (h 307 16) (-2) = 102 from by rw [r_307_16 hS, k_321 hS]), (show jI (w32 (w32 (a1 * 120) + a2)) (h (h 307 16) (-1)) ↔ jI (w32 (w32 (a1 * 120) + a2)) 1560 from by rw [r_307_16 hS, l_321 hS]).mpr x0⟩⟩ (fun g1 => ?_)
  exact EQ_some' (by rw [r_307_16 hS]) trivial
noncomputable def gX5_result_j29 (a1 : Int) (a2 : Int) (a3 : Int) (a4 : Int) (t0 : Int) (h : AH) : Option (Int × AH) := if t0 ≤ 0 then (jb2 (gX5_makes 13 a1 0 a2 a3 a4 h) fun v4 h5 => some (v4, h5)) else (some (w32 (t0 - 1), h))
theorem eX5_result_j29 (a1 : Int) (a2 : Int) (a3 : Int) (a4 : Int) (t0 : Int) {h : AH} (hS : Sh S h) : EQ (fX5_result_j29 307 a1 a2 a3 a4 t0 h) (gX5_result_j29 a1 a2 a3 a4 t0 h) (fun r => Sh S r.2) := by
  unfold fX5_result_j29 gX5_result_j29
  refine EQ_if Iff.rfl (fun c1 => ?_) (fun c1 => ?_)
  · refine EQ_jgd (show h 307 (-2) = 6 from by rw [k_307 hS]) ?_
    refine EQ_jb2 (eX5_makes 13 a1 0 a2 a3 a4 hS) (fun v4 h5 r2 => ?_)
    replace r2 : Sh S h5 := r2
    exact EQ_some r2
  · exact EQ_some hS
noncomputable def gX5_result (a1 : Int) (a2 : Int) (a3 : Int) (a4 : Int) (h : AH) : Option (Int × AH) := if 0 ≤ a4 then (gX5_result_j29 a1 a2 a3 a4 0 h) else (jg (jI (w32 (w32 (w32 (w32 (a1 * 120) + a2) * 120) + max 0 a3)) 172800) <| gX5_result_j29 a1 a2 a3 a4 (h 316 (w32 (w32 (w32 (w32 (a1 * 120) + a2) * 120) + max 0 a3))) h)
theorem eX5_result (a1 : Int) (a2 : Int) (a3 : Int) (a4 : Int) {h : AH} (hS : Sh S h) : EQ (fX5_result 307 a1 a2 a3 a4 h) (gX5_result a1 a2 a3 a4 h) (fun r => Sh S r.2) := by
  unfold fX5_result gX5_result
  refine EQ_if Iff.rfl (fun c1 => ?_) (fun c1 => ?_)
  · exact (eX5_result_j29 a1 a2 a3 a4 0 hS)
  · refine EQ_jgd (show h 307 (-2) = 6 from by rw [k_307 hS]) ?_
    refine EQ_jg ⟨fun ⟨_, x0⟩ => (show jI (w32 (w32 (w32 (w32 (a1 * 120) + a2) * 120) + max 0 a3)) (h (h 307 11) (-1)) ↔ jI (w32 (w32 (w32 (w32 (a1 * 120) + a2) * 120) + max 0 a3)) 172800 from by rw [r_307_11 hS, l_316 hS]).mp x0, fun x0 => ⟨(show h (h 307 11) (-2) = 103 from by rw [r_307_11 hS, k_316 hS]), (show jI (w32 (w32 (w32 (w32 (a1 * 120) + a2) * 120) + max 0 a3)) (h (h 307 11) (-1)) ↔ jI (w32 (w32 (w32 (w32 (a1 * 120) + a2) * 120) + max 0 a3)) 172800 from by rw [r_307_11 hS, l_316 hS]).mpr x0⟩⟩ (fun g2 => ?_)
    exact (by rw [r_307_11 hS]; exact eX5_result_j29 a1 a2 a3 a4 (h 316 (w32 (w32 (w32 (w32 (a1 * 120) + a2) * 120) + max 0 a3))) hS)
noncomputable def gX5_both_b11 (i1 : Int) (i2 : Int) (i3 : Int) (h : AH) (s : Int × Int) : Option ((Int × Int) ⊕ (Int)) := jt2 s fun a4 a6 => jg (jI i3 121) <| if w32 (i1 - h 309 i3) < a6 then (some (.inr a4)) else (jb (gX5_count_2 a6 i2 h) fun v6 => jb (gX5_count_2 (w32 (i1 - a6)) i3 h) fun v8 => jl (w64 (a4 + w64 (v6 * v8))) fun x9 => jl (w32 (a6 + 1)) fun x10 => some (.inl (x9, x10)))
theorem eX5_both_b11 (i1 : Int) (i2 : Int) (i3 : Int) (s : Int × Int) {h : AH} (hS : Sh S h) : EQ (fX5_both_b11 307 i1 i2 i3 h s) (gX5_both_b11 i1 i2 i3 h s) (Sum.elim (fun _ => True) (fun _ => True)) := by
  unfold fX5_both_b11 gX5_both_b11
  obtain ⟨a4, a6⟩ := s
  refine EQ_jt2 ?_
  refine EQ_jgd (show h 307 (-2) = 6 from by rw [k_307 hS]) ?_
  refine EQ_jg ⟨fun ⟨_, x0⟩ => (show jI i3 (h (h 307 2) (-1)) ↔ jI i3 121 from by rw [r_307_2 hS, l_309 hS]).mp x0, fun x0 => ⟨(show h (h 307 2) (-2) = 101 from by rw [r_307_2 hS, k_309 hS]), (show jI i3 (h (h 307 2) (-1)) ↔ jI i3 121 from by rw [r_307_2 hS, l_309 hS]).mpr x0⟩⟩ (fun g1 => ?_)
  refine EQ_if (show w32 (i1 - h (h 307 2) i3) < a6 ↔ w32 (i1 - h 309 i3) < a6 from by rw [r_307_2 hS]) (fun c2 => ?_) (fun c2 => ?_)
  · exact EQ_some trivial
  · refine EQ_jgd (show h 307 (-2) = 6 from by rw [k_307 hS]) ?_
    refine EQ_jb (eX5_count_2 a6 i2 hS) (fun v6 r3 => ?_)
    refine EQ_jgd (show h 307 (-2) = 6 from by rw [k_307 hS]) ?_
    refine EQ_jb (eX5_count_2 (w32 (i1 - a6)) i3 hS) (fun v8 r4 => ?_)
    refine EQ_jl rfl (fun x9 ex9 => ?_)
    clear ex9
    refine EQ_jl rfl (fun x10 ex10 => ?_)
    clear ex10
    exact EQ_some trivial
noncomputable def gX5_both_l11 (i1 : Int) (i2 : Int) (i3 : Int) (a4 : Int) (a6 : Int) (h : AH) : Option (Int) := jit (gX5_both_b11 i1 i2 i3 h) (a4, a6)
theorem eX5_both_l11 (i1 : Int) (i2 : Int) (i3 : Int) (a4 : Int) (a6 : Int) {h : AH} (hS : Sh S h) : EQ (fX5_both_l11 307 i1 i2 i3 a4 a6 h) (gX5_both_l11 i1 i2 i3 a4 a6 h) (fun _ => True) := EQ_jit (I := (fun _ => True)) (fun s _ => eX5_both_b11 i1 i2 i3 s hS) trivial
noncomputable def gX5_both (a1 : Int) (a2 : Int) (a3 : Int) (h : AH) : Option (Int) := jg (jI a2 121) <| jl (h 309 a2) fun x1 => jb (gX5_both_l11 a1 a2 a3 0 x1 h) fun o2 => some o2
theorem eX5_both (a1 : Int) (a2 : Int) (a3 : Int) {h : AH} (hS : Sh S h) : EQ (fX5_both 307 a1 a2 a3 h) (gX5_both a1 a2 a3 h) (fun _ => True) := by
  unfold fX5_both gX5_both
  refine EQ_jgd (show h 307 (-2) = 6 from by rw [k_307 hS]) ?_
  refine EQ_jg ⟨fun ⟨_, x0⟩ => (show jI a2 (h (h 307 2) (-1)) ↔ jI a2 121 from by rw [r_307_2 hS, l_309 hS]).mp x0, fun x0 => ⟨(show h (h 307 2) (-2) = 101 from by rw [r_307_2 hS, k_309 hS]), (show jI a2 (h (h 307 2) (-1)) ↔ jI a2 121 from by rw [r_307_2 hS, l_309 hS]).mpr x0⟩⟩ (fun g1 => ?_)
  refine EQ_jl (by rw [r_307_2 hS]) (fun x1 ex1 => ?_)
  clear ex1
  refine EQ_jb (eX5_both_l11 a1 a2 a3 0 x1 hS) (fun o2 r2 => ?_)
  exact EQ_some trivial
noncomputable def gX5_three_2_j68_11 (a1 : Int) (a2 : Int) (a3 : Int) (a4 : Int) (a5 : Int) (a7 : Int) (h : AH) : Option ((Int × Int) ⊕ (Int)) := jl (w32 (a7 + 1)) fun x13 => some (.inl (a5, x13))
theorem eX5_three_2_j68_11 (a1 : Int) (a2 : Int) (a3 : Int) (a4 : Int) (a5 : Int) (a7 : Int) {h : AH} (hS : Sh S h) : EQ (fX5_three_2_j68_11 307 a1 a2 a3 a4 a5 a7 h) (gX5_three_2_j68_11 a1 a2 a3 a4 a5 a7 h) (Sum.elim (fun _ => True) (fun _ => True)) := by
  unfold fX5_three_2_j68_11 gX5_three_2_j68_11
  refine EQ_jl rfl (fun x13 ex13 => ?_)
  clear ex13
  exact EQ_some trivial
noncomputable def gX5_three_2_b11 (i1 : Int) (i2 : Int) (i3 : Int) (i4 : Int) (h : AH) (s : Int × Int) : Option ((Int × Int) ⊕ (Int)) := jt2 s fun a5 a7 => jg (jI i3 121) <| jg (jI i4 121) <| if w32 (w32 (i1 - h 309 i3) - h 309 i4) < a7 then (some (.inr a5)) else (jb (gX5_count_2 a7 i2 h) fun v6 => if jcmp v6 0 ≤ 0 then (gX5_three_2_j68_11 i1 i2 i3 i4 a5 a7 h) else (jb (gX5_count_2 a7 i2 h) fun v9 => jb (gX5_both (w32 (i1 - a7)) i3 i4 h) fun v11 => jl (w64 (a5 + w64 (v9 * v11))) fun x12 => gX5_three_2_j68_11 i1 i2 i3 i4 x12 a7 h))
theorem eX5_three_2_b11 (i1 : Int) (i2 : Int) (i3 : Int) (i4 : Int) (s : Int × Int) {h : AH} (hS : Sh S h) : EQ (fX5_three_2_b11 307 i1 i2 i3 i4 h s) (gX5_three_2_b11 i1 i2 i3 i4 h s) (Sum.elim (fun _ => True) (fun _ => True)) := by
  unfold fX5_three_2_b11 gX5_three_2_b11
  obtain ⟨a5, a7⟩ := s
  refine EQ_jt2 ?_
  refine EQ_jgd (show h 307 (-2) = 6 from by rw [k_307 hS]) ?_
  refine EQ_jg ⟨fun ⟨_, x0⟩ => (show jI i3 (h (h 307 2) (-1)) ↔ jI i3 121 from by rw [r_307_2 hS, l_309 hS]).mp x0, fun x0 => ⟨(show h (h 307 2) (-2) = 101 from by rw [r_307_2 hS, k_309 hS]), (show jI i3 (h (h 307 2) (-1)) ↔ jI i3 121 from by rw [r_307_2 hS, l_309 hS]).mpr x0⟩⟩ (fun g1 => ?_)
  refine EQ_jgd (show h 307 (-2) = 6 from by rw [k_307 hS]) ?_
  refine EQ_jg ⟨fun ⟨_, x0⟩ => (show jI i4 (h (h 307 2) (-1)) ↔ jI i4 121 from by rw [r_307_2 hS, l_309 hS]).mp x0, fun x0 => ⟨(show h (h 307 2) (-2) = 101 from by rw [r_307_2 hS, k_309 hS]), (show jI i4 (h (h 307 2) (-1)) ↔ jI i4 121 from by rw [r_307_2 hS, l_309 hS]).mpr x0⟩⟩ (fun g2 => ?_)
  refine EQ_if (show w32 (w32 (i1 - h (h 307 2) i3) - h (h 307 2) i4) < a7 ↔ w32 (w32 (i1 - h 309 i3) - h 309 i4) < a7 from by rw [r_307_2 hS]) (fun c3 => ?_) (fun c3 => ?_)
  · exact EQ_some trivial
  · refine EQ_jgd (show h 307 (-2) = 6 from by rw [k_307 hS]) ?_
    refine EQ_jb (eX5_count_2 a7 i2 hS) (fun v6 r4 => ?_)
    refine EQ_if Iff.rfl (fun c5 => ?_) (fun c5 => ?_)
    · exact (eX5_three_2_j68_11 i1 i2 i3 i4 a5 a7 hS)
    · refine EQ_jgd (show h 307 (-2) = 6 from by rw [k_307 hS]) ?_
      refine EQ_jb (eX5_count_2 a7 i2 hS) (fun v9 r6 => ?_)
      refine EQ_jgd (show h 307 (-2) = 6 from by rw [k_307 hS]) ?_
      refine EQ_jb (eX5_both (w32 (i1 - a7)) i3 i4 hS) (fun v11 r7 => ?_)
      refine EQ_jl rfl (fun x12 ex12 => ?_)
      clear ex12
      exact (eX5_three_2_j68_11 i1 i2 i3 i4 x12 a7 hS)
noncomputable def gX5_three_2_l11 (i1 : Int) (i2 : Int) (i3 : Int) (i4 : Int) (a5 : Int) (a7 : Int) (h : AH) : Option (Int) := jit (gX5_three_2_b11 i1 i2 i3 i4 h) (a5, a7)
theorem eX5_three_2_l11 (i1 : Int) (i2 : Int) (i3 : Int) (i4 : Int) (a5 : Int) (a7 : Int) {h : AH} (hS : Sh S h) : EQ (fX5_three_2_l11 307 i1 i2 i3 i4 a5 a7 h) (gX5_three_2_l11 i1 i2 i3 i4 a5 a7 h) (fun _ => True) := EQ_jit (I := (fun _ => True)) (fun s _ => eX5_three_2_b11 i1 i2 i3 i4 s hS) trivial
noncomputable def gX5_three_2 (a1 : Int) (a2 : Int) (a3 : Int) (a4 : Int) (h : AH) : Option (Int) := jg (jI a2 121) <| jl (h 309 a2) fun x1 => jb (gX5_three_2_l11 a1 a2 a3 a4 0 x1 h) fun o2 => some o2
theorem eX5_three_2 (a1 : Int) (a2 : Int) (a3 : Int) (a4 : Int) {h : AH} (hS : Sh S h) : EQ (fX5_three_2 307 a1 a2 a3 a4 h) (gX5_three_2 a1 a2 a3 a4 h) (fun _ => True) := by
  unfold fX5_three_2 gX5_three_2
  refine EQ_jgd (show h 307 (-2) = 6 from by rw [k_307 hS]) ?_
  refine EQ_jg ⟨fun ⟨_, x0⟩ => (show jI a2 (h (h 307 2) (-1)) ↔ jI a2 121 from by rw [r_307_2 hS, l_309 hS]).mp x0, fun x0 => ⟨(show h (h 307 2) (-2) = 101 from by rw [r_307_2 hS, k_309 hS]), (show jI a2 (h (h 307 2) (-1)) ↔ jI a2 121 from by rw [r_307_2 hS, l_309 hS]).mpr x0⟩⟩ (fun g1 => ?_)
  refine EQ_jl (by rw [r_307_2 hS]) (fun x1 ex1 => ?_)
  clear ex1
  refine EQ_jb (eX5_three_2_l11 a1 a2 a3 a4 0 x1 hS) (fun o2 r2 => ?_)
  exact EQ_some trivial
noncomputable def gX5_resultOfThree (a1 : Int) (a2 : Int) (a3 : Int) (a4 : Int) (h : AH) : Option (Int × AH) := jb (gX5_three a2 a3 a4) fun v2 => jg (jI v2 1728000) <| jl (h 317 v2) fun x3 => if x3 ≤ 0 then (jb2 (gX5_result a1 a2 a3 a4 h) fun v6 h7 => some (v6, h7)) else (some (w32 (x3 - 1), h))
theorem eX5_resultOfThree (a1 : Int) (a2 : Int) (a3 : Int) (a4 : Int) {h : AH} (hS : Sh S h) : EQ (fX5_resultOfThree 307 a1 a2 a3 a4 h) (gX5_resultOfThree a1 a2 a3 a4 h) (fun r => Sh S r.2) := by
  unfold fX5_resultOfThree gX5_resultOfThree
  refine EQ_jgd (show h 307 (-2) = 6 from by rw [k_307 hS]) ?_
  refine EQ_jb (eX5_three a2 a3 a4) (fun v2 r1 => ?_)
  refine EQ_jg ⟨fun ⟨_, x0⟩ => (show jI v2 (h (h 307 12) (-1)) ↔ jI v2 1728000 from by rw [r_307_12 hS, l_317 hS]).mp x0, fun x0 => ⟨(show h (h 307 12) (-2) = 103 from by rw [r_307_12 hS, k_317 hS]), (show jI v2 (h (h 307 12) (-1)) ↔ jI v2 1728000 from by rw [r_307_12 hS, l_317 hS]).mpr x0⟩⟩ (fun g2 => ?_)
  refine EQ_jl (by rw [r_307_12 hS]) (fun x3 ex3 => ?_)
  clear ex3
  refine EQ_if Iff.rfl (fun c3 => ?_) (fun c3 => ?_)
  · refine EQ_jgd (show h 307 (-2) = 6 from by rw [k_307 hS]) ?_
    refine EQ_jb2 (eX5_result a1 a2 a3 a4 hS) (fun v6 h7 r4 => ?_)
    replace r4 : Sh S h7 := r4
    exact EQ_some r4
  · exact EQ_some hS
noncomputable def gX5_countAct_j357_28 (a1 : Int) (a2 : Int) (a3 : Int) (a4 : Int) (a5 : Int) (a6 : Int) (h : AH) : Option ((Int × AH) ⊕ (AH)) := jl (w32 (a6 + 1)) fun x23 => some (.inl (x23, h))
theorem eX5_countAct_j357_28 (a1 : Int) (a2 : Int) (a3 : Int) (a4 : Int) (a5 : Int) (a6 : Int) {h : AH} (hS : Sh S h) : EQ (fX5_countAct_j357_28 307 a1 a2 a3 a4 a5 a6 h) (gX5_countAct_j357_28 a1 a2 a3 a4 a5 a6 h) (Sum.elim (fun r => Sh S r.2) (fun r => Sh S r)) := by
  unfold fX5_countAct_j357_28 gX5_countAct_j357_28
  refine EQ_jl rfl (fun x23 ex23 => ?_)
  clear ex23
  exact EQ_some hS
noncomputable def gX5_countAct_j351_129 (a1 : Int) (a2 : Int) (a3 : Int) (a4 : Int) (a5 : Int) (a6 : Int) (a7 : Int) (h : AH) : Option ((Int × AH) ⊕ (AH)) := jl (w32 (a7 + 1)) fun x39 => some (.inl (x39, h))
theorem eX5_countAct_j351_129 (a1 : Int) (a2 : Int) (a3 : Int) (a4 : Int) (a5 : Int) (a6 : Int) (a7 : Int) {h : AH} (hS : Sh S h) : EQ (fX5_countAct_j351_129 307 a1 a2 a3 a4 a5 a6 a7 h) (gX5_countAct_j351_129 a1 a2 a3 a4 a5 a6 a7 h) (Sum.elim (fun r => Sh S r.2) (fun r => Sh S r)) := by
  unfold fX5_countAct_j351_129 gX5_countAct_j351_129
  refine EQ_jl rfl (fun x39 ex39 => ?_)
  clear ex39
  exact EQ_some hS
noncomputable def gX5_countAct_j345_240 (a1 : Int) (a2 : Int) (a3 : Int) (a4 : Int) (a5 : Int) (a6 : Int) (a7 : Int) (a8 : Int) (h : AH) : Option ((Int × AH) ⊕ (AH)) := jl (w32 (a8 + 1)) fun x52 => some (.inl (x52, h))
theorem eX5_countAct_j345_240 (a1 : Int) (a2 : Int) (a3 : Int) (a4 : Int) (a5 : Int) (a6 : Int) (a7 : Int) (a8 : Int) {h : AH} (hS : Sh S h) : EQ (fX5_countAct_j345_240 307 a1 a2 a3 a4 a5 a6 a7 a8 h) (gX5_countAct_j345_240 a1 a2 a3 a4 a5 a6 a7 a8 h) (Sum.elim (fun r => Sh S r.2) (fun r => Sh S r)) := by
  unfold fX5_countAct_j345_240 gX5_countAct_j345_240
  refine EQ_jl rfl (fun x52 ex52 => ?_)
  clear ex52
  exact EQ_some hS
noncomputable def gX5_countAct_b240 (i1 : Int) (i2 : Int) (i3 : Int) (i4 : Int) (i5 : Int) (i6 : Int) (i7 : Int) (s : Int × AH) : Option ((Int × AH) ⊕ (AH)) := jt2 s fun a8 h => if h 307 0 ≤ a8 then (some (.inr h)) else (jg (jI i6 121) <| jg (jI i7 121) <| jg (jI a8 121) <| if i3 < w32 (w32 (h 309 i6 + h 309 i7) + h 309 a8) then (some (.inr h)) else (jb (gX1_kindOf i4 2 h) fun v43 => if h 308 a8 = v43 then (jb (gX5_three_2 i3 i6 i7 a8 h) fun v46 => if jcmp v46 0 ≤ 0 then (gX5_countAct_j345_240 i1 i2 i3 i4 i5 i6 i7 a8 h) else (jb2 (gX5_resultOfThree i2 i6 i7 a8 h) fun v49 h50 => jg (jI (w32 (w32 (i1 * 120) + v49)) 1560) <| jl (jst h50 321 (w32 (w32 (i1 * 120) + v49)) (w64 (h50 321 (w32 (w32 (i1 * 120) + v49)) + v46))) fun h51 => gX5_countAct_j345_240 i1 i2 i3 i4 i5 i6 i7 a8 h51)) else (gX5_countAct_j345_240 i1 i2 i3 i4 i5 i6 i7 a8 h)))
theorem eX5_countAct_b240 (i1 : Int) (i2 : Int) (i3 : Int) (i4 : Int) (i5 : Int) (i6 : Int) (i7 : Int) {s : Int × AH} (hS : (fun r => Sh S r.2) s) : EQ (fX5_countAct_b240 307 i1 i2 i3 i4 i5 i6 i7 s) (gX5_countAct_b240 i1 i2 i3 i4 i5 i6 i7 s) (Sum.elim (fun r => Sh S r.2) (fun r => Sh S r)) := by
  unfold fX5_countAct_b240 gX5_countAct_b240
  obtain ⟨a8, h⟩ := s
  refine EQ_jt2 ?_
  replace hS : Sh S h := hS
  refine EQ_jgd (show h 307 (-2) = 6 from by rw [k_307 hS]) ?_
  refine EQ_if Iff.rfl (fun c1 => ?_) (fun c1 => ?_)
  · exact EQ_some hS
  · refine EQ_jgd (show h 307 (-2) = 6 from by rw [k_307 hS]) ?_
    refine EQ_jg ⟨fun ⟨_, x0⟩ => (show jI i6 (h (h 307 2) (-1)) ↔ jI i6 121 from by rw [r_307_2 hS, l_309 hS]).mp x0, fun x0 => ⟨(show h (h 307 2) (-2) = 101 from by rw [r_307_2 hS, k_309 hS]), (show jI i6 (h (h 307 2) (-1)) ↔ jI i6 121 from by rw [r_307_2 hS, l_309 hS]).mpr x0⟩⟩ (fun g2 => ?_)
    refine EQ_jgd (show h 307 (-2) = 6 from by rw [k_307 hS]) ?_
    refine EQ_jg ⟨fun ⟨_, x0⟩ => (show jI i7 (h (h 307 2) (-1)) ↔ jI i7 121 from by rw [r_307_2 hS, l_309 hS]).mp x0, fun x0 => ⟨(show h (h 307 2) (-2) = 101 from by rw [r_307_2 hS, k_309 hS]), (show jI i7 (h (h 307 2) (-1)) ↔ jI i7 121 from by rw [r_307_2 hS, l_309 hS]).mpr x0⟩⟩ (fun g3 => ?_)
    refine EQ_jgd (show h 307 (-2) = 6 from by rw [k_307 hS]) ?_
    refine EQ_jg ⟨fun ⟨_, x0⟩ => (show jI a8 (h (h 307 2) (-1)) ↔ jI a8 121 from by rw [r_307_2 hS, l_309 hS]).mp x0, fun x0 => ⟨(show h (h 307 2) (-2) = 101 from by rw [r_307_2 hS, k_309 hS]), (show jI a8 (h (h 307 2) (-1)) ↔ jI a8 121 from by rw [r_307_2 hS, l_309 hS]).mpr x0⟩⟩ (fun g4 => ?_)
    refine EQ_if (show i3 < w32 (w32 (h (h 307 2) i6 + h (h 307 2) i7) + h (h 307 2) a8) ↔ i3 < w32 (w32 (h 309 i6 + h 309 i7) + h 309 a8) from by rw [r_307_2 hS]) (fun c5 => ?_) (fun c5 => ?_)
    · exact EQ_some hS
    · refine EQ_jgd (show h 307 (-2) = 6 from by rw [k_307 hS]) ?_
      refine EQ_jgd ⟨(show h (h 307 1) (-2) = 101 from by rw [r_307_1 hS, k_308 hS]), ((show jI a8 (h (h 307 1) (-1)) ↔ jI a8 121 from by rw [r_307_1 hS, l_308 hS]).mpr g4)⟩ ?_
      refine EQ_jgd (show h 307 (-2) = 6 from by rw [k_307 hS]) ?_
      refine EQ_jgd (show h (h 307 22) (-2) = 2 from by rw [r_307_22 hS, k_200 hS]) ?_
      refine EQ_jb (by rw [r_307_22 hS]; exact eX1_kindOf i4 2 hS) (fun v43 r6 => ?_)
      refine EQ_if (show h (h 307 1) a8 = v43 ↔ h 308 a8 = v43 from by rw [r_307_1 hS]) (fun c7 => ?_) (fun c7 => ?_)
      · refine EQ_jgd (show h 307 (-2) = 6 from by rw [k_307 hS]) ?_
        refine EQ_jb (eX5_three_2 i3 i6 i7 a8 hS) (fun v46 r8 => ?_)
        refine EQ_if Iff.rfl (fun c9 => ?_) (fun c9 => ?_)
        · exact (eX5_countAct_j345_240 i1 i2 i3 i4 i5 i6 i7 a8 hS)
        · refine EQ_jgd (show h 307 (-2) = 6 from by rw [k_307 hS]) ?_
          refine EQ_jgd (show h 307 (-2) = 6 from by rw [k_307 hS]) ?_
          refine EQ_jb2 (eX5_resultOfThree i2 i6 i7 a8 hS) (fun v49 h50 r10 => ?_)
          replace r10 : Sh S h50 := r10
          refine EQ_jg ⟨fun ⟨_, x0⟩ => (show jI (w32 (w32 (i1 * 120) + v49)) (h50 (h 307 16) (-1)) ↔ jI (w32 (w32 (i1 * 120) + v49)) 1560 from by rw [r_307_16 hS, l_321 r10]).mp x0, fun x0 => ⟨(show h50 (h 307 16) (-2) = 102 from by rw [r_307_16 hS, k_321 r10]), (show jI (w32 (w32 (i1 * 120) + v49)) (h50 (h 307 16) (-1)) ↔ jI (w32 (w32 (i1 * 120) + v49)) 1560 from by rw [r_307_16 hS, l_321 r10]).mpr x0⟩⟩ (fun g11 => ?_)
          refine EQ_jgd ⟨(show h50 (h 307 16) (-2) = 102 from by rw [r_307_16 hS, k_321 r10]), (show 200 ≤ h 307 16 from by rw [r_307_16 hS]; exact (by decide)), ((show jI (w32 (w32 (i1 * 120) + v49)) (h50 (h 307 16) (-1)) ↔ jI (w32 (w32 (i1 * 120) + v49)) 1560 from by rw [r_307_16 hS, l_321 r10]).mpr g11)⟩ ?_
          refine EQ_jl (by rw [r_307_16 hS]) (fun h51 eh51 => ?_)
          have s12 := Sh_of eh51 (Sh_sta r10 (by decide +kernel) (jI_nn g11) (fun e => absurd ((k_321 r10).symm.trans e) (by decide)))
          clear eh51
          exact (eX5_countAct_j345_240 i1 i2 i3 i4 i5 i6 i7 a8 s12)
      · exact (eX5_countAct_j345_240 i1 i2 i3 i4 i5 i6 i7 a8 hS)
noncomputable def gX5_countAct_l240 (i1 : Int) (i2 : Int) (i3 : Int) (i4 : Int) (i5 : Int) (i6 : Int) (i7 : Int) (a8 : Int) (h : AH) : Option (AH) := jit (gX5_countAct_b240 i1 i2 i3 i4 i5 i6 i7) (a8, h)
theorem eX5_countAct_l240 (i1 : Int) (i2 : Int) (i3 : Int) (i4 : Int) (i5 : Int) (i6 : Int) (i7 : Int) (a8 : Int) {h : AH} (hS : Sh S h) : EQ (fX5_countAct_l240 307 i1 i2 i3 i4 i5 i6 i7 a8 h) (gX5_countAct_l240 i1 i2 i3 i4 i5 i6 i7 a8 h) (fun r => Sh S r) := EQ_jit (I := (fun r => Sh S r.2)) (fun s hs => eX5_countAct_b240 i1 i2 i3 i4 i5 i6 i7 hs) hS
noncomputable def gX5_countAct_b129 (i1 : Int) (i2 : Int) (i3 : Int) (i4 : Int) (i5 : Int) (i6 : Int) (s : Int × AH) : Option ((Int × AH) ⊕ (AH)) := jt2 s fun a7 h => if h 307 0 ≤ a7 then (some (.inr h)) else (jg (jI i6 121) <| jg (jI a7 121) <| if w32 (w32 (i3 - i5) + 2) < w32 (h 309 i6 + h 309 a7) then (some (.inr h)) else (jb (gX1_kindOf i4 1 h) fun v27 => if h 308 a7 = v27 then (if i5 = 2 then (jb (gX5_both i3 i6 a7 h) fun v31 => if jcmp v31 0 ≤ 0 then (gX5_countAct_j351_129 i1 i2 i3 i4 i5 i6 a7 h) else (jb2 (gX5_result i2 i6 a7 (-1) h) fun v34 h35 => jg (jI (w32 (w32 (i1 * 120) + v34)) 1560) <| jl (jst h35 321 (w32 (w32 (i1 * 120) + v34)) (w64 (h35 321 (w32 (w32 (i1 * 120) + v34)) + v31))) fun h36 => gX5_countAct_j351_129 i1 i2 i3 i4 i5 i6 a7 h36)) else (jb (gX5_countAct_l240 i1 i2 i3 i4 i5 i6 a7 0 h) fun o37 => gX5_countAct_j351_129 i1 i2 i3 i4 i5 i6 a7 o37)) else (gX5_countAct_j351_129 i1 i2 i3 i4 i5 i6 a7 h)))
theorem eX5_countAct_b129 (i1 : Int) (i2 : Int) (i3 : Int) (i4 : Int) (i5 : Int) (i6 : Int) {s : Int × AH} (hS : (fun r => Sh S r.2) s) : EQ (fX5_countAct_b129 307 i1 i2 i3 i4 i5 i6 s) (gX5_countAct_b129 i1 i2 i3 i4 i5 i6 s) (Sum.elim (fun r => Sh S r.2) (fun r => Sh S r)) := by
  unfold fX5_countAct_b129 gX5_countAct_b129
  obtain ⟨a7, h⟩ := s
  refine EQ_jt2 ?_
  replace hS : Sh S h := hS
  refine EQ_jgd (show h 307 (-2) = 6 from by rw [k_307 hS]) ?_
  refine EQ_if Iff.rfl (fun c1 => ?_) (fun c1 => ?_)
  · exact EQ_some hS
  · refine EQ_jgd (show h 307 (-2) = 6 from by rw [k_307 hS]) ?_
    refine EQ_jg ⟨fun ⟨_, x0⟩ => (show jI i6 (h (h 307 2) (-1)) ↔ jI i6 121 from by rw [r_307_2 hS, l_309 hS]).mp x0, fun x0 => ⟨(show h (h 307 2) (-2) = 101 from by rw [r_307_2 hS, k_309 hS]), (show jI i6 (h (h 307 2) (-1)) ↔ jI i6 121 from by rw [r_307_2 hS, l_309 hS]).mpr x0⟩⟩ (fun g2 => ?_)
    refine EQ_jgd (show h 307 (-2) = 6 from by rw [k_307 hS]) ?_
    refine EQ_jg ⟨fun ⟨_, x0⟩ => (show jI a7 (h (h 307 2) (-1)) ↔ jI a7 121 from by rw [r_307_2 hS, l_309 hS]).mp x0, fun x0 => ⟨(show h (h 307 2) (-2) = 101 from by rw [r_307_2 hS, k_309 hS]), (show jI a7 (h (h 307 2) (-1)) ↔ jI a7 121 from by rw [r_307_2 hS, l_309 hS]).mpr x0⟩⟩ (fun g3 => ?_)
    refine EQ_if (show w32 (w32 (i3 - i5) + 2) < w32 (h (h 307 2) i6 + h (h 307 2) a7) ↔ w32 (w32 (i3 - i5) + 2) < w32 (h 309 i6 + h 309 a7) from by rw [r_307_2 hS]) (fun c4 => ?_) (fun c4 => ?_)
    · exact EQ_some hS
    · refine EQ_jgd (show h 307 (-2) = 6 from by rw [k_307 hS]) ?_
      refine EQ_jgd ⟨(show h (h 307 1) (-2) = 101 from by rw [r_307_1 hS, k_308 hS]), ((show jI a7 (h (h 307 1) (-1)) ↔ jI a7 121 from by rw [r_307_1 hS, l_308 hS]).mpr g3)⟩ ?_
      refine EQ_jgd (show h 307 (-2) = 6 from by rw [k_307 hS]) ?_
      refine EQ_jgd (show h (h 307 22) (-2) = 2 from by rw [r_307_22 hS, k_200 hS]) ?_
      refine EQ_jb (by rw [r_307_22 hS]; exact eX1_kindOf i4 1 hS) (fun v27 r5 => ?_)
      refine EQ_if (show h (h 307 1) a7 = v27 ↔ h 308 a7 = v27 from by rw [r_307_1 hS]) (fun c6 => ?_) (fun c6 => ?_)
      · refine EQ_if Iff.rfl (fun c7 => ?_) (fun c7 => ?_)
        · refine EQ_jgd (show h 307 (-2) = 6 from by rw [k_307 hS]) ?_
          refine EQ_jb (eX5_both i3 i6 a7 hS) (fun v31 r8 => ?_)
          refine EQ_if Iff.rfl (fun c9 => ?_) (fun c9 => ?_)
          · exact (eX5_countAct_j351_129 i1 i2 i3 i4 i5 i6 a7 hS)
          · refine EQ_jgd (show h 307 (-2) = 6 from by rw [k_307 hS]) ?_
            refine EQ_jgd (show h 307 (-2) = 6 from by rw [k_307 hS]) ?_
            refine EQ_jb2 (eX5_result i2 i6 a7 (-1) hS) (fun v34 h35 r10 => ?_)
            replace r10 : Sh S h35 := r10
            refine EQ_jg ⟨fun ⟨_, x0⟩ => (show jI (w32 (w32 (i1 * 120) + v34)) (h35 (h 307 16) (-1)) ↔ jI (w32 (w32 (i1 * 120) + v34)) 1560 from by rw [r_307_16 hS, l_321 r10]).mp x0, fun x0 => ⟨(show h35 (h 307 16) (-2) = 102 from by rw [r_307_16 hS, k_321 r10]), (show jI (w32 (w32 (i1 * 120) + v34)) (h35 (h 307 16) (-1)) ↔ jI (w32 (w32 (i1 * 120) + v34)) 1560 from by rw [r_307_16 hS, l_321 r10]).mpr x0⟩⟩ (fun g11 => ?_)
            refine EQ_jgd ⟨(show h35 (h 307 16) (-2) = 102 from by rw [r_307_16 hS, k_321 r10]), (show 200 ≤ h 307 16 from by rw [r_307_16 hS]; exact (by decide)), ((show jI (w32 (w32 (i1 * 120) + v34)) (h35 (h 307 16) (-1)) ↔ jI (w32 (w32 (i1 * 120) + v34)) 1560 from by rw [r_307_16 hS, l_321 r10]).mpr g11)⟩ ?_
            refine EQ_jl (by rw [r_307_16 hS]) (fun h36 eh36 => ?_)
            have s12 := Sh_of eh36 (Sh_sta r10 (by decide +kernel) (jI_nn g11) (fun e => absurd ((k_321 r10).symm.trans e) (by decide)))
            clear eh36
            exact (eX5_countAct_j351_129 i1 i2 i3 i4 i5 i6 a7 s12)
        · refine EQ_jb (eX5_countAct_l240 i1 i2 i3 i4 i5 i6 a7 0 hS) (fun o37 r13 => ?_)
          exact (eX5_countAct_j351_129 i1 i2 i3 i4 i5 i6 a7 r13)
      · exact (eX5_countAct_j351_129 i1 i2 i3 i4 i5 i6 a7 hS)
noncomputable def gX5_countAct_l129 (i1 : Int) (i2 : Int) (i3 : Int) (i4 : Int) (i5 : Int) (i6 : Int) (a7 : Int) (h : AH) : Option (AH) := jit (gX5_countAct_b129 i1 i2 i3 i4 i5 i6) (a7, h)
theorem eX5_countAct_l129 (i1 : Int) (i2 : Int) (i3 : Int) (i4 : Int) (i5 : Int) (i6 : Int) (a7 : Int) {h : AH} (hS : Sh S h) : EQ (fX5_countAct_l129 307 i1 i2 i3 i4 i5 i6 a7 h) (gX5_countAct_l129 i1 i2 i3 i4 i5 i6 a7 h) (fun r => Sh S r) := EQ_jit (I := (fun r => Sh S r.2)) (fun s hs => eX5_countAct_b129 i1 i2 i3 i4 i5 i6 hs) hS
noncomputable def gX5_countAct_b28 (i1 : Int) (i2 : Int) (i3 : Int) (i4 : Int) (i5 : Int) (s : Int × AH) : Option ((Int × AH) ⊕ (AH)) := jt2 s fun a6 h => if h 307 0 ≤ a6 then (some (.inr h)) else (jg (jI a6 121) <| if w32 (w32 (i3 - i5) + 1) < h 309 a6 then (some (.inr h)) else (jb (gX1_kindOf i4 0 h) fun v9 => if h 308 a6 = v9 then (if i5 = 1 then (jb (gX5_count_2 i3 a6 h) fun v13 => if jcmp v13 0 ≤ 0 then (gX5_countAct_j357_28 i1 i2 i3 i4 i5 a6 h) else (jb2 (gX5_result i2 a6 (-1) (-1) h) fun v16 h17 => jg (jI (w32 (w32 (i1 * 120) + v16)) 1560) <| jb (gX5_count_2 i3 a6 h17) fun v19 => jl (jst h17 321 (w32 (w32 (i1 * 120) + v16)) (w64 (h17 321 (w32 (w32 (i1 * 120) + v16)) + v19))) fun h20 => gX5_countAct_j357_28 i1 i2 i3 i4 i5 a6 h20)) else (jb (gX5_countAct_l129 i1 i2 i3 i4 i5 a6 0 h) fun o21 => gX5_countAct_j357_28 i1 i2 i3 i4 i5 a6 o21)) else (gX5_countAct_j357_28 i1 i2 i3 i4 i5 a6 h)))
theorem eX5_countAct_b28 (i1 : Int) (i2 : Int) (i3 : Int) (i4 : Int) (i5 : Int) {s : Int × AH} (hS : (fun r => Sh S r.2) s) : EQ (fX5_countAct_b28 307 i1 i2 i3 i4 i5 s) (gX5_countAct_b28 i1 i2 i3 i4 i5 s) (Sum.elim (fun r => Sh S r.2) (fun r => Sh S r)) := by
  unfold fX5_countAct_b28 gX5_countAct_b28
  obtain ⟨a6, h⟩ := s
  refine EQ_jt2 ?_
  replace hS : Sh S h := hS
  refine EQ_jgd (show h 307 (-2) = 6 from by rw [k_307 hS]) ?_
  refine EQ_if Iff.rfl (fun c1 => ?_) (fun c1 => ?_)
  · exact EQ_some hS
  · refine EQ_jgd (show h 307 (-2) = 6 from by rw [k_307 hS]) ?_
    refine EQ_jg ⟨fun ⟨_, x0⟩ => (show jI a6 (h (h 307 2) (-1)) ↔ jI a6 121 from by rw [r_307_2 hS, l_309 hS]).mp x0, fun x0 => ⟨(show h (h 307 2) (-2) = 101 from by rw [r_307_2 hS, k_309 hS]), (show jI a6 (h (h 307 2) (-1)) ↔ jI a6 121 from by rw [r_307_2 hS, l_309 hS]).mpr x0⟩⟩ (fun g2 => ?_)
    refine EQ_if (show w32 (w32 (i3 - i5) + 1) < h (h 307 2) a6 ↔ w32 (w32 (i3 - i5) + 1) < h 309 a6 from by rw [r_307_2 hS]) (fun c3 => ?_) (fun c3 => ?_)
    · exact EQ_some hS
    · refine EQ_jgd (show h 307 (-2) = 6 from by rw [k_307 hS]) ?_
      refine EQ_jgd ⟨(show h (h 307 1) (-2) = 101 from by rw [r_307_1 hS, k_308 hS]), ((show jI a6 (h (h 307 1) (-1)) ↔ jI a6 121 from by rw [r_307_1 hS, l_308 hS]).mpr g2)⟩ ?_
      refine EQ_jgd (show h 307 (-2) = 6 from by rw [k_307 hS]) ?_
      refine EQ_jgd (show h (h 307 22) (-2) = 2 from by rw [r_307_22 hS, k_200 hS]) ?_
      refine EQ_jb (by rw [r_307_22 hS]; exact eX1_kindOf i4 0 hS) (fun v9 r4 => ?_)
      refine EQ_if (show h (h 307 1) a6 = v9 ↔ h 308 a6 = v9 from by rw [r_307_1 hS]) (fun c5 => ?_) (fun c5 => ?_)
      · refine EQ_if Iff.rfl (fun c6 => ?_) (fun c6 => ?_)
        · refine EQ_jgd (show h 307 (-2) = 6 from by rw [k_307 hS]) ?_
          refine EQ_jb (eX5_count_2 i3 a6 hS) (fun v13 r7 => ?_)
          refine EQ_if Iff.rfl (fun c8 => ?_) (fun c8 => ?_)
          · exact (eX5_countAct_j357_28 i1 i2 i3 i4 i5 a6 hS)
          · refine EQ_jgd (show h 307 (-2) = 6 from by rw [k_307 hS]) ?_
            refine EQ_jgd (show h 307 (-2) = 6 from by rw [k_307 hS]) ?_
            refine EQ_jb2 (eX5_result i2 a6 (-1) (-1) hS) (fun v16 h17 r9 => ?_)
            replace r9 : Sh S h17 := r9
            refine EQ_jg ⟨fun ⟨_, x0⟩ => (show jI (w32 (w32 (i1 * 120) + v16)) (h17 (h 307 16) (-1)) ↔ jI (w32 (w32 (i1 * 120) + v16)) 1560 from by rw [r_307_16 hS, l_321 r9]).mp x0, fun x0 => ⟨(show h17 (h 307 16) (-2) = 102 from by rw [r_307_16 hS, k_321 r9]), (show jI (w32 (w32 (i1 * 120) + v16)) (h17 (h 307 16) (-1)) ↔ jI (w32 (w32 (i1 * 120) + v16)) 1560 from by rw [r_307_16 hS, l_321 r9]).mpr x0⟩⟩ (fun g10 => ?_)
            refine EQ_jgd (show h17 307 (-2) = 6 from by rw [k_307 r9]) ?_
            refine EQ_jb (eX5_count_2 i3 a6 r9) (fun v19 r11 => ?_)
            refine EQ_jgd ⟨(show h17 (h 307 16) (-2) = 102 from by rw [r_307_16 hS, k_321 r9]), (show 200 ≤ h 307 16 from by rw [r_307_16 hS]; exact (by decide)), ((show jI (w32 (w32 (i1 * 120) + v16)) (h17 (h 307 16) (-1)) ↔ jI (w32 (w32 (i1 * 120) + v16)) 1560 from by rw [r_307_16 hS, l_321 r9]).mpr g10)⟩ ?_
            refine EQ_jl (by rw [r_307_16 hS]) (fun h20 eh20 => ?_)
            have s12 := Sh_of eh20 (Sh_sta r9 (by decide +kernel) (jI_nn g10) (fun e => absurd ((k_321 r9).symm.trans e) (by decide)))
            clear eh20
            exact (eX5_countAct_j357_28 i1 i2 i3 i4 i5 a6 s12)
        · refine EQ_jb (eX5_countAct_l129 i1 i2 i3 i4 i5 a6 0 hS) (fun o21 r13 => ?_)
          exact (eX5_countAct_j357_28 i1 i2 i3 i4 i5 a6 r13)
      · exact (eX5_countAct_j357_28 i1 i2 i3 i4 i5 a6 hS)
noncomputable def gX5_countAct_l28 (i1 : Int) (i2 : Int) (i3 : Int) (i4 : Int) (i5 : Int) (a6 : Int) (h : AH) : Option (AH) := jit (gX5_countAct_b28 i1 i2 i3 i4 i5) (a6, h)
theorem eX5_countAct_l28 (i1 : Int) (i2 : Int) (i3 : Int) (i4 : Int) (i5 : Int) (a6 : Int) {h : AH} (hS : Sh S h) : EQ (fX5_countAct_l28 307 i1 i2 i3 i4 i5 a6 h) (gX5_countAct_l28 i1 i2 i3 i4 i5 a6 h) (fun r => Sh S r) := EQ_jit (I := (fun r => Sh S r.2)) (fun s hs => eX5_countAct_b28 i1 i2 i3 i4 i5 hs) hS
noncomputable def gX5_countAct (a1 : Int) (a2 : Int) (a3 : Int) (h : AH) : Option (AH) := jg (jI a2 12) <| jl (h (h 200 16 + 2) a2) fun x1 => jb (gX1_operandsOf x1 h) fun v3 => jb (gX5_countAct_l28 a1 a2 a3 x1 v3 0 h) fun o4 => some o4
theorem eX5_countAct (a1 : Int) (a2 : Int) (a3 : Int) {h : AH} (hS : Sh S h) : EQ (fX5_countAct 307 a1 a2 a3 h) (gX5_countAct a1 a2 a3 h) (fun r => Sh S r) := by
  unfold fX5_countAct gX5_countAct
  refine EQ_jgd (show h 307 (-2) = 6 from by rw [k_307 hS]) ?_
  refine EQ_jgd (show h (h 307 22) (-2) = 2 from by rw [r_307_22 hS, k_200 hS]) ?_
  refine EQ_jgd (show h (h (h 307 22) 16) (-2) = 5 from by rw [r_307_22 hS, kd_X4 hS (dy_200_16 hS)]) ?_
  refine EQ_jg ⟨fun ⟨_, x0⟩ => (show jI a2 (h (h (h (h 307 22) 16) 4) (-1)) ↔ jI a2 12 from by rw [r_307_22 hS, ft_X4_4 hS (dy_200_16 hS), la_X4_4 hS (dy_200_16 hS)]).mp x0, fun x0 => ⟨(show h (h (h (h 307 22) 16) 4) (-2) = 101 from by rw [r_307_22 hS, ft_X4_4 hS (dy_200_16 hS), ka_X4_4 hS (dy_200_16 hS)]), (show jI a2 (h (h (h (h 307 22) 16) 4) (-1)) ↔ jI a2 12 from by rw [r_307_22 hS, ft_X4_4 hS (dy_200_16 hS), la_X4_4 hS (dy_200_16 hS)]).mpr x0⟩⟩ (fun g1 => ?_)
  refine EQ_jl (by rw [r_307_22 hS, ft_X4_4 hS (dy_200_16 hS)]) (fun x1 ex1 => ?_)
  clear ex1
  refine EQ_jgd (show h 307 (-2) = 6 from by rw [k_307 hS]) ?_
  refine EQ_jgd (show h (h 307 22) (-2) = 2 from by rw [r_307_22 hS, k_200 hS]) ?_
  refine EQ_jb (by rw [r_307_22 hS]; exact eX1_operandsOf x1 hS) (fun v3 r2 => ?_)
  refine EQ_jb (eX5_countAct_l28 a1 a2 a3 x1 v3 0 hS) (fun o4 r3 => ?_)
  exact EQ_some r3
noncomputable def gX5_countOnce_j212_132 (a1 : Int) (a2 : Int) (h : AH) : Option ((Int × AH) ⊕ (AH)) := jl (w32 (a2 + 1)) fun x16 => some (.inl (x16, h))
theorem eX5_countOnce_j212_132 (a1 : Int) (a2 : Int) {h : AH} (hS : Sh S h) : EQ (fX5_countOnce_j212_132 307 a1 a2 h) (gX5_countOnce_j212_132 a1 a2 h) (Sum.elim (fun r => Sh S r.2) (fun r => Sh S r)) := by
  unfold fX5_countOnce_j212_132 gX5_countOnce_j212_132
  refine EQ_jl rfl (fun x16 ex16 => ?_)
  clear ex16
  exact EQ_some hS
noncomputable def gX5_countOnce_b132 (i1 : Int) (s : Int × AH) : Option ((Int × AH) ⊕ (AH)) := jt2 s fun a2 h => if h (h 200 16) 3 ≤ a2 then (some (.inr h)) else (jg (jI a2 12) <| jl (w32 (i1 - h (h 200 16 + 5) a2)) fun x8 => if h (h 200 16 + 2) a2 = (-1) then (if x8 = 0 then (jb (gX5_countLeaf i1 (w32 (h (h 200 16) 1 + a2)) h) fun h12 => gX5_countOnce_j212_132 i1 a2 h12) else (gX5_countOnce_j212_132 i1 a2 h)) else (if x8 ≤ 0 then (gX5_countOnce_j212_132 i1 a2 h) else (jb (gX5_countAct i1 a2 x8 h) fun h15 => gX5_countOnce_j212_132 i1 a2 h15)))
theorem eX5_countOnce_b132 (i1 : Int) {s : Int × AH} (hS : (fun r => Sh S r.2) s) : EQ (fX5_countOnce_b132 307 i1 s) (gX5_countOnce_b132 i1 s) (Sum.elim (fun r => Sh S r.2) (fun r => Sh S r)) := by
  unfold fX5_countOnce_b132 gX5_countOnce_b132
  obtain ⟨a2, h⟩ := s
  refine EQ_jt2 ?_
  replace hS : Sh S h := hS
  refine EQ_jgd (show h 307 (-2) = 6 from by rw [k_307 hS]) ?_
  refine EQ_jgd (show h (h 307 22) (-2) = 2 from by rw [r_307_22 hS, k_200 hS]) ?_
  refine EQ_jgd (show h (h (h 307 22) 16) (-2) = 5 from by rw [r_307_22 hS, kd_X4 hS (dy_200_16 hS)]) ?_
  refine EQ_if (show h (h (h 307 22) 16) 3 ≤ a2 ↔ h (h 200 16) 3 ≤ a2 from by rw [r_307_22 hS]) (fun c1 => ?_) (fun c1 => ?_)
  · exact EQ_some hS
  · refine EQ_jgd (show h 307 (-2) = 6 from by rw [k_307 hS]) ?_
    refine EQ_jgd (show h (h 307 22) (-2) = 2 from by rw [r_307_22 hS, k_200 hS]) ?_
    refine EQ_jgd (show h (h (h 307 22) 16) (-2) = 5 from by rw [r_307_22 hS, kd_X4 hS (dy_200_16 hS)]) ?_
    refine EQ_jg ⟨fun ⟨_, x0⟩ => (show jI a2 (h (h (h (h 307 22) 16) 7) (-1)) ↔ jI a2 12 from by rw [r_307_22 hS, ft_X4_7 hS (dy_200_16 hS), la_X4_7 hS (dy_200_16 hS)]).mp x0, fun x0 => ⟨(show h (h (h (h 307 22) 16) 7) (-2) = 101 from by rw [r_307_22 hS, ft_X4_7 hS (dy_200_16 hS), ka_X4_7 hS (dy_200_16 hS)]), (show jI a2 (h (h (h (h 307 22) 16) 7) (-1)) ↔ jI a2 12 from by rw [r_307_22 hS, ft_X4_7 hS (dy_200_16 hS), la_X4_7 hS (dy_200_16 hS)]).mpr x0⟩⟩ (fun g2 => ?_)
    refine EQ_jl (by rw [r_307_22 hS, ft_X4_7 hS (dy_200_16 hS)]) (fun x8 ex8 => ?_)
    clear ex8
    refine EQ_jgd (show h 307 (-2) = 6 from by rw [k_307 hS]) ?_
    refine EQ_jgd (show h (h 307 22) (-2) = 2 from by rw [r_307_22 hS, k_200 hS]) ?_
    refine EQ_jgd (show h (h (h 307 22) 16) (-2) = 5 from by rw [r_307_22 hS, kd_X4 hS (dy_200_16 hS)]) ?_
    refine EQ_jgd ⟨(show h (h (h (h 307 22) 16) 4) (-2) = 101 from by rw [r_307_22 hS, ft_X4_4 hS (dy_200_16 hS), ka_X4_4 hS (dy_200_16 hS)]), ((show jI a2 (h (h (h (h 307 22) 16) 4) (-1)) ↔ jI a2 12 from by rw [r_307_22 hS, ft_X4_4 hS (dy_200_16 hS), la_X4_4 hS (dy_200_16 hS)]).mpr g2)⟩ ?_
    refine EQ_if (show h (h (h (h 307 22) 16) 4) a2 = (-1) ↔ h (h 200 16 + 2) a2 = (-1) from by rw [r_307_22 hS, ft_X4_4 hS (dy_200_16 hS)]) (fun c3 => ?_) (fun c3 => ?_)
    · refine EQ_if Iff.rfl (fun c4 => ?_) (fun c4 => ?_)
      · refine EQ_jgd (show h 307 (-2) = 6 from by rw [k_307 hS]) ?_
        refine EQ_jgd (show h (h 307 22) (-2) = 2 from by rw [r_307_22 hS, k_200 hS]) ?_
        refine EQ_jgd (show h (h (h 307 22) 16) (-2) = 5 from by rw [r_307_22 hS, kd_X4 hS (dy_200_16 hS)]) ?_
        refine EQ_jgd (show h 307 (-2) = 6 from by rw [k_307 hS]) ?_
        refine EQ_jb (by rw [r_307_22 hS]; exact eX5_countLeaf i1 (w32 (h (h 200 16) 1 + a2)) hS) (fun h12 r5 => ?_)
        exact (eX5_countOnce_j212_132 i1 a2 r5)
      · exact (eX5_countOnce_j212_132 i1 a2 hS)
    · refine EQ_if Iff.rfl (fun c6 => ?_) (fun c6 => ?_)
      · exact (eX5_countOnce_j212_132 i1 a2 hS)
      · refine EQ_jgd (show h 307 (-2) = 6 from by rw [k_307 hS]) ?_
        refine EQ_jb (eX5_countAct i1 a2 x8 hS) (fun h15 r7 => ?_)
        exact (eX5_countOnce_j212_132 i1 a2 r7)
noncomputable def gX5_countOnce_l132 (i1 : Int) (a2 : Int) (h : AH) : Option (AH) := jit (gX5_countOnce_b132 i1) (a2, h)
theorem eX5_countOnce_l132 (i1 : Int) (a2 : Int) {h : AH} (hS : Sh S h) : EQ (fX5_countOnce_l132 307 i1 a2 h) (gX5_countOnce_l132 i1 a2 h) (fun r => Sh S r) := EQ_jit (I := (fun r => Sh S r.2)) (fun s hs => eX5_countOnce_b132 i1 hs) hS
noncomputable def gX5_countOnce_j130 (a1 : Int) (h : AH) : Option (AH) := jb (gX5_countOnce_l132 a1 0 h) fun o5 => some o5
theorem eX5_countOnce_j130 (a1 : Int) {h : AH} (hS : Sh S h) : EQ (fX5_countOnce_j130 307 a1 h) (gX5_countOnce_j130 a1 h) (fun r => Sh S r) := by
  unfold fX5_countOnce_j130 gX5_countOnce_j130
  refine EQ_jb (eX5_countOnce_l132 a1 0 hS) (fun o5 r1 => ?_)
  exact EQ_some r1
noncomputable def gX5_countOnce_j91_2 (a1 : Int) (a2 : Int) (h : AH) : Option ((Int × AH) ⊕ (AH)) := jl (w32 (a2 + 1)) fun x22 => some (.inl (x22, h))
theorem eX5_countOnce_j91_2 (a1 : Int) (a2 : Int) {h : AH} (hS : Sh S h) : EQ (fX5_countOnce_j91_2 307 a1 a2 h) (gX5_countOnce_j91_2 a1 a2 h) (Sum.elim (fun r => Sh S r.2) (fun r => Sh S r)) := by
  unfold fX5_countOnce_j91_2 gX5_countOnce_j91_2
  refine EQ_jl rfl (fun x22 ex22 => ?_)
  clear ex22
  exact EQ_some hS
noncomputable def gX5_countOnce_j66_2 (a1 : Int) (a2 : Int) (h : AH) : Option ((Int × AH) ⊕ (AH)) := jg (jI a2 121) <| if h 309 a2 = a1 then (jg (jI (w32 (w32 (a1 * 120) + a2)) 1560) <| jl (jst h 321 (w32 (w32 (a1 * 120) + a2)) (w64 (h 321 (w32 (w32 (a1 * 120) + a2)) + 1))) fun h21 => gX5_countOnce_j91_2 a1 a2 h21) else (gX5_countOnce_j91_2 a1 a2 h)
theorem eX5_countOnce_j66_2 (a1 : Int) (a2 : Int) {h : AH} (hS : Sh S h) : EQ (fX5_countOnce_j66_2 307 a1 a2 h) (gX5_countOnce_j66_2 a1 a2 h) (Sum.elim (fun r => Sh S r.2) (fun r => Sh S r)) := by
  unfold fX5_countOnce_j66_2 gX5_countOnce_j66_2
  refine EQ_jgd (show h 307 (-2) = 6 from by rw [k_307 hS]) ?_
  refine EQ_jg ⟨fun ⟨_, x0⟩ => (show jI a2 (h (h 307 2) (-1)) ↔ jI a2 121 from by rw [r_307_2 hS, l_309 hS]).mp x0, fun x0 => ⟨(show h (h 307 2) (-2) = 101 from by rw [r_307_2 hS, k_309 hS]), (show jI a2 (h (h 307 2) (-1)) ↔ jI a2 121 from by rw [r_307_2 hS, l_309 hS]).mpr x0⟩⟩ (fun g1 => ?_)
  refine EQ_if (show h (h 307 2) a2 = a1 ↔ h 309 a2 = a1 from by rw [r_307_2 hS]) (fun c2 => ?_) (fun c2 => ?_)
  · refine EQ_jgd (show h 307 (-2) = 6 from by rw [k_307 hS]) ?_
    refine EQ_jg ⟨fun ⟨_, x0⟩ => (show jI (w32 (w32 (a1 * 120) + a2)) (h (h 307 16) (-1)) ↔ jI (w32 (w32 (a1 * 120) + a2)) 1560 from by rw [r_307_16 hS, l_321 hS]).mp x0, fun x0 => ⟨(show h (h 307 16) (-2) = 102 from by rw [r_307_16 hS, k_321 hS]), (show jI (w32 (w32 (a1 * 120) + a2)) (h (h 307 16) (-1)) ↔ jI (w32 (w32 (a1 * 120) + a2)) 1560 from by rw [r_307_16 hS, l_321 hS]).mpr x0⟩⟩ (fun g3 => ?_)
    refine EQ_jgd ⟨(show h (h 307 16) (-2) = 102 from by rw [r_307_16 hS, k_321 hS]), (show 200 ≤ h 307 16 from by rw [r_307_16 hS]; exact (by decide)), ((show jI (w32 (w32 (a1 * 120) + a2)) (h (h 307 16) (-1)) ↔ jI (w32 (w32 (a1 * 120) + a2)) 1560 from by rw [r_307_16 hS, l_321 hS]).mpr g3)⟩ ?_
    refine EQ_jl (by rw [r_307_16 hS]) (fun h21 eh21 => ?_)
    have s4 := Sh_of eh21 (Sh_sta hS (by decide +kernel) (jI_nn g3) (fun e => absurd ((k_321 hS).symm.trans e) (by decide)))
    clear eh21
    exact (eX5_countOnce_j91_2 a1 a2 s4)
  · exact (eX5_countOnce_j91_2 a1 a2 hS)
noncomputable def gX5_countOnce_b2 (i1 : Int) (s : Int × AH) : Option ((Int × AH) ⊕ (AH)) := jt2 s fun a2 h => jg (jI i1 13) <| if h 314 i1 ≤ a2 then (some (.inr h)) else (jg (jI a2 121) <| if h 310 a2 < h (h 200 16) 1 then (gX5_countOnce_j66_2 i1 a2 h) else (jg (jI (w32 (h 310 a2 - h (h 200 16) 1)) 12) <| if h (h 200 16 + 2) (w32 (h 310 a2 - h (h 200 16) 1)) = (-1) then (gX5_countOnce_j66_2 i1 a2 h) else (gX5_countOnce_j91_2 i1 a2 h)))
theorem eX5_countOnce_b2 (i1 : Int) {s : Int × AH} (hS : (fun r => Sh S r.2) s) : EQ (fX5_countOnce_b2 307 i1 s) (gX5_countOnce_b2 i1 s) (Sum.elim (fun r => Sh S r.2) (fun r => Sh S r)) := by
  unfold fX5_countOnce_b2 gX5_countOnce_b2
  obtain ⟨a2, h⟩ := s
  refine EQ_jt2 ?_
  replace hS : Sh S h := hS
  refine EQ_jgd (show h 307 (-2) = 6 from by rw [k_307 hS]) ?_
  refine EQ_jg ⟨fun ⟨_, x0⟩ => (show jI i1 (h (h 307 9) (-1)) ↔ jI i1 13 from by rw [r_307_9 hS, l_314 hS]).mp x0, fun x0 => ⟨(show h (h 307 9) (-2) = 101 from by rw [r_307_9 hS, k_314 hS]), (show jI i1 (h (h 307 9) (-1)) ↔ jI i1 13 from by rw [r_307_9 hS, l_314 hS]).mpr x0⟩⟩ (fun g1 => ?_)
  refine EQ_if (show h (h 307 9) i1 ≤ a2 ↔ h 314 i1 ≤ a2 from by rw [r_307_9 hS]) (fun c2 => ?_) (fun c2 => ?_)
  · exact EQ_some hS
  · refine EQ_jgd (show h 307 (-2) = 6 from by rw [k_307 hS]) ?_
    refine EQ_jg ⟨fun ⟨_, x0⟩ => (show jI a2 (h (h 307 3) (-1)) ↔ jI a2 121 from by rw [r_307_3 hS, l_310 hS]).mp x0, fun x0 => ⟨(show h (h 307 3) (-2) = 101 from by rw [r_307_3 hS, k_310 hS]), (show jI a2 (h (h 307 3) (-1)) ↔ jI a2 121 from by rw [r_307_3 hS, l_310 hS]).mpr x0⟩⟩ (fun g3 => ?_)
    refine EQ_jgd (show h 307 (-2) = 6 from by rw [k_307 hS]) ?_
    refine EQ_jgd (show h (h 307 22) (-2) = 2 from by rw [r_307_22 hS, k_200 hS]) ?_
    refine EQ_jgd (show h (h (h 307 22) 16) (-2) = 5 from by rw [r_307_22 hS, kd_X4 hS (dy_200_16 hS)]) ?_
    refine EQ_if (show h (h 307 3) a2 < h (h (h 307 22) 16) 1 ↔ h 310 a2 < h (h 200 16) 1 from by rw [r_307_3 hS, r_307_22 hS]) (fun c4 => ?_) (fun c4 => ?_)
    · exact (eX5_countOnce_j66_2 i1 a2 hS)
    · refine EQ_jgd (show h 307 (-2) = 6 from by rw [k_307 hS]) ?_
      refine EQ_jgd (show h (h 307 22) (-2) = 2 from by rw [r_307_22 hS, k_200 hS]) ?_
      refine EQ_jgd (show h (h (h 307 22) 16) (-2) = 5 from by rw [r_307_22 hS, kd_X4 hS (dy_200_16 hS)]) ?_
      refine EQ_jgd (show h 307 (-2) = 6 from by rw [k_307 hS]) ?_
      refine EQ_jgd ⟨(show h (h 307 3) (-2) = 101 from by rw [r_307_3 hS, k_310 hS]), ((show jI a2 (h (h 307 3) (-1)) ↔ jI a2 121 from by rw [r_307_3 hS, l_310 hS]).mpr g3)⟩ ?_
      refine EQ_jgd (show h 307 (-2) = 6 from by rw [k_307 hS]) ?_
      refine EQ_jgd (show h (h 307 22) (-2) = 2 from by rw [r_307_22 hS, k_200 hS]) ?_
      refine EQ_jgd (show h (h (h 307 22) 16) (-2) = 5 from by rw [r_307_22 hS, kd_X4 hS (dy_200_16 hS)]) ?_
      refine EQ_jg ⟨fun ⟨_, x0⟩ => (show jI (w32 (h (h 307 3) a2 - h (h (h 307 22) 16) 1)) (h (h (h (h 307 22) 16) 4) (-1)) ↔ jI (w32 (h 310 a2 - h (h 200 16) 1)) 12 from by rw [r_307_3 hS, r_307_22 hS, ft_X4_4 hS (dy_200_16 hS), la_X4_4 hS (dy_200_16 hS)]).mp x0, fun x0 => ⟨(show h (h (h (h 307 22) 16) 4) (-2) = 101 from by rw [r_307_22 hS, ft_X4_4 hS (dy_200_16 hS), ka_X4_4 hS (dy_200_16 hS)]), (show jI (w32 (h (h 307 3) a2 - h (h (h 307 22) 16) 1)) (h (h (h (h 307 22) 16) 4) (-1)) ↔ jI (w32 (h 310 a2 - h (h 200 16) 1)) 12 from by rw [r_307_3 hS, r_307_22 hS, ft_X4_4 hS (dy_200_16 hS), la_X4_4 hS (dy_200_16 hS)]).mpr x0⟩⟩ (fun g5 => ?_)
      refine EQ_if (show h (h (h (h 307 22) 16) 4) (w32 (h (h 307 3) a2 - h (h (h 307 22) 16) 1)) = (-1) ↔ h (h 200 16 + 2) (w32 (h 310 a2 - h (h 200 16) 1)) = (-1) from by rw [r_307_22 hS, ft_X4_4 hS (dy_200_16 hS), r_307_3 hS]) (fun c6 => ?_) (fun c6 => ?_)
      · exact (eX5_countOnce_j66_2 i1 a2 hS)
      · exact (eX5_countOnce_j91_2 i1 a2 hS)
noncomputable def gX5_countOnce_l2 (i1 : Int) (a2 : Int) (h : AH) : Option (AH) := jit (gX5_countOnce_b2 i1) (a2, h)
theorem eX5_countOnce_l2 (i1 : Int) (a2 : Int) {h : AH} (hS : Sh S h) : EQ (fX5_countOnce_l2 307 i1 a2 h) (gX5_countOnce_l2 i1 a2 h) (fun r => Sh S r) := EQ_jit (I := (fun r => Sh S r.2)) (fun s hs => eX5_countOnce_b2 i1 hs) hS
noncomputable def gX5_countOnce_b99 (i1 : Int) (s : Int × AH) : Option ((Int × AH) ⊕ (AH)) := jt2 s fun a2 h => if h (h 200 16) 1 ≤ a2 then (some (.inr h)) else (if i1 = 1 then (jb (gX5_countLeaf i1 a2 h) fun h26 => jl (w32 (a2 + 1)) fun x27 => some (.inl (x27, h26))) else (some (.inr h)))
theorem eX5_countOnce_b99 (i1 : Int) {s : Int × AH} (hS : (fun r => Sh S r.2) s) : EQ (fX5_countOnce_b99 307 i1 s) (gX5_countOnce_b99 i1 s) (Sum.elim (fun r => Sh S r.2) (fun r => Sh S r)) := by
  unfold fX5_countOnce_b99 gX5_countOnce_b99
  obtain ⟨a2, h⟩ := s
  refine EQ_jt2 ?_
  replace hS : Sh S h := hS
  refine EQ_jgd (show h 307 (-2) = 6 from by rw [k_307 hS]) ?_
  refine EQ_jgd (show h (h 307 22) (-2) = 2 from by rw [r_307_22 hS, k_200 hS]) ?_
  refine EQ_jgd (show h (h (h 307 22) 16) (-2) = 5 from by rw [r_307_22 hS, kd_X4 hS (dy_200_16 hS)]) ?_
  refine EQ_if (show h (h (h 307 22) 16) 1 ≤ a2 ↔ h (h 200 16) 1 ≤ a2 from by rw [r_307_22 hS]) (fun c1 => ?_) (fun c1 => ?_)
  · exact EQ_some hS
  · refine EQ_if Iff.rfl (fun c2 => ?_) (fun c2 => ?_)
    · refine EQ_jgd (show h 307 (-2) = 6 from by rw [k_307 hS]) ?_
      refine EQ_jb (eX5_countLeaf i1 a2 hS) (fun h26 r3 => ?_)
      refine EQ_jl rfl (fun x27 ex27 => ?_)
      clear ex27
      exact EQ_some r3
    · exact EQ_some hS
noncomputable def gX5_countOnce_l99 (i1 : Int) (a2 : Int) (h : AH) : Option (AH) := jit (gX5_countOnce_b99 i1) (a2, h)
theorem eX5_countOnce_l99 (i1 : Int) (a2 : Int) {h : AH} (hS : Sh S h) : EQ (fX5_countOnce_l99 307 i1 a2 h) (gX5_countOnce_l99 i1 a2 h) (fun r => Sh S r) := EQ_jit (I := (fun r => Sh S r.2)) (fun s hs => eX5_countOnce_b99 i1 hs) hS
noncomputable def gX5_countOnce (a1 : Int) (h : AH) : Option (AH) := jb (gX5_countOnce_l2 a1 0 h) fun o1 => jb (gX5_countOnce_l99 a1 0 o1) fun o3 => gX5_countOnce_j130 a1 o3
theorem eX5_countOnce (a1 : Int) {h : AH} (hS : Sh S h) : EQ (fX5_countOnce 307 a1 h) (gX5_countOnce a1 h) (fun r => Sh S r) := by
  unfold fX5_countOnce gX5_countOnce
  refine EQ_jb (eX5_countOnce_l2 a1 0 hS) (fun o1 r1 => ?_)
  refine EQ_jb (eX5_countOnce_l99 a1 0 r1) (fun o3 r2 => ?_)
  exact (eX5_countOnce_j130 a1 r2)
noncomputable def gX5_count_b0 (i1 : Int) (h : AH) : Option ((AH) ⊕ (AH)) := if i1 ≤ h 307 17 then (some (.inr h)) else (jb (gX5_countOnce (w32 (h 307 17 + 1)) h) fun h5 => jl (jst h5 307 17 (w32 (h5 307 17 + 1))) fun h6 => some (.inl h6))
theorem eX5_count_b0 (i1 : Int) {h : AH} (hS : Sh S h) : EQ (fX5_count_b0 307 i1 h) (gX5_count_b0 i1 h) (Sum.elim (fun r => Sh S r) (fun r => Sh S r)) := by
  unfold fX5_count_b0 gX5_count_b0
  refine EQ_jgd (show h 307 (-2) = 6 from by rw [k_307 hS]) ?_
  refine EQ_if Iff.rfl (fun c1 => ?_) (fun c1 => ?_)
  · exact EQ_some hS
  · refine EQ_jgd (show h 307 (-2) = 6 from by rw [k_307 hS]) ?_
    refine EQ_jgd (show h 307 (-2) = 6 from by rw [k_307 hS]) ?_
    refine EQ_jb (eX5_countOnce (w32 (h 307 17 + 1)) hS) (fun h5 r2 => ?_)
    refine EQ_jgd (show h5 307 (-2) = 6 from by rw [k_307 r2]) ?_
    refine EQ_jgd ⟨(show h5 307 (-2) = 6 from by rw [k_307 r2]), (show (200 : Int) ≤ 307 from (by decide))⟩ ?_
    refine EQ_jl rfl (fun h6 eh6 => ?_)
    have s3 := Sh_of eh6 (Sh_sto r2 (a := 307) (i := 17) (by decide +kernel))
    clear eh6
    exact EQ_some s3
noncomputable def gX5_count_l0 (i1 : Int) (h : AH) : Option (AH) := jit (gX5_count_b0 i1) h
theorem eX5_count_l0 (i1 : Int) {h : AH} (hS : Sh S h) : EQ (fX5_count_l0 307 i1 h) (gX5_count_l0 i1 h) (fun r => Sh S r) := EQ_jit (I := (fun r => Sh S r)) (fun s hs => eX5_count_b0 i1 hs) hS
noncomputable def gX5_count (a1 : Int) (h : AH) : Option (AH) := jb (gX5_count_l0 a1 h) fun o1 => some o1
theorem eX5_count (a1 : Int) {h : AH} (hS : Sh S h) : EQ (fX5_count 307 a1 h) (gX5_count a1 h) (fun r => Sh S r) := by
  unfold fX5_count gX5_count
  refine EQ_jb (eX5_count_l0 a1 hS) (fun o1 r1 => ?_)
  exact EQ_some r1
noncomputable def gX5_meeting_j35_5 (a1 : Int) (a2 : Int) (a4 : Int) (h : AH) : Option ((Int × Int × AH) ⊕ (Int × AH)) := jl (w32 (a4 + 1)) fun x13 => some (.inl (a2, x13, h))
theorem eX5_meeting_j35_5 (a1 : Int) (a2 : Int) (a4 : Int) {h : AH} (hS : Sh S h) : EQ (fX5_meeting_j35_5 307 a1 a2 a4 h) (gX5_meeting_j35_5 a1 a2 a4 h) (Sum.elim (fun r => Sh S r.2.2) (fun r => Sh S r.2)) := by
  unfold fX5_meeting_j35_5 gX5_meeting_j35_5
  refine EQ_jl rfl (fun x13 ex13 => ?_)
  clear ex13
  exact EQ_some hS
noncomputable def gX5_meeting_b5 (i1 : Int) (s : Int × Int × AH) : Option ((Int × Int × AH) ⊕ (Int × AH)) := jt3 s fun a2 a4 h => jg (jI i1 13) <| if h 314 i1 ≤ a4 then (some (.inr (a2, h))) else (jb2 (gX5_isMeeting a4 h) fun v7 h8 => if v7 = 0 then (gX5_meeting_j35_5 i1 a2 a4 h8) else (jb (gX5_count_2 i1 a4 h8) fun v11 => jl (w64 (a2 + v11)) fun x12 => gX5_meeting_j35_5 i1 x12 a4 h8))
theorem eX5_meeting_b5 (i1 : Int) {s : Int × Int × AH} (hS : (fun r => Sh S r.2.2) s) : EQ (fX5_meeting_b5 307 i1 s) (gX5_meeting_b5 i1 s) (Sum.elim (fun r => Sh S r.2.2) (fun r => Sh S r.2)) := by
  unfold fX5_meeting_b5 gX5_meeting_b5
  obtain ⟨a2, a4, h⟩ := s
  refine EQ_jt3 ?_
  replace hS : Sh S h := hS
  refine EQ_jgd (show h 307 (-2) = 6 from by rw [k_307 hS]) ?_
  refine EQ_jg ⟨fun ⟨_, x0⟩ => (show jI i1 (h (h 307 9) (-1)) ↔ jI i1 13 from by rw [r_307_9 hS, l_314 hS]).mp x0, fun x0 => ⟨(show h (h 307 9) (-2) = 101 from by rw [r_307_9 hS, k_314 hS]), (show jI i1 (h (h 307 9) (-1)) ↔ jI i1 13 from by rw [r_307_9 hS, l_314 hS]).mpr x0⟩⟩ (fun g1 => ?_)
  refine EQ_if (show h (h 307 9) i1 ≤ a4 ↔ h 314 i1 ≤ a4 from by rw [r_307_9 hS]) (fun c2 => ?_) (fun c2 => ?_)
  · exact EQ_some hS
  · refine EQ_jgd (show h 307 (-2) = 6 from by rw [k_307 hS]) ?_
    refine EQ_jb2 (eX5_isMeeting a4 hS) (fun v7 h8 r3 => ?_)
    replace r3 : Sh S h8 := r3
    refine EQ_if Iff.rfl (fun c4 => ?_) (fun c4 => ?_)
    · exact (eX5_meeting_j35_5 i1 a2 a4 r3)
    · refine EQ_jgd (show h8 307 (-2) = 6 from by rw [k_307 r3]) ?_
      refine EQ_jb (eX5_count_2 i1 a4 r3) (fun v11 r5 => ?_)
      refine EQ_jl rfl (fun x12 ex12 => ?_)
      clear ex12
      exact (eX5_meeting_j35_5 i1 x12 a4 r3)
noncomputable def gX5_meeting_l5 (i1 : Int) (a2 : Int) (a4 : Int) (h : AH) : Option (Int × AH) := jit (gX5_meeting_b5 i1) (a2, a4, h)
theorem eX5_meeting_l5 (i1 : Int) (a2 : Int) (a4 : Int) {h : AH} (hS : Sh S h) : EQ (fX5_meeting_l5 307 i1 a2 a4 h) (gX5_meeting_l5 i1 a2 a4 h) (fun r => Sh S r.2) := EQ_jit (I := (fun r => Sh S r.2.2)) (fun s hs => eX5_meeting_b5 i1 hs) hS
noncomputable def gX5_meeting (a1 : Int) (h : AH) : Option (Int × AH) := jb (gX5_meeting_l5 a1 0 0 h) fun o1 => jt2 o1 fun y3 h4 => some (y3, h4)
theorem eX5_meeting (a1 : Int) {h : AH} (hS : Sh S h) : EQ (fX5_meeting 307 a1 h) (gX5_meeting a1 h) (fun r => Sh S r.2) := by
  unfold fX5_meeting gX5_meeting
  refine EQ_jb (eX5_meeting_l5 a1 0 0 hS) (fun o1 r1 => ?_)
  obtain ⟨y3, h4⟩ := o1
  refine EQ_jt2 ?_
  replace r1 : Sh S h4 := r1
  exact EQ_some r1
noncomputable def gX1_count (a1 : Int) (h : AH) : Option (Int × AH) := jb2 (gX1_known a1 h) fun v2 h3 => if 0 ≤ v2 then (jb (gX5_count a1 h3) fun h6 => jb2 (gX5_meeting a1 h6) fun v8 h9 => some (v8, h9)) else (some (v2, h3))
theorem eX1_count (a1 : Int) {h : AH} (hS : Sh S h) : EQ (fX1_count 200 a1 h) (gX1_count a1 h) (fun r => Sh S r.2) := by
  unfold fX1_count gX1_count
  refine EQ_jgd (show h 200 (-2) = 2 from by rw [k_200 hS]) ?_
  refine EQ_jb2 (eX1_known a1 hS) (fun v2 h3 r1 => ?_)
  replace r1 : Sh S h3 := r1
  refine EQ_if Iff.rfl (fun c2 => ?_) (fun c2 => ?_)
  · refine EQ_jgd (show h3 200 (-2) = 2 from by rw [k_200 r1]) ?_
    refine EQ_jgd (show h3 (h3 200 18) (-2) = 6 from by rw [r_200_18 r1, k_307 r1]) ?_
    refine EQ_jb (by rw [r_200_18 r1]; exact eX5_count a1 r1) (fun h6 r3 => ?_)
    refine EQ_jgd (show h6 200 (-2) = 2 from by rw [k_200 r3]) ?_
    refine EQ_jgd (show h6 (h6 200 18) (-2) = 6 from by rw [r_200_18 r3, k_307 r3]) ?_
    refine EQ_jb2 (by rw [r_200_18 r3]; exact eX5_meeting a1 r3) (fun v8 h9 r4 => ?_)
    replace r4 : Sh S h9 := r4
    exact EQ_some r4
  · exact EQ_some r1
noncomputable def gX5_newRow_b18 (i1 : Int) (s : Int × AH) : Option ((Int × AH) ⊕ (AH)) := jt2 s fun a2 h => if 120 ≤ a2 then (some (.inr h)) else (jg (jI (w32 (i1 + a2)) 4800) <| jl (jst h 322 (w32 (i1 + a2)) 0) fun h6 => jl (w32 (a2 + 1)) fun x7 => some (.inl (x7, h6)))
theorem eX5_newRow_b18 (i1 : Int) {s : Int × AH} (hS : (fun r => Sh S r.2) s) : EQ (fX5_newRow_b18 307 i1 s) (gX5_newRow_b18 i1 s) (Sum.elim (fun r => Sh S r.2) (fun r => Sh S r)) := by
  unfold fX5_newRow_b18 gX5_newRow_b18
  obtain ⟨a2, h⟩ := s
  refine EQ_jt2 ?_
  replace hS : Sh S h := hS
  refine EQ_if Iff.rfl (fun c1 => ?_) (fun c1 => ?_)
  · exact EQ_some hS
  · refine EQ_jgd (show h 307 (-2) = 6 from by rw [k_307 hS]) ?_
    refine EQ_jg ⟨fun ⟨_, _, x0⟩ => (show jI (w32 (i1 + a2)) (h (h 307 18) (-1)) ↔ jI (w32 (i1 + a2)) 4800 from by rw [r_307_18 hS, l_322 hS]).mp x0, fun x0 => ⟨(show h (h 307 18) (-2) = 102 from by rw [r_307_18 hS, k_322 hS]), (show 200 ≤ h 307 18 from by rw [r_307_18 hS]; exact (by decide)), (show jI (w32 (i1 + a2)) (h (h 307 18) (-1)) ↔ jI (w32 (i1 + a2)) 4800 from by rw [r_307_18 hS, l_322 hS]).mpr x0⟩⟩ (fun g2 => ?_)
    refine EQ_jl (by rw [r_307_18 hS]) (fun h6 eh6 => ?_)
    have s3 := Sh_of eh6 (Sh_sta hS (by decide +kernel) (jI_nn g2) (fun e => absurd ((k_322 hS).symm.trans e) (by decide)))
    clear eh6
    refine EQ_jl rfl (fun x7 ex7 => ?_)
    clear ex7
    exact EQ_some s3
noncomputable def gX5_newRow_l18 (i1 : Int) (a2 : Int) (h : AH) : Option (AH) := jit (gX5_newRow_b18 i1) (a2, h)
theorem eX5_newRow_l18 (i1 : Int) (a2 : Int) {h : AH} (hS : Sh S h) : EQ (fX5_newRow_l18 307 i1 a2 h) (gX5_newRow_l18 i1 a2 h) (fun r => Sh S r) := EQ_jit (I := (fun r => Sh S r.2)) (fun s hs => eX5_newRow_b18 i1 hs) hS
noncomputable def gX5_newRow (h : AH) : Option (Int × AH) := jl (h 307 19) fun x1 => jl (jst h 307 19 (w32 (h 307 19 + 120))) fun h2 => jb (gX5_newRow_l18 x1 0 h2) fun o3 => some (x1, o3)
theorem eX5_newRow {h : AH} (hS : Sh S h) : EQ (fX5_newRow 307 h) (gX5_newRow h) (fun r => Sh S r.2) := by
  unfold fX5_newRow gX5_newRow
  refine EQ_jgd (show h 307 (-2) = 6 from by rw [k_307 hS]) ?_
  refine EQ_jl rfl (fun x1 ex1 => ?_)
  clear ex1
  refine EQ_jgd (show h 307 (-2) = 6 from by rw [k_307 hS]) ?_
  refine EQ_jgd ⟨(show h 307 (-2) = 6 from by rw [k_307 hS]), (show (200 : Int) ≤ 307 from (by decide))⟩ ?_
  refine EQ_jl rfl (fun h2 eh2 => ?_)
  have s1 := Sh_of eh2 (Sh_sto hS (a := 307) (i := 19) (by decide +kernel))
  clear eh2
  refine EQ_jb (eX5_newRow_l18 x1 0 s1) (fun o3 r2 => ?_)
  exact EQ_some r2
noncomputable def gX5_weigh_j431_20 (a1 : Int) (a2 : Int) (a3 : Int) (a4 : Int) (a5 : Int) (a6 : Int) (a7 : Int) (a8 : Int) (a9 : Int) (a10 : Int) (a11 : Int) (a13 : Int) (h : AH) : Option ((Int × Int × AH) ⊕ (Int × AH)) := jl (w32 (a13 + 1)) fun x34 => some (.inl (a11, x34, h))
theorem eX5_weigh_j431_20 (a1 : Int) (a2 : Int) (a3 : Int) (a4 : Int) (a5 : Int) (a6 : Int) (a7 : Int) (a8 : Int) (a9 : Int) (a10 : Int) (a11 : Int) (a13 : Int) {h : AH} (hS : Sh S h) : EQ (fX5_weigh_j431_20 307 a1 a2 a3 a4 a5 a6 a7 a8 a9 a10 a11 a13 h) (gX5_weigh_j431_20 a1 a2 a3 a4 a5 a6 a7 a8 a9 a10 a11 a13 h) (Sum.elim (fun r => Sh S r.2.2) (fun r => Sh S r.2)) := by
  unfold fX5_weigh_j431_20 gX5_weigh_j431_20
  refine EQ_jl rfl (fun x34 ex34 => ?_)
  clear ex34
  exact EQ_some hS
noncomputable def gX5_weigh_j403_20 (a1 : Int) (a2 : Int) (a3 : Int) (a4 : Int) (a5 : Int) (a6 : Int) (a7 : Int) (a8 : Int) (a9 : Int) (a10 : Int) (a11 : Int) (a13 : Int) (a14 : Int) (h : AH) : Option ((Int × Int × AH) ⊕ (Int × AH)) := jg (jI (w32 (a9 + a13)) 4800) <| jl (jst h 322 (w32 (a9 + a13)) a14) fun h36 => jb (gX5_count_2 a4 a13 h36) fun v38 => jl (w64 (a11 + w64 (v38 * a14))) fun x39 => gX5_weigh_j431_20 a1 a2 a3 a4 a5 a6 a7 a8 a9 a10 x39 a13 h36
theorem eX5_weigh_j403_20 (a1 : Int) (a2 : Int) (a3 : Int) (a4 : Int) (a5 : Int) (a6 : Int) (a7 : Int) (a8 : Int) (a9 : Int) (a10 : Int) (a11 : Int) (a13 : Int) (a14 : Int) {h : AH} (hS : Sh S h) : EQ (fX5_weigh_j403_20 307 a1 a2 a3 a4 a5 a6 a7 a8 a9 a10 a11 a13 a14 h) (gX5_weigh_j403_20 a1 a2 a3 a4 a5 a6 a7 a8 a9 a10 a11 a13 a14 h) (Sum.elim (fun r => Sh S r.2.2) (fun r => Sh S r.2)) := by
  unfold fX5_weigh_j403_20 gX5_weigh_j403_20
  refine EQ_jgd (show h 307 (-2) = 6 from by rw [k_307 hS]) ?_
  refine EQ_jg ⟨fun ⟨_, _, x0⟩ => (show jI (w32 (a9 + a13)) (h (h 307 18) (-1)) ↔ jI (w32 (a9 + a13)) 4800 from by rw [r_307_18 hS, l_322 hS]).mp x0, fun x0 => ⟨(show h (h 307 18) (-2) = 102 from by rw [r_307_18 hS, k_322 hS]), (show 200 ≤ h 307 18 from by rw [r_307_18 hS]; exact (by decide)), (show jI (w32 (a9 + a13)) (h (h 307 18) (-1)) ↔ jI (w32 (a9 + a13)) 4800 from by rw [r_307_18 hS, l_322 hS]).mpr x0⟩⟩ (fun g1 => ?_)
  refine EQ_jl (by rw [r_307_18 hS]) (fun h36 eh36 => ?_)
  have s2 := Sh_of eh36 (Sh_sta hS (by decide +kernel) (jI_nn g1) (fun e => absurd ((k_322 hS).symm.trans e) (by decide)))
  clear eh36
  refine EQ_jgd (show h36 307 (-2) = 6 from by rw [k_307 s2]) ?_
  refine EQ_jb (eX5_count_2 a4 a13 s2) (fun v38 r3 => ?_)
  refine EQ_jl rfl (fun x39 ex39 => ?_)
  clear ex39
  exact (eX5_weigh_j431_20 a1 a2 a3 a4 a5 a6 a7 a8 a9 a10 x39 a13 s2)
noncomputable def gX5_weigh_j127_20 (a1 : Int) (a2 : Int) (a3 : Int) (a4 : Int) (a5 : Int) (a6 : Int) (a7 : Int) (a8 : Int) (a9 : Int) (a10 : Int) (a11 : Int) (a13 : Int) (t1 : Int) (t2 : Int) (h : AH) : Option ((Int × Int × AH) ⊕ (Int × AH)) := jg (jI (w32 (t1 + t2)) 4800) <| jl (h 322 (w32 (t1 + t2))) fun x35 => gX5_weigh_j403_20 a1 a2 a3 a4 a5 a6 a7 a8 a9 a10 a11 a13 x35 h
theorem eX5_weigh_j127_20 (a1 : Int) (a2 : Int) (a3 : Int) (a4 : Int) (a5 : Int) (a6 : Int) (a7 : Int) (a8 : Int) (a9 : Int) (a10 : Int) (a11 : Int) (a13 : Int) (t1 : Int) (t2 : Int) {h : AH} (hS : Sh S h) : EQ (fX5_weigh_j127_20 307 a1 a2 a3 a4 a5 a6 a7 a8 a9 a10 a11 a13 322 t1 t2 h) (gX5_weigh_j127_20 a1 a2 a3 a4 a5 a6 a7 a8 a9 a10 a11 a13 t1 t2 h) (Sum.elim (fun r => Sh S r.2.2) (fun r => Sh S r.2)) := by
  unfold fX5_weigh_j127_20 gX5_weigh_j127_20
  refine EQ_jg ⟨fun ⟨_, x0⟩ => (show jI (w32 (t1 + t2)) (h 322 (-1)) ↔ jI (w32 (t1 + t2)) 4800 from by rw [l_322 hS]).mp x0, fun x0 => ⟨(show h 322 (-2) = 102 from by rw [k_322 hS]), (show jI (w32 (t1 + t2)) (h 322 (-1)) ↔ jI (w32 (t1 + t2)) 4800 from by rw [l_322 hS]).mpr x0⟩⟩ (fun g1 => ?_)
  refine EQ_jl rfl (fun x35 ex35 => ?_)
  clear ex35
  exact (eX5_weigh_j403_20 a1 a2 a3 a4 a5 a6 a7 a8 a9 a10 a11 a13 x35 hS)
noncomputable def gX5_weigh_j246_144 (a1 : Int) (a2 : Int) (a3 : Int) (a4 : Int) (a5 : Int) (a6 : Int) (a7 : Int) (a8 : Int) (a9 : Int) (a10 : Int) (a11 : Int) (a13 : Int) (a14 : Int) (a16 : Int) (h : AH) : Option ((Int × Int × AH) ⊕ (Int × AH)) := jl (w32 (a16 + 1)) fun x54 => some (.inl (a14, x54, h))
theorem eX5_weigh_j246_144 (a1 : Int) (a2 : Int) (a3 : Int) (a4 : Int) (a5 : Int) (a6 : Int) (a7 : Int) (a8 : Int) (a9 : Int) (a10 : Int) (a11 : Int) (a13 : Int) (a14 : Int) (a16 : Int) {h : AH} (hS : Sh S h) : EQ (fX5_weigh_j246_144 307 a1 a2 a3 a4 a5 a6 a7 a8 a9 a10 a11 a13 a14 a16 h) (gX5_weigh_j246_144 a1 a2 a3 a4 a5 a6 a7 a8 a9 a10 a11 a13 a14 a16 h) (Sum.elim (fun r => Sh S r.2.2) (fun r => Sh S r.2)) := by
  unfold fX5_weigh_j246_144 gX5_weigh_j246_144
  refine EQ_jl rfl (fun x54 ex54 => ?_)
  clear ex54
  exact EQ_some hS
noncomputable def gX5_weigh_j220_144 (a1 : Int) (a2 : Int) (a3 : Int) (a4 : Int) (a5 : Int) (a6 : Int) (a7 : Int) (a8 : Int) (a9 : Int) (a10 : Int) (a11 : Int) (a13 : Int) (a14 : Int) (a16 : Int) (t0 : Int) (h : AH) : Option ((Int × Int × AH) ⊕ (Int × AH)) := jb (gX5_count_2 a5 a16 h) fun v56 => jg (jI (w32 (a8 + t0)) 4800) <| jl (w64 (a14 + w64 (v56 * h 322 (w32 (a8 + t0))))) fun x57 => gX5_weigh_j246_144 a1 a2 a3 a4 a5 a6 a7 a8 a9 a10 a11 a13 x57 a16 h
theorem eX5_weigh_j220_144 (a1 : Int) (a2 : Int) (a3 : Int) (a4 : Int) (a5 : Int) (a6 : Int) (a7 : Int) (a8 : Int) (a9 : Int) (a10 : Int) (a11 : Int) (a13 : Int) (a14 : Int) (a16 : Int) (t0 : Int) {h : AH} (hS : Sh S h) : EQ (fX5_weigh_j220_144 307 a1 a2 a3 a4 a5 a6 a7 a8 a9 a10 a11 a13 a14 a16 t0 h) (gX5_weigh_j220_144 a1 a2 a3 a4 a5 a6 a7 a8 a9 a10 a11 a13 a14 a16 t0 h) (Sum.elim (fun r => Sh S r.2.2) (fun r => Sh S r.2)) := by
  unfold fX5_weigh_j220_144 gX5_weigh_j220_144
  refine EQ_jgd (show h 307 (-2) = 6 from by rw [k_307 hS]) ?_
  refine EQ_jb (eX5_count_2 a5 a16 hS) (fun v56 r1 => ?_)
  refine EQ_jgd (show h 307 (-2) = 6 from by rw [k_307 hS]) ?_
  refine EQ_jg ⟨fun ⟨_, x0⟩ => (show jI (w32 (a8 + t0)) (h (h 307 18) (-1)) ↔ jI (w32 (a8 + t0)) 4800 from by rw [r_307_18 hS, l_322 hS]).mp x0, fun x0 => ⟨(show h (h 307 18) (-2) = 102 from by rw [r_307_18 hS, k_322 hS]), (show jI (w32 (a8 + t0)) (h (h 307 18) (-1)) ↔ jI (w32 (a8 + t0)) 4800 from by rw [r_307_18 hS, l_322 hS]).mpr x0⟩⟩ (fun g2 => ?_)
  refine EQ_jl (by rw [r_307_18 hS]) (fun x57 ex57 => ?_)
  clear ex57
  exact (eX5_weigh_j246_144 a1 a2 a3 a4 a5 a6 a7 a8 a9 a10 a11 a13 x57 a16 hS)
noncomputable def gX5_weigh_b144 (i1 : Int) (i2 : Int) (i3 : Int) (i4 : Int) (i5 : Int) (i6 : Int) (i7 : Int) (i8 : Int) (i9 : Int) (i10 : Int) (i11 : Int) (i13 : Int) (s : Int × Int × AH) : Option ((Int × Int × AH) ⊕ (Int × AH)) := jt3 s fun a14 a16 h => if h 307 0 ≤ a16 then (some (.inr (a14, h))) else (jg (jI a16 121) <| jb (gX1_kindOf i10 (w32 (i2 + 1)) h) fun v42 => if h 308 a16 = v42 then (jb (gX5_count_2 i5 a16 h) fun v45 => if jcmp v45 0 = 0 then (gX5_weigh_j246_144 i1 i2 i3 i4 i5 i6 i7 i8 i9 i10 i11 i13 a14 a16 h) else (if i3 = 2 then (jb2 (gX5_result i1 i13 a16 (-1) h) fun v49 h50 => gX5_weigh_j220_144 i1 i2 i3 i4 i5 i6 i7 i8 i9 i10 i11 i13 a14 a16 v49 h50) else (jb2 (gX5_resultOfThree i1 i6 i13 a16 h) fun v52 h53 => gX5_weigh_j220_144 i1 i2 i3 i4 i5 i6 i7 i8 i9 i10 i11 i13 a14 a16 v52 h53))) else (gX5_weigh_j246_144 i1 i2 i3 i4 i5 i6 i7 i8 i9 i10 i11 i13 a14 a16 h))
theorem eX5_weigh_b144 (i1 : Int) (i2 : Int) (i3 : Int) (i4 : Int) (i5 : Int) (i6 : Int) (i7 : Int) (i8 : Int) (i9 : Int) (i10 : Int) (i11 : Int) (i13 : Int) {s : Int × Int × AH} (hS : (fun r => Sh S r.2.2) s) : EQ (fX5_weigh_b144 307 i1 i2 i3 i4 i5 i6 i7 i8 i9 i10 i11 i13 s) (gX5_weigh_b144 i1 i2 i3 i4 i5 i6 i7 i8 i9 i10 i11 i13 s) (Sum.elim (fun r => Sh S r.2.2) (fun r => Sh S r.2)) := by
  unfold fX5_weigh_b144 gX5_weigh_b144
  obtain ⟨a14, a16, h⟩ := s
  refine EQ_jt3 ?_
  replace hS : Sh S h := hS
  refine EQ_jgd (show h 307 (-2) = 6 from by rw [k_307 hS]) ?_
  refine EQ_if Iff.rfl (fun c1 => ?_) (fun c1 => ?_)
  · exact EQ_some hS
  · refine EQ_jgd (show h 307 (-2) = 6 from by rw [k_307 hS]) ?_
    refine EQ_jg ⟨fun ⟨_, x0⟩ => (show jI a16 (h (h 307 1) (-1)) ↔ jI a16 121 from by rw [r_307_1 hS, l_308 hS]).mp x0, fun x0 => ⟨(show h (h 307 1) (-2) = 101 from by rw [r_307_1 hS, k_308 hS]), (show jI a16 (h (h 307 1) (-1)) ↔ jI a16 121 from by rw [r_307_1 hS, l_308 hS]).mpr x0⟩⟩ (fun g2 => ?_)
    refine EQ_jgd (show h 307 (-2) = 6 from by rw [k_307 hS]) ?_
    refine EQ_jgd (show h (h 307 22) (-2) = 2 from by rw [r_307_22 hS, k_200 hS]) ?_
    refine EQ_jb (by rw [r_307_22 hS]; exact eX1_kindOf i10 (w32 (i2 + 1)) hS) (fun v42 r3 => ?_)
    refine EQ_if (show h (h 307 1) a16 = v42 ↔ h 308 a16 = v42 from by rw [r_307_1 hS]) (fun c4 => ?_) (fun c4 => ?_)
    · refine EQ_jgd (show h 307 (-2) = 6 from by rw [k_307 hS]) ?_
      refine EQ_jb (eX5_count_2 i5 a16 hS) (fun v45 r5 => ?_)
      refine EQ_if Iff.rfl (fun c6 => ?_) (fun c6 => ?_)
      · exact (eX5_weigh_j246_144 i1 i2 i3 i4 i5 i6 i7 i8 i9 i10 i11 i13 a14 a16 hS)
      · refine EQ_if Iff.rfl (fun c7 => ?_) (fun c7 => ?_)
        · refine EQ_jgd (show h 307 (-2) = 6 from by rw [k_307 hS]) ?_
          refine EQ_jb2 (eX5_result i1 i13 a16 (-1) hS) (fun v49 h50 r8 => ?_)
          replace r8 : Sh S h50 := r8
          exact (eX5_weigh_j220_144 i1 i2 i3 i4 i5 i6 i7 i8 i9 i10 i11 i13 a14 a16 v49 r8)
        · refine EQ_jgd (show h 307 (-2) = 6 from by rw [k_307 hS]) ?_
          refine EQ_jb2 (eX5_resultOfThree i1 i6 i13 a16 hS) (fun v52 h53 r9 => ?_)
          replace r9 : Sh S h53 := r9
          exact (eX5_weigh_j220_144 i1 i2 i3 i4 i5 i6 i7 i8 i9 i10 i11 i13 a14 a16 v52 r9)
    · exact (eX5_weigh_j246_144 i1 i2 i3 i4 i5 i6 i7 i8 i9 i10 i11 i13 a14 a16 hS)
noncomputable def gX5_weigh_l144 (i1 : Int) (i2 : Int) (i3 : Int) (i4 : Int) (i5 : Int) (i6 : Int) (i7 : Int) (i8 : Int) (i9 : Int) (i10 : Int) (i11 : Int) (i13 : Int) (a14 : Int) (a16 : Int) (h : AH) : Option (Int × AH) := jit (gX5_weigh_b144 i1 i2 i3 i4 i5 i6 i7 i8 i9 i10 i11 i13) (a14, a16, h)
theorem eX5_weigh_l144 (i1 : Int) (i2 : Int) (i3 : Int) (i4 : Int) (i5 : Int) (i6 : Int) (i7 : Int) (i8 : Int) (i9 : Int) (i10 : Int) (i11 : Int) (i13 : Int) (a14 : Int) (a16 : Int) {h : AH} (hS : Sh S h) : EQ (fX5_weigh_l144 307 i1 i2 i3 i4 i5 i6 i7 i8 i9 i10 i11 i13 a14 a16 h) (gX5_weigh_l144 i1 i2 i3 i4 i5 i6 i7 i8 i9 i10 i11 i13 a14 a16 h) (fun r => Sh S r.2) := EQ_jit (I := (fun r => Sh S r.2.2)) (fun s hs => eX5_weigh_b144 i1 i2 i3 i4 i5 i6 i7 i8 i9 i10 i11 i13 hs) hS
noncomputable def gX5_weigh_j397_258 (a1 : Int) (a2 : Int) (a3 : Int) (a4 : Int) (a5 : Int) (a6 : Int) (a7 : Int) (a8 : Int) (a9 : Int) (a10 : Int) (a11 : Int) (a13 : Int) (a14 : Int) (a16 : Int) (h : AH) : Option ((Int × Int × AH) ⊕ (Int × AH)) := jl (w32 (a16 + 1)) fun x66 => some (.inl (a14, x66, h))
theorem eX5_weigh_j397_258 (a1 : Int) (a2 : Int) (a3 : Int) (a4 : Int) (a5 : Int) (a6 : Int) (a7 : Int) (a8 : Int) (a9 : Int) (a10 : Int) (a11 : Int) (a13 : Int) (a14 : Int) (a16 : Int) {h : AH} (hS : Sh S h) : EQ (fX5_weigh_j397_258 307 a1 a2 a3 a4 a5 a6 a7 a8 a9 a10 a11 a13 a14 a16 h) (gX5_weigh_j397_258 a1 a2 a3 a4 a5 a6 a7 a8 a9 a10 a11 a13 a14 a16 h) (Sum.elim (fun r => Sh S r.2.2) (fun r => Sh S r.2)) := by
  unfold fX5_weigh_j397_258 gX5_weigh_j397_258
  refine EQ_jl rfl (fun x66 ex66 => ?_)
  clear ex66
  exact EQ_some hS
noncomputable def gX5_weigh_j391_293 (a1 : Int) (a2 : Int) (a3 : Int) (a4 : Int) (a5 : Int) (a6 : Int) (a7 : Int) (a8 : Int) (a9 : Int) (a10 : Int) (a11 : Int) (a13 : Int) (a14 : Int) (a16 : Int) (a17 : Int) (h : AH) : Option ((Int × Int × AH) ⊕ (Int × AH)) := jl (w32 (a17 + 1)) fun x79 => some (.inl (a14, x79, h))
theorem eX5_weigh_j391_293 (a1 : Int) (a2 : Int) (a3 : Int) (a4 : Int) (a5 : Int) (a6 : Int) (a7 : Int) (a8 : Int) (a9 : Int) (a10 : Int) (a11 : Int) (a13 : Int) (a14 : Int) (a16 : Int) (a17 : Int) {h : AH} (hS : Sh S h) : EQ (fX5_weigh_j391_293 307 a1 a2 a3 a4 a5 a6 a7 a8 a9 a10 a11 a13 a14 a16 a17 h) (gX5_weigh_j391_293 a1 a2 a3 a4 a5 a6 a7 a8 a9 a10 a11 a13 a14 a16 a17 h) (Sum.elim (fun r => Sh S r.2.2) (fun r => Sh S r.2)) := by
  unfold fX5_weigh_j391_293 gX5_weigh_j391_293
  refine EQ_jl rfl (fun x79 ex79 => ?_)
  clear ex79
  exact EQ_some hS
noncomputable def gX5_weigh_b293 (i1 : Int) (i2 : Int) (i3 : Int) (i4 : Int) (i5 : Int) (i6 : Int) (i7 : Int) (i8 : Int) (i9 : Int) (i10 : Int) (i11 : Int) (i13 : Int) (i16 : Int) (s : Int × Int × AH) : Option ((Int × Int × AH) ⊕ (Int × AH)) := jt3 s fun a14 a17 h => if h 307 0 ≤ a17 then (some (.inr (a14, h))) else (jg (jI a17 121) <| jb (gX1_kindOf i10 2 h) fun v69 => if h 308 a17 = v69 then (jg (jI i16 121) <| if w32 (h 309 i16 + h 309 a17) ≤ i5 then (jb (gX5_both i5 i16 a17 h) fun v73 => if jcmp v73 0 ≤ 0 then (gX5_weigh_j391_293 i1 i2 i3 i4 i5 i6 i7 i8 i9 i10 i11 i13 a14 i16 a17 h) else (jb2 (gX5_resultOfThree i1 i13 i16 a17 h) fun v76 h77 => jg (jI (w32 (i8 + v76)) 4800) <| jl (w64 (a14 + w64 (v73 * h77 322 (w32 (i8 + v76))))) fun x78 => gX5_weigh_j391_293 i1 i2 i3 i4 i5 i6 i7 i8 i9 i10 i11 i13 x78 i16 a17 h77)) else (gX5_weigh_j391_293 i1 i2 i3 i4 i5 i6 i7 i8 i9 i10 i11 i13 a14 i16 a17 h)) else (gX5_weigh_j391_293 i1 i2 i3 i4 i5 i6 i7 i8 i9 i10 i11 i13 a14 i16 a17 h))
theorem eX5_weigh_b293 (i1 : Int) (i2 : Int) (i3 : Int) (i4 : Int) (i5 : Int) (i6 : Int) (i7 : Int) (i8 : Int) (i9 : Int) (i10 : Int) (i11 : Int) (i13 : Int) (i16 : Int) {s : Int × Int × AH} (hS : (fun r => Sh S r.2.2) s) : EQ (fX5_weigh_b293 307 i1 i2 i3 i4 i5 i6 i7 i8 i9 i10 i11 i13 i16 s) (gX5_weigh_b293 i1 i2 i3 i4 i5 i6 i7 i8 i9 i10 i11 i13 i16 s) (Sum.elim (fun r => Sh S r.2.2) (fun r => Sh S r.2)) := by
  unfold fX5_weigh_b293 gX5_weigh_b293
  obtain ⟨a14, a17, h⟩ := s
  refine EQ_jt3 ?_
  replace hS : Sh S h := hS
  refine EQ_jgd (show h 307 (-2) = 6 from by rw [k_307 hS]) ?_
  refine EQ_if Iff.rfl (fun c1 => ?_) (fun c1 => ?_)
  · exact EQ_some hS
  · refine EQ_jgd (show h 307 (-2) = 6 from by rw [k_307 hS]) ?_
    refine EQ_jg ⟨fun ⟨_, x0⟩ => (show jI a17 (h (h 307 1) (-1)) ↔ jI a17 121 from by rw [r_307_1 hS, l_308 hS]).mp x0, fun x0 => ⟨(show h (h 307 1) (-2) = 101 from by rw [r_307_1 hS, k_308 hS]), (show jI a17 (h (h 307 1) (-1)) ↔ jI a17 121 from by rw [r_307_1 hS, l_308 hS]).mpr x0⟩⟩ (fun g2 => ?_)
    refine EQ_jgd (show h 307 (-2) = 6 from by rw [k_307 hS]) ?_
    refine EQ_jgd (show h (h 307 22) (-2) = 2 from by rw [r_307_22 hS, k_200 hS]) ?_
    refine EQ_jb (by rw [r_307_22 hS]; exact eX1_kindOf i10 2 hS) (fun v69 r3 => ?_)
    refine EQ_if (show h (h 307 1) a17 = v69 ↔ h 308 a17 = v69 from by rw [r_307_1 hS]) (fun c4 => ?_) (fun c4 => ?_)
    · refine EQ_jgd (show h 307 (-2) = 6 from by rw [k_307 hS]) ?_
      refine EQ_jg ⟨fun ⟨_, x0⟩ => (show jI i16 (h (h 307 2) (-1)) ↔ jI i16 121 from by rw [r_307_2 hS, l_309 hS]).mp x0, fun x0 => ⟨(show h (h 307 2) (-2) = 101 from by rw [r_307_2 hS, k_309 hS]), (show jI i16 (h (h 307 2) (-1)) ↔ jI i16 121 from by rw [r_307_2 hS, l_309 hS]).mpr x0⟩⟩ (fun g5 => ?_)
      refine EQ_jgd (show h 307 (-2) = 6 from by rw [k_307 hS]) ?_
      refine EQ_jgd ⟨(show h (h 307 2) (-2) = 101 from by rw [r_307_2 hS, k_309 hS]), ((show jI a17 (h (h 307 2) (-1)) ↔ jI a17 121 from by rw [r_307_2 hS, l_309 hS]).mpr g2)⟩ ?_
      refine EQ_if (show w32 (h (h 307 2) i16 + h (h 307 2) a17) ≤ i5 ↔ w32 (h 309 i16 + h 309 a17) ≤ i5 from by rw [r_307_2 hS]) (fun c6 => ?_) (fun c6 => ?_)
      · refine EQ_jgd (show h 307 (-2) = 6 from by rw [k_307 hS]) ?_
        refine EQ_jb (eX5_both i5 i16 a17 hS) (fun v73 r7 => ?_)
        refine EQ_if Iff.rfl (fun c8 => ?_) (fun c8 => ?_)
        · exact (eX5_weigh_j391_293 i1 i2 i3 i4 i5 i6 i7 i8 i9 i10 i11 i13 a14 i16 a17 hS)
        · refine EQ_jgd (show h 307 (-2) = 6 from by rw [k_307 hS]) ?_
          refine EQ_jgd (show h 307 (-2) = 6 from by rw [k_307 hS]) ?_
          refine EQ_jb2 (eX5_resultOfThree i1 i13 i16 a17 hS) (fun v76 h77 r9 => ?_)
          replace r9 : Sh S h77 := r9
          refine EQ_jg ⟨fun ⟨_, x0⟩ => (show jI (w32 (i8 + v76)) (h77 (h 307 18) (-1)) ↔ jI (w32 (i8 + v76)) 4800 from by rw [r_307_18 hS, l_322 r9]).mp x0, fun x0 => ⟨(show h77 (h 307 18) (-2) = 102 from by rw [r_307_18 hS, k_322 r9]), (show jI (w32 (i8 + v76)) (h77 (h 307 18) (-1)) ↔ jI (w32 (i8 + v76)) 4800 from by rw [r_307_18 hS, l_322 r9]).mpr x0⟩⟩ (fun g10 => ?_)
          refine EQ_jl (by rw [r_307_18 hS]) (fun x78 ex78 => ?_)
          clear ex78
          exact (eX5_weigh_j391_293 i1 i2 i3 i4 i5 i6 i7 i8 i9 i10 i11 i13 x78 i16 a17 r9)
      · exact (eX5_weigh_j391_293 i1 i2 i3 i4 i5 i6 i7 i8 i9 i10 i11 i13 a14 i16 a17 hS)
    · exact (eX5_weigh_j391_293 i1 i2 i3 i4 i5 i6 i7 i8 i9 i10 i11 i13 a14 i16 a17 hS)
noncomputable def gX5_weigh_l293 (i1 : Int) (i2 : Int) (i3 : Int) (i4 : Int) (i5 : Int) (i6 : Int) (i7 : Int) (i8 : Int) (i9 : Int) (i10 : Int) (i11 : Int) (i13 : Int) (i16 : Int) (a14 : Int) (a17 : Int) (h : AH) : Option (Int × AH) := jit (gX5_weigh_b293 i1 i2 i3 i4 i5 i6 i7 i8 i9 i10 i11 i13 i16) (a14, a17, h)
theorem eX5_weigh_l293 (i1 : Int) (i2 : Int) (i3 : Int) (i4 : Int) (i5 : Int) (i6 : Int) (i7 : Int) (i8 : Int) (i9 : Int) (i10 : Int) (i11 : Int) (i13 : Int) (i16 : Int) (a14 : Int) (a17 : Int) {h : AH} (hS : Sh S h) : EQ (fX5_weigh_l293 307 i1 i2 i3 i4 i5 i6 i7 i8 i9 i10 i11 i13 i16 a14 a17 h) (gX5_weigh_l293 i1 i2 i3 i4 i5 i6 i7 i8 i9 i10 i11 i13 i16 a14 a17 h) (fun r => Sh S r.2) := EQ_jit (I := (fun r => Sh S r.2.2)) (fun s hs => eX5_weigh_b293 i1 i2 i3 i4 i5 i6 i7 i8 i9 i10 i11 i13 i16 hs) hS
noncomputable def gX5_weigh_b258 (i1 : Int) (i2 : Int) (i3 : Int) (i4 : Int) (i5 : Int) (i6 : Int) (i7 : Int) (i8 : Int) (i9 : Int) (i10 : Int) (i11 : Int) (i13 : Int) (s : Int × Int × AH) : Option ((Int × Int × AH) ⊕ (Int × AH)) := jt3 s fun a14 a16 h => if h 307 0 ≤ a16 then (some (.inr (a14, h))) else (jg (jI a16 121) <| jb (gX1_kindOf i10 1 h) fun v60 => if h 308 a16 = v60 then (jb (gX5_weigh_l293 i1 i2 i3 i4 i5 i6 i7 i8 i9 i10 i11 i13 a16 a14 0 h) fun o62 => jt2 o62 fun y64 h65 => gX5_weigh_j397_258 i1 i2 i3 i4 i5 i6 i7 i8 i9 i10 i11 i13 y64 a16 h65) else (gX5_weigh_j397_258 i1 i2 i3 i4 i5 i6 i7 i8 i9 i10 i11 i13 a14 a16 h))
theorem eX5_weigh_b258 (i1 : Int) (i2 : Int) (i3 : Int) (i4 : Int) (i5 : Int) (i6 : Int) (i7 : Int) (i8 : Int) (i9 : Int) (i10 : Int) (i11 : Int) (i13 : Int) {s : Int × Int × AH} (hS : (fun r => Sh S r.2.2) s) : EQ (fX5_weigh_b258 307 i1 i2 i3 i4 i5 i6 i7 i8 i9 i10 i11 i13 s) (gX5_weigh_b258 i1 i2 i3 i4 i5 i6 i7 i8 i9 i10 i11 i13 s) (Sum.elim (fun r => Sh S r.2.2) (fun r => Sh S r.2)) := by
  unfold fX5_weigh_b258 gX5_weigh_b258
  obtain ⟨a14, a16, h⟩ := s
  refine EQ_jt3 ?_
  replace hS : Sh S h := hS
  refine EQ_jgd (show h 307 (-2) = 6 from by rw [k_307 hS]) ?_
  refine EQ_if Iff.rfl (fun c1 => ?_) (fun c1 => ?_)
  · exact EQ_some hS
  · refine EQ_jgd (show h 307 (-2) = 6 from by rw [k_307 hS]) ?_
    refine EQ_jg ⟨fun ⟨_, x0⟩ => (show jI a16 (h (h 307 1) (-1)) ↔ jI a16 121 from by rw [r_307_1 hS, l_308 hS]).mp x0, fun x0 => ⟨(show h (h 307 1) (-2) = 101 from by rw [r_307_1 hS, k_308 hS]), (show jI a16 (h (h 307 1) (-1)) ↔ jI a16 121 from by rw [r_307_1 hS, l_308 hS]).mpr x0⟩⟩ (fun g2 => ?_)
    refine EQ_jgd (show h 307 (-2) = 6 from by rw [k_307 hS]) ?_
    refine EQ_jgd (show h (h 307 22) (-2) = 2 from by rw [r_307_22 hS, k_200 hS]) ?_
    refine EQ_jb (by rw [r_307_22 hS]; exact eX1_kindOf i10 1 hS) (fun v60 r3 => ?_)
    refine EQ_if (show h (h 307 1) a16 = v60 ↔ h 308 a16 = v60 from by rw [r_307_1 hS]) (fun c4 => ?_) (fun c4 => ?_)
    · refine EQ_jb (eX5_weigh_l293 i1 i2 i3 i4 i5 i6 i7 i8 i9 i10 i11 i13 a16 a14 0 hS) (fun o62 r5 => ?_)
      obtain ⟨y64, h65⟩ := o62
      refine EQ_jt2 ?_
      replace r5 : Sh S h65 := r5
      exact (eX5_weigh_j397_258 i1 i2 i3 i4 i5 i6 i7 i8 i9 i10 i11 i13 y64 a16 r5)
    · exact (eX5_weigh_j397_258 i1 i2 i3 i4 i5 i6 i7 i8 i9 i10 i11 i13 a14 a16 hS)
noncomputable def gX5_weigh_l258 (i1 : Int) (i2 : Int) (i3 : Int) (i4 : Int) (i5 : Int) (i6 : Int) (i7 : Int) (i8 : Int) (i9 : Int) (i10 : Int) (i11 : Int) (i13 : Int) (a14 : Int) (a16 : Int) (h : AH) : Option (Int × AH) := jit (gX5_weigh_b258 i1 i2 i3 i4 i5 i6 i7 i8 i9 i10 i11 i13) (a14, a16, h)
theorem eX5_weigh_l258 (i1 : Int) (i2 : Int) (i3 : Int) (i4 : Int) (i5 : Int) (i6 : Int) (i7 : Int) (i8 : Int) (i9 : Int) (i10 : Int) (i11 : Int) (i13 : Int) (a14 : Int) (a16 : Int) {h : AH} (hS : Sh S h) : EQ (fX5_weigh_l258 307 i1 i2 i3 i4 i5 i6 i7 i8 i9 i10 i11 i13 a14 a16 h) (gX5_weigh_l258 i1 i2 i3 i4 i5 i6 i7 i8 i9 i10 i11 i13 a14 a16 h) (fun r => Sh S r.2) := EQ_jit (I := (fun r => Sh S r.2.2)) (fun s hs => eX5_weigh_b258 i1 i2 i3 i4 i5 i6 i7 i8 i9 i10 i11 i13 hs) hS
noncomputable def gX5_weigh_b20 (i1 : Int) (i2 : Int) (i3 : Int) (i4 : Int) (i5 : Int) (i6 : Int) (i7 : Int) (i8 : Int) (i9 : Int) (i10 : Int) (s : Int × Int × AH) : Option ((Int × Int × AH) ⊕ (Int × AH)) := jt3 s fun a11 a13 h => if h 307 0 ≤ a13 then (some (.inr (a11, h))) else (jg (jI a13 121) <| jb (gX1_kindOf i10 i2 h) fun v8 => if h 308 a13 = v8 then (jb (gX5_count_2 i4 a13 h) fun v11 => if jcmp v11 0 = 0 then (gX5_weigh_j431_20 i1 i2 i3 i4 i5 i6 i7 i8 i9 i10 a11 a13 h) else (if i2 = w32 (i3 - 1) then (if i3 = 1 then (jb2 (gX5_result i1 a13 (-1) (-1) h) fun v16 h17 => gX5_weigh_j127_20 i1 i2 i3 i4 i5 i6 i7 i8 i9 i10 a11 a13 i8 v16 h17) else (if i3 = 2 then (jb2 (gX5_result i1 i6 a13 (-1) h) fun v20 h21 => gX5_weigh_j127_20 i1 i2 i3 i4 i5 i6 i7 i8 i9 i10 a11 a13 i8 v20 h21) else (jb2 (gX5_resultOfThree i1 i6 i7 a13 h) fun v23 h24 => gX5_weigh_j127_20 i1 i2 i3 i4 i5 i6 i7 i8 i9 i10 a11 a13 i8 v23 h24))) else (if i2 = w32 (i3 - 2) then (jb (gX5_weigh_l144 i1 i2 i3 i4 i5 i6 i7 i8 i9 i10 a11 a13 0 0 h) fun o26 => jt2 o26 fun y28 h29 => gX5_weigh_j403_20 i1 i2 i3 i4 i5 i6 i7 i8 i9 i10 a11 a13 y28 h29) else (jb (gX5_weigh_l258 i1 i2 i3 i4 i5 i6 i7 i8 i9 i10 a11 a13 0 0 h) fun o30 => jt2 o30 fun y32 h33 => gX5_weigh_j403_20 i1 i2 i3 i4 i5 i6 i7 i8 i9 i10 a11 a13 y32 h33)))) else (gX5_weigh_j431_20 i1 i2 i3 i4 i5 i6 i7 i8 i9 i10 a11 a13 h))
theorem eX5_weigh_b20 (i1 : Int) (i2 : Int) (i3 : Int) (i4 : Int) (i5 : Int) (i6 : Int) (i7 : Int) (i8 : Int) (i9 : Int) (i10 : Int) {s : Int × Int × AH} (hS : (fun r => Sh S r.2.2) s) : EQ (fX5_weigh_b20 307 i1 i2 i3 i4 i5 i6 i7 i8 i9 i10 s) (gX5_weigh_b20 i1 i2 i3 i4 i5 i6 i7 i8 i9 i10 s) (Sum.elim (fun r => Sh S r.2.2) (fun r => Sh S r.2)) := by
  unfold fX5_weigh_b20 gX5_weigh_b20
  obtain ⟨a11, a13, h⟩ := s
  refine EQ_jt3 ?_
  replace hS : Sh S h := hS
  refine EQ_jgd (show h 307 (-2) = 6 from by rw [k_307 hS]) ?_
  refine EQ_if Iff.rfl (fun c1 => ?_) (fun c1 => ?_)
  · exact EQ_some hS
  · refine EQ_jgd (show h 307 (-2) = 6 from by rw [k_307 hS]) ?_
    refine EQ_jg ⟨fun ⟨_, x0⟩ => (show jI a13 (h (h 307 1) (-1)) ↔ jI a13 121 from by rw [r_307_1 hS, l_308 hS]).mp x0, fun x0 => ⟨(show h (h 307 1) (-2) = 101 from by rw [r_307_1 hS, k_308 hS]), (show jI a13 (h (h 307 1) (-1)) ↔ jI a13 121 from by rw [r_307_1 hS, l_308 hS]).mpr x0⟩⟩ (fun g2 => ?_)
    refine EQ_jgd (show h 307 (-2) = 6 from by rw [k_307 hS]) ?_
    refine EQ_jgd (show h (h 307 22) (-2) = 2 from by rw [r_307_22 hS, k_200 hS]) ?_
    refine EQ_jb (by rw [r_307_22 hS]; exact eX1_kindOf i10 i2 hS) (fun v8 r3 => ?_)
    refine EQ_if (show h (h 307 1) a13 = v8 ↔ h 308 a13 = v8 from by rw [r_307_1 hS]) (fun c4 => ?_) (fun c4 => ?_)
    · refine EQ_jgd (show h 307 (-2) = 6 from by rw [k_307 hS]) ?_
      refine EQ_jb (eX5_count_2 i4 a13 hS) (fun v11 r5 => ?_)
      refine EQ_if Iff.rfl (fun c6 => ?_) (fun c6 => ?_)
      · exact (eX5_weigh_j431_20 i1 i2 i3 i4 i5 i6 i7 i8 i9 i10 a11 a13 hS)
      · refine EQ_if Iff.rfl (fun c7 => ?_) (fun c7 => ?_)
        · refine EQ_jgd (show h 307 (-2) = 6 from by rw [k_307 hS]) ?_
          refine EQ_if Iff.rfl (fun c8 => ?_) (fun c8 => ?_)
          · refine EQ_jgd (show h 307 (-2) = 6 from by rw [k_307 hS]) ?_
            refine EQ_jb2 (eX5_result i1 a13 (-1) (-1) hS) (fun v16 h17 r9 => ?_)
            replace r9 : Sh S h17 := r9
            exact (by rw [r_307_18 hS]; exact eX5_weigh_j127_20 i1 i2 i3 i4 i5 i6 i7 i8 i9 i10 a11 a13 i8 v16 r9)
          · refine EQ_if Iff.rfl (fun c10 => ?_) (fun c10 => ?_)
            · refine EQ_jgd (show h 307 (-2) = 6 from by rw [k_307 hS]) ?_
              refine EQ_jb2 (eX5_result i1 i6 a13 (-1) hS) (fun v20 h21 r11 => ?_)
              replace r11 : Sh S h21 := r11
              exact (by rw [r_307_18 hS]; exact eX5_weigh_j127_20 i1 i2 i3 i4 i5 i6 i7 i8 i9 i10 a11 a13 i8 v20 r11)
            · refine EQ_jgd (show h 307 (-2) = 6 from by rw [k_307 hS]) ?_
              refine EQ_jb2 (eX5_resultOfThree i1 i6 i7 a13 hS) (fun v23 h24 r12 => ?_)
              replace r12 : Sh S h24 := r12
              exact (by rw [r_307_18 hS]; exact eX5_weigh_j127_20 i1 i2 i3 i4 i5 i6 i7 i8 i9 i10 a11 a13 i8 v23 r12)
        · refine EQ_if Iff.rfl (fun c13 => ?_) (fun c13 => ?_)
          · refine EQ_jb (eX5_weigh_l144 i1 i2 i3 i4 i5 i6 i7 i8 i9 i10 a11 a13 0 0 hS) (fun o26 r14 => ?_)
            obtain ⟨y28, h29⟩ := o26
            refine EQ_jt2 ?_
            replace r14 : Sh S h29 := r14
            exact (eX5_weigh_j403_20 i1 i2 i3 i4 i5 i6 i7 i8 i9 i10 a11 a13 y28 r14)
          · refine EQ_jb (eX5_weigh_l258 i1 i2 i3 i4 i5 i6 i7 i8 i9 i10 a11 a13 0 0 hS) (fun o30 r15 => ?_)
            obtain ⟨y32, h33⟩ := o30
            refine EQ_jt2 ?_
            replace r15 : Sh S h33 := r15
            exact (eX5_weigh_j403_20 i1 i2 i3 i4 i5 i6 i7 i8 i9 i10 a11 a13 y32 r15)
    · exact (eX5_weigh_j431_20 i1 i2 i3 i4 i5 i6 i7 i8 i9 i10 a11 a13 hS)
noncomputable def gX5_weigh_l20 (i1 : Int) (i2 : Int) (i3 : Int) (i4 : Int) (i5 : Int) (i6 : Int) (i7 : Int) (i8 : Int) (i9 : Int) (i10 : Int) (a11 : Int) (a13 : Int) (h : AH) : Option (Int × AH) := jit (gX5_weigh_b20 i1 i2 i3 i4 i5 i6 i7 i8 i9 i10) (a11, a13, h)
theorem eX5_weigh_l20 (i1 : Int) (i2 : Int) (i3 : Int) (i4 : Int) (i5 : Int) (i6 : Int) (i7 : Int) (i8 : Int) (i9 : Int) (i10 : Int) (a11 : Int) (a13 : Int) {h : AH} (hS : Sh S h) : EQ (fX5_weigh_l20 307 i1 i2 i3 i4 i5 i6 i7 i8 i9 i10 a11 a13 h) (gX5_weigh_l20 i1 i2 i3 i4 i5 i6 i7 i8 i9 i10 a11 a13 h) (fun r => Sh S r.2) := EQ_jit (I := (fun r => Sh S r.2.2)) (fun s hs => eX5_weigh_b20 i1 i2 i3 i4 i5 i6 i7 i8 i9 i10 hs) hS
noncomputable def gX5_weigh (a1 : Int) (a2 : Int) (a3 : Int) (a4 : Int) (a5 : Int) (a6 : Int) (a7 : Int) (a8 : Int) (a9 : Int) (h : AH) : Option (Int × AH) := jg (jI a1 12) <| jl (h (h 200 16 + 2) a1) fun x1 => jb (gX5_weigh_l20 a1 a2 a3 a4 a5 a6 a7 a8 a9 x1 0 0 h) fun o2 => jt2 o2 fun y4 h5 => some (y4, h5)
theorem eX5_weigh (a1 : Int) (a2 : Int) (a3 : Int) (a4 : Int) (a5 : Int) (a6 : Int) (a7 : Int) (a8 : Int) (a9 : Int) {h : AH} (hS : Sh S h) : EQ (fX5_weigh 307 a1 a2 a3 a4 a5 a6 a7 a8 a9 h) (gX5_weigh a1 a2 a3 a4 a5 a6 a7 a8 a9 h) (fun r => Sh S r.2) := by
  unfold fX5_weigh gX5_weigh
  refine EQ_jgd (show h 307 (-2) = 6 from by rw [k_307 hS]) ?_
  refine EQ_jgd (show h (h 307 22) (-2) = 2 from by rw [r_307_22 hS, k_200 hS]) ?_
  refine EQ_jgd (show h (h (h 307 22) 16) (-2) = 5 from by rw [r_307_22 hS, kd_X4 hS (dy_200_16 hS)]) ?_
  refine EQ_jg ⟨fun ⟨_, x0⟩ => (show jI a1 (h (h (h (h 307 22) 16) 4) (-1)) ↔ jI a1 12 from by rw [r_307_22 hS, ft_X4_4 hS (dy_200_16 hS), la_X4_4 hS (dy_200_16 hS)]).mp x0, fun x0 => ⟨(show h (h (h (h 307 22) 16) 4) (-2) = 101 from by rw [r_307_22 hS, ft_X4_4 hS (dy_200_16 hS), ka_X4_4 hS (dy_200_16 hS)]), (show jI a1 (h (h (h (h 307 22) 16) 4) (-1)) ↔ jI a1 12 from by rw [r_307_22 hS, ft_X4_4 hS (dy_200_16 hS), la_X4_4 hS (dy_200_16 hS)]).mpr x0⟩⟩ (fun g1 => ?_)
  refine EQ_jl (by rw [r_307_22 hS, ft_X4_4 hS (dy_200_16 hS)]) (fun x1 ex1 => ?_)
  clear ex1
  refine EQ_jb (eX5_weigh_l20 a1 a2 a3 a4 a5 a6 a7 a8 a9 x1 0 0 hS) (fun o2 r2 => ?_)
  obtain ⟨y4, h5⟩ := o2
  refine EQ_jt2 ?_
  replace r2 : Sh S h5 := r2
  exact EQ_some r2
noncomputable def gX5_ith_j170 (F : Int → Int → Int → AH → Option (Int × AH)) (a9 : Int) (t1 : Int) (t2 : Int) (h : AH) : Option (Int × AH) := jg (jI a9 121) <| jb2 (gX3_add 324 t1 t2 (h 308 a9) 0 h) fun v18 h19 => some (v18, h19)
theorem eX5_ith_j170 {F0 : Int → Int → Int → Int → Int → AH → Option (Int × AH)} {F : Int → Int → Int → AH → Option (Int × AH)} (hF : ∀ (b_a1 : Int) (b_a2 : Int) (b_a3 : Int), ∀ {b_h : AH}, Sh S b_h → EQ (F0 307 b_a1 b_a2 b_a3 324 b_h) (F b_a1 b_a2 b_a3 b_h) (fun r => Sh S r.2)) (a9 : Int) (t1 : Int) (t2 : Int) {h : AH} (hS : Sh S h) : EQ (fX5_ith_j170 F0 307 a9 324 t1 t2 h) (gX5_ith_j170 F a9 t1 t2 h) (fun r => Sh S r.2) := by
  unfold fX5_ith_j170 gX5_ith_j170
  refine EQ_jgd (show h 307 (-2) = 6 from by rw [k_307 hS]) ?_
  refine EQ_jg ⟨fun ⟨_, x0⟩ => (show jI a9 (h (h 307 1) (-1)) ↔ jI a9 121 from by rw [r_307_1 hS, l_308 hS]).mp x0, fun x0 => ⟨(show h (h 307 1) (-2) = 101 from by rw [r_307_1 hS, k_308 hS]), (show jI a9 (h (h 307 1) (-1)) ↔ jI a9 121 from by rw [r_307_1 hS, l_308 hS]).mpr x0⟩⟩ (fun g1 => ?_)
  refine EQ_jgd (show h 324 (-2) = 4 from by rw [k_324 hS]) ?_
  refine EQ_jb2 (by rw [r_307_1 hS]; exact eX3_add 324 t1 t2 (h 308 a9) 0 (by unfold isX3; decide) hS) (fun v18 h19 r2 => ?_)
  replace r2 : Sh S h19 := r2
  exact EQ_some r2
noncomputable def gX5_ith_j147 (F : Int → Int → Int → AH → Option (Int × AH)) (a6 : Int) (a7 : Int) (a9 : Int) (t1 : Int) (h : AH) : Option (Int × AH) := if 0 ≤ a7 then (jg (jI a7 12) <| gX5_ith_j170 F a9 t1 (h (h 200 16 + 4) a7) h) else (gX5_ith_j170 F a9 t1 a6 h)
theorem eX5_ith_j147 {F0 : Int → Int → Int → Int → Int → AH → Option (Int × AH)} {F : Int → Int → Int → AH → Option (Int × AH)} (hF : ∀ (b_a1 : Int) (b_a2 : Int) (b_a3 : Int), ∀ {b_h : AH}, Sh S b_h → EQ (F0 307 b_a1 b_a2 b_a3 324 b_h) (F b_a1 b_a2 b_a3 b_h) (fun r => Sh S r.2)) (a6 : Int) (a7 : Int) (a9 : Int) (t1 : Int) {h : AH} (hS : Sh S h) : EQ (fX5_ith_j147 F0 307 a6 a7 a9 324 t1 h) (gX5_ith_j147 F a6 a7 a9 t1 h) (fun r => Sh S r.2) := by
  unfold fX5_ith_j147 gX5_ith_j147
  refine EQ_if Iff.rfl (fun c1 => ?_) (fun c1 => ?_)
  · refine EQ_jgd (show h 307 (-2) = 6 from by rw [k_307 hS]) ?_
    refine EQ_jgd (show h (h 307 22) (-2) = 2 from by rw [r_307_22 hS, k_200 hS]) ?_
    refine EQ_jgd (show h (h (h 307 22) 16) (-2) = 5 from by rw [r_307_22 hS, kd_X4 hS (dy_200_16 hS)]) ?_
    refine EQ_jg ⟨fun ⟨_, x0⟩ => (show jI a7 (h (h (h (h 307 22) 16) 6) (-1)) ↔ jI a7 12 from by rw [r_307_22 hS, ft_X4_6 hS (dy_200_16 hS), la_X4_6 hS (dy_200_16 hS)]).mp x0, fun x0 => ⟨(show h (h (h (h 307 22) 16) 6) (-2) = 101 from by rw [r_307_22 hS, ft_X4_6 hS (dy_200_16 hS), ka_X4_6 hS (dy_200_16 hS)]), (show jI a7 (h (h (h (h 307 22) 16) 6) (-1)) ↔ jI a7 12 from by rw [r_307_22 hS, ft_X4_6 hS (dy_200_16 hS), la_X4_6 hS (dy_200_16 hS)]).mpr x0⟩⟩ (fun g2 => ?_)
    exact (by rw [r_307_22 hS, ft_X4_6 hS (dy_200_16 hS)]; exact eX5_ith_j170 hF a9 t1 (h (h 200 16 + 4) a7) hS)
  · exact (eX5_ith_j170 hF a9 t1 a6 hS)
noncomputable def gX5_ith_j235_8 (F : Int → Int → Int → AH → Option (Int × AH)) (a1 : Int) (a2 : Int) (a6 : Int) (h : AH) : Option ((Int × AH) ⊕ ((Int × Int × Int × AH) ⊕ ((Int × AH) ⊕ ((AH))))) := jl (w32 (a6 + 1)) fun x36 => some (.inl (x36, h))
theorem eX5_ith_j235_8 {F0 : Int → Int → Int → Int → Int → AH → Option (Int × AH)} {F : Int → Int → Int → AH → Option (Int × AH)} (hF : ∀ (b_a1 : Int) (b_a2 : Int) (b_a3 : Int), ∀ {b_h : AH}, Sh S b_h → EQ (F0 307 b_a1 b_a2 b_a3 324 b_h) (F b_a1 b_a2 b_a3 b_h) (fun r => Sh S r.2)) (a1 : Int) (a2 : Int) (a6 : Int) {h : AH} (hS : Sh S h) : EQ (fX5_ith_j235_8 F0 307 a1 a2 324 a6 h) (gX5_ith_j235_8 F a1 a2 a6 h) (Sum.elim (fun r => Sh S r.2) (Sum.elim (fun r => Sh S r.2.2.2) (Sum.elim (fun r => Sh S r.2) (fun r => Sh S r)))) := by
  unfold fX5_ith_j235_8 gX5_ith_j235_8
  refine EQ_jl rfl (fun x36 ex36 => ?_)
  clear ex36
  exact EQ_some hS
noncomputable def gX5_ith_j95_8 (F : Int → Int → Int → AH → Option (Int × AH)) (a1 : Int) (a2 : Int) (a6 : Int) (a7 : Int) (a8 : Int) (h : AH) : Option ((Int × AH) ⊕ ((Int × Int × Int × AH) ⊕ ((Int × AH) ⊕ ((AH))))) := if a8 = a1 then (jb2 (gX5_leafFunction a6 h) fun v32 h33 => jg (jI (w32 (a2 + v32)) 4800) <| if 0 ≤ jcmp (h33 307 20) (h33 322 (w32 (a2 + v32))) then (jl (jst h33 307 20 (w64 (h33 307 20 - h33 322 (w32 (a2 + v32))))) fun h35 => gX5_ith_j235_8 F a1 a2 a6 h35) else (some (.inr (.inl (a6, a7, v32, h33))))) else (gX5_ith_j235_8 F a1 a2 a6 h)
theorem eX5_ith_j95_8 {F0 : Int → Int → Int → Int → Int → AH → Option (Int × AH)} {F : Int → Int → Int → AH → Option (Int × AH)} (hF : ∀ (b_a1 : Int) (b_a2 : Int) (b_a3 : Int), ∀ {b_h : AH}, Sh S b_h → EQ (F0 307 b_a1 b_a2 b_a3 324 b_h) (F b_a1 b_a2 b_a3 b_h) (fun r => Sh S r.2)) (a1 : Int) (a2 : Int) (a6 : Int) (a7 : Int) (a8 : Int) {h : AH} (hS : Sh S h) : EQ (fX5_ith_j95_8 F0 307 a1 a2 324 a6 a7 a8 h) (gX5_ith_j95_8 F a1 a2 a6 a7 a8 h) (Sum.elim (fun r => Sh S r.2) (Sum.elim (fun r => Sh S r.2.2.2) (Sum.elim (fun r => Sh S r.2) (fun r => Sh S r)))) := by
  unfold fX5_ith_j95_8 gX5_ith_j95_8
  refine EQ_if Iff.rfl (fun c1 => ?_) (fun c1 => ?_)
  · refine EQ_jgd (show h 307 (-2) = 6 from by rw [k_307 hS]) ?_
    refine EQ_jb2 (eX5_leafFunction a6 hS) (fun v32 h33 r2 => ?_)
    replace r2 : Sh S h33 := r2
    refine EQ_jgd (show h33 307 (-2) = 6 from by rw [k_307 r2]) ?_
    refine EQ_jgd (show h33 307 (-2) = 6 from by rw [k_307 r2]) ?_
    refine EQ_jg ⟨fun ⟨_, x0⟩ => (show jI (w32 (a2 + v32)) (h33 (h33 307 18) (-1)) ↔ jI (w32 (a2 + v32)) 4800 from by rw [r_307_18 r2, l_322 r2]).mp x0, fun x0 => ⟨(show h33 (h33 307 18) (-2) = 102 from by rw [r_307_18 r2, k_322 r2]), (show jI (w32 (a2 + v32)) (h33 (h33 307 18) (-1)) ↔ jI (w32 (a2 + v32)) 4800 from by rw [r_307_18 r2, l_322 r2]).mpr x0⟩⟩ (fun g3 => ?_)
    refine EQ_if (show 0 ≤ jcmp (h33 307 20) (h33 (h33 307 18) (w32 (a2 + v32))) ↔ 0 ≤ jcmp (h33 307 20) (h33 322 (w32 (a2 + v32))) from by rw [r_307_18 r2]) (fun c4 => ?_) (fun c4 => ?_)
    · refine EQ_jgd (show h33 307 (-2) = 6 from by rw [k_307 r2]) ?_
      refine EQ_jgd (show h33 307 (-2) = 6 from by rw [k_307 r2]) ?_
      refine EQ_jgd ⟨(show h33 (h33 307 18) (-2) = 102 from by rw [r_307_18 r2, k_322 r2]), ((show jI (w32 (a2 + v32)) (h33 (h33 307 18) (-1)) ↔ jI (w32 (a2 + v32)) 4800 from by rw [r_307_18 r2, l_322 r2]).mpr g3)⟩ ?_
      refine EQ_jgd ⟨(show h33 307 (-2) = 6 from by rw [k_307 r2]), (show (200 : Int) ≤ 307 from (by decide))⟩ ?_
      refine EQ_jl (by rw [r_307_18 r2]) (fun h35 eh35 => ?_)
      have s5 := Sh_of eh35 (Sh_sto r2 (a := 307) (i := 20) (by decide +kernel))
      clear eh35
      exact (eX5_ith_j235_8 hF a1 a2 a6 s5)
    · exact EQ_some r2
  · exact (eX5_ith_j235_8 hF a1 a2 a6 hS)
noncomputable def gX5_ith_j71_8 (F : Int → Int → Int → AH → Option (Int × AH)) (a1 : Int) (a2 : Int) (a6 : Int) (a7 : Int) (t0 : Int) (h : AH) : Option ((Int × AH) ⊕ ((Int × Int × Int × AH) ⊕ ((Int × AH) ⊕ ((AH))))) := if a7 < 0 then (gX5_ith_j95_8 F a1 a2 a6 a7 t0 h) else (jg (jI a7 12) <| if h (h 200 16 + 2) a7 = (-1) then (gX5_ith_j95_8 F a1 a2 a6 a7 t0 h) else (if t0 < a1 then (jb2 (F a7 (w32 (a1 - t0)) a2 h) fun v27 h28 => if v27 < 0 then (gX5_ith_j235_8 F a1 a2 a6 h28) else (some (.inr (.inr (.inl (v27, h28)))))) else (gX5_ith_j235_8 F a1 a2 a6 h)))
theorem eX5_ith_j71_8 {F0 : Int → Int → Int → Int → Int → AH → Option (Int × AH)} {F : Int → Int → Int → AH → Option (Int × AH)} (hF : ∀ (b_a1 : Int) (b_a2 : Int) (b_a3 : Int), ∀ {b_h : AH}, Sh S b_h → EQ (F0 307 b_a1 b_a2 b_a3 324 b_h) (F b_a1 b_a2 b_a3 b_h) (fun r => Sh S r.2)) (a1 : Int) (a2 : Int) (a6 : Int) (a7 : Int) (t0 : Int) {h : AH} (hS : Sh S h) : EQ (fX5_ith_j71_8 F0 307 a1 a2 324 a6 a7 t0 h) (gX5_ith_j71_8 F a1 a2 a6 a7 t0 h) (Sum.elim (fun r => Sh S r.2) (Sum.elim (fun r => Sh S r.2.2.2) (Sum.elim (fun r => Sh S r.2) (fun r => Sh S r)))) := by
  unfold fX5_ith_j71_8 gX5_ith_j71_8
  refine EQ_if Iff.rfl (fun c1 => ?_) (fun c1 => ?_)
  · exact (eX5_ith_j95_8 hF a1 a2 a6 a7 t0 hS)
  · refine EQ_jgd (show h 307 (-2) = 6 from by rw [k_307 hS]) ?_
    refine EQ_jgd (show h (h 307 22) (-2) = 2 from by rw [r_307_22 hS, k_200 hS]) ?_
    refine EQ_jgd (show h (h (h 307 22) 16) (-2) = 5 from by rw [r_307_22 hS, kd_X4 hS (dy_200_16 hS)]) ?_
    refine EQ_jg ⟨fun ⟨_, x0⟩ => (show jI a7 (h (h (h (h 307 22) 16) 4) (-1)) ↔ jI a7 12 from by rw [r_307_22 hS, ft_X4_4 hS (dy_200_16 hS), la_X4_4 hS (dy_200_16 hS)]).mp x0, fun x0 => ⟨(show h (h (h (h 307 22) 16) 4) (-2) = 101 from by rw [r_307_22 hS, ft_X4_4 hS (dy_200_16 hS), ka_X4_4 hS (dy_200_16 hS)]), (show jI a7 (h (h (h (h 307 22) 16) 4) (-1)) ↔ jI a7 12 from by rw [r_307_22 hS, ft_X4_4 hS (dy_200_16 hS), la_X4_4 hS (dy_200_16 hS)]).mpr x0⟩⟩ (fun g2 => ?_)
    refine EQ_if (show h (h (h (h 307 22) 16) 4) a7 = (-1) ↔ h (h 200 16 + 2) a7 = (-1) from by rw [r_307_22 hS, ft_X4_4 hS (dy_200_16 hS)]) (fun c3 => ?_) (fun c3 => ?_)
    · exact (eX5_ith_j95_8 hF a1 a2 a6 a7 t0 hS)
    · refine EQ_if Iff.rfl (fun c4 => ?_) (fun c4 => ?_)
      · refine EQ_jgd (show h 307 (-2) = 6 from by rw [k_307 hS]) ?_
        refine EQ_jb2 (hF a7 (w32 (a1 - t0)) a2 hS) (fun v27 h28 r5 => ?_)
        replace r5 : Sh S h28 := r5
        refine EQ_if Iff.rfl (fun c6 => ?_) (fun c6 => ?_)
        · exact (eX5_ith_j235_8 hF a1 a2 a6 r5)
        · exact EQ_some r5
      · exact (eX5_ith_j235_8 hF a1 a2 a6 hS)
noncomputable def gX5_ith_b8 (F : Int → Int → Int → AH → Option (Int × AH)) (i1 : Int) (i2 : Int) (s : Int × AH) : Option ((Int × AH) ⊕ ((Int × Int × Int × AH) ⊕ ((Int × AH) ⊕ ((AH))))) := jt2 s fun a6 h => if w32 (h (h 200 16) 1 + h (h 200 16) 3) ≤ a6 then (some (.inr (.inr (.inr h)))) else (jl (w32 (a6 - h (h 200 16) 1)) fun x21 => if 0 ≤ x21 then (jg (jI x21 12) <| gX5_ith_j71_8 F i1 i2 a6 x21 (h (h 200 16 + 5) x21) h) else (gX5_ith_j71_8 F i1 i2 a6 x21 1 h))
theorem eX5_ith_b8 {F0 : Int → Int → Int → Int → Int → AH → Option (Int × AH)} {F : Int → Int → Int → AH → Option (Int × AH)} (hF : ∀ (b_a1 : Int) (b_a2 : Int) (b_a3 : Int), ∀ {b_h : AH}, Sh S b_h → EQ (F0 307 b_a1 b_a2 b_a3 324 b_h) (F b_a1 b_a2 b_a3 b_h) (fun r => Sh S r.2)) (i1 : Int) (i2 : Int) {s : Int × AH} (hS : (fun r => Sh S r.2) s) : EQ (fX5_ith_b8 F0 307 i1 i2 324 s) (gX5_ith_b8 F i1 i2 s) (Sum.elim (fun r => Sh S r.2) (Sum.elim (fun r => Sh S r.2.2.2) (Sum.elim (fun r => Sh S r.2) (fun r => Sh S r)))) := by
  unfold fX5_ith_b8 gX5_ith_b8
  obtain ⟨a6, h⟩ := s
  refine EQ_jt2 ?_
  replace hS : Sh S h := hS
  refine EQ_jgd (show h 307 (-2) = 6 from by rw [k_307 hS]) ?_
  refine EQ_jgd (show h (h 307 22) (-2) = 2 from by rw [r_307_22 hS, k_200 hS]) ?_
  refine EQ_jgd (show h (h (h 307 22) 16) (-2) = 5 from by rw [r_307_22 hS, kd_X4 hS (dy_200_16 hS)]) ?_
  refine EQ_jgd (show h 307 (-2) = 6 from by rw [k_307 hS]) ?_
  refine EQ_jgd (show h (h 307 22) (-2) = 2 from by rw [r_307_22 hS, k_200 hS]) ?_
  refine EQ_jgd (show h (h (h 307 22) 16) (-2) = 5 from by rw [r_307_22 hS, kd_X4 hS (dy_200_16 hS)]) ?_
  refine EQ_if (show w32 (h (h (h 307 22) 16) 1 + h (h (h 307 22) 16) 3) ≤ a6 ↔ w32 (h (h 200 16) 1 + h (h 200 16) 3) ≤ a6 from by rw [r_307_22 hS]) (fun c1 => ?_) (fun c1 => ?_)
  · exact EQ_some hS
  · refine EQ_jgd (show h 307 (-2) = 6 from by rw [k_307 hS]) ?_
    refine EQ_jgd (show h (h 307 22) (-2) = 2 from by rw [r_307_22 hS, k_200 hS]) ?_
    refine EQ_jgd (show h (h (h 307 22) 16) (-2) = 5 from by rw [r_307_22 hS, kd_X4 hS (dy_200_16 hS)]) ?_
    refine EQ_jl (by rw [r_307_22 hS]) (fun x21 ex21 => ?_)
    clear ex21
    refine EQ_if Iff.rfl (fun c2 => ?_) (fun c2 => ?_)
    · refine EQ_jgd (show h 307 (-2) = 6 from by rw [k_307 hS]) ?_
      refine EQ_jgd (show h (h 307 22) (-2) = 2 from by rw [r_307_22 hS, k_200 hS]) ?_
      refine EQ_jgd (show h (h (h 307 22) 16) (-2) = 5 from by rw [r_307_22 hS, kd_X4 hS (dy_200_16 hS)]) ?_
      refine EQ_jg ⟨fun ⟨_, x0⟩ => (show jI x21 (h (h (h (h 307 22) 16) 7) (-1)) ↔ jI x21 12 from by rw [r_307_22 hS, ft_X4_7 hS (dy_200_16 hS), la_X4_7 hS (dy_200_16 hS)]).mp x0, fun x0 => ⟨(show h (h (h (h 307 22) 16) 7) (-2) = 101 from by rw [r_307_22 hS, ft_X4_7 hS (dy_200_16 hS), ka_X4_7 hS (dy_200_16 hS)]), (show jI x21 (h (h (h (h 307 22) 16) 7) (-1)) ↔ jI x21 12 from by rw [r_307_22 hS, ft_X4_7 hS (dy_200_16 hS), la_X4_7 hS (dy_200_16 hS)]).mpr x0⟩⟩ (fun g3 => ?_)
      exact (by rw [r_307_22 hS, ft_X4_7 hS (dy_200_16 hS)]; exact eX5_ith_j71_8 hF i1 i2 a6 x21 (h (h 200 16 + 5) x21) hS)
    · exact (eX5_ith_j71_8 hF i1 i2 a6 x21 1 hS)
noncomputable def gX5_ith_l8 (F : Int → Int → Int → AH → Option (Int × AH)) (i1 : Int) (i2 : Int) (a6 : Int) (h : AH) : Option ((Int × Int × Int × AH) ⊕ ((Int × AH) ⊕ ((AH)))) := jit (gX5_ith_b8 F i1 i2) (a6, h)
theorem eX5_ith_l8 {F0 : Int → Int → Int → Int → Int → AH → Option (Int × AH)} {F : Int → Int → Int → AH → Option (Int × AH)} (hF : ∀ (b_a1 : Int) (b_a2 : Int) (b_a3 : Int), ∀ {b_h : AH}, Sh S b_h → EQ (F0 307 b_a1 b_a2 b_a3 324 b_h) (F b_a1 b_a2 b_a3 b_h) (fun r => Sh S r.2)) (i1 : Int) (i2 : Int) (a6 : Int) {h : AH} (hS : Sh S h) : EQ (fX5_ith_l8 F0 307 i1 i2 324 a6 h) (gX5_ith_l8 F i1 i2 a6 h) (Sum.elim (fun r => Sh S r.2.2.2) (Sum.elim (fun r => Sh S r.2) (fun r => Sh S r))) := EQ_jit (I := (fun r => Sh S r.2)) (fun s hs => eX5_ith_b8 hF i1 i2 hs) hS
noncomputable def gX5_ith_ (F : Int → Int → Int → AH → Option (Int × AH)) (a1 : Int) (a2 : Int) (a3 : Int) (h : AH) : Option (Int × AH) := jl (jst h 307 20 a3) fun h1 => jb (gX5_ith_l8 F a1 a2 0 h1) fun o2 => jm o2 (fun o4 => jt4 o4 fun y6 y7 y8 h9 => jl (jst h9 307 21 y8) fun h10 => if 0 ≤ y7 then (gX5_ith_j147 F y6 y7 y8 1 h10) else (gX5_ith_j147 F y6 y7 y8 0 h10)) (fun o5 => jm o5 (fun o12 => jt2 o12 fun y14 h15 => some (y14, h15)) (fun o13 => some ((-1), o13)))
theorem eX5_ith_ {F0 : Int → Int → Int → Int → Int → AH → Option (Int × AH)} {F : Int → Int → Int → AH → Option (Int × AH)} (hF : ∀ (b_a1 : Int) (b_a2 : Int) (b_a3 : Int), ∀ {b_h : AH}, Sh S b_h → EQ (F0 307 b_a1 b_a2 b_a3 324 b_h) (F b_a1 b_a2 b_a3 b_h) (fun r => Sh S r.2)) (a1 : Int) (a2 : Int) (a3 : Int) {h : AH} (hS : Sh S h) : EQ (fX5_ith_ F0 307 a1 a2 a3 324 h) (gX5_ith_ F a1 a2 a3 h) (fun r => Sh S r.2) := by
  unfold fX5_ith_ gX5_ith_
  refine EQ_jgd ⟨(show h 307 (-2) = 6 from by rw [k_307 hS]), (show (200 : Int) ≤ 307 from (by decide))⟩ ?_
  refine EQ_jl rfl (fun h1 eh1 => ?_)
  have s1 := Sh_of eh1 (Sh_sto hS (a := 307) (i := 20) (by decide +kernel))
  clear eh1
  refine EQ_jb (eX5_ith_l8 hF a1 a2 0 s1) (fun o2 r2 => ?_)
  refine EQ_jm r2 (fun o4 r3 => ?_) (fun o5 r4 => ?_)
  · obtain ⟨y6, y7, y8, h9⟩ := o4
    refine EQ_jt4 ?_
    replace r3 : Sh S h9 := r3
    refine EQ_jgd ⟨(show h9 307 (-2) = 6 from by rw [k_307 r3]), (show (200 : Int) ≤ 307 from (by decide))⟩ ?_
    refine EQ_jl rfl (fun h10 eh10 => ?_)
    have s5 := Sh_of eh10 (Sh_sto r3 (a := 307) (i := 21) (by decide +kernel))
    clear eh10
    refine EQ_if Iff.rfl (fun c6 => ?_) (fun c6 => ?_)
    · exact (eX5_ith_j147 hF y6 y7 y8 1 s5)
    · exact (eX5_ith_j147 hF y6 y7 y8 0 s5)
  · refine EQ_jm r4 (fun o12 r7 => ?_) (fun o13 r8 => ?_)
    · obtain ⟨y14, h15⟩ := o12
      refine EQ_jt2 ?_
      replace r7 : Sh S h15 := r7
      exact EQ_some r7
    · exact EQ_some r8
noncomputable def gX5_ithAct_j321_40 (F : Int → Int → Int → AH → Option (Int × AH)) (a1 : Int) (a3 : Int) (a5 : Int) (a6 : Int) (a7 : Int) (a8 : Int) (a9 : Int) (a10 : Int) (a11 : Int) (a13 : Int) (h : AH) : Option ((Int × Int × Int × Int × Int × AH) ⊕ ((AH) ⊕ (Int × AH))) := if a13 = 0 then (some (.inr (.inl h))) else (jl (w32 (a11 + 1)) fun x20 => some (.inl (a7, a8, a9, a10, x20, h)))
theorem eX5_ithAct_j321_40 {F0 : Int → Int → Int → Int → Int → AH → Option (Int × AH)} {F : Int → Int → Int → AH → Option (Int × AH)} (hF : ∀ (b_a1 : Int) (b_a2 : Int) (b_a3 : Int), ∀ {b_h : AH}, Sh S b_h → EQ (F0 307 b_a1 b_a2 b_a3 324 b_h) (F b_a1 b_a2 b_a3 b_h) (fun r => Sh S r.2)) (a1 : Int) (a3 : Int) (a5 : Int) (a6 : Int) (a7 : Int) (a8 : Int) (a9 : Int) (a10 : Int) (a11 : Int) (a13 : Int) {h : AH} (hS : Sh S h) : EQ (fX5_ithAct_j321_40 F0 307 a1 a3 324 a5 a6 a7 a8 a9 a10 a11 a13 h) (gX5_ithAct_j321_40 F a1 a3 a5 a6 a7 a8 a9 a10 a11 a13 h) (Sum.elim (fun r => Sh S r.2.2.2.2.2) (Sum.elim (fun r => Sh S r) (fun r => Sh S r.2))) := by
  unfold fX5_ithAct_j321_40 gX5_ithAct_j321_40
  refine EQ_if Iff.rfl (fun c1 => ?_) (fun c1 => ?_)
  · exact EQ_some hS
  · refine EQ_jl rfl (fun x20 ex20 => ?_)
    clear ex20
    exact EQ_some hS
noncomputable def gX5_ithAct_j315_57 (F : Int → Int → Int → AH → Option (Int × AH)) (a1 : Int) (a3 : Int) (a5 : Int) (a6 : Int) (a7 : Int) (a8 : Int) (a9 : Int) (a10 : Int) (a11 : Int) (a12 : Int) (a13 : Int) (a14 : Int) (h : AH) : Option ((Int × Int × Int × Int × Int × Int × Int × AH) ⊕ (Int × Int × Int × Int × Int × AH)) := jl (w32 (a14 + 1)) fun x63 => some (.inl (a7, a8, a9, a10, a12, a13, x63, h))
theorem eX5_ithAct_j315_57 {F0 : Int → Int → Int → Int → Int → AH → Option (Int × AH)} {F : Int → Int → Int → AH → Option (Int × AH)} (hF : ∀ (b_a1 : Int) (b_a2 : Int) (b_a3 : Int), ∀ {b_h : AH}, Sh S b_h → EQ (F0 307 b_a1 b_a2 b_a3 324 b_h) (F b_a1 b_a2 b_a3 b_h) (fun r => Sh S r.2)) (a1 : Int) (a3 : Int) (a5 : Int) (a6 : Int) (a7 : Int) (a8 : Int) (a9 : Int) (a10 : Int) (a11 : Int) (a12 : Int) (a13 : Int) (a14 : Int) {h : AH} (hS : Sh S h) : EQ (fX5_ithAct_j315_57 F0 307 a1 a3 324 a5 a6 a7 a8 a9 a10 a11 a12 a13 a14 h) (gX5_ithAct_j315_57 F a1 a3 a5 a6 a7 a8 a9 a10 a11 a12 a13 a14 h) (Sum.elim (fun r => Sh S r.2.2.2.2.2.2.2) (fun r => Sh S r.2.2.2.2.2)) := by
  unfold fX5_ithAct_j315_57 gX5_ithAct_j315_57
  refine EQ_jl rfl (fun x63 ex63 => ?_)
  clear ex63
  exact EQ_some hS
noncomputable def gX5_ithAct_j309_57 (F : Int → Int → Int → AH → Option (Int × AH)) (a1 : Int) (a3 : Int) (a5 : Int) (a6 : Int) (a7 : Int) (a8 : Int) (a9 : Int) (a10 : Int) (a11 : Int) (a12 : Int) (a13 : Int) (a14 : Int) (a15 : Int) (h : AH) : Option ((Int × Int × Int × Int × Int × Int × Int × AH) ⊕ (Int × Int × Int × Int × Int × AH)) := jl (jst h 307 19 a15) fun h62 => gX5_ithAct_j315_57 F a1 a3 a5 a6 a7 a8 a9 a10 a11 a12 a13 a14 h62
theorem eX5_ithAct_j309_57 {F0 : Int → Int → Int → Int → Int → AH → Option (Int × AH)} {F : Int → Int → Int → AH → Option (Int × AH)} (hF : ∀ (b_a1 : Int) (b_a2 : Int) (b_a3 : Int), ∀ {b_h : AH}, Sh S b_h → EQ (F0 307 b_a1 b_a2 b_a3 324 b_h) (F b_a1 b_a2 b_a3 b_h) (fun r => Sh S r.2)) (a1 : Int) (a3 : Int) (a5 : Int) (a6 : Int) (a7 : Int) (a8 : Int) (a9 : Int) (a10 : Int) (a11 : Int) (a12 : Int) (a13 : Int) (a14 : Int) (a15 : Int) {h : AH} (hS : Sh S h) : EQ (fX5_ithAct_j309_57 F0 307 a1 a3 324 a5 a6 a7 a8 a9 a10 a11 a12 a13 a14 a15 h) (gX5_ithAct_j309_57 F a1 a3 a5 a6 a7 a8 a9 a10 a11 a12 a13 a14 a15 h) (Sum.elim (fun r => Sh S r.2.2.2.2.2.2.2) (fun r => Sh S r.2.2.2.2.2)) := by
  unfold fX5_ithAct_j309_57 gX5_ithAct_j309_57
  refine EQ_jgd ⟨(show h 307 (-2) = 6 from by rw [k_307 hS]), (show (200 : Int) ≤ 307 from (by decide))⟩ ?_
  refine EQ_jl rfl (fun h62 eh62 => ?_)
  have s1 := Sh_of eh62 (Sh_sto hS (a := 307) (i := 19) (by decide +kernel))
  clear eh62
  exact (eX5_ithAct_j315_57 hF a1 a3 a5 a6 a7 a8 a9 a10 a11 a12 a13 a14 s1)
noncomputable def gX5_ithAct_j299_57 (F : Int → Int → Int → AH → Option (Int × AH)) (a1 : Int) (a3 : Int) (a5 : Int) (a6 : Int) (a7 : Int) (a8 : Int) (a9 : Int) (a10 : Int) (a11 : Int) (a12 : Int) (a14 : Int) (a15 : Int) (h : AH) : Option ((Int × Int × Int × Int × Int × Int × Int × AH) ⊕ (Int × Int × Int × Int × Int × AH)) := jl (w32 (a10 - a14)) fun x61 => gX5_ithAct_j309_57 F a1 a3 a5 a6 a7 a8 a9 x61 a11 a12 1 a14 a15 h
theorem eX5_ithAct_j299_57 {F0 : Int → Int → Int → Int → Int → AH → Option (Int × AH)} {F : Int → Int → Int → AH → Option (Int × AH)} (hF : ∀ (b_a1 : Int) (b_a2 : Int) (b_a3 : Int), ∀ {b_h : AH}, Sh S b_h → EQ (F0 307 b_a1 b_a2 b_a3 324 b_h) (F b_a1 b_a2 b_a3 b_h) (fun r => Sh S r.2)) (a1 : Int) (a3 : Int) (a5 : Int) (a6 : Int) (a7 : Int) (a8 : Int) (a9 : Int) (a10 : Int) (a11 : Int) (a12 : Int) (a14 : Int) (a15 : Int) {h : AH} (hS : Sh S h) : EQ (fX5_ithAct_j299_57 F0 307 a1 a3 324 a5 a6 a7 a8 a9 a10 a11 a12 a14 a15 h) (gX5_ithAct_j299_57 F a1 a3 a5 a6 a7 a8 a9 a10 a11 a12 a14 a15 h) (Sum.elim (fun r => Sh S r.2.2.2.2.2.2.2) (fun r => Sh S r.2.2.2.2.2)) := by
  unfold fX5_ithAct_j299_57 gX5_ithAct_j299_57
  refine EQ_jl rfl (fun x61 ex61 => ?_)
  clear ex61
  exact (eX5_ithAct_j309_57 hF a1 a3 a5 a6 a7 a8 a9 x61 a11 a12 1 a14 a15 hS)
noncomputable def gX5_ithAct_j296_57 (F : Int → Int → Int → AH → Option (Int × AH)) (a1 : Int) (a3 : Int) (a5 : Int) (a6 : Int) (a7 : Int) (a8 : Int) (a9 : Int) (a10 : Int) (a11 : Int) (a12 : Int) (a14 : Int) (a15 : Int) (t1 : Int) (h : AH) : Option ((Int × Int × Int × Int × Int × Int × Int × AH) ⊕ (Int × Int × Int × Int × Int × AH)) := jl (jst h 307 21 t1) fun h60 => gX5_ithAct_j299_57 F a1 a3 a5 a6 a7 a8 a9 a10 a11 a12 a14 a15 h60
theorem eX5_ithAct_j296_57 {F0 : Int → Int → Int → Int → Int → AH → Option (Int × AH)} {F : Int → Int → Int → AH → Option (Int × AH)} (hF : ∀ (b_a1 : Int) (b_a2 : Int) (b_a3 : Int), ∀ {b_h : AH}, Sh S b_h → EQ (F0 307 b_a1 b_a2 b_a3 324 b_h) (F b_a1 b_a2 b_a3 b_h) (fun r => Sh S r.2)) (a1 : Int) (a3 : Int) (a5 : Int) (a6 : Int) (a7 : Int) (a8 : Int) (a9 : Int) (a10 : Int) (a11 : Int) (a12 : Int) (a14 : Int) (a15 : Int) (t1 : Int) {h : AH} (hS : Sh S h) : EQ (fX5_ithAct_j296_57 F0 307 a1 a3 324 a5 a6 a7 a8 a9 a10 a11 a12 a14 a15 307 t1 h) (gX5_ithAct_j296_57 F a1 a3 a5 a6 a7 a8 a9 a10 a11 a12 a14 a15 t1 h) (Sum.elim (fun r => Sh S r.2.2.2.2.2.2.2) (fun r => Sh S r.2.2.2.2.2)) := by
  unfold fX5_ithAct_j296_57 gX5_ithAct_j296_57
  refine EQ_jgd ⟨(show h 307 (-2) = 6 from by rw [k_307 hS]), (show (200 : Int) ≤ 307 from (by decide))⟩ ?_
  refine EQ_jl rfl (fun h60 eh60 => ?_)
  have s1 := Sh_of eh60 (Sh_sto hS (a := 307) (i := 21) (by decide +kernel))
  clear eh60
  exact (eX5_ithAct_j299_57 hF a1 a3 a5 a6 a7 a8 a9 a10 a11 a12 a14 a15 s1)
noncomputable def gX5_ithAct_j236_57 (F : Int → Int → Int → AH → Option (Int × AH)) (a1 : Int) (a3 : Int) (a5 : Int) (a6 : Int) (a7 : Int) (a8 : Int) (a9 : Int) (a10 : Int) (a11 : Int) (a12 : Int) (a14 : Int) (a15 : Int) (h : AH) : Option ((Int × Int × Int × Int × Int × Int × Int × AH) ⊕ (Int × Int × Int × Int × Int × AH)) := if a11 = w32 (a6 - 1) then (if a6 = 1 then (jb2 (gX5_result a1 a8 (-1) (-1) h) fun v51 h52 => gX5_ithAct_j296_57 F a1 a3 a5 a6 a7 a8 a9 a10 a11 a12 a14 a15 v51 h52) else (if a6 = 2 then (jb2 (gX5_result a1 a8 a9 (-1) h) fun v55 h56 => gX5_ithAct_j296_57 F a1 a3 a5 a6 a7 a8 a9 a10 a11 a12 a14 a15 v55 h56) else (jb2 (gX5_resultOfThree a1 a8 a9 (h 307 21) h) fun v58 h59 => gX5_ithAct_j296_57 F a1 a3 a5 a6 a7 a8 a9 a10 a11 a12 a14 a15 v58 h59))) else (gX5_ithAct_j299_57 F a1 a3 a5 a6 a7 a8 a9 a10 a11 a12 a14 a15 h)
theorem eX5_ithAct_j236_57 {F0 : Int → Int → Int → Int → Int → AH → Option (Int × AH)} {F : Int → Int → Int → AH → Option (Int × AH)} (hF : ∀ (b_a1 : Int) (b_a2 : Int) (b_a3 : Int), ∀ {b_h : AH}, Sh S b_h → EQ (F0 307 b_a1 b_a2 b_a3 324 b_h) (F b_a1 b_a2 b_a3 b_h) (fun r => Sh S r.2)) (a1 : Int) (a3 : Int) (a5 : Int) (a6 : Int) (a7 : Int) (a8 : Int) (a9 : Int) (a10 : Int) (a11 : Int) (a12 : Int) (a14 : Int) (a15 : Int) {h : AH} (hS : Sh S h) : EQ (fX5_ithAct_j236_57 F0 307 a1 a3 324 a5 a6 a7 a8 a9 a10 a11 a12 a14 a15 h) (gX5_ithAct_j236_57 F a1 a3 a5 a6 a7 a8 a9 a10 a11 a12 a14 a15 h) (Sum.elim (fun r => Sh S r.2.2.2.2.2.2.2) (fun r => Sh S r.2.2.2.2.2)) := by
  unfold fX5_ithAct_j236_57 gX5_ithAct_j236_57
  refine EQ_if Iff.rfl (fun c1 => ?_) (fun c1 => ?_)
  · refine EQ_if Iff.rfl (fun c2 => ?_) (fun c2 => ?_)
    · refine EQ_jgd (show h 307 (-2) = 6 from by rw [k_307 hS]) ?_
      refine EQ_jb2 (eX5_result a1 a8 (-1) (-1) hS) (fun v51 h52 r3 => ?_)
      replace r3 : Sh S h52 := r3
      exact (eX5_ithAct_j296_57 hF a1 a3 a5 a6 a7 a8 a9 a10 a11 a12 a14 a15 v51 r3)
    · refine EQ_if Iff.rfl (fun c4 => ?_) (fun c4 => ?_)
      · refine EQ_jgd (show h 307 (-2) = 6 from by rw [k_307 hS]) ?_
        refine EQ_jb2 (eX5_result a1 a8 a9 (-1) hS) (fun v55 h56 r5 => ?_)
        replace r5 : Sh S h56 := r5
        exact (eX5_ithAct_j296_57 hF a1 a3 a5 a6 a7 a8 a9 a10 a11 a12 a14 a15 v55 r5)
      · refine EQ_jgd (show h 307 (-2) = 6 from by rw [k_307 hS]) ?_
        refine EQ_jgd (show h 307 (-2) = 6 from by rw [k_307 hS]) ?_
        refine EQ_jb2 (eX5_resultOfThree a1 a8 a9 (h 307 21) hS) (fun v58 h59 r6 => ?_)
        replace r6 : Sh S h59 := r6
        exact (eX5_ithAct_j296_57 hF a1 a3 a5 a6 a7 a8 a9 a10 a11 a12 a14 a15 v58 r6)
  · exact (eX5_ithAct_j299_57 hF a1 a3 a5 a6 a7 a8 a9 a10 a11 a12 a14 a15 hS)
noncomputable def gX5_ithAct_j178_57 (F : Int → Int → Int → AH → Option (Int × AH)) (a1 : Int) (a3 : Int) (a5 : Int) (a6 : Int) (a8 : Int) (a9 : Int) (a10 : Int) (a11 : Int) (a12 : Int) (a14 : Int) (a15 : Int) (h : AH) : Option ((Int × Int × Int × Int × Int × Int × Int × AH) ⊕ (Int × Int × Int × Int × Int × AH)) := jb2 (gX5_ith_ F a14 a15 (h 307 20) h) fun v40 h41 => jb (gX3_join 324 a12 a11 v40 h41) fun h43 => if a11 = 0 then (jl (h43 307 21) fun x45 => gX5_ithAct_j236_57 F a1 a3 a5 a6 a12 x45 a9 a10 a11 a12 a14 a15 h43) else (if a11 = 1 then (jl (h43 307 21) fun x47 => gX5_ithAct_j236_57 F a1 a3 a5 a6 a12 a8 x47 a10 a11 a12 a14 a15 h43) else (gX5_ithAct_j236_57 F a1 a3 a5 a6 a12 a8 a9 a10 a11 a12 a14 a15 h43))
theorem eX5_ithAct_j178_57 {F0 : Int → Int → Int → Int → Int → AH → Option (Int × AH)} {F : Int → Int → Int → AH → Option (Int × AH)} (hF : ∀ (b_a1 : Int) (b_a2 : Int) (b_a3 : Int), ∀ {b_h : AH}, Sh S b_h → EQ (F0 307 b_a1 b_a2 b_a3 324 b_h) (F b_a1 b_a2 b_a3 b_h) (fun r => Sh S r.2)) (a1 : Int) (a3 : Int) (a5 : Int) (a6 : Int) (a8 : Int) (a9 : Int) (a10 : Int) (a11 : Int) (a12 : Int) (a14 : Int) (a15 : Int) {h : AH} (hS : Sh S h) : EQ (fX5_ithAct_j178_57 F0 307 a1 a3 324 a5 a6 a8 a9 a10 a11 a12 a14 a15 h) (gX5_ithAct_j178_57 F a1 a3 a5 a6 a8 a9 a10 a11 a12 a14 a15 h) (Sum.elim (fun r => Sh S r.2.2.2.2.2.2.2) (fun r => Sh S r.2.2.2.2.2)) := by
  unfold fX5_ithAct_j178_57 gX5_ithAct_j178_57
  refine EQ_jgd (show h 307 (-2) = 6 from by rw [k_307 hS]) ?_
  refine EQ_jgd (show h 307 (-2) = 6 from by rw [k_307 hS]) ?_
  refine EQ_jb2 (eX5_ith_ hF a14 a15 (h 307 20) hS) (fun v40 h41 r1 => ?_)
  replace r1 : Sh S h41 := r1
  refine EQ_jgd (show h41 324 (-2) = 4 from by rw [k_324 r1]) ?_
  refine EQ_jb (eX3_join 324 a12 a11 v40 (by unfold isX3; decide) r1) (fun h43 r2 => ?_)
  refine EQ_if Iff.rfl (fun c3 => ?_) (fun c3 => ?_)
  · refine EQ_jgd (show h43 307 (-2) = 6 from by rw [k_307 r2]) ?_
    refine EQ_jl rfl (fun x45 ex45 => ?_)
    clear ex45
    exact (eX5_ithAct_j236_57 hF a1 a3 a5 a6 a12 x45 a9 a10 a11 a12 a14 a15 r2)
  · refine EQ_if Iff.rfl (fun c4 => ?_) (fun c4 => ?_)
    · refine EQ_jgd (show h43 307 (-2) = 6 from by rw [k_307 r2]) ?_
      refine EQ_jl rfl (fun x47 ex47 => ?_)
      clear ex47
      exact (eX5_ithAct_j236_57 hF a1 a3 a5 a6 a12 a8 x47 a10 a11 a12 a14 a15 r2)
    · exact (eX5_ithAct_j236_57 hF a1 a3 a5 a6 a12 a8 a9 a10 a11 a12 a14 a15 r2)
noncomputable def gX5_ithAct_j96_57 (F : Int → Int → Int → AH → Option (Int × AH)) (a1 : Int) (a3 : Int) (a5 : Int) (a6 : Int) (a7 : Int) (a8 : Int) (a9 : Int) (a10 : Int) (a11 : Int) (a12 : Int) (a13 : Int) (a14 : Int) (h : AH) : Option ((Int × Int × Int × Int × Int × Int × Int × AH) ⊕ (Int × Int × Int × Int × Int × AH)) := jb2 (gX5_newRow h) fun v26 h27 => jb2 (gX5_weigh a1 a11 a6 a14 (w32 (a10 - a14)) a8 a9 a3 v26 h27) fun v29 h30 => if jcmp (h30 307 20) v29 < 0 then (if 0 ≤ a12 then (gX5_ithAct_j178_57 F a1 a3 a5 a6 a8 a9 a10 a11 a12 a14 v26 h30) else (jb (gX1_kindOf a5 a6 h30) fun v34 => jb2 (gX3_add 324 2 a5 v34 0 h30) fun v36 h37 => gX5_ithAct_j178_57 F a1 a3 a5 a6 a8 a9 a10 a11 v36 a14 v26 h37)) else (jl (jst h30 307 20 (w64 (h30 307 20 - v29))) fun h38 => gX5_ithAct_j309_57 F a1 a3 a5 a6 a7 a8 a9 a10 a11 a12 a13 a14 v26 h38)
theorem eX5_ithAct_j96_57 {F0 : Int → Int → Int → Int → Int → AH → Option (Int × AH)} {F : Int → Int → Int → AH → Option (Int × AH)} (hF : ∀ (b_a1 : Int) (b_a2 : Int) (b_a3 : Int), ∀ {b_h : AH}, Sh S b_h → EQ (F0 307 b_a1 b_a2 b_a3 324 b_h) (F b_a1 b_a2 b_a3 b_h) (fun r => Sh S r.2)) (a1 : Int) (a3 : Int) (a5 : Int) (a6 : Int) (a7 : Int) (a8 : Int) (a9 : Int) (a10 : Int) (a11 : Int) (a12 : Int) (a13 : Int) (a14 : Int) {h : AH} (hS : Sh S h) : EQ (fX5_ithAct_j96_57 F0 307 a1 a3 324 a5 a6 a7 a8 a9 a10 a11 a12 a13 a14 h) (gX5_ithAct_j96_57 F a1 a3 a5 a6 a7 a8 a9 a10 a11 a12 a13 a14 h) (Sum.elim (fun r => Sh S r.2.2.2.2.2.2.2) (fun r => Sh S r.2.2.2.2.2)) := by
  unfold fX5_ithAct_j96_57 gX5_ithAct_j96_57
  refine EQ_jgd (show h 307 (-2) = 6 from by rw [k_307 hS]) ?_
  refine EQ_jb2 (eX5_newRow hS) (fun v26 h27 r1 => ?_)
  replace r1 : Sh S h27 := r1
  refine EQ_jgd (show h27 307 (-2) = 6 from by rw [k_307 r1]) ?_
  refine EQ_jb2 (eX5_weigh a1 a11 a6 a14 (w32 (a10 - a14)) a8 a9 a3 v26 r1) (fun v29 h30 r2 => ?_)
  replace r2 : Sh S h30 := r2
  refine EQ_jgd (show h30 307 (-2) = 6 from by rw [k_307 r2]) ?_
  refine EQ_if Iff.rfl (fun c3 => ?_) (fun c3 => ?_)
  · refine EQ_if Iff.rfl (fun c4 => ?_) (fun c4 => ?_)
    · exact (eX5_ithAct_j178_57 hF a1 a3 a5 a6 a8 a9 a10 a11 a12 a14 v26 r2)
    · refine EQ_jgd (show h30 307 (-2) = 6 from by rw [k_307 r2]) ?_
      refine EQ_jgd (show h30 (h30 307 22) (-2) = 2 from by rw [r_307_22 r2, k_200 r2]) ?_
      refine EQ_jb (by rw [r_307_22 r2]; exact eX1_kindOf a5 a6 r2) (fun v34 r5 => ?_)
      refine EQ_jgd (show h30 324 (-2) = 4 from by rw [k_324 r2]) ?_
      refine EQ_jb2 (eX3_add 324 2 a5 v34 0 (by unfold isX3; decide) r2) (fun v36 h37 r6 => ?_)
      replace r6 : Sh S h37 := r6
      exact (eX5_ithAct_j178_57 hF a1 a3 a5 a6 a8 a9 a10 a11 v36 a14 v26 r6)
  · refine EQ_jgd (show h30 307 (-2) = 6 from by rw [k_307 r2]) ?_
    refine EQ_jgd ⟨(show h30 307 (-2) = 6 from by rw [k_307 r2]), (show (200 : Int) ≤ 307 from (by decide))⟩ ?_
    refine EQ_jl rfl (fun h38 eh38 => ?_)
    have s7 := Sh_of eh38 (Sh_sto r2 (a := 307) (i := 20) (by decide +kernel))
    clear eh38
    exact (eX5_ithAct_j309_57 hF a1 a3 a5 a6 a7 a8 a9 a10 a11 a12 a13 a14 v26 s7)
noncomputable def gX5_ithAct_b57 (F : Int → Int → Int → AH → Option (Int × AH)) (i1 : Int) (i3 : Int) (i5 : Int) (i6 : Int) (i11 : Int) (s : Int × Int × Int × Int × Int × Int × Int × AH) : Option ((Int × Int × Int × Int × Int × Int × Int × AH) ⊕ (Int × Int × Int × Int × Int × AH)) := jt8 s fun a7 a8 a9 a10 a12 a13 a14 h => if w32 (a10 - w32 (w32 (i6 - 1) - i11)) < a14 then (some (.inr (a7, a8, a9, a10, a13, h))) else (if a13 = 0 then (if i11 = w32 (i6 - 1) then (if a14 = a10 then (gX5_ithAct_j96_57 F i1 i3 i5 i6 a7 a8 a9 a10 i11 a12 a13 a14 h) else (gX5_ithAct_j315_57 F i1 i3 i5 i6 a7 a8 a9 a10 i11 a12 a13 a14 h)) else (gX5_ithAct_j96_57 F i1 i3 i5 i6 a7 a8 a9 a10 i11 a12 a13 a14 h)) else (some (.inr (a7, a8, a9, a10, a13, h))))
theorem eX5_ithAct_b57 {F0 : Int → Int → Int → Int → Int → AH → Option (Int × AH)} {F : Int → Int → Int → AH → Option (Int × AH)} (hF : ∀ (b_a1 : Int) (b_a2 : Int) (b_a3 : Int), ∀ {b_h : AH}, Sh S b_h → EQ (F0 307 b_a1 b_a2 b_a3 324 b_h) (F b_a1 b_a2 b_a3 b_h) (fun r => Sh S r.2)) (i1 : Int) (i3 : Int) (i5 : Int) (i6 : Int) (i11 : Int) {s : Int × Int × Int × Int × Int × Int × Int × AH} (hS : (fun r => Sh S r.2.2.2.2.2.2.2) s) : EQ (fX5_ithAct_b57 F0 307 i1 i3 324 i5 i6 i11 s) (gX5_ithAct_b57 F i1 i3 i5 i6 i11 s) (Sum.elim (fun r => Sh S r.2.2.2.2.2.2.2) (fun r => Sh S r.2.2.2.2.2)) := by
  unfold fX5_ithAct_b57 gX5_ithAct_b57
  obtain ⟨a7, a8, a9, a10, a12, a13, a14, h⟩ := s
  refine EQ_jt8 ?_
  replace hS : Sh S h := hS
  refine EQ_if Iff.rfl (fun c1 => ?_) (fun c1 => ?_)
  · exact EQ_some hS
  · refine EQ_if Iff.rfl (fun c2 => ?_) (fun c2 => ?_)
    · refine EQ_if Iff.rfl (fun c3 => ?_) (fun c3 => ?_)
      · refine EQ_if Iff.rfl (fun c4 => ?_) (fun c4 => ?_)
        · exact (eX5_ithAct_j96_57 hF i1 i3 i5 i6 a7 a8 a9 a10 i11 a12 a13 a14 hS)
        · exact (eX5_ithAct_j315_57 hF i1 i3 i5 i6 a7 a8 a9 a10 i11 a12 a13 a14 hS)
      · exact (eX5_ithAct_j96_57 hF i1 i3 i5 i6 a7 a8 a9 a10 i11 a12 a13 a14 hS)
    · exact EQ_some hS
noncomputable def gX5_ithAct_l57 (F : Int → Int → Int → AH → Option (Int × AH)) (i1 : Int) (i3 : Int) (i5 : Int) (i6 : Int) (i11 : Int) (a7 : Int) (a8 : Int) (a9 : Int) (a10 : Int) (a12 : Int) (a13 : Int) (a14 : Int) (h : AH) : Option (Int × Int × Int × Int × Int × AH) := jit (gX5_ithAct_b57 F i1 i3 i5 i6 i11) (a7, a8, a9, a10, a12, a13, a14, h)
theorem eX5_ithAct_l57 {F0 : Int → Int → Int → Int → Int → AH → Option (Int × AH)} {F : Int → Int → Int → AH → Option (Int × AH)} (hF : ∀ (b_a1 : Int) (b_a2 : Int) (b_a3 : Int), ∀ {b_h : AH}, Sh S b_h → EQ (F0 307 b_a1 b_a2 b_a3 324 b_h) (F b_a1 b_a2 b_a3 b_h) (fun r => Sh S r.2)) (i1 : Int) (i3 : Int) (i5 : Int) (i6 : Int) (i11 : Int) (a7 : Int) (a8 : Int) (a9 : Int) (a10 : Int) (a12 : Int) (a13 : Int) (a14 : Int) {h : AH} (hS : Sh S h) : EQ (fX5_ithAct_l57 F0 307 i1 i3 324 i5 i6 i11 a7 a8 a9 a10 a12 a13 a14 h) (gX5_ithAct_l57 F i1 i3 i5 i6 i11 a7 a8 a9 a10 a12 a13 a14 h) (fun r => Sh S r.2.2.2.2.2) := EQ_jit (I := (fun r => Sh S r.2.2.2.2.2.2.2)) (fun s hs => eX5_ithAct_b57 hF i1 i3 i5 i6 i11 hs) hS
noncomputable def gX5_ithAct_b40 (F : Int → Int → Int → AH → Option (Int × AH)) (i1 : Int) (i3 : Int) (i5 : Int) (i6 : Int) (s : Int × Int × Int × Int × Int × AH) : Option ((Int × Int × Int × Int × Int × AH) ⊕ ((AH) ⊕ (Int × AH))) := jt6 s fun a7 a8 a9 a10 a11 h => if i6 ≤ a11 then (some (.inr (.inr (a7, h)))) else (jb (gX5_ithAct_l57 F i1 i3 i5 i6 a11 a7 a8 a9 a10 a7 0 1 h) fun o11 => jt6 o11 fun y13 y14 y15 y16 y17 h18 => gX5_ithAct_j321_40 F i1 i3 i5 i6 y13 y14 y15 y16 a11 y17 h18)
theorem eX5_ithAct_b40 {F0 : Int → Int → Int → Int → Int → AH → Option (Int × AH)} {F : Int → Int → Int → AH → Option (Int × AH)} (hF : ∀ (b_a1 : Int) (b_a2 : Int) (b_a3 : Int), ∀ {b_h : AH}, Sh S b_h → EQ (F0 307 b_a1 b_a2 b_a3 324 b_h) (F b_a1 b_a2 b_a3 b_h) (fun r => Sh S r.2)) (i1 : Int) (i3 : Int) (i5 : Int) (i6 : Int) {s : Int × Int × Int × Int × Int × AH} (hS : (fun r => Sh S r.2.2.2.2.2) s) : EQ (fX5_ithAct_b40 F0 307 i1 i3 324 i5 i6 s) (gX5_ithAct_b40 F i1 i3 i5 i6 s) (Sum.elim (fun r => Sh S r.2.2.2.2.2) (Sum.elim (fun r => Sh S r) (fun r => Sh S r.2))) := by
  unfold fX5_ithAct_b40 gX5_ithAct_b40
  obtain ⟨a7, a8, a9, a10, a11, h⟩ := s
  refine EQ_jt6 ?_
  replace hS : Sh S h := hS
  refine EQ_if Iff.rfl (fun c1 => ?_) (fun c1 => ?_)
  · exact EQ_some hS
  · refine EQ_jb (eX5_ithAct_l57 hF i1 i3 i5 i6 a11 a7 a8 a9 a10 a7 0 1 hS) (fun o11 r2 => ?_)
    obtain ⟨y13, y14, y15, y16, y17, h18⟩ := o11
    refine EQ_jt6 ?_
    replace r2 : Sh S h18 := r2
    exact (eX5_ithAct_j321_40 hF i1 i3 i5 i6 y13 y14 y15 y16 a11 y17 r2)
noncomputable def gX5_ithAct_l40 (F : Int → Int → Int → AH → Option (Int × AH)) (i1 : Int) (i3 : Int) (i5 : Int) (i6 : Int) (a7 : Int) (a8 : Int) (a9 : Int) (a10 : Int) (a11 : Int) (h : AH) : Option ((AH) ⊕ (Int × AH)) := jit (gX5_ithAct_b40 F i1 i3 i5 i6) (a7, a8, a9, a10, a11, h)
theorem eX5_ithAct_l40 {F0 : Int → Int → Int → Int → Int → AH → Option (Int × AH)} {F : Int → Int → Int → AH → Option (Int × AH)} (hF : ∀ (b_a1 : Int) (b_a2 : Int) (b_a3 : Int), ∀ {b_h : AH}, Sh S b_h → EQ (F0 307 b_a1 b_a2 b_a3 324 b_h) (F b_a1 b_a2 b_a3 b_h) (fun r => Sh S r.2)) (i1 : Int) (i3 : Int) (i5 : Int) (i6 : Int) (a7 : Int) (a8 : Int) (a9 : Int) (a10 : Int) (a11 : Int) {h : AH} (hS : Sh S h) : EQ (fX5_ithAct_l40 F0 307 i1 i3 324 i5 i6 a7 a8 a9 a10 a11 h) (gX5_ithAct_l40 F i1 i3 i5 i6 a7 a8 a9 a10 a11 h) (Sum.elim (fun r => Sh S r) (fun r => Sh S r.2)) := EQ_jit (I := (fun r => Sh S r.2.2.2.2.2)) (fun s hs => eX5_ithAct_b40 hF i1 i3 i5 i6 hs) hS
noncomputable def gX5_ithAct_ (F : Int → Int → Int → AH → Option (Int × AH)) (a1 : Int) (a2 : Int) (a3 : Int) (h : AH) : Option (Int × AH) := jg (jI a1 12) <| jl (h (h 200 16 + 2) a1) fun x1 => jb (gX1_operandsOf x1 h) fun v3 => jb (gX5_ithAct_l40 F a1 a3 x1 v3 (-1) (-1) (-1) a2 0 h) fun o4 => jm o4 (fun o6 => some ((-1), o6)) (fun o7 => jt2 o7 fun y8 h9 => some (y8, h9))
theorem eX5_ithAct_ {F0 : Int → Int → Int → Int → Int → AH → Option (Int × AH)} {F : Int → Int → Int → AH → Option (Int × AH)} (hF : ∀ (b_a1 : Int) (b_a2 : Int) (b_a3 : Int), ∀ {b_h : AH}, Sh S b_h → EQ (F0 307 b_a1 b_a2 b_a3 324 b_h) (F b_a1 b_a2 b_a3 b_h) (fun r => Sh S r.2)) (a1 : Int) (a2 : Int) (a3 : Int) {h : AH} (hS : Sh S h) : EQ (fX5_ithAct_ F0 307 a1 a2 a3 324 h) (gX5_ithAct_ F a1 a2 a3 h) (fun r => Sh S r.2) := by
  unfold fX5_ithAct_ gX5_ithAct_
  refine EQ_jgd (show h 307 (-2) = 6 from by rw [k_307 hS]) ?_
  refine EQ_jgd (show h (h 307 22) (-2) = 2 from by rw [r_307_22 hS, k_200 hS]) ?_
  refine EQ_jgd (show h (h (h 307 22) 16) (-2) = 5 from by rw [r_307_22 hS, kd_X4 hS (dy_200_16 hS)]) ?_
  refine EQ_jg ⟨fun ⟨_, x0⟩ => (show jI a1 (h (h (h (h 307 22) 16) 4) (-1)) ↔ jI a1 12 from by rw [r_307_22 hS, ft_X4_4 hS (dy_200_16 hS), la_X4_4 hS (dy_200_16 hS)]).mp x0, fun x0 => ⟨(show h (h (h (h 307 22) 16) 4) (-2) = 101 from by rw [r_307_22 hS, ft_X4_4 hS (dy_200_16 hS), ka_X4_4 hS (dy_200_16 hS)]), (show jI a1 (h (h (h (h 307 22) 16) 4) (-1)) ↔ jI a1 12 from by rw [r_307_22 hS, ft_X4_4 hS (dy_200_16 hS), la_X4_4 hS (dy_200_16 hS)]).mpr x0⟩⟩ (fun g1 => ?_)
  refine EQ_jl (by rw [r_307_22 hS, ft_X4_4 hS (dy_200_16 hS)]) (fun x1 ex1 => ?_)
  clear ex1
  refine EQ_jgd (show h 307 (-2) = 6 from by rw [k_307 hS]) ?_
  refine EQ_jgd (show h (h 307 22) (-2) = 2 from by rw [r_307_22 hS, k_200 hS]) ?_
  refine EQ_jb (by rw [r_307_22 hS]; exact eX1_operandsOf x1 hS) (fun v3 r2 => ?_)
  refine EQ_jb (eX5_ithAct_l40 hF a1 a3 x1 v3 (-1) (-1) (-1) a2 0 hS) (fun o4 r3 => ?_)
  refine EQ_jm r3 (fun o6 r4 => ?_) (fun o7 r5 => ?_)
  · exact EQ_some r4
  · obtain ⟨y8, h9⟩ := o7
    refine EQ_jt2 ?_
    replace r5 : Sh S h9 := r5
    exact EQ_some r5
noncomputable def gX5_ithActD : Nat → Int → Int → Int → AH → Option (Int × AH)
  | 0 => fun _ _ _ _ => none
  | d + 1 => gX5_ithAct_ (gX5_ithActD d)
theorem eX5_ithActD : ∀ (d : Nat) (a1 : Int) (a2 : Int) (a3 : Int) {h : AH} (hS : Sh S h) , EQ (fX5_ithActD d 307 a1 a2 a3 324 h) (gX5_ithActD d a1 a2 a3 h) (fun r => Sh S r.2) := by
  intro d
  induction d with
  | zero => intro a1 a2 a3 h hS; exact EQ_none
  | succ d ih => intro a1 a2 a3 h hS; exact eX5_ithAct_ ih a1 a2 a3 hS
noncomputable def gX5_ithAct : Int → Int → Int → AH → Option (Int × AH) := gX5_ithActD 40
theorem eX5_ithAct (a1 : Int) (a2 : Int) (a3 : Int) {h : AH} (hS : Sh S h) : EQ (fX5_ithAct 307 a1 a2 a3 324 h) (gX5_ithAct a1 a2 a3 h) (fun r => Sh S r.2) := eX5_ithActD 40 a1 a2 a3 hS
noncomputable def gX5_ith : Int → Int → Int → AH → Option (Int × AH) := gX5_ith_ gX5_ithAct
theorem eX5_ith (a1 : Int) (a2 : Int) (a3 : Int) {h : AH} (hS : Sh S h) : EQ (fX5_ith 307 a1 a2 a3 324 h) (gX5_ith a1 a2 a3 h) (fun r => Sh S r.2) := eX5_ith_ eX5_ithAct a1 a2 a3 hS
noncomputable def gX5_ithMeeting_j66_32 (a1 : Int) (a2 : Int) (a5 : Int) (a6 : Int) (t1 : Int) (t2 : Int) (h : AH) : Option ((Int × AH) ⊕ (AH)) := jg (jI t1 4800) <| jl (jst h 322 t1 t2) fun h20 => jl (w32 (a6 + 1)) fun x21 => some (.inl (x21, h20))
theorem eX5_ithMeeting_j66_32 (a1 : Int) (a2 : Int) (a5 : Int) (a6 : Int) (t1 : Int) (t2 : Int) {h : AH} (hS : Sh S h) : EQ (fX5_ithMeeting_j66_32 307 a1 a2 324 a5 a6 322 t1 t2 h) (gX5_ithMeeting_j66_32 a1 a2 a5 a6 t1 t2 h) (Sum.elim (fun r => Sh S r.2) (fun r => Sh S r)) := by
  unfold fX5_ithMeeting_j66_32 gX5_ithMeeting_j66_32
  refine EQ_jg ⟨fun ⟨_, _, x0⟩ => (show jI t1 (h 322 (-1)) ↔ jI t1 4800 from by rw [l_322 hS]).mp x0, fun x0 => ⟨(show h 322 (-2) = 102 from by rw [k_322 hS]), (show (200 : Int) ≤ 322 from (by decide)), (show jI t1 (h 322 (-1)) ↔ jI t1 4800 from by rw [l_322 hS]).mpr x0⟩⟩ (fun g1 => ?_)
  refine EQ_jl rfl (fun h20 eh20 => ?_)
  have s2 := Sh_of eh20 (Sh_sta hS (by decide +kernel) (jI_nn g1) (fun e => absurd ((k_322 hS).symm.trans e) (by decide)))
  clear eh20
  refine EQ_jl rfl (fun x21 ex21 => ?_)
  clear ex21
  exact EQ_some s2
noncomputable def gX5_ithMeeting_b32 (i1 : Int) (i2 : Int) (i5 : Int) (s : Int × AH) : Option ((Int × AH) ⊕ (AH)) := jt2 s fun a6 h => jg (jI i1 13) <| if h 314 i1 ≤ a6 then (some (.inr h)) else (jb2 (gX5_isMeeting a6 h) fun v17 h18 => if v17 = 0 then (gX5_ithMeeting_j66_32 i1 i2 i5 a6 (w32 (i5 + a6)) 0 h18) else (gX5_ithMeeting_j66_32 i1 i2 i5 a6 (w32 (i5 + a6)) 1 h18))
theorem eX5_ithMeeting_b32 (i1 : Int) (i2 : Int) (i5 : Int) {s : Int × AH} (hS : (fun r => Sh S r.2) s) : EQ (fX5_ithMeeting_b32 307 i1 i2 324 i5 s) (gX5_ithMeeting_b32 i1 i2 i5 s) (Sum.elim (fun r => Sh S r.2) (fun r => Sh S r)) := by
  unfold fX5_ithMeeting_b32 gX5_ithMeeting_b32
  obtain ⟨a6, h⟩ := s
  refine EQ_jt2 ?_
  replace hS : Sh S h := hS
  refine EQ_jgd (show h 307 (-2) = 6 from by rw [k_307 hS]) ?_
  refine EQ_jg ⟨fun ⟨_, x0⟩ => (show jI i1 (h (h 307 9) (-1)) ↔ jI i1 13 from by rw [r_307_9 hS, l_314 hS]).mp x0, fun x0 => ⟨(show h (h 307 9) (-2) = 101 from by rw [r_307_9 hS, k_314 hS]), (show jI i1 (h (h 307 9) (-1)) ↔ jI i1 13 from by rw [r_307_9 hS, l_314 hS]).mpr x0⟩⟩ (fun g1 => ?_)
  refine EQ_if (show h (h 307 9) i1 ≤ a6 ↔ h 314 i1 ≤ a6 from by rw [r_307_9 hS]) (fun c2 => ?_) (fun c2 => ?_)
  · exact EQ_some hS
  · refine EQ_jgd (show h 307 (-2) = 6 from by rw [k_307 hS]) ?_
    refine EQ_jgd (show h 307 (-2) = 6 from by rw [k_307 hS]) ?_
    refine EQ_jb2 (eX5_isMeeting a6 hS) (fun v17 h18 r3 => ?_)
    replace r3 : Sh S h18 := r3
    refine EQ_if Iff.rfl (fun c4 => ?_) (fun c4 => ?_)
    · exact (by rw [r_307_18 hS]; exact eX5_ithMeeting_j66_32 i1 i2 i5 a6 (w32 (i5 + a6)) 0 r3)
    · exact (by rw [r_307_18 hS]; exact eX5_ithMeeting_j66_32 i1 i2 i5 a6 (w32 (i5 + a6)) 1 r3)
noncomputable def gX5_ithMeeting_l32 (i1 : Int) (i2 : Int) (i5 : Int) (a6 : Int) (h : AH) : Option (AH) := jit (gX5_ithMeeting_b32 i1 i2 i5) (a6, h)
theorem eX5_ithMeeting_l32 (i1 : Int) (i2 : Int) (i5 : Int) (a6 : Int) {h : AH} (hS : Sh S h) : EQ (fX5_ithMeeting_l32 307 i1 i2 324 i5 a6 h) (gX5_ithMeeting_l32 i1 i2 i5 a6 h) (fun r => Sh S r) := EQ_jit (I := (fun r => Sh S r.2)) (fun s hs => eX5_ithMeeting_b32 i1 i2 i5 hs) hS
noncomputable def gX5_ithMeeting (a1 : Int) (a2 : Int) (h : AH) : Option (Int × AH) := if jcmp a2 0 < 0 then (some ((-1), h)) else (jb2 (gX5_meeting a1 h) fun v3 h4 => if jcmp a2 v3 < 0 then (jl (jst h4 307 19 0) fun h6 => jb2 (gX5_newRow h6) fun v8 h9 => jb (gX5_ithMeeting_l32 a1 a2 v8 0 h9) fun o10 => jb2 (gX5_ith a1 v8 a2 o10) fun v13 h14 => some (v13, h14)) else (some ((-1), h4)))
theorem eX5_ithMeeting (a1 : Int) (a2 : Int) {h : AH} (hS : Sh S h) : EQ (fX5_ithMeeting 307 a1 a2 324 h) (gX5_ithMeeting a1 a2 h) (fun r => Sh S r.2) := by
  unfold fX5_ithMeeting gX5_ithMeeting
  refine EQ_if Iff.rfl (fun c1 => ?_) (fun c1 => ?_)
  · exact EQ_some hS
  · refine EQ_jgd (show h 307 (-2) = 6 from by rw [k_307 hS]) ?_
    refine EQ_jb2 (eX5_meeting a1 hS) (fun v3 h4 r2 => ?_)
    replace r2 : Sh S h4 := r2
    refine EQ_if Iff.rfl (fun c3 => ?_) (fun c3 => ?_)
    · refine EQ_jgd ⟨(show h4 307 (-2) = 6 from by rw [k_307 r2]), (show (200 : Int) ≤ 307 from (by decide))⟩ ?_
      refine EQ_jl rfl (fun h6 eh6 => ?_)
      have s4 := Sh_of eh6 (Sh_sto r2 (a := 307) (i := 19) (by decide +kernel))
      clear eh6
      refine EQ_jgd (show h6 307 (-2) = 6 from by rw [k_307 s4]) ?_
      refine EQ_jb2 (eX5_newRow s4) (fun v8 h9 r5 => ?_)
      replace r5 : Sh S h9 := r5
      refine EQ_jb (eX5_ithMeeting_l32 a1 a2 v8 0 r5) (fun o10 r6 => ?_)
      refine EQ_jgd (show o10 307 (-2) = 6 from by rw [k_307 r6]) ?_
      refine EQ_jb2 (eX5_ith a1 v8 a2 r6) (fun v13 h14 r7 => ?_)
      replace r7 : Sh S h14 := r7
      exact EQ_some r7
    · exact EQ_some r2
noncomputable def gX1_ith (a1 : Int) (a2 : Int) (h : AH) : Option (Int × AH) := jb2 (gX1_known a1 h) fun v2 h3 => if 0 ≤ v2 then (jb (gX5_count a1 h3) fun h6 => jl (jst h6 324 0 0) fun h7 => jb2 (gX5_ithMeeting a1 a2 h7) fun v9 h10 => if v9 = (-1) then (some ((-1), h10)) else (jb (gX1_become v9 h10) fun h13 => some (h13 336 1, h13))) else (some (v2, h3))
theorem eX1_ith (a1 : Int) (a2 : Int) {h : AH} (hS : Sh S h) : EQ (fX1_ith 200 a1 a2 h) (gX1_ith a1 a2 h) (fun r => Sh S r.2) := by
  unfold fX1_ith gX1_ith
  refine EQ_jgd (show h 200 (-2) = 2 from by rw [k_200 hS]) ?_
  refine EQ_jb2 (eX1_known a1 hS) (fun v2 h3 r1 => ?_)
  replace r1 : Sh S h3 := r1
  refine EQ_if Iff.rfl (fun c2 => ?_) (fun c2 => ?_)
  · refine EQ_jgd (show h3 200 (-2) = 2 from by rw [k_200 r1]) ?_
    refine EQ_jgd (show h3 (h3 200 18) (-2) = 6 from by rw [r_200_18 r1, k_307 r1]) ?_
    refine EQ_jb (by rw [r_200_18 r1]; exact eX5_count a1 r1) (fun h6 r3 => ?_)
    refine EQ_jgd (show h6 200 (-2) = 2 from by rw [k_200 r3]) ?_
    refine EQ_jgd ⟨(show h6 (h6 200 20) (-2) = 4 from by rw [r_200_20 r3, k_324 r3]), (show 200 ≤ h6 200 20 from by rw [r_200_20 r3]; exact (by decide))⟩ ?_
    refine EQ_jl (by rw [r_200_20 r3]) (fun h7 eh7 => ?_)
    have s4 := Sh_of eh7 (Sh_sto r3 (a := 324) (i := 0) (by decide +kernel))
    clear eh7
    refine EQ_jgd (show h7 200 (-2) = 2 from by rw [k_200 s4]) ?_
    refine EQ_jgd (show h7 200 (-2) = 2 from by rw [k_200 s4]) ?_
    refine EQ_jgd (show h7 (h7 200 18) (-2) = 6 from by rw [r_200_18 s4, k_307 s4]) ?_
    refine EQ_jb2 (by rw [r_200_18 s4, r_200_20 s4]; exact eX5_ithMeeting a1 a2 s4) (fun v9 h10 r5 => ?_)
    replace r5 : Sh S h10 := r5
    refine EQ_if Iff.rfl (fun c6 => ?_) (fun c6 => ?_)
    · exact EQ_some r5
    · refine EQ_jgd (show h10 200 (-2) = 2 from by rw [k_200 r5]) ?_
      refine EQ_jb (eX1_become v9 r5) (fun h13 r7 => ?_)
      refine EQ_jgd (show h13 200 (-2) = 2 from by rw [k_200 r7]) ?_
      refine EQ_jgd (show h13 (h13 200 24) (-2) = 7 from by rw [r_200_24 r7, k_336 r7]) ?_
      exact EQ_some' (by rw [r_200_24 r7]) r7
  · exact EQ_some r1
noncomputable def gX5_different_j28_4 (a1 : Int) (a3 : Int) (t0 : Int) (t1 : Int) (h : AH) : Option ((Int × Int × AH) ⊕ (Int × AH)) := jl (w32 (t0 + t1)) fun x10 => jl (w32 (a3 + 1)) fun x11 => some (.inl (x10, x11, h))
theorem eX5_different_j28_4 (a1 : Int) (a3 : Int) (t0 : Int) (t1 : Int) {h : AH} (hS : Sh S h) : EQ (fX5_different_j28_4 307 a1 a3 t0 t1 h) (gX5_different_j28_4 a1 a3 t0 t1 h) (Sum.elim (fun r => Sh S r.2.2) (fun r => Sh S r.2)) := by
  unfold fX5_different_j28_4 gX5_different_j28_4
  refine EQ_jl rfl (fun x10 ex10 => ?_)
  clear ex10
  refine EQ_jl rfl (fun x11 ex11 => ?_)
  clear ex11
  exact EQ_some hS
noncomputable def gX5_different_b4 (i1 : Int) (s : Int × Int × AH) : Option ((Int × Int × AH) ⊕ (Int × AH)) := jt3 s fun a2 a3 h => jg (jI i1 13) <| if h 314 i1 ≤ a3 then (some (.inr (a2, h))) else (jb2 (gX5_isMeeting a3 h) fun v7 h8 => if v7 = 0 then (gX5_different_j28_4 i1 a3 a2 0 h8) else (gX5_different_j28_4 i1 a3 a2 1 h8))
theorem eX5_different_b4 (i1 : Int) {s : Int × Int × AH} (hS : (fun r => Sh S r.2.2) s) : EQ (fX5_different_b4 307 i1 s) (gX5_different_b4 i1 s) (Sum.elim (fun r => Sh S r.2.2) (fun r => Sh S r.2)) := by
  unfold fX5_different_b4 gX5_different_b4
  obtain ⟨a2, a3, h⟩ := s
  refine EQ_jt3 ?_
  replace hS : Sh S h := hS
  refine EQ_jgd (show h 307 (-2) = 6 from by rw [k_307 hS]) ?_
  refine EQ_jg ⟨fun ⟨_, x0⟩ => (show jI i1 (h (h 307 9) (-1)) ↔ jI i1 13 from by rw [r_307_9 hS, l_314 hS]).mp x0, fun x0 => ⟨(show h (h 307 9) (-2) = 101 from by rw [r_307_9 hS, k_314 hS]), (show jI i1 (h (h 307 9) (-1)) ↔ jI i1 13 from by rw [r_307_9 hS, l_314 hS]).mpr x0⟩⟩ (fun g1 => ?_)
  refine EQ_if (show h (h 307 9) i1 ≤ a3 ↔ h 314 i1 ≤ a3 from by rw [r_307_9 hS]) (fun c2 => ?_) (fun c2 => ?_)
  · exact EQ_some hS
  · refine EQ_jgd (show h 307 (-2) = 6 from by rw [k_307 hS]) ?_
    refine EQ_jb2 (eX5_isMeeting a3 hS) (fun v7 h8 r3 => ?_)
    replace r3 : Sh S h8 := r3
    refine EQ_if Iff.rfl (fun c4 => ?_) (fun c4 => ?_)
    · exact (eX5_different_j28_4 i1 a3 a2 0 r3)
    · exact (eX5_different_j28_4 i1 a3 a2 1 r3)
noncomputable def gX5_different_l4 (i1 : Int) (a2 : Int) (a3 : Int) (h : AH) : Option (Int × AH) := jit (gX5_different_b4 i1) (a2, a3, h)
theorem eX5_different_l4 (i1 : Int) (a2 : Int) (a3 : Int) {h : AH} (hS : Sh S h) : EQ (fX5_different_l4 307 i1 a2 a3 h) (gX5_different_l4 i1 a2 a3 h) (fun r => Sh S r.2) := EQ_jit (I := (fun r => Sh S r.2.2)) (fun s hs => eX5_different_b4 i1 hs) hS
noncomputable def gX5_different (a1 : Int) (h : AH) : Option (Int × AH) := jb (gX5_different_l4 a1 0 0 h) fun o1 => jt2 o1 fun y3 h4 => some (y3, h4)
theorem eX5_different (a1 : Int) {h : AH} (hS : Sh S h) : EQ (fX5_different 307 a1 h) (gX5_different a1 h) (fun r => Sh S r.2) := by
  unfold fX5_different gX5_different
  refine EQ_jb (eX5_different_l4 a1 0 0 hS) (fun o1 r1 => ?_)
  obtain ⟨y3, h4⟩ := o1
  refine EQ_jt2 ?_
  replace r1 : Sh S h4 := r1
  exact EQ_some r1
noncomputable def gX1_different (a1 : Int) (h : AH) : Option (Int × AH) := jb2 (gX1_known a1 h) fun v2 h3 => if 0 ≤ v2 then (jb2 (gX5_different a1 h3) fun v6 h7 => some (v6, h7)) else (some (v2, h3))
theorem eX1_different (a1 : Int) {h : AH} (hS : Sh S h) : EQ (fX1_different 200 a1 h) (gX1_different a1 h) (fun r => Sh S r.2) := by
  unfold fX1_different gX1_different
  refine EQ_jgd (show h 200 (-2) = 2 from by rw [k_200 hS]) ?_
  refine EQ_jb2 (eX1_known a1 hS) (fun v2 h3 r1 => ?_)
  replace r1 : Sh S h3 := r1
  refine EQ_if Iff.rfl (fun c2 => ?_) (fun c2 => ?_)
  · refine EQ_jgd (show h3 200 (-2) = 2 from by rw [k_200 r1]) ?_
    refine EQ_jgd (show h3 (h3 200 18) (-2) = 6 from by rw [r_200_18 r1, k_307 r1]) ?_
    refine EQ_jb2 (by rw [r_200_18 r1]; exact eX5_different a1 r1) (fun v6 h7 r3 => ?_)
    replace r3 : Sh S h7 := r3
    exact EQ_some r3
  · exact EQ_some r1
noncomputable def gX5_question_j142_7 (a1 : Int) (a2 : Int) (a3 : Int) (a4 : Int) (h : AH) : Option ((Int × Int × Int × AH) ⊕ (Int × Int × AH)) := jl (w32 (a4 + 1)) fun x15 => some (.inl (a2, a3, x15, h))
theorem eX5_question_j142_7 (a1 : Int) (a2 : Int) (a3 : Int) (a4 : Int) {h : AH} (hS : Sh S h) : EQ (fX5_question_j142_7 307 a1 a2 a3 a4 h) (gX5_question_j142_7 a1 a2 a3 a4 h) (Sum.elim (fun r => Sh S r.2.2.2) (fun r => Sh S r.2.2)) := by
  unfold fX5_question_j142_7 gX5_question_j142_7
  refine EQ_jl rfl (fun x15 ex15 => ?_)
  clear ex15
  exact EQ_some hS
noncomputable def gX5_question_j121_22 (a1 : Int) (a2 : Int) (a3 : Int) (a4 : Int) (a6 : Int) (t0 : Int) (t1 : Int) (h : AH) : Option ((Int × Int × AH) ⊕ (Int × AH)) := jl (w32 (t0 + t1)) fun x25 => jl (w32 (a6 + 1)) fun x26 => some (.inl (x25, x26, h))
theorem eX5_question_j121_22 (a1 : Int) (a2 : Int) (a3 : Int) (a4 : Int) (a6 : Int) (t0 : Int) (t1 : Int) {h : AH} (hS : Sh S h) : EQ (fX5_question_j121_22 307 a1 a2 a3 a4 a6 t0 t1 h) (gX5_question_j121_22 a1 a2 a3 a4 a6 t0 t1 h) (Sum.elim (fun r => Sh S r.2.2) (fun r => Sh S r.2)) := by
  unfold fX5_question_j121_22 gX5_question_j121_22
  refine EQ_jl rfl (fun x25 ex25 => ?_)
  clear ex25
  refine EQ_jl rfl (fun x26 ex26 => ?_)
  clear ex26
  exact EQ_some hS
noncomputable def gX5_question_j109_22 (a1 : Int) (a2 : Int) (a3 : Int) (a4 : Int) (a5 : Int) (a6 : Int) (a7 : Int) (h : AH) : Option ((Int × Int × AH) ⊕ (Int × AH)) := if a7 = 0 then (gX5_question_j121_22 a1 a2 a3 a4 a6 a5 0 h) else (gX5_question_j121_22 a1 a2 a3 a4 a6 a5 1 h)
theorem eX5_question_j109_22 (a1 : Int) (a2 : Int) (a3 : Int) (a4 : Int) (a5 : Int) (a6 : Int) (a7 : Int) {h : AH} (hS : Sh S h) : EQ (fX5_question_j109_22 307 a1 a2 a3 a4 a5 a6 a7 h) (gX5_question_j109_22 a1 a2 a3 a4 a5 a6 a7 h) (Sum.elim (fun r => Sh S r.2.2) (fun r => Sh S r.2)) := by
  unfold fX5_question_j109_22 gX5_question_j109_22
  refine EQ_if Iff.rfl (fun c1 => ?_) (fun c1 => ?_)
  · exact (eX5_question_j121_22 a1 a2 a3 a4 a6 a5 0 hS)
  · exact (eX5_question_j121_22 a1 a2 a3 a4 a6 a5 1 hS)
noncomputable def gX5_question_j101_44 (a1 : Int) (a2 : Int) (a3 : Int) (a4 : Int) (a5 : Int) (a6 : Int) (a8 : Int) (t0 : Int) (h : AH) : Option ((Int × Int × AH) ⊕ (Int × AH)) := jl (w32 (a8 + 1)) fun x34 => some (.inl (t0, x34, h))
theorem eX5_question_j101_44 (a1 : Int) (a2 : Int) (a3 : Int) (a4 : Int) (a5 : Int) (a6 : Int) (a8 : Int) (t0 : Int) {h : AH} (hS : Sh S h) : EQ (fX5_question_j101_44 307 a1 a2 a3 a4 a5 a6 a8 t0 h) (gX5_question_j101_44 a1 a2 a3 a4 a5 a6 a8 t0 h) (Sum.elim (fun r => Sh S r.2.2) (fun r => Sh S r.2)) := by
  unfold fX5_question_j101_44 gX5_question_j101_44
  refine EQ_jl rfl (fun x34 ex34 => ?_)
  clear ex34
  exact EQ_some hS
noncomputable def gX5_question_b44 (i1 : Int) (i2 : Int) (i3 : Int) (i4 : Int) (i5 : Int) (i6 : Int) (s : Int × Int × AH) : Option ((Int × Int × AH) ⊕ (Int × AH)) := jt3 s fun a7 a8 h => if i6 ≤ a8 then (some (.inr (a7, h))) else (if a7 = 0 then (some (.inr (a7, h))) else (jb2 (gX5_isMeeting a8 h) fun v30 h31 => if v30 = 0 then (gX5_question_j101_44 i1 i2 i3 i4 i5 i6 a8 1 h31) else (jg (jI (w32 (w32 (a8 * 256) + i4)) 30976) <| jg (jI (w32 (w32 (i6 * 256) + i4)) 30976) <| if h31 312 (w32 (w32 (a8 * 256) + i4)) = h31 312 (w32 (w32 (i6 * 256) + i4)) then (gX5_question_j101_44 i1 i2 i3 i4 i5 i6 a8 0 h31) else (gX5_question_j101_44 i1 i2 i3 i4 i5 i6 a8 1 h31))))
theorem eX5_question_b44 (i1 : Int) (i2 : Int) (i3 : Int) (i4 : Int) (i5 : Int) (i6 : Int) {s : Int × Int × AH} (hS : (fun r => Sh S r.2.2) s) : EQ (fX5_question_b44 307 i1 i2 i3 i4 i5 i6 s) (gX5_question_b44 i1 i2 i3 i4 i5 i6 s) (Sum.elim (fun r => Sh S r.2.2) (fun r => Sh S r.2)) := by
  unfold fX5_question_b44 gX5_question_b44
  obtain ⟨a7, a8, h⟩ := s
  refine EQ_jt3 ?_
  replace hS : Sh S h := hS
  refine EQ_if Iff.rfl (fun c1 => ?_) (fun c1 => ?_)
  · exact EQ_some hS
  · refine EQ_if Iff.rfl (fun c2 => ?_) (fun c2 => ?_)
    · exact EQ_some hS
    · refine EQ_jgd (show h 307 (-2) = 6 from by rw [k_307 hS]) ?_
      refine EQ_jb2 (eX5_isMeeting a8 hS) (fun v30 h31 r3 => ?_)
      replace r3 : Sh S h31 := r3
      refine EQ_if Iff.rfl (fun c4 => ?_) (fun c4 => ?_)
      · exact (eX5_question_j101_44 i1 i2 i3 i4 i5 i6 a8 1 r3)
      · refine EQ_jgd (show h31 307 (-2) = 6 from by rw [k_307 r3]) ?_
        refine EQ_jg ⟨fun ⟨_, x0⟩ => (show jI (w32 (w32 (a8 * 256) + i4)) (h31 (h31 307 5) (-1)) ↔ jI (w32 (w32 (a8 * 256) + i4)) 30976 from by rw [r_307_5 r3, l_312 r3]).mp x0, fun x0 => ⟨(show h31 (h31 307 5) (-2) = 101 from by rw [r_307_5 r3, k_312 r3]), (show jI (w32 (w32 (a8 * 256) + i4)) (h31 (h31 307 5) (-1)) ↔ jI (w32 (w32 (a8 * 256) + i4)) 30976 from by rw [r_307_5 r3, l_312 r3]).mpr x0⟩⟩ (fun g5 => ?_)
        refine EQ_jgd (show h31 307 (-2) = 6 from by rw [k_307 r3]) ?_
        refine EQ_jg ⟨fun ⟨_, x0⟩ => (show jI (w32 (w32 (i6 * 256) + i4)) (h31 (h31 307 5) (-1)) ↔ jI (w32 (w32 (i6 * 256) + i4)) 30976 from by rw [r_307_5 r3, l_312 r3]).mp x0, fun x0 => ⟨(show h31 (h31 307 5) (-2) = 101 from by rw [r_307_5 r3, k_312 r3]), (show jI (w32 (w32 (i6 * 256) + i4)) (h31 (h31 307 5) (-1)) ↔ jI (w32 (w32 (i6 * 256) + i4)) 30976 from by rw [r_307_5 r3, l_312 r3]).mpr x0⟩⟩ (fun g6 => ?_)
        refine EQ_if (show h31 (h31 307 5) (w32 (w32 (a8 * 256) + i4)) = h31 (h31 307 5) (w32 (w32 (i6 * 256) + i4)) ↔ h31 312 (w32 (w32 (a8 * 256) + i4)) = h31 312 (w32 (w32 (i6 * 256) + i4)) from by rw [r_307_5 r3]) (fun c7 => ?_) (fun c7 => ?_)
        · exact (eX5_question_j101_44 i1 i2 i3 i4 i5 i6 a8 0 r3)
        · exact (eX5_question_j101_44 i1 i2 i3 i4 i5 i6 a8 1 r3)
noncomputable def gX5_question_l44 (i1 : Int) (i2 : Int) (i3 : Int) (i4 : Int) (i5 : Int) (i6 : Int) (a7 : Int) (a8 : Int) (h : AH) : Option (Int × AH) := jit (gX5_question_b44 i1 i2 i3 i4 i5 i6) (a7, a8, h)
theorem eX5_question_l44 (i1 : Int) (i2 : Int) (i3 : Int) (i4 : Int) (i5 : Int) (i6 : Int) (a7 : Int) (a8 : Int) {h : AH} (hS : Sh S h) : EQ (fX5_question_l44 307 i1 i2 i3 i4 i5 i6 a7 a8 h) (gX5_question_l44 i1 i2 i3 i4 i5 i6 a7 a8 h) (fun r => Sh S r.2) := EQ_jit (I := (fun r => Sh S r.2.2)) (fun s hs => eX5_question_b44 i1 i2 i3 i4 i5 i6 hs) hS
noncomputable def gX5_question_b22 (i1 : Int) (i2 : Int) (i3 : Int) (i4 : Int) (s : Int × Int × AH) : Option ((Int × Int × AH) ⊕ (Int × AH)) := jt3 s fun a5 a6 h => jg (jI i1 13) <| if h 314 i1 ≤ a6 then (some (.inr (a5, h))) else (jb2 (gX5_isMeeting a6 h) fun v18 h19 => jb (gX5_question_l44 i1 i2 i3 i4 a5 a6 v18 0 h19) fun o20 => jt2 o20 fun y22 h23 => gX5_question_j109_22 i1 i2 i3 i4 a5 a6 y22 h23)
theorem eX5_question_b22 (i1 : Int) (i2 : Int) (i3 : Int) (i4 : Int) {s : Int × Int × AH} (hS : (fun r => Sh S r.2.2) s) : EQ (fX5_question_b22 307 i1 i2 i3 i4 s) (gX5_question_b22 i1 i2 i3 i4 s) (Sum.elim (fun r => Sh S r.2.2) (fun r => Sh S r.2)) := by
  unfold fX5_question_b22 gX5_question_b22
  obtain ⟨a5, a6, h⟩ := s
  refine EQ_jt3 ?_
  replace hS : Sh S h := hS
  refine EQ_jgd (show h 307 (-2) = 6 from by rw [k_307 hS]) ?_
  refine EQ_jg ⟨fun ⟨_, x0⟩ => (show jI i1 (h (h 307 9) (-1)) ↔ jI i1 13 from by rw [r_307_9 hS, l_314 hS]).mp x0, fun x0 => ⟨(show h (h 307 9) (-2) = 101 from by rw [r_307_9 hS, k_314 hS]), (show jI i1 (h (h 307 9) (-1)) ↔ jI i1 13 from by rw [r_307_9 hS, l_314 hS]).mpr x0⟩⟩ (fun g1 => ?_)
  refine EQ_if (show h (h 307 9) i1 ≤ a6 ↔ h 314 i1 ≤ a6 from by rw [r_307_9 hS]) (fun c2 => ?_) (fun c2 => ?_)
  · exact EQ_some hS
  · refine EQ_jgd (show h 307 (-2) = 6 from by rw [k_307 hS]) ?_
    refine EQ_jb2 (eX5_isMeeting a6 hS) (fun v18 h19 r3 => ?_)
    replace r3 : Sh S h19 := r3
    refine EQ_jb (eX5_question_l44 i1 i2 i3 i4 a5 a6 v18 0 r3) (fun o20 r4 => ?_)
    obtain ⟨y22, h23⟩ := o20
    refine EQ_jt2 ?_
    replace r4 : Sh S h23 := r4
    exact (eX5_question_j109_22 i1 i2 i3 i4 a5 a6 y22 r4)
noncomputable def gX5_question_l22 (i1 : Int) (i2 : Int) (i3 : Int) (i4 : Int) (a5 : Int) (a6 : Int) (h : AH) : Option (Int × AH) := jit (gX5_question_b22 i1 i2 i3 i4) (a5, a6, h)
theorem eX5_question_l22 (i1 : Int) (i2 : Int) (i3 : Int) (i4 : Int) (a5 : Int) (a6 : Int) {h : AH} (hS : Sh S h) : EQ (fX5_question_l22 307 i1 i2 i3 i4 a5 a6 h) (gX5_question_l22 i1 i2 i3 i4 a5 a6 h) (fun r => Sh S r.2) := EQ_jit (I := (fun r => Sh S r.2.2)) (fun s hs => eX5_question_b22 i1 i2 i3 i4 hs) hS
noncomputable def gX5_question_b7 (i1 : Int) (s : Int × Int × Int × AH) : Option ((Int × Int × Int × AH) ⊕ (Int × Int × AH)) := jt4 s fun a2 a3 a4 h => jb (gX5_points h) fun v8 => if v8 ≤ a4 then (some (.inr (a2, a3, h))) else (jb (gX5_question_l22 i1 a2 a3 a4 0 0 h) fun o10 => jt2 o10 fun y12 h13 => if y12 ≤ a2 then (gX5_question_j142_7 i1 a2 a3 a4 h13) else (gX5_question_j142_7 i1 y12 a4 a4 h13))
theorem eX5_question_b7 (i1 : Int) {s : Int × Int × Int × AH} (hS : (fun r => Sh S r.2.2.2) s) : EQ (fX5_question_b7 307 i1 s) (gX5_question_b7 i1 s) (Sum.elim (fun r => Sh S r.2.2.2) (fun r => Sh S r.2.2)) := by
  unfold fX5_question_b7 gX5_question_b7
  obtain ⟨a2, a3, a4, h⟩ := s
  refine EQ_jt4 ?_
  replace hS : Sh S h := hS
  refine EQ_jgd (show h 307 (-2) = 6 from by rw [k_307 hS]) ?_
  refine EQ_jb (eX5_points hS) (fun v8 r1 => ?_)
  refine EQ_if Iff.rfl (fun c2 => ?_) (fun c2 => ?_)
  · exact EQ_some hS
  · refine EQ_jb (eX5_question_l22 i1 a2 a3 a4 0 0 hS) (fun o10 r3 => ?_)
    obtain ⟨y12, h13⟩ := o10
    refine EQ_jt2 ?_
    replace r3 : Sh S h13 := r3
    refine EQ_if Iff.rfl (fun c4 => ?_) (fun c4 => ?_)
    · exact (eX5_question_j142_7 i1 a2 a3 a4 r3)
    · exact (eX5_question_j142_7 i1 y12 a4 a4 r3)
noncomputable def gX5_question_l7 (i1 : Int) (a2 : Int) (a3 : Int) (a4 : Int) (h : AH) : Option (Int × Int × AH) := jit (gX5_question_b7 i1) (a2, a3, a4, h)
theorem eX5_question_l7 (i1 : Int) (a2 : Int) (a3 : Int) (a4 : Int) {h : AH} (hS : Sh S h) : EQ (fX5_question_l7 307 i1 a2 a3 a4 h) (gX5_question_l7 i1 a2 a3 a4 h) (fun r => Sh S r.2.2) := EQ_jit (I := (fun r => Sh S r.2.2.2)) (fun s hs => eX5_question_b7 i1 hs) hS
noncomputable def gX5_question (a1 : Int) (h : AH) : Option (Int × AH) := jb (gX5_question_l7 a1 1 0 0 h) fun o1 => jt3 o1 fun y3 y4 h5 => if y3 = 1 then (some (0, h5)) else (some (w32 (w32 (1000 * y4) + y3), h5))
theorem eX5_question (a1 : Int) {h : AH} (hS : Sh S h) : EQ (fX5_question 307 a1 h) (gX5_question a1 h) (fun r => Sh S r.2) := by
  unfold fX5_question gX5_question
  refine EQ_jb (eX5_question_l7 a1 1 0 0 hS) (fun o1 r1 => ?_)
  obtain ⟨y3, y4, h5⟩ := o1
  refine EQ_jt3 ?_
  replace r1 : Sh S h5 := r1
  refine EQ_if Iff.rfl (fun c2 => ?_) (fun c2 => ?_)
  · exact EQ_some r1
  · exact EQ_some r1
noncomputable def gX1_question (a1 : Int) (h : AH) : Option (Int × AH) := jb2 (gX1_known a1 h) fun v2 h3 => if 0 ≤ v2 then (jb2 (gX5_question a1 h3) fun v6 h7 => some (v6, h7)) else (some (v2, h3))
theorem eX1_question (a1 : Int) {h : AH} (hS : Sh S h) : EQ (fX1_question 200 a1 h) (gX1_question a1 h) (fun r => Sh S r.2) := by
  unfold fX1_question gX1_question
  refine EQ_jgd (show h 200 (-2) = 2 from by rw [k_200 hS]) ?_
  refine EQ_jb2 (eX1_known a1 hS) (fun v2 h3 r1 => ?_)
  replace r1 : Sh S h3 := r1
  refine EQ_if Iff.rfl (fun c2 => ?_) (fun c2 => ?_)
  · refine EQ_jgd (show h3 200 (-2) = 2 from by rw [k_200 r1]) ?_
    refine EQ_jgd (show h3 (h3 200 18) (-2) = 6 from by rw [r_200_18 r1, k_307 r1]) ?_
    refine EQ_jb2 (by rw [r_200_18 r1]; exact eX5_question a1 r1) (fun v6 h7 r3 => ?_)
    replace r3 : Sh S h7 := r3
    exact EQ_some r3
  · exact EQ_some r1
noncomputable def gX13_alone (a1 : Int) (h : AH) : Option (Int × AH) := jb2 (gX13_told a1 h) fun v2 h3 => if h3 441 6 = 0 then (jb (gX13_isEnd h3) fun v6 => if v6 = 0 then (jb (gX13_no h3) fun h9 => some (v2, h9)) else (some (v2, h3))) else (some (v2, h3))
theorem eX13_alone (a1 : Int) {h : AH} (hS : Sh S h) : EQ (fX13_alone 441 a1 h) (gX13_alone a1 h) (fun r => Sh S r.2) := by
  unfold fX13_alone gX13_alone
  refine EQ_jgd (show h 441 (-2) = 14 from by rw [k_441 hS]) ?_
  refine EQ_jb2 (eX13_told a1 hS) (fun v2 h3 r1 => ?_)
  replace r1 : Sh S h3 := r1
  refine EQ_jgd (show h3 441 (-2) = 14 from by rw [k_441 r1]) ?_
  refine EQ_if Iff.rfl (fun c2 => ?_) (fun c2 => ?_)
  · refine EQ_jgd (show h3 441 (-2) = 14 from by rw [k_441 r1]) ?_
    refine EQ_jb (eX13_isEnd r1) (fun v6 r3 => ?_)
    refine EQ_if Iff.rfl (fun c4 => ?_) (fun c4 => ?_)
    · refine EQ_jgd (show h3 441 (-2) = 14 from by rw [k_441 r1]) ?_
      refine EQ_jb (eX13_no r1) (fun h9 r5 => ?_)
      exact EQ_some r5
    · exact EQ_some r1
  · exact EQ_some r1
noncomputable def gX1_readTerm_j95 (t1 : Int) (h : AH) : Option (Int × AH) := jb2 (gX13_alone t1 h) fun v14 h15 => jb2 (gX13_result h15) fun v17 h18 => if 0 ≤ v17 then (some (v14, h18)) else (some (v17, h18))
theorem eX1_readTerm_j95 (t1 : Int) {h : AH} (hS : Sh S h) : EQ (fX1_readTerm_j95 200 441 t1 h) (gX1_readTerm_j95 t1 h) (fun r => Sh S r.2) := by
  unfold fX1_readTerm_j95 gX1_readTerm_j95
  refine EQ_jgd (show h 441 (-2) = 14 from by rw [k_441 hS]) ?_
  refine EQ_jb2 (eX13_alone t1 hS) (fun v14 h15 r1 => ?_)
  replace r1 : Sh S h15 := r1
  refine EQ_jgd (show h15 200 (-2) = 2 from by rw [k_200 r1]) ?_
  refine EQ_jgd (show h15 (h15 200 57) (-2) = 14 from by rw [r_200_57 r1, k_441 r1]) ?_
  refine EQ_jb2 (by rw [r_200_57 r1]; exact eX13_result r1) (fun v17 h18 r2 => ?_)
  replace r2 : Sh S h18 := r2
  refine EQ_if Iff.rfl (fun c3 => ?_) (fun c3 => ?_)
  · exact EQ_some r2
  · exact EQ_some r2
noncomputable def gX1_readTerm_j66 (a2 : Int) (h : AH) : Option (Int × AH) := if a2 = 0 then (gX1_readTerm_j95 (-1) h) else (if h (h 200 16) 19 = 0 then (gX1_readTerm_j95 (-1) h) else (gX1_readTerm_j95 (h (h 200 16) 2) h))
theorem eX1_readTerm_j66 (a2 : Int) {h : AH} (hS : Sh S h) : EQ (fX1_readTerm_j66 200 a2 h) (gX1_readTerm_j66 a2 h) (fun r => Sh S r.2) := by
  unfold fX1_readTerm_j66 gX1_readTerm_j66
  refine EQ_jgd (show h 200 (-2) = 2 from by rw [k_200 hS]) ?_
  refine EQ_if Iff.rfl (fun c1 => ?_) (fun c1 => ?_)
  · exact (by rw [r_200_57 hS]; exact eX1_readTerm_j95 (-1) hS)
  · refine EQ_jgd (show h 200 (-2) = 2 from by rw [k_200 hS]) ?_
    refine EQ_jgd (show h (h 200 16) (-2) = 5 from by rw [kd_X4 hS (dy_200_16 hS)]) ?_
    refine EQ_if Iff.rfl (fun c2 => ?_) (fun c2 => ?_)
    · exact (by rw [r_200_57 hS]; exact eX1_readTerm_j95 (-1) hS)
    · refine EQ_jgd (show h 200 (-2) = 2 from by rw [k_200 hS]) ?_
      refine EQ_jgd (show h (h 200 16) (-2) = 5 from by rw [kd_X4 hS (dy_200_16 hS)]) ?_
      exact (by rw [r_200_57 hS]; exact eX1_readTerm_j95 (h (h 200 16) 2) hS)
noncomputable def gX1_readTerm (a1 : Int) (a2 : Int) (h : AH) : Option (Int × AH) := jl (jst h 324 0 0) fun h1 => jb2 (gX1_takeTape h1) fun v3 h4 => jb (gX13_begin 440 v3 324 h4) fun h6 => jg (jZ a1) <| jl (jst h6 441 14 a1) fun h7 => if h7 (h7 200 16) 19 = 0 then (gX1_readTerm_j66 a2 h7) else (jb (gX13_parameters (h7 (h7 200 16) 1) (h7 200 16 + 1) h7) fun h10 => gX1_readTerm_j66 a2 h10)
theorem eX1_readTerm (a1 : Int) (a2 : Int) {h : AH} (hS : Sh S h) : EQ (fX1_readTerm 200 a1 a2 h) (gX1_readTerm a1 a2 h) (fun r => Sh S r.2) := by
  unfold fX1_readTerm gX1_readTerm
  refine EQ_jgd (show h 200 (-2) = 2 from by rw [k_200 hS]) ?_
  refine EQ_jgd ⟨(show h (h 200 20) (-2) = 4 from by rw [r_200_20 hS, k_324 hS]), (show 200 ≤ h 200 20 from by rw [r_200_20 hS]; exact (by decide))⟩ ?_
  refine EQ_jl (by rw [r_200_20 hS]) (fun h1 eh1 => ?_)
  have s1 := Sh_of eh1 (Sh_sto hS (a := 324) (i := 0) (by decide +kernel))
  clear eh1
  refine EQ_jgd (show h1 200 (-2) = 2 from by rw [k_200 s1]) ?_
  refine EQ_jgd (show h1 200 (-2) = 2 from by rw [k_200 s1]) ?_
  refine EQ_jgd (show h1 200 (-2) = 2 from by rw [k_200 s1]) ?_
  refine EQ_jb2 (eX1_takeTape s1) (fun v3 h4 r2 => ?_)
  replace r2 : Sh S h4 := r2
  refine EQ_jgd (show h4 200 (-2) = 2 from by rw [k_200 r2]) ?_
  refine EQ_jgd (show h4 (h1 200 57) (-2) = 14 from by rw [r_200_57 s1, k_441 r2]) ?_
  refine EQ_jb (by rw [r_200_57 s1, r_200_54 s1, r_200_20 r2]; exact eX13_begin 440 v3 324 (by unfold isX3; decide) r2) (fun h6 r3 => ?_)
  refine EQ_jgd (show h6 200 (-2) = 2 from by rw [k_200 r3]) ?_
  refine EQ_jg ⟨fun ⟨_, _, x0⟩ => x0, fun x0 => ⟨(show h6 (h6 200 57) (-2) = 14 from by rw [r_200_57 r3, k_441 r3]), (show 200 ≤ h6 200 57 from by rw [r_200_57 r3]; exact (by decide)), x0⟩⟩ (fun g4 => ?_)
  refine EQ_jl (by rw [r_200_57 r3]) (fun h7 eh7 => ?_)
  have s5 := Sh_of eh7 (Sh_sto r3 (a := 441) (i := 14) (by decide +kernel))
  clear eh7
  refine EQ_jgd (show h7 200 (-2) = 2 from by rw [k_200 s5]) ?_
  refine EQ_jgd (show h7 (h7 200 16) (-2) = 5 from by rw [kd_X4 s5 (dy_200_16 s5)]) ?_
  refine EQ_if Iff.rfl (fun c6 => ?_) (fun c6 => ?_)
  · exact (eX1_readTerm_j66 a2 s5)
  · refine EQ_jgd (show h7 200 (-2) = 2 from by rw [k_200 s5]) ?_
    refine EQ_jgd (show h7 200 (-2) = 2 from by rw [k_200 s5]) ?_
    refine EQ_jgd (show h7 (h7 200 16) (-2) = 5 from by rw [kd_X4 s5 (dy_200_16 s5)]) ?_
    refine EQ_jgd (show h7 200 (-2) = 2 from by rw [k_200 s5]) ?_
    refine EQ_jgd (show h7 (h7 200 16) (-2) = 5 from by rw [kd_X4 s5 (dy_200_16 s5)]) ?_
    refine EQ_jgd (show h7 (h7 200 57) (-2) = 14 from by rw [r_200_57 s5, k_441 s5]) ?_
    refine EQ_jb (by rw [r_200_57 s5, ft_X4_0 s5 (dy_200_16 s5)]; exact eX13_parameters (h7 (h7 200 16) 1) (h7 200 16 + 1) s5) (fun h10 r7 => ?_)
    exact (eX1_readTerm_j66 a2 r7)
noncomputable def gX1_priceOf_j162_16 (F : Int → AH → Option (Int)) (a2 : Int) (a3 : Int) (a4 : Int) (h : AH) : Option ((Int × Int) ⊕ (Int)) := jl (w32 (a4 + 1)) fun x16 => some (.inl (a3, x16))
theorem eX1_priceOf_j162_16 {F0 : Int → Int → Int → AH → Option (Int)} {F : Int → AH → Option (Int)} (hF : ∀ (b_a2 : Int), ∀ {b_h : AH}, Sh S b_h → EQ (F0 200 324 b_a2 b_h) (F b_a2 b_h) (fun _ => True)) (a2 : Int) (a3 : Int) (a4 : Int) {h : AH} (hS : Sh S h) : EQ (fX1_priceOf_j162_16 F0 200 324 a2 a3 a4 h) (gX1_priceOf_j162_16 F a2 a3 a4 h) (Sum.elim (fun _ => True) (fun _ => True)) := by
  unfold fX1_priceOf_j162_16 gX1_priceOf_j162_16
  refine EQ_jl rfl (fun x16 ex16 => ?_)
  clear ex16
  exact EQ_some trivial
noncomputable def gX1_priceOf_j144_16 (F : Int → AH → Option (Int)) (a2 : Int) (a3 : Int) (a4 : Int) (t0 : Int) (h : AH) : Option ((Int × Int) ⊕ (Int)) := if t0 = 0 then (gX1_priceOf_j162_16 F a2 a3 a4 h) else (jg (jI a4 12) <| jl (h (h 200 16 + 5) a4) fun x15 => gX1_priceOf_j162_16 F a2 x15 a4 h)
theorem eX1_priceOf_j144_16 {F0 : Int → Int → Int → AH → Option (Int)} {F : Int → AH → Option (Int)} (hF : ∀ (b_a2 : Int), ∀ {b_h : AH}, Sh S b_h → EQ (F0 200 324 b_a2 b_h) (F b_a2 b_h) (fun _ => True)) (a2 : Int) (a3 : Int) (a4 : Int) (t0 : Int) {h : AH} (hS : Sh S h) : EQ (fX1_priceOf_j144_16 F0 200 324 a2 a3 a4 t0 h) (gX1_priceOf_j144_16 F a2 a3 a4 t0 h) (Sum.elim (fun _ => True) (fun _ => True)) := by
  unfold fX1_priceOf_j144_16 gX1_priceOf_j144_16
  refine EQ_if Iff.rfl (fun c1 => ?_) (fun c1 => ?_)
  · exact (eX1_priceOf_j162_16 hF a2 a3 a4 hS)
  · refine EQ_jgd (show h 200 (-2) = 2 from by rw [k_200 hS]) ?_
    refine EQ_jgd (show h (h 200 16) (-2) = 5 from by rw [kd_X4 hS (dy_200_16 hS)]) ?_
    refine EQ_jg ⟨fun ⟨_, x0⟩ => (show jI a4 (h (h (h 200 16) 7) (-1)) ↔ jI a4 12 from by rw [ft_X4_7 hS (dy_200_16 hS), la_X4_7 hS (dy_200_16 hS)]).mp x0, fun x0 => ⟨(show h (h (h 200 16) 7) (-2) = 101 from by rw [ft_X4_7 hS (dy_200_16 hS), ka_X4_7 hS (dy_200_16 hS)]), (show jI a4 (h (h (h 200 16) 7) (-1)) ↔ jI a4 12 from by rw [ft_X4_7 hS (dy_200_16 hS), la_X4_7 hS (dy_200_16 hS)]).mpr x0⟩⟩ (fun g2 => ?_)
    refine EQ_jl (by rw [ft_X4_7 hS (dy_200_16 hS)]) (fun x15 ex15 => ?_)
    clear ex15
    exact (eX1_priceOf_j162_16 hF a2 x15 a4 hS)
noncomputable def gX1_priceOf_j47_16 (F : Int → AH → Option (Int)) (a2 : Int) (a3 : Int) (a4 : Int) (t0 : Int) (h : AH) : Option ((Int × Int) ⊕ (Int)) := if t0 = 0 then (jg (jI a2 2200) <| if h 325 a2 = 1 then (jg (jI a4 12) <| if h 327 a2 = h (h 200 16 + 3) a4 then (if h 326 a2 = h (h 200 16 + 4) a4 then (gX1_priceOf_j144_16 F a2 a3 a4 1 h) else (gX1_priceOf_j144_16 F a2 a3 a4 0 h)) else (gX1_priceOf_j144_16 F a2 a3 a4 0 h)) else (gX1_priceOf_j144_16 F a2 a3 a4 0 h)) else (jg (jI a2 2200) <| if h 325 a2 = 2 then (jg (jI a4 12) <| if h 326 a2 = h (h 200 16 + 2) a4 then (gX1_priceOf_j144_16 F a2 a3 a4 1 h) else (gX1_priceOf_j144_16 F a2 a3 a4 0 h)) else (gX1_priceOf_j144_16 F a2 a3 a4 0 h))
theorem eX1_priceOf_j47_16 {F0 : Int → Int → Int → AH → Option (Int)} {F : Int → AH → Option (Int)} (hF : ∀ (b_a2 : Int), ∀ {b_h : AH}, Sh S b_h → EQ (F0 200 324 b_a2 b_h) (F b_a2 b_h) (fun _ => True)) (a2 : Int) (a3 : Int) (a4 : Int) (t0 : Int) {h : AH} (hS : Sh S h) : EQ (fX1_priceOf_j47_16 F0 200 324 a2 a3 a4 t0 h) (gX1_priceOf_j47_16 F a2 a3 a4 t0 h) (Sum.elim (fun _ => True) (fun _ => True)) := by
  unfold fX1_priceOf_j47_16 gX1_priceOf_j47_16
  refine EQ_if Iff.rfl (fun c1 => ?_) (fun c1 => ?_)
  · refine EQ_jgd (show h 324 (-2) = 4 from by rw [k_324 hS]) ?_
    refine EQ_jg ⟨fun ⟨_, x0⟩ => (show jI a2 (h (h 324 1) (-1)) ↔ jI a2 2200 from by rw [r_324_1 hS, l_325 hS]).mp x0, fun x0 => ⟨(show h (h 324 1) (-2) = 101 from by rw [r_324_1 hS, k_325 hS]), (show jI a2 (h (h 324 1) (-1)) ↔ jI a2 2200 from by rw [r_324_1 hS, l_325 hS]).mpr x0⟩⟩ (fun g2 => ?_)
    refine EQ_if (show h (h 324 1) a2 = 1 ↔ h 325 a2 = 1 from by rw [r_324_1 hS]) (fun c3 => ?_) (fun c3 => ?_)
    · refine EQ_jgd (show h 324 (-2) = 4 from by rw [k_324 hS]) ?_
      refine EQ_jgd ⟨(show h (h 324 3) (-2) = 101 from by rw [r_324_3 hS, k_327 hS]), ((show jI a2 (h (h 324 3) (-1)) ↔ jI a2 2200 from by rw [r_324_3 hS, l_327 hS]).mpr g2)⟩ ?_
      refine EQ_jgd (show h 200 (-2) = 2 from by rw [k_200 hS]) ?_
      refine EQ_jgd (show h (h 200 16) (-2) = 5 from by rw [kd_X4 hS (dy_200_16 hS)]) ?_
      refine EQ_jg ⟨fun ⟨_, x0⟩ => (show jI a4 (h (h (h 200 16) 5) (-1)) ↔ jI a4 12 from by rw [ft_X4_5 hS (dy_200_16 hS), la_X4_5 hS (dy_200_16 hS)]).mp x0, fun x0 => ⟨(show h (h (h 200 16) 5) (-2) = 101 from by rw [ft_X4_5 hS (dy_200_16 hS), ka_X4_5 hS (dy_200_16 hS)]), (show jI a4 (h (h (h 200 16) 5) (-1)) ↔ jI a4 12 from by rw [ft_X4_5 hS (dy_200_16 hS), la_X4_5 hS (dy_200_16 hS)]).mpr x0⟩⟩ (fun g4 => ?_)
      refine EQ_if (show h (h 324 3) a2 = h (h (h 200 16) 5) a4 ↔ h 327 a2 = h (h 200 16 + 3) a4 from by rw [r_324_3 hS, ft_X4_5 hS (dy_200_16 hS)]) (fun c5 => ?_) (fun c5 => ?_)
      · refine EQ_jgd (show h 324 (-2) = 4 from by rw [k_324 hS]) ?_
        refine EQ_jgd ⟨(show h (h 324 2) (-2) = 101 from by rw [r_324_2 hS, k_326 hS]), ((show jI a2 (h (h 324 2) (-1)) ↔ jI a2 2200 from by rw [r_324_2 hS, l_326 hS]).mpr g2)⟩ ?_
        refine EQ_jgd (show h 200 (-2) = 2 from by rw [k_200 hS]) ?_
        refine EQ_jgd (show h (h 200 16) (-2) = 5 from by rw [kd_X4 hS (dy_200_16 hS)]) ?_
        refine EQ_jgd ⟨(show h (h (h 200 16) 6) (-2) = 101 from by rw [ft_X4_6 hS (dy_200_16 hS), ka_X4_6 hS (dy_200_16 hS)]), ((show jI a4 (h (h (h 200 16) 6) (-1)) ↔ jI a4 12 from by rw [ft_X4_6 hS (dy_200_16 hS), la_X4_6 hS (dy_200_16 hS)]).mpr g4)⟩ ?_
        refine EQ_if (show h (h 324 2) a2 = h (h (h 200 16) 6) a4 ↔ h 326 a2 = h (h 200 16 + 4) a4 from by rw [r_324_2 hS, ft_X4_6 hS (dy_200_16 hS)]) (fun c6 => ?_) (fun c6 => ?_)
        · exact (eX1_priceOf_j144_16 hF a2 a3 a4 1 hS)
        · exact (eX1_priceOf_j144_16 hF a2 a3 a4 0 hS)
      · exact (eX1_priceOf_j144_16 hF a2 a3 a4 0 hS)
    · exact (eX1_priceOf_j144_16 hF a2 a3 a4 0 hS)
  · refine EQ_jgd (show h 324 (-2) = 4 from by rw [k_324 hS]) ?_
    refine EQ_jg ⟨fun ⟨_, x0⟩ => (show jI a2 (h (h 324 1) (-1)) ↔ jI a2 2200 from by rw [r_324_1 hS, l_325 hS]).mp x0, fun x0 => ⟨(show h (h 324 1) (-2) = 101 from by rw [r_324_1 hS, k_325 hS]), (show jI a2 (h (h 324 1) (-1)) ↔ jI a2 2200 from by rw [r_324_1 hS, l_325 hS]).mpr x0⟩⟩ (fun g7 => ?_)
    refine EQ_if (show h (h 324 1) a2 = 2 ↔ h 325 a2 = 2 from by rw [r_324_1 hS]) (fun c8 => ?_) (fun c8 => ?_)
    · refine EQ_jgd (show h 324 (-2) = 4 from by rw [k_324 hS]) ?_
      refine EQ_jgd ⟨(show h (h 324 2) (-2) = 101 from by rw [r_324_2 hS, k_326 hS]), ((show jI a2 (h (h 324 2) (-1)) ↔ jI a2 2200 from by rw [r_324_2 hS, l_326 hS]).mpr g7)⟩ ?_
      refine EQ_jgd (show h 200 (-2) = 2 from by rw [k_200 hS]) ?_
      refine EQ_jgd (show h (h 200 16) (-2) = 5 from by rw [kd_X4 hS (dy_200_16 hS)]) ?_
      refine EQ_jg ⟨fun ⟨_, x0⟩ => (show jI a4 (h (h (h 200 16) 4) (-1)) ↔ jI a4 12 from by rw [ft_X4_4 hS (dy_200_16 hS), la_X4_4 hS (dy_200_16 hS)]).mp x0, fun x0 => ⟨(show h (h (h 200 16) 4) (-2) = 101 from by rw [ft_X4_4 hS (dy_200_16 hS), ka_X4_4 hS (dy_200_16 hS)]), (show jI a4 (h (h (h 200 16) 4) (-1)) ↔ jI a4 12 from by rw [ft_X4_4 hS (dy_200_16 hS), la_X4_4 hS (dy_200_16 hS)]).mpr x0⟩⟩ (fun g9 => ?_)
      refine EQ_if (show h (h 324 2) a2 = h (h (h 200 16) 4) a4 ↔ h 326 a2 = h (h 200 16 + 2) a4 from by rw [r_324_2 hS, ft_X4_4 hS (dy_200_16 hS)]) (fun c10 => ?_) (fun c10 => ?_)
      · exact (eX1_priceOf_j144_16 hF a2 a3 a4 1 hS)
      · exact (eX1_priceOf_j144_16 hF a2 a3 a4 0 hS)
    · exact (eX1_priceOf_j144_16 hF a2 a3 a4 0 hS)
noncomputable def gX1_priceOf_b16 (F : Int → AH → Option (Int)) (i2 : Int) (h : AH) (s : Int × Int) : Option ((Int × Int) ⊕ (Int)) := jt2 s fun a3 a4 => if h (h 200 16) 3 ≤ a4 then (some (.inr a3)) else (jg (jI a4 12) <| if h (h 200 16 + 2) a4 = (-1) then (gX1_priceOf_j47_16 F i2 a3 a4 0 h) else (gX1_priceOf_j47_16 F i2 a3 a4 1 h))
theorem eX1_priceOf_b16 {F0 : Int → Int → Int → AH → Option (Int)} {F : Int → AH → Option (Int)} (hF : ∀ (b_a2 : Int), ∀ {b_h : AH}, Sh S b_h → EQ (F0 200 324 b_a2 b_h) (F b_a2 b_h) (fun _ => True)) (i2 : Int) (s : Int × Int) {h : AH} (hS : Sh S h) : EQ (fX1_priceOf_b16 F0 200 324 i2 h s) (gX1_priceOf_b16 F i2 h s) (Sum.elim (fun _ => True) (fun _ => True)) := by
  unfold fX1_priceOf_b16 gX1_priceOf_b16
  obtain ⟨a3, a4⟩ := s
  refine EQ_jt2 ?_
  refine EQ_jgd (show h 200 (-2) = 2 from by rw [k_200 hS]) ?_
  refine EQ_jgd (show h (h 200 16) (-2) = 5 from by rw [kd_X4 hS (dy_200_16 hS)]) ?_
  refine EQ_if Iff.rfl (fun c1 => ?_) (fun c1 => ?_)
  · exact EQ_some trivial
  · refine EQ_jgd (show h 200 (-2) = 2 from by rw [k_200 hS]) ?_
    refine EQ_jgd (show h (h 200 16) (-2) = 5 from by rw [kd_X4 hS (dy_200_16 hS)]) ?_
    refine EQ_jg ⟨fun ⟨_, x0⟩ => (show jI a4 (h (h (h 200 16) 4) (-1)) ↔ jI a4 12 from by rw [ft_X4_4 hS (dy_200_16 hS), la_X4_4 hS (dy_200_16 hS)]).mp x0, fun x0 => ⟨(show h (h (h 200 16) 4) (-2) = 101 from by rw [ft_X4_4 hS (dy_200_16 hS), ka_X4_4 hS (dy_200_16 hS)]), (show jI a4 (h (h (h 200 16) 4) (-1)) ↔ jI a4 12 from by rw [ft_X4_4 hS (dy_200_16 hS), la_X4_4 hS (dy_200_16 hS)]).mpr x0⟩⟩ (fun g2 => ?_)
    refine EQ_if (show h (h (h 200 16) 4) a4 = (-1) ↔ h (h 200 16 + 2) a4 = (-1) from by rw [ft_X4_4 hS (dy_200_16 hS)]) (fun c3 => ?_) (fun c3 => ?_)
    · exact (eX1_priceOf_j47_16 hF i2 a3 a4 0 hS)
    · exact (eX1_priceOf_j47_16 hF i2 a3 a4 1 hS)
noncomputable def gX1_priceOf_l16 (F : Int → AH → Option (Int)) (i2 : Int) (a3 : Int) (a4 : Int) (h : AH) : Option (Int) := jit (gX1_priceOf_b16 F i2 h) (a3, a4)
theorem eX1_priceOf_l16 {F0 : Int → Int → Int → AH → Option (Int)} {F : Int → AH → Option (Int)} (hF : ∀ (b_a2 : Int), ∀ {b_h : AH}, Sh S b_h → EQ (F0 200 324 b_a2 b_h) (F b_a2 b_h) (fun _ => True)) (i2 : Int) (a3 : Int) (a4 : Int) {h : AH} (hS : Sh S h) : EQ (fX1_priceOf_l16 F0 200 324 i2 a3 a4 h) (gX1_priceOf_l16 F i2 a3 a4 h) (fun _ => True) := EQ_jit (I := (fun _ => True)) (fun s _ => eX1_priceOf_b16 hF i2 s hS) trivial
noncomputable def gX1_priceOf_j222_171 (F : Int → AH → Option (Int)) (a2 : Int) (a3 : Int) (a4 : Int) (h : AH) : Option ((Int × Int) ⊕ (Int)) := jl (w32 (a4 + 1)) fun x28 => some (.inl (a3, x28))
theorem eX1_priceOf_j222_171 {F0 : Int → Int → Int → AH → Option (Int)} {F : Int → AH → Option (Int)} (hF : ∀ (b_a2 : Int), ∀ {b_h : AH}, Sh S b_h → EQ (F0 200 324 b_a2 b_h) (F b_a2 b_h) (fun _ => True)) (a2 : Int) (a3 : Int) (a4 : Int) {h : AH} (hS : Sh S h) : EQ (fX1_priceOf_j222_171 F0 200 324 a2 a3 a4 h) (gX1_priceOf_j222_171 F a2 a3 a4 h) (Sum.elim (fun _ => True) (fun _ => True)) := by
  unfold fX1_priceOf_j222_171 gX1_priceOf_j222_171
  refine EQ_jl rfl (fun x28 ex28 => ?_)
  clear ex28
  exact EQ_some trivial
noncomputable def gX1_priceOf_b171 (F : Int → AH → Option (Int)) (i2 : Int) (h : AH) (s : Int × Int) : Option ((Int × Int) ⊕ (Int)) := jt2 s fun a3 a4 => if 3 ≤ a4 then (some (.inr a3)) else (if a3 < 0 then (some (.inr a3)) else (jb (gX3_part 324 i2 a4 h) fun v20 => if 0 ≤ v20 then (jb (gX3_part 324 i2 a4 h) fun v23 => jb (F v23 h) fun v25 => if 0 ≤ v25 then (jl (w32 (a3 + v25)) fun x27 => gX1_priceOf_j222_171 F i2 x27 a4 h) else (gX1_priceOf_j222_171 F i2 (-1) a4 h)) else (gX1_priceOf_j222_171 F i2 a3 a4 h)))
theorem eX1_priceOf_b171 {F0 : Int → Int → Int → AH → Option (Int)} {F : Int → AH → Option (Int)} (hF : ∀ (b_a2 : Int), ∀ {b_h : AH}, Sh S b_h → EQ (F0 200 324 b_a2 b_h) (F b_a2 b_h) (fun _ => True)) (i2 : Int) (s : Int × Int) {h : AH} (hS : Sh S h) : EQ (fX1_priceOf_b171 F0 200 324 i2 h s) (gX1_priceOf_b171 F i2 h s) (Sum.elim (fun _ => True) (fun _ => True)) := by
  unfold fX1_priceOf_b171 gX1_priceOf_b171
  obtain ⟨a3, a4⟩ := s
  refine EQ_jt2 ?_
  refine EQ_if Iff.rfl (fun c1 => ?_) (fun c1 => ?_)
  · exact EQ_some trivial
  · refine EQ_if Iff.rfl (fun c2 => ?_) (fun c2 => ?_)
    · exact EQ_some trivial
    · refine EQ_jgd (show h 324 (-2) = 4 from by rw [k_324 hS]) ?_
      refine EQ_jb (eX3_part 324 i2 a4 (by unfold isX3; decide) hS) (fun v20 r3 => ?_)
      refine EQ_if Iff.rfl (fun c4 => ?_) (fun c4 => ?_)
      · refine EQ_jgd (show h 324 (-2) = 4 from by rw [k_324 hS]) ?_
        refine EQ_jb (eX3_part 324 i2 a4 (by unfold isX3; decide) hS) (fun v23 r5 => ?_)
        refine EQ_jgd (show h 200 (-2) = 2 from by rw [k_200 hS]) ?_
        refine EQ_jb (hF v23 hS) (fun v25 r6 => ?_)
        refine EQ_if Iff.rfl (fun c7 => ?_) (fun c7 => ?_)
        · refine EQ_jl rfl (fun x27 ex27 => ?_)
          clear ex27
          exact (eX1_priceOf_j222_171 hF i2 x27 a4 hS)
        · exact (eX1_priceOf_j222_171 hF i2 (-1) a4 hS)
      · exact (eX1_priceOf_j222_171 hF i2 a3 a4 hS)
noncomputable def gX1_priceOf_l171 (F : Int → AH → Option (Int)) (i2 : Int) (a3 : Int) (a4 : Int) (h : AH) : Option (Int) := jit (gX1_priceOf_b171 F i2 h) (a3, a4)
theorem eX1_priceOf_l171 {F0 : Int → Int → Int → AH → Option (Int)} {F : Int → AH → Option (Int)} (hF : ∀ (b_a2 : Int), ∀ {b_h : AH}, Sh S b_h → EQ (F0 200 324 b_a2 b_h) (F b_a2 b_h) (fun _ => True)) (i2 : Int) (a3 : Int) (a4 : Int) {h : AH} (hS : Sh S h) : EQ (fX1_priceOf_l171 F0 200 324 i2 a3 a4 h) (gX1_priceOf_l171 F i2 a3 a4 h) (fun _ => True) := EQ_jit (I := (fun _ => True)) (fun s _ => eX1_priceOf_b171 hF i2 s hS) trivial
noncomputable def gX1_priceOf_ (F : Int → AH → Option (Int)) (a2 : Int) (h : AH) : Option (Int) := jg (jI a2 2200) <| if h 325 a2 = 0 then (some 1) else (jb (gX1_priceOf_l16 F a2 (-1) 0 h) fun o2 => jb (gX1_priceOf_l171 F a2 o2 0 h) fun o4 => some o4)
theorem eX1_priceOf_ {F0 : Int → Int → Int → AH → Option (Int)} {F : Int → AH → Option (Int)} (hF : ∀ (b_a2 : Int), ∀ {b_h : AH}, Sh S b_h → EQ (F0 200 324 b_a2 b_h) (F b_a2 b_h) (fun _ => True)) (a2 : Int) {h : AH} (hS : Sh S h) : EQ (fX1_priceOf_ F0 200 324 a2 h) (gX1_priceOf_ F a2 h) (fun _ => True) := by
  unfold fX1_priceOf_ gX1_priceOf_
  refine EQ_jgd (show h 324 (-2) = 4 from by rw [k_324 hS]) ?_
  refine EQ_jg ⟨fun ⟨_, x0⟩ => (show jI a2 (h (h 324 1) (-1)) ↔ jI a2 2200 from by rw [r_324_1 hS, l_325 hS]).mp x0, fun x0 => ⟨(show h (h 324 1) (-2) = 101 from by rw [r_324_1 hS, k_325 hS]), (show jI a2 (h (h 324 1) (-1)) ↔ jI a2 2200 from by rw [r_324_1 hS, l_325 hS]).mpr x0⟩⟩ (fun g1 => ?_)
  refine EQ_if (show h (h 324 1) a2 = 0 ↔ h 325 a2 = 0 from by rw [r_324_1 hS]) (fun c2 => ?_) (fun c2 => ?_)
  · exact EQ_some trivial
  · refine EQ_jb (eX1_priceOf_l16 hF a2 (-1) 0 hS) (fun o2 r3 => ?_)
    refine EQ_jb (eX1_priceOf_l171 hF a2 o2 0 hS) (fun o4 r4 => ?_)
    exact EQ_some trivial
noncomputable def gX1_priceOfD : Nat → Int → AH → Option (Int)
  | 0 => fun _ _ => none
  | d + 1 => gX1_priceOf_ (gX1_priceOfD d)
theorem eX1_priceOfD : ∀ (d : Nat) (a2 : Int) {h : AH} (hS : Sh S h) , EQ (fX1_priceOfD d 200 324 a2 h) (gX1_priceOfD d a2 h) (fun _ => True) := by
  intro d
  induction d with
  | zero => intro a2 h hS; exact EQ_none
  | succ d ih => intro a2 h hS; exact eX1_priceOf_ ih a2 hS
noncomputable def gX1_priceOf : Int → AH → Option (Int) := gX1_priceOfD 40
theorem eX1_priceOf (a2 : Int) {h : AH} (hS : Sh S h) : EQ (fX1_priceOf 200 324 a2 h) (gX1_priceOf a2 h) (fun _ => True) := eX1_priceOfD 40 a2 hS
noncomputable def gX1_isLikeNow_j48_4 (a1 : Int) (a3 : Int) (t0 : Int) (h : AH) : Option ((Int × Int) ⊕ (Int)) := jl (w32 (a3 + 1)) fun x6 => some (.inl (t0, x6))
theorem eX1_isLikeNow_j48_4 (a1 : Int) (a3 : Int) (t0 : Int) {h : AH} (hS : Sh S h) : EQ (fX1_isLikeNow_j48_4 200 a1 a3 t0 h) (gX1_isLikeNow_j48_4 a1 a3 t0 h) (Sum.elim (fun _ => True) (fun _ => True)) := by
  unfold fX1_isLikeNow_j48_4 gX1_isLikeNow_j48_4
  refine EQ_jl rfl (fun x6 ex6 => ?_)
  clear ex6
  exact EQ_some trivial
noncomputable def gX1_isLikeNow_b4 (i1 : Int) (h : AH) (s : Int × Int) : Option ((Int × Int) ⊕ (Int)) := jt2 s fun a2 a3 => if h (h 200 16) 18 ≤ a3 then (some (.inr a2)) else (if a2 = 0 then (some (.inr a2)) else (jg (jI (w32 (w32 (i1 * 256) + a3)) 30976) <| jg (jI a3 256) <| if h 312 (w32 (w32 (i1 * 256) + a3)) = h 323 a3 then (gX1_isLikeNow_j48_4 i1 a3 1 h) else (gX1_isLikeNow_j48_4 i1 a3 0 h)))
theorem eX1_isLikeNow_b4 (i1 : Int) (s : Int × Int) {h : AH} (hS : Sh S h) : EQ (fX1_isLikeNow_b4 200 i1 h s) (gX1_isLikeNow_b4 i1 h s) (Sum.elim (fun _ => True) (fun _ => True)) := by
  unfold fX1_isLikeNow_b4 gX1_isLikeNow_b4
  obtain ⟨a2, a3⟩ := s
  refine EQ_jt2 ?_
  refine EQ_jgd (show h 200 (-2) = 2 from by rw [k_200 hS]) ?_
  refine EQ_jgd (show h (h 200 16) (-2) = 5 from by rw [kd_X4 hS (dy_200_16 hS)]) ?_
  refine EQ_if Iff.rfl (fun c1 => ?_) (fun c1 => ?_)
  · exact EQ_some trivial
  · refine EQ_if Iff.rfl (fun c2 => ?_) (fun c2 => ?_)
    · exact EQ_some trivial
    · refine EQ_jgd (show h 200 (-2) = 2 from by rw [k_200 hS]) ?_
      refine EQ_jgd (show h (h 200 18) (-2) = 6 from by rw [r_200_18 hS, k_307 hS]) ?_
      refine EQ_jg ⟨fun ⟨_, x0⟩ => (show jI (w32 (w32 (i1 * 256) + a3)) (h (h (h 200 18) 5) (-1)) ↔ jI (w32 (w32 (i1 * 256) + a3)) 30976 from by rw [r_200_18 hS, r_307_5 hS, l_312 hS]).mp x0, fun x0 => ⟨(show h (h (h 200 18) 5) (-2) = 101 from by rw [r_200_18 hS, r_307_5 hS, k_312 hS]), (show jI (w32 (w32 (i1 * 256) + a3)) (h (h (h 200 18) 5) (-1)) ↔ jI (w32 (w32 (i1 * 256) + a3)) 30976 from by rw [r_200_18 hS, r_307_5 hS, l_312 hS]).mpr x0⟩⟩ (fun g3 => ?_)
      refine EQ_jgd (show h 200 (-2) = 2 from by rw [k_200 hS]) ?_
      refine EQ_jg ⟨fun ⟨_, x0⟩ => (show jI a3 (h (h 200 19) (-1)) ↔ jI a3 256 from by rw [r_200_19 hS, l_323 hS]).mp x0, fun x0 => ⟨(show h (h 200 19) (-2) = 101 from by rw [r_200_19 hS, k_323 hS]), (show jI a3 (h (h 200 19) (-1)) ↔ jI a3 256 from by rw [r_200_19 hS, l_323 hS]).mpr x0⟩⟩ (fun g4 => ?_)
      refine EQ_if (show h (h (h 200 18) 5) (w32 (w32 (i1 * 256) + a3)) = h (h 200 19) a3 ↔ h 312 (w32 (w32 (i1 * 256) + a3)) = h 323 a3 from by rw [r_200_18 hS, r_307_5 hS, r_200_19 hS]) (fun c5 => ?_) (fun c5 => ?_)
      · exact (eX1_isLikeNow_j48_4 i1 a3 1 hS)
      · exact (eX1_isLikeNow_j48_4 i1 a3 0 hS)
noncomputable def gX1_isLikeNow_l4 (i1 : Int) (a2 : Int) (a3 : Int) (h : AH) : Option (Int) := jit (gX1_isLikeNow_b4 i1 h) (a2, a3)
theorem eX1_isLikeNow_l4 (i1 : Int) (a2 : Int) (a3 : Int) {h : AH} (hS : Sh S h) : EQ (fX1_isLikeNow_l4 200 i1 a2 a3 h) (gX1_isLikeNow_l4 i1 a2 a3 h) (fun _ => True) := EQ_jit (I := (fun _ => True)) (fun s _ => eX1_isLikeNow_b4 i1 s hS) trivial
noncomputable def gX1_isLikeNow (a1 : Int) (h : AH) : Option (Int) := jb (gX1_isLikeNow_l4 a1 1 0 h) fun o1 => jg (jZ o1) <| some o1
theorem eX1_isLikeNow (a1 : Int) {h : AH} (hS : Sh S h) : EQ (fX1_isLikeNow 200 a1 h) (gX1_isLikeNow a1 h) (fun _ => True) := by
  unfold fX1_isLikeNow gX1_isLikeNow
  refine EQ_jb (eX1_isLikeNow_l4 a1 1 0 hS) (fun o1 r1 => ?_)
  refine EQ_jg Iff.rfl (fun g2 => ?_)
  exact EQ_some trivial
noncomputable def gX1_cheaper_j114_85 (a1 : Int) (a3 : Int) (h : AH) : Option ((Int) ⊕ (Int)) := jl (w32 (a3 + 1)) fun x25 => some (.inl x25)
theorem eX1_cheaper_j114_85 (a1 : Int) (a3 : Int) {h : AH} (hS : Sh S h) : EQ (fX1_cheaper_j114_85 200 a1 a3 h) (gX1_cheaper_j114_85 a1 a3 h) (Sum.elim (fun _ => True) (fun _ => True)) := by
  unfold fX1_cheaper_j114_85 gX1_cheaper_j114_85
  refine EQ_jl rfl (fun x25 ex25 => ?_)
  clear ex25
  exact EQ_some trivial
noncomputable def gX1_cheaper_b85 (i1 : Int) (h : AH) (a3 : Int) : Option ((Int) ⊕ (Int)) := jg (jI a3 121) <| jg (jI i1 2200) <| if h 308 a3 = h 327 i1 then (jb (gX1_isLikeNow a3 h) fun v23 => if v23 = 0 then (gX1_cheaper_j114_85 i1 a3 h) else (some (.inr a3))) else (gX1_cheaper_j114_85 i1 a3 h)
theorem eX1_cheaper_b85 (i1 : Int) (a3 : Int) {h : AH} (hS : Sh S h) : EQ (fX1_cheaper_b85 200 i1 h a3) (gX1_cheaper_b85 i1 h a3) (Sum.elim (fun _ => True) (fun _ => True)) := by
  unfold fX1_cheaper_b85 gX1_cheaper_b85
  refine EQ_jgd (show h 200 (-2) = 2 from by rw [k_200 hS]) ?_
  refine EQ_jgd (show h (h 200 18) (-2) = 6 from by rw [r_200_18 hS, k_307 hS]) ?_
  refine EQ_jg ⟨fun ⟨_, x0⟩ => (show jI a3 (h (h (h 200 18) 1) (-1)) ↔ jI a3 121 from by rw [r_200_18 hS, r_307_1 hS, l_308 hS]).mp x0, fun x0 => ⟨(show h (h (h 200 18) 1) (-2) = 101 from by rw [r_200_18 hS, r_307_1 hS, k_308 hS]), (show jI a3 (h (h (h 200 18) 1) (-1)) ↔ jI a3 121 from by rw [r_200_18 hS, r_307_1 hS, l_308 hS]).mpr x0⟩⟩ (fun g1 => ?_)
  refine EQ_jgd (show h 200 (-2) = 2 from by rw [k_200 hS]) ?_
  refine EQ_jgd (show h (h 200 20) (-2) = 4 from by rw [r_200_20 hS, k_324 hS]) ?_
  refine EQ_jg ⟨fun ⟨_, x0⟩ => (show jI i1 (h (h (h 200 20) 3) (-1)) ↔ jI i1 2200 from by rw [r_200_20 hS, r_324_3 hS, l_327 hS]).mp x0, fun x0 => ⟨(show h (h (h 200 20) 3) (-2) = 101 from by rw [r_200_20 hS, r_324_3 hS, k_327 hS]), (show jI i1 (h (h (h 200 20) 3) (-1)) ↔ jI i1 2200 from by rw [r_200_20 hS, r_324_3 hS, l_327 hS]).mpr x0⟩⟩ (fun g2 => ?_)
  refine EQ_if (show h (h (h 200 18) 1) a3 = h (h (h 200 20) 3) i1 ↔ h 308 a3 = h 327 i1 from by rw [r_200_18 hS, r_307_1 hS, r_200_20 hS, r_324_3 hS]) (fun c3 => ?_) (fun c3 => ?_)
  · refine EQ_jgd (show h 200 (-2) = 2 from by rw [k_200 hS]) ?_
    refine EQ_jb (eX1_isLikeNow a3 hS) (fun v23 r4 => ?_)
    refine EQ_if Iff.rfl (fun c5 => ?_) (fun c5 => ?_)
    · exact (eX1_cheaper_j114_85 i1 a3 hS)
    · exact EQ_some trivial
  · exact (eX1_cheaper_j114_85 i1 a3 hS)
noncomputable def gX1_cheaper_l85 (i1 : Int) (a3 : Int) (h : AH) : Option (Int) := jit (gX1_cheaper_b85 i1 h) a3
theorem eX1_cheaper_l85 (i1 : Int) (a3 : Int) {h : AH} (hS : Sh S h) : EQ (fX1_cheaper_l85 200 i1 a3 h) (gX1_cheaper_l85 i1 a3 h) (fun _ => True) := EQ_jit (I := (fun _ => True)) (fun s _ => eX1_cheaper_b85 i1 s hS) trivial
noncomputable def gX1_cheaper (h : AH) : Option (Int × AH) := if h 200 53 = 0 then (jb2 (gX1_readTerm 0 0 h) fun v3 h4 => if 0 ≤ v3 then (if h4 (h4 200 16) 19 = 0 then (some ((-2), h4)) else (jb (gX1_priceOf v3 h4) fun v8 => if v8 = (-1) then (some ((-2), h4)) else (if v8 ≤ 12 then (jb2 (gX5_grow v8 h4) fun v12 h13 => if v12 = 0 then (some ((-3), h13)) else (jb (gX1_answer 324 v3 h13) fun h16 => jb (gX1_cheaper_l85 v3 0 h16) fun o17 => jb (gX1_becomeFirst o17 h16) fun h20 => jg (jI o17 121) <| some (h20 309 o17, h20))) else (some ((-2), h4))))) else (some (v3, h4))) else (some ((-5), h))
theorem eX1_cheaper {h : AH} (hS : Sh S h) : EQ (fX1_cheaper 200 h) (gX1_cheaper h) (fun r => Sh S r.2) := by
  unfold fX1_cheaper gX1_cheaper
  refine EQ_jgd (show h 200 (-2) = 2 from by rw [k_200 hS]) ?_
  refine EQ_if Iff.rfl (fun c1 => ?_) (fun c1 => ?_)
  · refine EQ_jgd (show h 200 (-2) = 2 from by rw [k_200 hS]) ?_
    refine EQ_jb2 (eX1_readTerm 0 0 hS) (fun v3 h4 r2 => ?_)
    replace r2 : Sh S h4 := r2
    refine EQ_if Iff.rfl (fun c3 => ?_) (fun c3 => ?_)
    · refine EQ_jgd (show h4 200 (-2) = 2 from by rw [k_200 r2]) ?_
      refine EQ_jgd (show h4 (h4 200 16) (-2) = 5 from by rw [kd_X4 r2 (dy_200_16 r2)]) ?_
      refine EQ_if Iff.rfl (fun c4 => ?_) (fun c4 => ?_)
      · exact EQ_some r2
      · refine EQ_jgd (show h4 200 (-2) = 2 from by rw [k_200 r2]) ?_
        refine EQ_jgd (show h4 200 (-2) = 2 from by rw [k_200 r2]) ?_
        refine EQ_jb (by rw [r_200_20 r2]; exact eX1_priceOf v3 r2) (fun v8 r5 => ?_)
        refine EQ_if Iff.rfl (fun c6 => ?_) (fun c6 => ?_)
        · exact EQ_some r2
        · refine EQ_if Iff.rfl (fun c7 => ?_) (fun c7 => ?_)
          · refine EQ_jgd (show h4 200 (-2) = 2 from by rw [k_200 r2]) ?_
            refine EQ_jgd (show h4 (h4 200 18) (-2) = 6 from by rw [r_200_18 r2, k_307 r2]) ?_
            refine EQ_jb2 (by rw [r_200_18 r2]; exact eX5_grow v8 r2) (fun v12 h13 r8 => ?_)
            replace r8 : Sh S h13 := r8
            refine EQ_if Iff.rfl (fun c9 => ?_) (fun c9 => ?_)
            · exact EQ_some r8
            · refine EQ_jgd (show h13 200 (-2) = 2 from by rw [k_200 r8]) ?_
              refine EQ_jgd (show h13 200 (-2) = 2 from by rw [k_200 r8]) ?_
              refine EQ_jb (by rw [r_200_20 r8]; exact eX1_answer 324 v3 (by unfold isX3; decide) r8) (fun h16 r10 => ?_)
              refine EQ_jb (eX1_cheaper_l85 v3 0 r10) (fun o17 r11 => ?_)
              refine EQ_jgd (show h16 200 (-2) = 2 from by rw [k_200 r10]) ?_
              refine EQ_jb (eX1_becomeFirst o17 r10) (fun h20 r12 => ?_)
              refine EQ_jgd (show h20 200 (-2) = 2 from by rw [k_200 r12]) ?_
              refine EQ_jgd (show h20 (h20 200 18) (-2) = 6 from by rw [r_200_18 r12, k_307 r12]) ?_
              refine EQ_jg ⟨fun ⟨_, x0⟩ => (show jI o17 (h20 (h20 (h20 200 18) 2) (-1)) ↔ jI o17 121 from by rw [r_200_18 r12, r_307_2 r12, l_309 r12]).mp x0, fun x0 => ⟨(show h20 (h20 (h20 200 18) 2) (-2) = 101 from by rw [r_200_18 r12, r_307_2 r12, k_309 r12]), (show jI o17 (h20 (h20 (h20 200 18) 2) (-1)) ↔ jI o17 121 from by rw [r_200_18 r12, r_307_2 r12, l_309 r12]).mpr x0⟩⟩ (fun g13 => ?_)
              exact EQ_some' (by rw [r_200_18 r12, r_307_2 r12]) r12
          · exact EQ_some r2
    · exact EQ_some r2
  · exact EQ_some hS
noncomputable def gX1_number_j49_17 (F : Int → Int → AH → Option (Int × AH)) (a2 : Int) (a4 : Int) (a5 : Int) (h : AH) : Option ((Int × Int × AH) ⊕ (Int × AH)) := jl (w32 (a5 + 1)) fun x16 => some (.inl (a4, x16, h))
theorem eX1_number_j49_17 {F0 : Int → Int → Int → Int → AH → Option (Int × AH)} {F : Int → Int → AH → Option (Int × AH)} (hF : ∀ (b_a2 : Int) (b_a3 : Int), ∀ {b_h : AH}, Sh S b_h → EQ (F0 200 324 b_a2 b_a3 b_h) (F b_a2 b_a3 b_h) (fun r => Sh S r.2)) (a2 : Int) (a4 : Int) (a5 : Int) {h : AH} (hS : Sh S h) : EQ (fX1_number_j49_17 F0 200 324 a2 a4 a5 h) (gX1_number_j49_17 F a2 a4 a5 h) (Sum.elim (fun r => Sh S r.2.2) (fun r => Sh S r.2)) := by
  unfold fX1_number_j49_17 gX1_number_j49_17
  refine EQ_jl rfl (fun x16 ex16 => ?_)
  clear ex16
  exact EQ_some hS
noncomputable def gX1_number_b17 (F : Int → Int → AH → Option (Int × AH)) (i2 : Int) (s : Int × Int × AH) : Option ((Int × Int × AH) ⊕ (Int × AH)) := jt3 s fun a4 a5 h => if 3 ≤ a5 then (some (.inr (a4, h))) else (jb (gX3_part 324 i2 a5 h) fun v9 => if v9 < 0 then (gX1_number_j49_17 F i2 a4 a5 h) else (jb (gX3_part 324 i2 a5 h) fun v12 => jb2 (F v12 a4 h) fun v14 h15 => gX1_number_j49_17 F i2 v14 a5 h15))
theorem eX1_number_b17 {F0 : Int → Int → Int → Int → AH → Option (Int × AH)} {F : Int → Int → AH → Option (Int × AH)} (hF : ∀ (b_a2 : Int) (b_a3 : Int), ∀ {b_h : AH}, Sh S b_h → EQ (F0 200 324 b_a2 b_a3 b_h) (F b_a2 b_a3 b_h) (fun r => Sh S r.2)) (i2 : Int) {s : Int × Int × AH} (hS : (fun r => Sh S r.2.2) s) : EQ (fX1_number_b17 F0 200 324 i2 s) (gX1_number_b17 F i2 s) (Sum.elim (fun r => Sh S r.2.2) (fun r => Sh S r.2)) := by
  unfold fX1_number_b17 gX1_number_b17
  obtain ⟨a4, a5, h⟩ := s
  refine EQ_jt3 ?_
  replace hS : Sh S h := hS
  refine EQ_if Iff.rfl (fun c1 => ?_) (fun c1 => ?_)
  · exact EQ_some hS
  · refine EQ_jgd (show h 324 (-2) = 4 from by rw [k_324 hS]) ?_
    refine EQ_jb (eX3_part 324 i2 a5 (by unfold isX3; decide) hS) (fun v9 r2 => ?_)
    refine EQ_if Iff.rfl (fun c3 => ?_) (fun c3 => ?_)
    · exact (eX1_number_j49_17 hF i2 a4 a5 hS)
    · refine EQ_jgd (show h 324 (-2) = 4 from by rw [k_324 hS]) ?_
      refine EQ_jb (eX3_part 324 i2 a5 (by unfold isX3; decide) hS) (fun v12 r4 => ?_)
      refine EQ_jgd (show h 200 (-2) = 2 from by rw [k_200 hS]) ?_
      refine EQ_jb2 (hF v12 a4 hS) (fun v14 h15 r5 => ?_)
      replace r5 : Sh S h15 := r5
      exact (eX1_number_j49_17 hF i2 v14 a5 r5)
noncomputable def gX1_number_l17 (F : Int → Int → AH → Option (Int × AH)) (i2 : Int) (a4 : Int) (a5 : Int) (h : AH) : Option (Int × AH) := jit (gX1_number_b17 F i2) (a4, a5, h)
theorem eX1_number_l17 {F0 : Int → Int → Int → Int → AH → Option (Int × AH)} {F : Int → Int → AH → Option (Int × AH)} (hF : ∀ (b_a2 : Int) (b_a3 : Int), ∀ {b_h : AH}, Sh S b_h → EQ (F0 200 324 b_a2 b_a3 b_h) (F b_a2 b_a3 b_h) (fun r => Sh S r.2)) (i2 : Int) (a4 : Int) (a5 : Int) {h : AH} (hS : Sh S h) : EQ (fX1_number_l17 F0 200 324 i2 a4 a5 h) (gX1_number_l17 F i2 a4 a5 h) (fun r => Sh S r.2) := EQ_jit (I := (fun r => Sh S r.2.2)) (fun s hs => eX1_number_b17 hF i2 hs) hS
noncomputable def gX1_number_ (F : Int → Int → AH → Option (Int × AH)) (a2 : Int) (a3 : Int) (h : AH) : Option (Int × AH) := jl (w32 (a3 + 1)) fun x1 => jg (jI a3 800) <| jl (jst h 340 a3 a2) fun h2 => jb (gX1_number_l17 F a2 x1 0 h2) fun o3 => jt2 o3 fun y5 h6 => some (y5, h6)
theorem eX1_number_ {F0 : Int → Int → Int → Int → AH → Option (Int × AH)} {F : Int → Int → AH → Option (Int × AH)} (hF : ∀ (b_a2 : Int) (b_a3 : Int), ∀ {b_h : AH}, Sh S b_h → EQ (F0 200 324 b_a2 b_a3 b_h) (F b_a2 b_a3 b_h) (fun r => Sh S r.2)) (a2 : Int) (a3 : Int) {h : AH} (hS : Sh S h) : EQ (fX1_number_ F0 200 324 a2 a3 h) (gX1_number_ F a2 a3 h) (fun r => Sh S r.2) := by
  unfold fX1_number_ gX1_number_
  refine EQ_jgd (show h 200 (-2) = 2 from by rw [k_200 hS]) ?_
  refine EQ_jl rfl (fun x1 ex1 => ?_)
  clear ex1
  refine EQ_jg ⟨fun ⟨_, _, x0⟩ => (show jI a3 (h (h 200 30) (-1)) ↔ jI a3 800 from by rw [r_200_30 hS, l_340 hS]).mp x0, fun x0 => ⟨(show h (h 200 30) (-2) = 101 from by rw [r_200_30 hS, k_340 hS]), (show 200 ≤ h 200 30 from by rw [r_200_30 hS]; exact (by decide)), (show jI a3 (h (h 200 30) (-1)) ↔ jI a3 800 from by rw [r_200_30 hS, l_340 hS]).mpr x0⟩⟩ (fun g1 => ?_)
  refine EQ_jl (by rw [r_200_30 hS]) (fun h2 eh2 => ?_)
  have s2 := Sh_of eh2 (Sh_sta hS (by decide +kernel) (jI_nn g1) (fun e => absurd ((k_340 hS).symm.trans e) (by decide)))
  clear eh2
  refine EQ_jb (eX1_number_l17 hF a2 x1 0 s2) (fun o3 r3 => ?_)
  obtain ⟨y5, h6⟩ := o3
  refine EQ_jt2 ?_
  replace r3 : Sh S h6 := r3
  exact EQ_some r3
