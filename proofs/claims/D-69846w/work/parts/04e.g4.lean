set_option maxRecDepth 100000
variable {S : Nat → Nat}
noncomputable def gX14_piece_j144_64 (a1 : Int) (a2 : Int) (a3 : Int) (a4 : Int) (a5 : Int) (h : AH) : Option ((Int × AH) ⊕ (AH)) := jl (w32 (a5 + 1)) fun x61 => some (.inl (x61, h))
theorem eX14_piece_j144_64 (a1 : Int) (a2 : Int) (a3 : Int) (a4 : Int) (a5 : Int) (hT_a1 : isX16 a1) {h : AH} (hS : Sh S h) : EQ (fX14_piece_j144_64 454 a1 a2 a3 a4 a5 h) (gX14_piece_j144_64 a1 a2 a3 a4 a5 h) (Sum.elim (fun r => Sh S r.2) (fun r => Sh S r)) := by
  unfold fX14_piece_j144_64 gX14_piece_j144_64
  refine EQ_jl rfl (fun x61 ex61 => ?_)
  clear ex61
  exact EQ_some hS
noncomputable def gX14_piece_j131_64 (a1 : Int) (a2 : Int) (a3 : Int) (a4 : Int) (a5 : Int) (t0 : Int) (h : AH) : Option ((Int × AH) ⊕ (AH)) := if t0 = 0 then (gX14_piece_j144_64 a1 a2 a3 a4 a5 h) else (jb (gX14_note 3 a2 h) fun h60 => gX14_piece_j144_64 a1 a2 a3 a4 a5 h60)
theorem eX14_piece_j131_64 (a1 : Int) (a2 : Int) (a3 : Int) (a4 : Int) (a5 : Int) (t0 : Int) (hT_a1 : isX16 a1) {h : AH} (hS : Sh S h) : EQ (fX14_piece_j131_64 454 a1 a2 a3 a4 a5 t0 h) (gX14_piece_j131_64 a1 a2 a3 a4 a5 t0 h) (Sum.elim (fun r => Sh S r.2) (fun r => Sh S r)) := by
  unfold fX14_piece_j131_64 gX14_piece_j131_64
  refine EQ_if Iff.rfl (fun c1 => ?_) (fun c1 => ?_)
  · exact (eX14_piece_j144_64 a1 a2 a3 a4 a5 hT_a1 hS)
  · refine EQ_jgd (show h 454 (-2) = 15 from by rw [k_454 hS]) ?_
    refine EQ_jb (eX14_note 3 a2 hS) (fun h60 r2 => ?_)
    exact (eX14_piece_j144_64 a1 a2 a3 a4 a5 hT_a1 r2)
noncomputable def gX14_piece_j97_64 (a1 : Int) (a2 : Int) (a3 : Int) (a4 : Int) (a5 : Int) (h : AH) : Option ((Int × AH) ⊕ (AH)) := if a3 < 0 then (gX14_piece_j131_64 a1 a2 a3 a4 a5 0 h) else (jg (jI a5 13) <| if h (a1 + 2) a5 < 0 then (gX14_piece_j131_64 a1 a2 a3 a4 a5 0 h) else (jb (gX14_isLike a3 (h (a1 + 2) a5) h) fun v56 => if v56 = 0 then (gX14_piece_j131_64 a1 a2 a3 a4 a5 0 h) else (gX14_piece_j131_64 a1 a2 a3 a4 a5 1 h)))
theorem eX14_piece_j97_64 (a1 : Int) (a2 : Int) (a3 : Int) (a4 : Int) (a5 : Int) (hT_a1 : isX16 a1) {h : AH} (hS : Sh S h) : EQ (fX14_piece_j97_64 454 a1 a2 a3 a4 a5 h) (gX14_piece_j97_64 a1 a2 a3 a4 a5 h) (Sum.elim (fun r => Sh S r.2) (fun r => Sh S r)) := by
  unfold fX14_piece_j97_64 gX14_piece_j97_64
  refine EQ_if Iff.rfl (fun c1 => ?_) (fun c1 => ?_)
  · exact (eX14_piece_j131_64 a1 a2 a3 a4 a5 0 hT_a1 hS)
  · refine EQ_jgd (show h a1 (-2) = 17 from by rw [kd_X16 hS hT_a1]) ?_
    refine EQ_jg ⟨fun ⟨_, x0⟩ => (show jI a5 (h (h a1 6) (-1)) ↔ jI a5 13 from by rw [ft_X16_6 hS hT_a1, la_X16_6 hS hT_a1]).mp x0, fun x0 => ⟨(show h (h a1 6) (-2) = 101 from by rw [ft_X16_6 hS hT_a1, ka_X16_6 hS hT_a1]), (show jI a5 (h (h a1 6) (-1)) ↔ jI a5 13 from by rw [ft_X16_6 hS hT_a1, la_X16_6 hS hT_a1]).mpr x0⟩⟩ (fun g2 => ?_)
    refine EQ_if (show h (h a1 6) a5 < 0 ↔ h (a1 + 2) a5 < 0 from by rw [ft_X16_6 hS hT_a1]) (fun c3 => ?_) (fun c3 => ?_)
    · exact (eX14_piece_j131_64 a1 a2 a3 a4 a5 0 hT_a1 hS)
    · refine EQ_jgd (show h a1 (-2) = 17 from by rw [kd_X16 hS hT_a1]) ?_
      refine EQ_jgd ⟨(show h (h a1 6) (-2) = 101 from by rw [ft_X16_6 hS hT_a1, ka_X16_6 hS hT_a1]), ((show jI a5 (h (h a1 6) (-1)) ↔ jI a5 13 from by rw [ft_X16_6 hS hT_a1, la_X16_6 hS hT_a1]).mpr g2)⟩ ?_
      refine EQ_jgd (show h 454 (-2) = 15 from by rw [k_454 hS]) ?_
      refine EQ_jb (by rw [ft_X16_6 hS hT_a1]; exact eX14_isLike a3 (h (a1 + 2) a5) hS) (fun v56 r4 => ?_)
      refine EQ_if Iff.rfl (fun c5 => ?_) (fun c5 => ?_)
      · exact (eX14_piece_j131_64 a1 a2 a3 a4 a5 0 hT_a1 hS)
      · exact (eX14_piece_j131_64 a1 a2 a3 a4 a5 1 hT_a1 hS)
noncomputable def gX14_piece_b64 (i1 : Int) (i2 : Int) (i3 : Int) (i4 : Int) (s : Int × AH) : Option ((Int × AH) ⊕ (AH)) := jt2 s fun a5 h => if h i1 5 ≤ a5 then (some (.inr h)) else (if 12 ≤ a5 then (some (.inr h)) else (if i4 < 0 then (gX14_piece_j97_64 i1 i2 i3 i4 a5 h) else (jg (jI a5 13) <| if i4 = h (i1 + 3) a5 then (gX14_piece_j131_64 i1 i2 i3 i4 a5 1 h) else (gX14_piece_j97_64 i1 i2 i3 i4 a5 h))))
theorem eX14_piece_b64 (i1 : Int) (i2 : Int) (i3 : Int) (i4 : Int) (hT_i1 : isX16 i1) {s : Int × AH} (hS : (fun r => Sh S r.2) s) : EQ (fX14_piece_b64 454 i1 i2 i3 i4 s) (gX14_piece_b64 i1 i2 i3 i4 s) (Sum.elim (fun r => Sh S r.2) (fun r => Sh S r)) := by
  unfold fX14_piece_b64 gX14_piece_b64
  obtain ⟨a5, h⟩ := s
  refine EQ_jt2 ?_
  replace hS : Sh S h := hS
  refine EQ_jgd (show h i1 (-2) = 17 from by rw [kd_X16 hS hT_i1]) ?_
  refine EQ_if Iff.rfl (fun c1 => ?_) (fun c1 => ?_)
  · exact EQ_some hS
  · refine EQ_if Iff.rfl (fun c2 => ?_) (fun c2 => ?_)
    · exact EQ_some hS
    · refine EQ_if Iff.rfl (fun c3 => ?_) (fun c3 => ?_)
      · exact (eX14_piece_j97_64 i1 i2 i3 i4 a5 hT_i1 hS)
      · refine EQ_jgd (show h i1 (-2) = 17 from by rw [kd_X16 hS hT_i1]) ?_
        refine EQ_jg ⟨fun ⟨_, x0⟩ => (show jI a5 (h (h i1 7) (-1)) ↔ jI a5 13 from by rw [ft_X16_7 hS hT_i1, la_X16_7 hS hT_i1]).mp x0, fun x0 => ⟨(show h (h i1 7) (-2) = 101 from by rw [ft_X16_7 hS hT_i1, ka_X16_7 hS hT_i1]), (show jI a5 (h (h i1 7) (-1)) ↔ jI a5 13 from by rw [ft_X16_7 hS hT_i1, la_X16_7 hS hT_i1]).mpr x0⟩⟩ (fun g4 => ?_)
        refine EQ_if (show i4 = h (h i1 7) a5 ↔ i4 = h (i1 + 3) a5 from by rw [ft_X16_7 hS hT_i1]) (fun c5 => ?_) (fun c5 => ?_)
        · exact (eX14_piece_j131_64 i1 i2 i3 i4 a5 1 hT_i1 hS)
        · exact (eX14_piece_j97_64 i1 i2 i3 i4 a5 hT_i1 hS)
noncomputable def gX14_piece_l64 (i1 : Int) (i2 : Int) (i3 : Int) (i4 : Int) (a5 : Int) (h : AH) : Option (AH) := jit (gX14_piece_b64 i1 i2 i3 i4) (a5, h)
theorem eX14_piece_l64 (i1 : Int) (i2 : Int) (i3 : Int) (i4 : Int) (a5 : Int) (hT_i1 : isX16 i1) {h : AH} (hS : Sh S h) : EQ (fX14_piece_l64 454 i1 i2 i3 i4 a5 h) (gX14_piece_l64 i1 i2 i3 i4 a5 h) (fun r => Sh S r) := EQ_jit (I := (fun r => Sh S r.2)) (fun s hs => eX14_piece_b64 i1 i2 i3 i4 hT_i1 hs) hS
noncomputable def gX14_piece_j61 (a1 : Int) (a2 : Int) (a3 : Int) (a4 : Int) (h : AH) : Option (Int × AH) := jb (gX14_piece_l64 a1 a2 a3 a4 0 h) fun o23 => gX14_piece_j150 a1 a3 a4 o23
theorem eX14_piece_j61 (a1 : Int) (a2 : Int) (a3 : Int) (a4 : Int) (hT_a1 : isX16 a1) {h : AH} (hS : Sh S h) : EQ (fX14_piece_j61 454 a1 a2 a3 a4 h) (gX14_piece_j61 a1 a2 a3 a4 h) (fun r => Sh S r.2) := by
  unfold fX14_piece_j61 gX14_piece_j61
  refine EQ_jb (eX14_piece_l64 a1 a2 a3 a4 0 hT_a1 hS) (fun o23 r1 => ?_)
  exact (eX14_piece_j150 a1 a3 a4 hT_a1 r1)
noncomputable def gX14_piece_j20 (a1 : Int) (a2 : Int) (h : AH) : Option (Int × AH) := jb (gX14_isValue h) fun v6 => if v6 = 0 then (jb3 (gX14_takeName h) fun t9 v10 h11 => jq t9 (some (t9, h11)) <| jb (gX14_actOf v10 h11) fun v14 => if 0 ≤ v14 then (gX14_piece_j61 a1 a2 (-1) v14 h11) else (jb (gX14_note 2 a2 h11) fun h17 => gX14_piece_j61 a1 a2 (-1) v14 h17)) else (jb3 (gX14_takeValue h) fun t19 v20 h21 => jq t19 (some (t19, h21)) <| gX14_piece_j61 a1 a2 v20 (-1) h21)
theorem eX14_piece_j20 (a1 : Int) (a2 : Int) (hT_a1 : isX16 a1) {h : AH} (hS : Sh S h) : EQ (fX14_piece_j20 454 a1 a2 h) (gX14_piece_j20 a1 a2 h) (fun r => Sh S r.2) := by
  unfold fX14_piece_j20 gX14_piece_j20
  refine EQ_jgd (show h 454 (-2) = 15 from by rw [k_454 hS]) ?_
  refine EQ_jb (eX14_isValue hS) (fun v6 r1 => ?_)
  refine EQ_if Iff.rfl (fun c2 => ?_) (fun c2 => ?_)
  · refine EQ_jgd (show h 454 (-2) = 15 from by rw [k_454 hS]) ?_
    refine EQ_jb3 (eX14_takeName hS) (fun t9 v10 h11 r3 => ?_)
    replace r3 : Sh S h11 := r3
    refine EQ_jq (fun _ => ?_) (fun _ => ?_)
    · exact EQ_some r3
    · refine EQ_jgd (show h11 454 (-2) = 15 from by rw [k_454 r3]) ?_
      refine EQ_jb (eX14_actOf v10 r3) (fun v14 r4 => ?_)
      refine EQ_if Iff.rfl (fun c5 => ?_) (fun c5 => ?_)
      · exact (eX14_piece_j61 a1 a2 (-1) v14 hT_a1 r3)
      · refine EQ_jgd (show h11 454 (-2) = 15 from by rw [k_454 r3]) ?_
        refine EQ_jb (eX14_note 2 a2 r3) (fun h17 r6 => ?_)
        exact (eX14_piece_j61 a1 a2 (-1) v14 hT_a1 r6)
  · refine EQ_jgd (show h 454 (-2) = 15 from by rw [k_454 hS]) ?_
    refine EQ_jb3 (eX14_takeValue hS) (fun t19 v20 h21 r7 => ?_)
    replace r7 : Sh S h21 := r7
    refine EQ_jq (fun _ => ?_) (fun _ => ?_)
    · exact EQ_some r7
    · exact (eX14_piece_j61 a1 a2 v20 (-1) hT_a1 r7)
noncomputable def gX14_piece (a1 : Int) (h : AH) : Option (Int × AH) := jl (h 454 29) fun x1 => if h a1 5 = 12 then (jb (gX14_note 5 x1 h) fun h4 => gX14_piece_j20 a1 x1 h4) else (gX14_piece_j20 a1 x1 h)
theorem eX14_piece (a1 : Int) (hT_a1 : isX16 a1) {h : AH} (hS : Sh S h) : EQ (fX14_piece 454 a1 h) (gX14_piece a1 h) (fun r => Sh S r.2) := by
  unfold fX14_piece gX14_piece
  refine EQ_jgd (show h 454 (-2) = 15 from by rw [k_454 hS]) ?_
  refine EQ_jl rfl (fun x1 ex1 => ?_)
  clear ex1
  refine EQ_jgd (show h a1 (-2) = 17 from by rw [kd_X16 hS hT_a1]) ?_
  refine EQ_if Iff.rfl (fun c1 => ?_) (fun c1 => ?_)
  · refine EQ_jgd (show h 454 (-2) = 15 from by rw [k_454 hS]) ?_
    refine EQ_jb (eX14_note 5 x1 hS) (fun h4 r2 => ?_)
    exact (eX14_piece_j20 a1 x1 hT_a1 r2)
  · exact (eX14_piece_j20 a1 x1 hT_a1 hS)
noncomputable def gX14_row_j294 (a1 : Int) (h : AH) : Option (Int × AH) := jl (jst h a1 9 (w32 (h a1 9 + 1))) fun h59 => some (0, h59)
theorem eX14_row_j294 (a1 : Int) (hT_a1 : isX16 a1) {h : AH} (hS : Sh S h) : EQ (fX14_row_j294 a1 h) (gX14_row_j294 a1 h) (fun r => Sh S r.2) := by
  unfold fX14_row_j294 gX14_row_j294
  refine EQ_jgd (show h a1 (-2) = 17 from by rw [kd_X16 hS hT_a1]) ?_
  refine EQ_jgd ⟨(show h a1 (-2) = 17 from by rw [kd_X16 hS hT_a1]), (show 200 ≤ a1 from ge_X16 hT_a1)⟩ ?_
  refine EQ_jl rfl (fun h59 eh59 => ?_)
  have s1 := Sh_of eh59 (Sh_sto_X16_9 hS hT_a1)
  clear eh59
  exact EQ_some s1
noncomputable def gX14_row_j273 (a1 : Int) (a3 : Int) (a6 : Int) (h : AH) : Option (Int × AH) := jb2 (gX14_passSign 59 h) fun t53 h55 => jq t53 (some (t53, h55)) <| if a3 = 0 then (gX14_row_j294 a1 h55) else (jg (jI (h55 a1 9) 12) <| jl (jst h55 (a1 + 6) (h55 a1 9) a6) fun h58 => gX14_row_j294 a1 h58)
theorem eX14_row_j273 (a1 : Int) (a3 : Int) (a6 : Int) (hT_a1 : isX16 a1) {h : AH} (hS : Sh S h) : EQ (fX14_row_j273 454 a1 a3 a6 h) (gX14_row_j273 a1 a3 a6 h) (fun r => Sh S r.2) := by
  unfold fX14_row_j273 gX14_row_j273
  refine EQ_jgd (show h 454 (-2) = 15 from by rw [k_454 hS]) ?_
  refine EQ_jb2 (eX14_passSign 59 hS) (fun t53 h55 r1 => ?_)
  replace r1 : Sh S h55 := r1
  refine EQ_jq (fun _ => ?_) (fun _ => ?_)
  · exact EQ_some r1
  · refine EQ_if Iff.rfl (fun c2 => ?_) (fun c2 => ?_)
    · exact (eX14_row_j294 a1 hT_a1 r1)
    · refine EQ_jgd (show h55 a1 (-2) = 17 from by rw [kd_X16 r1 hT_a1]) ?_
      refine EQ_jgd (show h55 a1 (-2) = 17 from by rw [kd_X16 r1 hT_a1]) ?_
      refine EQ_jg ⟨fun ⟨_, _, x0⟩ => (show jI (h55 a1 9) (h55 (h55 a1 11) (-1)) ↔ jI (h55 a1 9) 12 from by rw [ft_X16_11 r1 hT_a1, la_X16_11 r1 hT_a1]).mp x0, fun x0 => ⟨(show h55 (h55 a1 11) (-2) = 101 from by rw [ft_X16_11 r1 hT_a1, ka_X16_11 r1 hT_a1]), (show 200 ≤ h55 a1 11 from by rw [ft_X16_11 r1 hT_a1]; exact gea_X16_11 hT_a1), (show jI (h55 a1 9) (h55 (h55 a1 11) (-1)) ↔ jI (h55 a1 9) 12 from by rw [ft_X16_11 r1 hT_a1, la_X16_11 r1 hT_a1]).mpr x0⟩⟩ (fun g3 => ?_)
      refine EQ_jl (by rw [ft_X16_11 r1 hT_a1]) (fun h58 eh58 => ?_)
      have s4 := Sh_of eh58 (Sh_sta r1 (ara_X16_11 hT_a1) (jI_nn g3) (fun e => absurd ((ka_X16_11 r1 hT_a1).symm.trans e) (by decide)))
      clear eh58
      exact (eX14_row_j294 a1 hT_a1 s4)
noncomputable def gX14_row_j264 (a1 : Int) (a3 : Int) (a7 : Int) (h : AH) : Option (Int × AH) := jg (jI a7 8800) <| jl (h 462 a7) fun x51 => gX14_row_j273 a1 a3 x51 h
theorem eX14_row_j264 (a1 : Int) (a3 : Int) (a7 : Int) (hT_a1 : isX16 a1) {h : AH} (hS : Sh S h) : EQ (fX14_row_j264 454 a1 a3 a7 h) (gX14_row_j264 a1 a3 a7 h) (fun r => Sh S r.2) := by
  unfold fX14_row_j264 gX14_row_j264
  refine EQ_jgd (show h 454 (-2) = 15 from by rw [k_454 hS]) ?_
  refine EQ_jg ⟨fun ⟨_, x0⟩ => (show jI a7 (h (h 454 8) (-1)) ↔ jI a7 8800 from by rw [r_454_8 hS, l_462 hS]).mp x0, fun x0 => ⟨(show h (h 454 8) (-2) = 101 from by rw [r_454_8 hS, k_462 hS]), (show jI a7 (h (h 454 8) (-1)) ↔ jI a7 8800 from by rw [r_454_8 hS, l_462 hS]).mpr x0⟩⟩ (fun g1 => ?_)
  refine EQ_jl (by rw [r_454_8 hS]) (fun x51 ex51 => ?_)
  clear ex51
  exact (eX14_row_j273 a1 a3 x51 hT_a1 hS)
noncomputable def gX14_row_j202 (a1 : Int) (a3 : Int) (a5 : Int) (h : AH) : Option (Int × AH) := jb2 (gX14_next h) fun t30 h32 => jq t30 (some (t30, h32)) <| jb (gX14_isName 3025044 h32) fun v35 => if v35 = 0 then (jb3 (gX14_takeValue h32) fun t38 v39 h40 => jq t38 (some (t38, h40)) <| jl (jst h40 454 17 a5) fun h42 => jg (jI v39 8800) <| if h42 461 v39 = h42 a1 4 then (gX14_row_j264 a1 a3 v39 h42) else (jb (gX14_note 3 (h42 468 v39) h42) fun h45 => gX14_row_j264 a1 a3 v39 h45)) else (jb2 (gX14_next h32) fun t47 h49 => jq t47 (some (t47, h49)) <| gX14_row_j273 a1 a3 (-1) h49)
theorem eX14_row_j202 (a1 : Int) (a3 : Int) (a5 : Int) (hT_a1 : isX16 a1) {h : AH} (hS : Sh S h) : EQ (fX14_row_j202 454 a1 a3 a5 h) (gX14_row_j202 a1 a3 a5 h) (fun r => Sh S r.2) := by
  unfold fX14_row_j202 gX14_row_j202
  refine EQ_jgd (show h 454 (-2) = 15 from by rw [k_454 hS]) ?_
  refine EQ_jb2 (eX14_next hS) (fun t30 h32 r1 => ?_)
  replace r1 : Sh S h32 := r1
  refine EQ_jq (fun _ => ?_) (fun _ => ?_)
  · exact EQ_some r1
  · refine EQ_jgd (show h32 454 (-2) = 15 from by rw [k_454 r1]) ?_
    refine EQ_jb (eX14_isName 3025044 r1) (fun v35 r2 => ?_)
    refine EQ_if Iff.rfl (fun c3 => ?_) (fun c3 => ?_)
    · refine EQ_jgd (show h32 454 (-2) = 15 from by rw [k_454 r1]) ?_
      refine EQ_jb3 (eX14_takeValue r1) (fun t38 v39 h40 r4 => ?_)
      replace r4 : Sh S h40 := r4
      refine EQ_jq (fun _ => ?_) (fun _ => ?_)
      · exact EQ_some r4
      · refine EQ_jgd ⟨(show h40 454 (-2) = 15 from by rw [k_454 r4]), (show (200 : Int) ≤ 454 from (by decide))⟩ ?_
        refine EQ_jl rfl (fun h42 eh42 => ?_)
        have s5 := Sh_of eh42 (Sh_sto r4 (a := 454) (i := 17) (by decide +kernel))
        clear eh42
        refine EQ_jgd (show h42 454 (-2) = 15 from by rw [k_454 s5]) ?_
        refine EQ_jg ⟨fun ⟨_, x0⟩ => (show jI v39 (h42 (h42 454 7) (-1)) ↔ jI v39 8800 from by rw [r_454_7 s5, l_461 s5]).mp x0, fun x0 => ⟨(show h42 (h42 454 7) (-2) = 101 from by rw [r_454_7 s5, k_461 s5]), (show jI v39 (h42 (h42 454 7) (-1)) ↔ jI v39 8800 from by rw [r_454_7 s5, l_461 s5]).mpr x0⟩⟩ (fun g6 => ?_)
        refine EQ_jgd (show h42 a1 (-2) = 17 from by rw [kd_X16 s5 hT_a1]) ?_
        refine EQ_if (show h42 (h42 454 7) v39 = h42 a1 4 ↔ h42 461 v39 = h42 a1 4 from by rw [r_454_7 s5]) (fun c7 => ?_) (fun c7 => ?_)
        · exact (eX14_row_j264 a1 a3 v39 hT_a1 s5)
        · refine EQ_jgd (show h42 454 (-2) = 15 from by rw [k_454 s5]) ?_
          refine EQ_jgd ⟨(show h42 (h42 454 14) (-2) = 101 from by rw [r_454_14 s5, k_468 s5]), ((show jI v39 (h42 (h42 454 14) (-1)) ↔ jI v39 8800 from by rw [r_454_14 s5, l_468 s5]).mpr g6)⟩ ?_
          refine EQ_jgd (show h42 454 (-2) = 15 from by rw [k_454 s5]) ?_
          refine EQ_jb (by rw [r_454_14 s5]; exact eX14_note 3 (h42 468 v39) s5) (fun h45 r8 => ?_)
          exact (eX14_row_j264 a1 a3 v39 hT_a1 r8)
    · refine EQ_jgd (show h32 454 (-2) = 15 from by rw [k_454 r1]) ?_
      refine EQ_jb2 (eX14_next r1) (fun t47 h49 r9 => ?_)
      replace r9 : Sh S h49 := r9
      refine EQ_jq (fun _ => ?_) (fun _ => ?_)
      · exact EQ_some r9
      · exact (eX14_row_j273 a1 a3 (-1) hT_a1 r9)
noncomputable def gX14_row_j166_82 (a1 : Int) (a2 : Int) (a3 : Int) (a4 : Int) (a5 : Int) (h : AH) : Option ((Int × AH) ⊕ ((Int × AH) ⊕ (Int × AH))) := jl (w32 (a4 + 1)) fun x73 => some (.inl (x73, h))
theorem eX14_row_j166_82 (a1 : Int) (a2 : Int) (a3 : Int) (a4 : Int) (a5 : Int) (hT_a1 : isX16 a1) {h : AH} (hS : Sh S h) : EQ (fX14_row_j166_82 454 a1 a2 a3 a4 a5 h) (gX14_row_j166_82 a1 a2 a3 a4 a5 h) (Sum.elim (fun r => Sh S r.2) (Sum.elim (fun r => Sh S r.2) (fun r => Sh S r.2))) := by
  unfold fX14_row_j166_82 gX14_row_j166_82
  refine EQ_jl rfl (fun x73 ex73 => ?_)
  clear ex73
  exact EQ_some hS
noncomputable def gX14_row_j141_82 (a1 : Int) (a2 : Int) (a3 : Int) (a4 : Int) (a5 : Int) (a6 : Int) (h : AH) : Option ((Int × AH) ⊕ ((Int × AH) ⊕ (Int × AH))) := if a3 = 0 then (gX14_row_j166_82 a1 a2 a3 a4 a5 h) else (jg (jI a6 8800) <| jg (jI (w32 (w32 (3 * h a1 9) + a4)) 36) <| jl (jst h (a1 + 5) (w32 (w32 (3 * h a1 9) + a4)) (h 462 a6)) fun h75 => gX14_row_j166_82 a1 a2 a3 a4 a5 h75)
theorem eX14_row_j141_82 (a1 : Int) (a2 : Int) (a3 : Int) (a4 : Int) (a5 : Int) (a6 : Int) (hT_a1 : isX16 a1) {h : AH} (hS : Sh S h) : EQ (fX14_row_j141_82 454 a1 a2 a3 a4 a5 a6 h) (gX14_row_j141_82 a1 a2 a3 a4 a5 a6 h) (Sum.elim (fun r => Sh S r.2) (Sum.elim (fun r => Sh S r.2) (fun r => Sh S r.2))) := by
  unfold fX14_row_j141_82 gX14_row_j141_82
  refine EQ_if Iff.rfl (fun c1 => ?_) (fun c1 => ?_)
  · exact (eX14_row_j166_82 a1 a2 a3 a4 a5 hT_a1 hS)
  · refine EQ_jgd (show h a1 (-2) = 17 from by rw [kd_X16 hS hT_a1]) ?_
    refine EQ_jgd (show h a1 (-2) = 17 from by rw [kd_X16 hS hT_a1]) ?_
    refine EQ_jgd (show h 454 (-2) = 15 from by rw [k_454 hS]) ?_
    refine EQ_jg ⟨fun ⟨_, x0⟩ => (show jI a6 (h (h 454 8) (-1)) ↔ jI a6 8800 from by rw [r_454_8 hS, l_462 hS]).mp x0, fun x0 => ⟨(show h (h 454 8) (-2) = 101 from by rw [r_454_8 hS, k_462 hS]), (show jI a6 (h (h 454 8) (-1)) ↔ jI a6 8800 from by rw [r_454_8 hS, l_462 hS]).mpr x0⟩⟩ (fun g2 => ?_)
    refine EQ_jg ⟨fun ⟨_, _, x0⟩ => (show jI (w32 (w32 (3 * h a1 9) + a4)) (h (h a1 10) (-1)) ↔ jI (w32 (w32 (3 * h a1 9) + a4)) 36 from by rw [ft_X16_10 hS hT_a1, la_X16_10 hS hT_a1]).mp x0, fun x0 => ⟨(show h (h a1 10) (-2) = 101 from by rw [ft_X16_10 hS hT_a1, ka_X16_10 hS hT_a1]), (show 200 ≤ h a1 10 from by rw [ft_X16_10 hS hT_a1]; exact gea_X16_10 hT_a1), (show jI (w32 (w32 (3 * h a1 9) + a4)) (h (h a1 10) (-1)) ↔ jI (w32 (w32 (3 * h a1 9) + a4)) 36 from by rw [ft_X16_10 hS hT_a1, la_X16_10 hS hT_a1]).mpr x0⟩⟩ (fun g3 => ?_)
    refine EQ_jl (by rw [ft_X16_10 hS hT_a1, r_454_8 hS]) (fun h75 eh75 => ?_)
    have s4 := Sh_of eh75 (Sh_sta hS (ara_X16_10 hT_a1) (jI_nn g3) (fun e => absurd ((ka_X16_10 hS hT_a1).symm.trans e) (by decide)))
    clear eh75
    exact (eX14_row_j166_82 a1 a2 a3 a4 a5 hT_a1 s4)
noncomputable def gX14_row_b82 (i1 : Int) (i2 : Int) (i3 : Int) (i5 : Int) (s : Int × AH) : Option ((Int × AH) ⊕ ((Int × AH) ⊕ (Int × AH))) := jt2 s fun a4 h => jb (gX14_isSign 61 h) fun v61 => if v61 = 0 then (jb3 (gX14_takeValue h) fun t64 v65 h66 => jq t64 (some (.inr (.inr (t64, h66)))) <| jl (jst h66 454 17 i5) fun h68 => if h68 i1 3 ≤ a4 then (gX14_row_j166_82 i1 i2 i3 a4 i5 h68) else (jg (jI v65 8800) <| jg (jI a4 3) <| if h68 461 v65 = h68 (i1 + 1) a4 then (gX14_row_j141_82 i1 i2 i3 a4 i5 v65 h68) else (jb (gX14_note 3 (h68 468 v65) h68) fun h72 => gX14_row_j141_82 i1 i2 i3 a4 i5 v65 h72))) else (some (.inr (.inl (a4, h))))
theorem eX14_row_b82 (i1 : Int) (i2 : Int) (i3 : Int) (i5 : Int) (hT_i1 : isX16 i1) {s : Int × AH} (hS : (fun r => Sh S r.2) s) : EQ (fX14_row_b82 454 i1 i2 i3 i5 s) (gX14_row_b82 i1 i2 i3 i5 s) (Sum.elim (fun r => Sh S r.2) (Sum.elim (fun r => Sh S r.2) (fun r => Sh S r.2))) := by
  unfold fX14_row_b82 gX14_row_b82
  obtain ⟨a4, h⟩ := s
  refine EQ_jt2 ?_
  replace hS : Sh S h := hS
  refine EQ_jgd (show h 454 (-2) = 15 from by rw [k_454 hS]) ?_
  refine EQ_jb (eX14_isSign 61 hS) (fun v61 r1 => ?_)
  refine EQ_if Iff.rfl (fun c2 => ?_) (fun c2 => ?_)
  · refine EQ_jgd (show h 454 (-2) = 15 from by rw [k_454 hS]) ?_
    refine EQ_jb3 (eX14_takeValue hS) (fun t64 v65 h66 r3 => ?_)
    replace r3 : Sh S h66 := r3
    refine EQ_jq (fun _ => ?_) (fun _ => ?_)
    · exact EQ_some r3
    · refine EQ_jgd ⟨(show h66 454 (-2) = 15 from by rw [k_454 r3]), (show (200 : Int) ≤ 454 from (by decide))⟩ ?_
      refine EQ_jl rfl (fun h68 eh68 => ?_)
      have s4 := Sh_of eh68 (Sh_sto r3 (a := 454) (i := 17) (by decide +kernel))
      clear eh68
      refine EQ_jgd (show h68 i1 (-2) = 17 from by rw [kd_X16 s4 hT_i1]) ?_
      refine EQ_if Iff.rfl (fun c5 => ?_) (fun c5 => ?_)
      · exact (eX14_row_j166_82 i1 i2 i3 a4 i5 hT_i1 s4)
      · refine EQ_jgd (show h68 454 (-2) = 15 from by rw [k_454 s4]) ?_
        refine EQ_jg ⟨fun ⟨_, x0⟩ => (show jI v65 (h68 (h68 454 7) (-1)) ↔ jI v65 8800 from by rw [r_454_7 s4, l_461 s4]).mp x0, fun x0 => ⟨(show h68 (h68 454 7) (-2) = 101 from by rw [r_454_7 s4, k_461 s4]), (show jI v65 (h68 (h68 454 7) (-1)) ↔ jI v65 8800 from by rw [r_454_7 s4, l_461 s4]).mpr x0⟩⟩ (fun g6 => ?_)
        refine EQ_jgd (show h68 i1 (-2) = 17 from by rw [kd_X16 s4 hT_i1]) ?_
        refine EQ_jg ⟨fun ⟨_, x0⟩ => (show jI a4 (h68 (h68 i1 2) (-1)) ↔ jI a4 3 from by rw [ft_X16_2 s4 hT_i1, la_X16_2 s4 hT_i1]).mp x0, fun x0 => ⟨(show h68 (h68 i1 2) (-2) = 101 from by rw [ft_X16_2 s4 hT_i1, ka_X16_2 s4 hT_i1]), (show jI a4 (h68 (h68 i1 2) (-1)) ↔ jI a4 3 from by rw [ft_X16_2 s4 hT_i1, la_X16_2 s4 hT_i1]).mpr x0⟩⟩ (fun g7 => ?_)
        refine EQ_if (show h68 (h68 454 7) v65 = h68 (h68 i1 2) a4 ↔ h68 461 v65 = h68 (i1 + 1) a4 from by rw [r_454_7 s4, ft_X16_2 s4 hT_i1]) (fun c8 => ?_) (fun c8 => ?_)
        · exact (eX14_row_j141_82 i1 i2 i3 a4 i5 v65 hT_i1 s4)
        · refine EQ_jgd (show h68 454 (-2) = 15 from by rw [k_454 s4]) ?_
          refine EQ_jgd ⟨(show h68 (h68 454 14) (-2) = 101 from by rw [r_454_14 s4, k_468 s4]), ((show jI v65 (h68 (h68 454 14) (-1)) ↔ jI v65 8800 from by rw [r_454_14 s4, l_468 s4]).mpr g6)⟩ ?_
          refine EQ_jgd (show h68 454 (-2) = 15 from by rw [k_454 s4]) ?_
          refine EQ_jb (by rw [r_454_14 s4]; exact eX14_note 3 (h68 468 v65) s4) (fun h72 r9 => ?_)
          exact (eX14_row_j141_82 i1 i2 i3 a4 i5 v65 hT_i1 r9)
  · exact EQ_some hS
noncomputable def gX14_row_l82 (i1 : Int) (i2 : Int) (i3 : Int) (i5 : Int) (a4 : Int) (h : AH) : Option ((Int × AH) ⊕ (Int × AH)) := jit (gX14_row_b82 i1 i2 i3 i5) (a4, h)
theorem eX14_row_l82 (i1 : Int) (i2 : Int) (i3 : Int) (i5 : Int) (a4 : Int) (hT_i1 : isX16 i1) {h : AH} (hS : Sh S h) : EQ (fX14_row_l82 454 i1 i2 i3 i5 a4 h) (gX14_row_l82 i1 i2 i3 i5 a4 h) (Sum.elim (fun r => Sh S r.2) (fun r => Sh S r.2)) := EQ_jit (I := (fun r => Sh S r.2)) (fun s hs => eX14_row_b82 i1 i2 i3 i5 hT_i1 hs) hS
noncomputable def gX14_row_j76 (a1 : Int) (a2 : Int) (a3 : Int) (a4 : Int) (h : AH) : Option (Int × AH) := jl (h 454 17) fun x13 => jb (gX14_row_l82 a1 a2 a3 x13 a4 h) fun o14 => jm o14 (fun o16 => jt2 o16 fun y18 h19 => if y18 = 0 then (jb2 (gX14_fail 1 (h19 454 29) h19) fun v22 h23 => jg (¬ v22 = 0 ∧ v22 = 472) <| some (472, h23)) else (if y18 = h19 a1 3 then (gX14_row_j202 a1 a3 x13 h19) else (jb (gX14_note 4 a2 h19) fun h26 => gX14_row_j202 a1 a3 x13 h26))) (fun o17 => jt2 o17 fun y27 h28 => jg (¬ y27 = 0) <| some (y27, h28))
theorem eX14_row_j76 (a1 : Int) (a2 : Int) (a3 : Int) (a4 : Int) (hT_a1 : isX16 a1) {h : AH} (hS : Sh S h) : EQ (fX14_row_j76 454 a1 a2 a3 a4 h) (gX14_row_j76 a1 a2 a3 a4 h) (fun r => Sh S r.2) := by
  unfold fX14_row_j76 gX14_row_j76
  refine EQ_jgd (show h 454 (-2) = 15 from by rw [k_454 hS]) ?_
  refine EQ_jl rfl (fun x13 ex13 => ?_)
  clear ex13
  refine EQ_jb (eX14_row_l82 a1 a2 a3 x13 a4 hT_a1 hS) (fun o14 r1 => ?_)
  refine EQ_jm r1 (fun o16 r2 => ?_) (fun o17 r3 => ?_)
  · obtain ⟨y18, h19⟩ := o16
    refine EQ_jt2 ?_
    replace r2 : Sh S h19 := r2
    refine EQ_if Iff.rfl (fun c4 => ?_) (fun c4 => ?_)
    · refine EQ_jgd (show h19 454 (-2) = 15 from by rw [k_454 r2]) ?_
      refine EQ_jgd (show h19 454 (-2) = 15 from by rw [k_454 r2]) ?_
      refine EQ_jb2 (eX14_fail 1 (h19 454 29) r2) (fun v22 h23 r5 => ?_)
      replace r5 : Sh S h23 := r5
      refine EQ_jg ⟨fun ⟨x0, x1⟩ => ⟨x0, (ik_X15 r5).mp x1⟩, fun ⟨x0, x1⟩ => ⟨x0, (ik_X15 r5).mpr x1⟩⟩ (fun g6 => ?_)
      exact EQ_some' (by rw [g6.2]) r5
    · refine EQ_jgd (show h19 a1 (-2) = 17 from by rw [kd_X16 r2 hT_a1]) ?_
      refine EQ_if Iff.rfl (fun c7 => ?_) (fun c7 => ?_)
      · exact (eX14_row_j202 a1 a3 x13 hT_a1 r2)
      · refine EQ_jgd (show h19 454 (-2) = 15 from by rw [k_454 r2]) ?_
        refine EQ_jb (eX14_note 4 a2 r2) (fun h26 r8 => ?_)
        exact (eX14_row_j202 a1 a3 x13 hT_a1 r8)
  · obtain ⟨y27, h28⟩ := o17
    refine EQ_jt2 ?_
    replace r3 : Sh S h28 := r3
    refine EQ_jg Iff.rfl (fun g9 => ?_)
    exact EQ_some r3
noncomputable def gX14_row_b45 (i1 : Int) (i2 : Int) (i3 : Int) (i4 : Int) (s : Int × AH) : Option ((Int × AH) ⊕ (AH)) := jt2 s fun a5 h => if 3 ≤ a5 then (some (.inr h)) else (if i3 = 0 then (some (.inr h)) else (jg (jI (w32 (w32 (3 * h i1 9) + a5)) 36) <| jl (jst h (i1 + 5) (w32 (w32 (3 * h i1 9) + a5)) 0) fun h78 => jl (w32 (a5 + 1)) fun x79 => some (.inl (x79, h78))))
theorem eX14_row_b45 (i1 : Int) (i2 : Int) (i3 : Int) (i4 : Int) (hT_i1 : isX16 i1) {s : Int × AH} (hS : (fun r => Sh S r.2) s) : EQ (fX14_row_b45 454 i1 i2 i3 i4 s) (gX14_row_b45 i1 i2 i3 i4 s) (Sum.elim (fun r => Sh S r.2) (fun r => Sh S r)) := by
  unfold fX14_row_b45 gX14_row_b45
  obtain ⟨a5, h⟩ := s
  refine EQ_jt2 ?_
  replace hS : Sh S h := hS
  refine EQ_if Iff.rfl (fun c1 => ?_) (fun c1 => ?_)
  · exact EQ_some hS
  · refine EQ_if Iff.rfl (fun c2 => ?_) (fun c2 => ?_)
    · exact EQ_some hS
    · refine EQ_jgd (show h i1 (-2) = 17 from by rw [kd_X16 hS hT_i1]) ?_
      refine EQ_jgd (show h i1 (-2) = 17 from by rw [kd_X16 hS hT_i1]) ?_
      refine EQ_jg ⟨fun ⟨_, _, x0⟩ => (show jI (w32 (w32 (3 * h i1 9) + a5)) (h (h i1 10) (-1)) ↔ jI (w32 (w32 (3 * h i1 9) + a5)) 36 from by rw [ft_X16_10 hS hT_i1, la_X16_10 hS hT_i1]).mp x0, fun x0 => ⟨(show h (h i1 10) (-2) = 101 from by rw [ft_X16_10 hS hT_i1, ka_X16_10 hS hT_i1]), (show 200 ≤ h i1 10 from by rw [ft_X16_10 hS hT_i1]; exact gea_X16_10 hT_i1), (show jI (w32 (w32 (3 * h i1 9) + a5)) (h (h i1 10) (-1)) ↔ jI (w32 (w32 (3 * h i1 9) + a5)) 36 from by rw [ft_X16_10 hS hT_i1, la_X16_10 hS hT_i1]).mpr x0⟩⟩ (fun g3 => ?_)
      refine EQ_jl (by rw [ft_X16_10 hS hT_i1]) (fun h78 eh78 => ?_)
      have s4 := Sh_of eh78 (Sh_sta hS (ara_X16_10 hT_i1) (jI_nn g3) (fun e => absurd ((ka_X16_10 hS hT_i1).symm.trans e) (by decide)))
      clear eh78
      refine EQ_jl rfl (fun x79 ex79 => ?_)
      clear ex79
      exact EQ_some s4
noncomputable def gX14_row_l45 (i1 : Int) (i2 : Int) (i3 : Int) (i4 : Int) (a5 : Int) (h : AH) : Option (AH) := jit (gX14_row_b45 i1 i2 i3 i4) (a5, h)
theorem eX14_row_l45 (i1 : Int) (i2 : Int) (i3 : Int) (i4 : Int) (a5 : Int) (hT_i1 : isX16 i1) {h : AH} (hS : Sh S h) : EQ (fX14_row_l45 454 i1 i2 i3 i4 a5 h) (gX14_row_l45 i1 i2 i3 i4 a5 h) (fun r => Sh S r) := EQ_jit (I := (fun r => Sh S r.2)) (fun s hs => eX14_row_b45 i1 i2 i3 i4 hT_i1 hs) hS
noncomputable def gX14_row_j34 (a1 : Int) (a2 : Int) (t0 : Int) (h : AH) : Option (Int × AH) := jb2 (gX14_next h) fun t7 h9 => jq t7 (some (t7, h9)) <| jb (gX14_row_l45 a1 a2 t0 0 0 h9) fun o11 => gX14_row_j76 a1 a2 t0 0 o11
theorem eX14_row_j34 (a1 : Int) (a2 : Int) (t0 : Int) (hT_a1 : isX16 a1) {h : AH} (hS : Sh S h) : EQ (fX14_row_j34 454 a1 a2 t0 h) (gX14_row_j34 a1 a2 t0 h) (fun r => Sh S r.2) := by
  unfold fX14_row_j34 gX14_row_j34
  refine EQ_jgd (show h 454 (-2) = 15 from by rw [k_454 hS]) ?_
  refine EQ_jb2 (eX14_next hS) (fun t7 h9 r1 => ?_)
  replace r1 : Sh S h9 := r1
  refine EQ_jq (fun _ => ?_) (fun _ => ?_)
  · exact EQ_some r1
  · refine EQ_jb (eX14_row_l45 a1 a2 t0 0 0 hT_a1 r1) (fun o11 r2 => ?_)
    exact (eX14_row_j76 a1 a2 t0 0 hT_a1 r2)
noncomputable def gX14_row_j20 (a1 : Int) (a2 : Int) (h : AH) : Option (Int × AH) := if 12 ≤ h a1 9 then (gX14_row_j34 a1 a2 0 h) else (gX14_row_j34 a1 a2 1 h)
theorem eX14_row_j20 (a1 : Int) (a2 : Int) (hT_a1 : isX16 a1) {h : AH} (hS : Sh S h) : EQ (fX14_row_j20 454 a1 a2 h) (gX14_row_j20 a1 a2 h) (fun r => Sh S r.2) := by
  unfold fX14_row_j20 gX14_row_j20
  refine EQ_jgd (show h a1 (-2) = 17 from by rw [kd_X16 hS hT_a1]) ?_
  refine EQ_if Iff.rfl (fun c1 => ?_) (fun c1 => ?_)
  · exact (eX14_row_j34 a1 a2 0 hT_a1 hS)
  · exact (eX14_row_j34 a1 a2 1 hT_a1 hS)
noncomputable def gX14_row (a1 : Int) (h : AH) : Option (Int × AH) := jl (h 454 29) fun x1 => if h a1 9 = 12 then (jb (gX14_note 5 x1 h) fun h4 => gX14_row_j20 a1 x1 h4) else (gX14_row_j20 a1 x1 h)
theorem eX14_row (a1 : Int) (hT_a1 : isX16 a1) {h : AH} (hS : Sh S h) : EQ (fX14_row 454 a1 h) (gX14_row a1 h) (fun r => Sh S r.2) := by
  unfold fX14_row gX14_row
  refine EQ_jgd (show h 454 (-2) = 15 from by rw [k_454 hS]) ?_
  refine EQ_jl rfl (fun x1 ex1 => ?_)
  clear ex1
  refine EQ_jgd (show h a1 (-2) = 17 from by rw [kd_X16 hS hT_a1]) ?_
  refine EQ_if Iff.rfl (fun c1 => ?_) (fun c1 => ?_)
  · refine EQ_jgd (show h 454 (-2) = 15 from by rw [k_454 hS]) ?_
    refine EQ_jb (eX14_note 5 x1 hS) (fun h4 r2 => ?_)
    exact (eX14_row_j20 a1 x1 hT_a1 r2)
  · exact (eX14_row_j20 a1 x1 hT_a1 hS)
noncomputable def gX14_hasWords_j45_17 (a0 : Int) (a2 : Int) (t0 : Int) (h : AH) : Option ((Int × Int) ⊕ (Int)) := jl (w32 (a2 + 1)) fun x7 => some (.inl (t0, x7))
theorem eX14_hasWords_j45_17 (a0 : Int) (a2 : Int) (t0 : Int) (hT_a0 : isX16 a0) {h : AH} (hS : Sh S h) : EQ (fX14_hasWords_j45_17 a0 a2 t0 h) (gX14_hasWords_j45_17 a0 a2 t0 h) (Sum.elim (fun _ => True) (fun _ => True)) := by
  unfold fX14_hasWords_j45_17 gX14_hasWords_j45_17
  refine EQ_jl rfl (fun x7 ex7 => ?_)
  clear ex7
  exact EQ_some trivial
noncomputable def gX14_hasWords_b17 (i0 : Int) (h : AH) (s : Int × Int) : Option ((Int × Int) ⊕ (Int)) := jt2 s fun a1 a2 => if h i0 3 ≤ a2 then (some (.inr a1)) else (if a1 = 0 then (jg (jI a2 3) <| if h (i0 + 1) a2 = 115 then (gX14_hasWords_j45_17 i0 a2 1 h) else (gX14_hasWords_j45_17 i0 a2 0 h)) else (gX14_hasWords_j45_17 i0 a2 1 h))
theorem eX14_hasWords_b17 (i0 : Int) (hT_i0 : isX16 i0) (s : Int × Int) {h : AH} (hS : Sh S h) : EQ (fX14_hasWords_b17 i0 h s) (gX14_hasWords_b17 i0 h s) (Sum.elim (fun _ => True) (fun _ => True)) := by
  unfold fX14_hasWords_b17 gX14_hasWords_b17
  obtain ⟨a1, a2⟩ := s
  refine EQ_jt2 ?_
  refine EQ_jgd (show h i0 (-2) = 17 from by rw [kd_X16 hS hT_i0]) ?_
  refine EQ_if Iff.rfl (fun c1 => ?_) (fun c1 => ?_)
  · exact EQ_some trivial
  · refine EQ_if Iff.rfl (fun c2 => ?_) (fun c2 => ?_)
    · refine EQ_jgd (show h i0 (-2) = 17 from by rw [kd_X16 hS hT_i0]) ?_
      refine EQ_jg ⟨fun ⟨_, x0⟩ => (show jI a2 (h (h i0 2) (-1)) ↔ jI a2 3 from by rw [ft_X16_2 hS hT_i0, la_X16_2 hS hT_i0]).mp x0, fun x0 => ⟨(show h (h i0 2) (-2) = 101 from by rw [ft_X16_2 hS hT_i0, ka_X16_2 hS hT_i0]), (show jI a2 (h (h i0 2) (-1)) ↔ jI a2 3 from by rw [ft_X16_2 hS hT_i0, la_X16_2 hS hT_i0]).mpr x0⟩⟩ (fun g3 => ?_)
      refine EQ_if (show h (h i0 2) a2 = 115 ↔ h (i0 + 1) a2 = 115 from by rw [ft_X16_2 hS hT_i0]) (fun c4 => ?_) (fun c4 => ?_)
      · exact (eX14_hasWords_j45_17 i0 a2 1 hT_i0 hS)
      · exact (eX14_hasWords_j45_17 i0 a2 0 hT_i0 hS)
    · exact (eX14_hasWords_j45_17 i0 a2 1 hT_i0 hS)
noncomputable def gX14_hasWords_l17 (i0 : Int) (a1 : Int) (a2 : Int) (h : AH) : Option (Int) := jit (gX14_hasWords_b17 i0 h) (a1, a2)
theorem eX14_hasWords_l17 (i0 : Int) (a1 : Int) (a2 : Int) (hT_i0 : isX16 i0) {h : AH} (hS : Sh S h) : EQ (fX14_hasWords_l17 i0 a1 a2 h) (gX14_hasWords_l17 i0 a1 a2 h) (fun _ => True) := EQ_jit (I := (fun _ => True)) (fun s _ => eX14_hasWords_b17 i0 hT_i0 s hS) trivial
noncomputable def gX14_hasWords_j14 (a0 : Int) (t0 : Int) (h : AH) : Option (Int) := jb (gX14_hasWords_l17 a0 t0 0 h) fun o2 => jg (jZ o2) <| some o2
theorem eX14_hasWords_j14 (a0 : Int) (t0 : Int) (hT_a0 : isX16 a0) {h : AH} (hS : Sh S h) : EQ (fX14_hasWords_j14 a0 t0 h) (gX14_hasWords_j14 a0 t0 h) (fun _ => True) := by
  unfold fX14_hasWords_j14 gX14_hasWords_j14
  refine EQ_jb (eX14_hasWords_l17 a0 t0 0 hT_a0 hS) (fun o2 r1 => ?_)
  refine EQ_jg Iff.rfl (fun g2 => ?_)
  exact EQ_some trivial
noncomputable def gX14_hasWords (a0 : Int) (h : AH) : Option (Int) := if h a0 4 = 115 then (gX14_hasWords_j14 a0 1 h) else (gX14_hasWords_j14 a0 0 h)
theorem eX14_hasWords (a0 : Int) (hT_a0 : isX16 a0) {h : AH} (hS : Sh S h) : EQ (fX14_hasWords a0 h) (gX14_hasWords a0 h) (fun _ => True) := by
  unfold fX14_hasWords gX14_hasWords
  refine EQ_jgd (show h a0 (-2) = 17 from by rw [kd_X16 hS hT_a0]) ?_
  refine EQ_if Iff.rfl (fun c1 => ?_) (fun c1 => ?_)
  · exact (eX14_hasWords_j14 a0 1 hT_a0 hS)
  · exact (eX14_hasWords_j14 a0 0 hT_a0 hS)
noncomputable def gX14_rowsOf_j56_5 (a0 : Int) (a1 : Int) (a2 : Int) (a5 : Int) (t0 : Int) (h : AH) : Option ((Int × Int) ⊕ (Int)) := jl (w32 (a5 + 1)) fun x7 => some (.inl (t0, x7))
theorem eX14_rowsOf_j56_5 (a0 : Int) (a1 : Int) (a2 : Int) (a5 : Int) (t0 : Int) {h : AH} (hS : Sh S h) : EQ (fX14_rowsOf_j56_5 a0 a1 a2 a5 t0 h) (gX14_rowsOf_j56_5 a0 a1 a2 a5 t0 h) (Sum.elim (fun _ => True) (fun _ => True)) := by
  unfold fX14_rowsOf_j56_5 gX14_rowsOf_j56_5
  refine EQ_jl rfl (fun x7 ex7 => ?_)
  clear ex7
  exact EQ_some trivial
noncomputable def gX14_rowsOf_j52_5 (a0 : Int) (a1 : Int) (a2 : Int) (a5 : Int) (t1 : Int) (t2 : Int) (h : AH) : Option ((Int × Int) ⊕ (Int)) := gX14_rowsOf_j56_5 a0 a1 a2 a5 (min 100000 (w64 (t1 * t2))) h
theorem eX14_rowsOf_j52_5 (a0 : Int) (a1 : Int) (a2 : Int) (a5 : Int) (t1 : Int) (t2 : Int) {h : AH} (hS : Sh S h) : EQ (fX14_rowsOf_j52_5 a0 a1 a2 a5 100000 t1 t2 h) (gX14_rowsOf_j52_5 a0 a1 a2 a5 t1 t2 h) (Sum.elim (fun _ => True) (fun _ => True)) := by
  unfold fX14_rowsOf_j52_5 gX14_rowsOf_j52_5
  exact (eX14_rowsOf_j56_5 a0 a1 a2 a5 (min 100000 (w64 (t1 * t2))) hS)
noncomputable def gX14_rowsOf_b5 (i0 : Int) (i1 : Int) (i2 : Int) (h : AH) (s : Int × Int) : Option ((Int × Int) ⊕ (Int)) := jt2 s fun a3 a5 => if i2 ≤ a5 then (some (.inr a3)) else (jg (h i0 (-2) = 101 ∧ jI (w32 (i1 + a5)) (h i0 (-1))) <| jl (h i0 (w32 (i1 + a5))) fun x4 => if x4 = 115 then (gX14_rowsOf_j56_5 i0 i1 i2 a5 100000 h) else (if x4 = 110 then (gX14_rowsOf_j52_5 i0 i1 i2 a5 a3 16 h) else (gX14_rowsOf_j52_5 i0 i1 i2 a5 a3 2 h)))
theorem eX14_rowsOf_b5 (i0 : Int) (i1 : Int) (i2 : Int) (s : Int × Int) {h : AH} (hS : Sh S h) : EQ (fX14_rowsOf_b5 i0 i1 i2 h s) (gX14_rowsOf_b5 i0 i1 i2 h s) (Sum.elim (fun _ => True) (fun _ => True)) := by
  unfold fX14_rowsOf_b5 gX14_rowsOf_b5
  obtain ⟨a3, a5⟩ := s
  refine EQ_jt2 ?_
  refine EQ_if Iff.rfl (fun c1 => ?_) (fun c1 => ?_)
  · exact EQ_some trivial
  · refine EQ_jg Iff.rfl (fun g2 => ?_)
    refine EQ_jl rfl (fun x4 ex4 => ?_)
    clear ex4
    refine EQ_if Iff.rfl (fun c3 => ?_) (fun c3 => ?_)
    · exact (eX14_rowsOf_j56_5 i0 i1 i2 a5 100000 hS)
    · refine EQ_if Iff.rfl (fun c4 => ?_) (fun c4 => ?_)
      · exact (eX14_rowsOf_j52_5 i0 i1 i2 a5 a3 16 hS)
      · exact (eX14_rowsOf_j52_5 i0 i1 i2 a5 a3 2 hS)
noncomputable def gX14_rowsOf_l5 (i0 : Int) (i1 : Int) (i2 : Int) (a3 : Int) (a5 : Int) (h : AH) : Option (Int) := jit (gX14_rowsOf_b5 i0 i1 i2 h) (a3, a5)
theorem eX14_rowsOf_l5 (i0 : Int) (i1 : Int) (i2 : Int) (a3 : Int) (a5 : Int) {h : AH} (hS : Sh S h) : EQ (fX14_rowsOf_l5 i0 i1 i2 a3 a5 h) (gX14_rowsOf_l5 i0 i1 i2 a3 a5 h) (fun _ => True) := EQ_jit (I := (fun _ => True)) (fun s _ => eX14_rowsOf_b5 i0 i1 i2 s hS) trivial
noncomputable def gX14_rowsOf (a0 : Int) (a1 : Int) (a2 : Int) (h : AH) : Option (Int) := jb (gX14_rowsOf_l5 a0 a1 a2 1 0 h) fun o1 => some (w32 o1)
theorem eX14_rowsOf (a0 : Int) (a1 : Int) (a2 : Int) {h : AH} (hS : Sh S h) : EQ (fX14_rowsOf a0 a1 a2 h) (gX14_rowsOf a0 a1 a2 h) (fun _ => True) := by
  unfold fX14_rowsOf gX14_rowsOf
  refine EQ_jb (eX14_rowsOf_l5 a0 a1 a2 1 0 hS) (fun o1 r1 => ?_)
  exact EQ_some trivial
noncomputable def gX14_nameAt_b2 (i1 : Int) (h : AH) (a3 : Int) : Option ((Int) ⊕ ((Int) ⊕ (Unit))) := if h 454 34 ≤ a3 then (some (.inr (.inr ()))) else (jg (jI a3 3) <| if jcmp (h 474 a3) i1 = 0 then (some (.inr (.inl a3))) else (jl (w32 (a3 + 1)) fun x7 => some (.inl x7)))
theorem eX14_nameAt_b2 (i1 : Int) (a3 : Int) {h : AH} (hS : Sh S h) : EQ (fX14_nameAt_b2 454 i1 h a3) (gX14_nameAt_b2 i1 h a3) (Sum.elim (fun _ => True) (Sum.elim (fun _ => True) (fun _ => True))) := by
  unfold fX14_nameAt_b2 gX14_nameAt_b2
  refine EQ_jgd (show h 454 (-2) = 15 from by rw [k_454 hS]) ?_
  refine EQ_if Iff.rfl (fun c1 => ?_) (fun c1 => ?_)
  · exact EQ_some trivial
  · refine EQ_jgd (show h 454 (-2) = 15 from by rw [k_454 hS]) ?_
    refine EQ_jg ⟨fun ⟨_, x0⟩ => (show jI a3 (h (h 454 32) (-1)) ↔ jI a3 3 from by rw [r_454_32 hS, l_474 hS]).mp x0, fun x0 => ⟨(show h (h 454 32) (-2) = 102 from by rw [r_454_32 hS, k_474 hS]), (show jI a3 (h (h 454 32) (-1)) ↔ jI a3 3 from by rw [r_454_32 hS, l_474 hS]).mpr x0⟩⟩ (fun g2 => ?_)
    refine EQ_if (show jcmp (h (h 454 32) a3) i1 = 0 ↔ jcmp (h 474 a3) i1 = 0 from by rw [r_454_32 hS]) (fun c3 => ?_) (fun c3 => ?_)
    · exact EQ_some trivial
    · refine EQ_jl rfl (fun x7 ex7 => ?_)
      clear ex7
      exact EQ_some trivial
noncomputable def gX14_nameAt_l2 (i1 : Int) (a3 : Int) (h : AH) : Option ((Int) ⊕ (Unit)) := jit (gX14_nameAt_b2 i1 h) a3
theorem eX14_nameAt_l2 (i1 : Int) (a3 : Int) {h : AH} (hS : Sh S h) : EQ (fX14_nameAt_l2 454 i1 a3 h) (gX14_nameAt_l2 i1 a3 h) (Sum.elim (fun _ => True) (fun _ => True)) := EQ_jit (I := (fun _ => True)) (fun s _ => eX14_nameAt_b2 i1 s hS) trivial
noncomputable def gX14_nameAt (a1 : Int) (h : AH) : Option (Int) := jb (gX14_nameAt_l2 a1 0 h) fun o1 => jm o1 (fun o3 => some o3) (fun o4 => some (-1))
theorem eX14_nameAt (a1 : Int) {h : AH} (hS : Sh S h) : EQ (fX14_nameAt 454 a1 h) (gX14_nameAt a1 h) (fun _ => True) := by
  unfold fX14_nameAt gX14_nameAt
  refine EQ_jb (eX14_nameAt_l2 a1 0 hS) (fun o1 r1 => ?_)
  refine EQ_jm r1 (fun o3 r2 => ?_) (fun o4 r3 => ?_)
  · exact EQ_some trivial
  · exact EQ_some trivial
noncomputable def gX14_addKid_j48 (a1 : Int) (h : AH) : Option (AH) := jg (jI a1 8800) <| jl (jst h 465 a1 (w32 (h 465 a1 + 1))) fun h5 => some h5
theorem eX14_addKid_j48 (a1 : Int) {h : AH} (hS : Sh S h) : EQ (fX14_addKid_j48 454 a1 h) (gX14_addKid_j48 a1 h) (fun r => Sh S r) := by
  unfold fX14_addKid_j48 gX14_addKid_j48
  refine EQ_jgd (show h 454 (-2) = 15 from by rw [k_454 hS]) ?_
  refine EQ_jg ⟨fun ⟨_, x0⟩ => (show jI a1 (h (h 454 11) (-1)) ↔ jI a1 8800 from by rw [r_454_11 hS, l_465 hS]).mp x0, fun x0 => ⟨(show h (h 454 11) (-2) = 101 from by rw [r_454_11 hS, k_465 hS]), (show jI a1 (h (h 454 11) (-1)) ↔ jI a1 8800 from by rw [r_454_11 hS, l_465 hS]).mpr x0⟩⟩ (fun g1 => ?_)
  refine EQ_jgd ⟨(show h (h 454 11) (-2) = 101 from by rw [r_454_11 hS, k_465 hS]), (show 200 ≤ h 454 11 from by rw [r_454_11 hS]; exact (by decide)), ((show jI a1 (h (h 454 11) (-1)) ↔ jI a1 8800 from by rw [r_454_11 hS, l_465 hS]).mpr g1)⟩ ?_
  refine EQ_jl (by rw [r_454_11 hS]) (fun h5 eh5 => ?_)
  have s2 := Sh_of eh5 (Sh_sta hS (by decide +kernel) (jI_nn g1) (fun e => absurd ((k_465 hS).symm.trans e) (by decide)))
  clear eh5
  exact EQ_some s2
noncomputable def gX14_addKid (a1 : Int) (a2 : Int) (h : AH) : Option (AH) := jg (jI a1 8800) <| if 3 ≤ h 465 a1 then (jg (jI a2 8800) <| jl (jst h 467 a2 (h 466 a1)) fun h2 => jl (jst h2 466 a1 a2) fun h3 => gX14_addKid_j48 a1 h3) else (jg (jI (w32 (w32 (3 * a1) + h 465 a1)) 26400) <| jl (jst h 464 (w32 (w32 (3 * a1) + h 465 a1)) a2) fun h4 => gX14_addKid_j48 a1 h4)
theorem eX14_addKid (a1 : Int) (a2 : Int) {h : AH} (hS : Sh S h) : EQ (fX14_addKid 454 a1 a2 h) (gX14_addKid a1 a2 h) (fun r => Sh S r) := by
  unfold fX14_addKid gX14_addKid
  refine EQ_jgd (show h 454 (-2) = 15 from by rw [k_454 hS]) ?_
  refine EQ_jg ⟨fun ⟨_, x0⟩ => (show jI a1 (h (h 454 11) (-1)) ↔ jI a1 8800 from by rw [r_454_11 hS, l_465 hS]).mp x0, fun x0 => ⟨(show h (h 454 11) (-2) = 101 from by rw [r_454_11 hS, k_465 hS]), (show jI a1 (h (h 454 11) (-1)) ↔ jI a1 8800 from by rw [r_454_11 hS, l_465 hS]).mpr x0⟩⟩ (fun g1 => ?_)
  refine EQ_if (show 3 ≤ h (h 454 11) a1 ↔ 3 ≤ h 465 a1 from by rw [r_454_11 hS]) (fun c2 => ?_) (fun c2 => ?_)
  · refine EQ_jgd (show h 454 (-2) = 15 from by rw [k_454 hS]) ?_
    refine EQ_jgd (show h 454 (-2) = 15 from by rw [k_454 hS]) ?_
    refine EQ_jgd ⟨(show h (h 454 12) (-2) = 101 from by rw [r_454_12 hS, k_466 hS]), ((show jI a1 (h (h 454 12) (-1)) ↔ jI a1 8800 from by rw [r_454_12 hS, l_466 hS]).mpr g1)⟩ ?_
    refine EQ_jg ⟨fun ⟨_, _, x0⟩ => (show jI a2 (h (h 454 13) (-1)) ↔ jI a2 8800 from by rw [r_454_13 hS, l_467 hS]).mp x0, fun x0 => ⟨(show h (h 454 13) (-2) = 101 from by rw [r_454_13 hS, k_467 hS]), (show 200 ≤ h 454 13 from by rw [r_454_13 hS]; exact (by decide)), (show jI a2 (h (h 454 13) (-1)) ↔ jI a2 8800 from by rw [r_454_13 hS, l_467 hS]).mpr x0⟩⟩ (fun g3 => ?_)
    refine EQ_jl (by rw [r_454_13 hS, r_454_12 hS]) (fun h2 eh2 => ?_)
    have s4 := Sh_of eh2 (Sh_sta hS (by decide +kernel) (jI_nn g3) (fun e => absurd ((k_467 hS).symm.trans e) (by decide)))
    clear eh2
    refine EQ_jgd (show h2 454 (-2) = 15 from by rw [k_454 s4]) ?_
    refine EQ_jgd ⟨(show h2 (h2 454 12) (-2) = 101 from by rw [r_454_12 s4, k_466 s4]), (show 200 ≤ h2 454 12 from by rw [r_454_12 s4]; exact (by decide)), ((show jI a1 (h2 (h2 454 12) (-1)) ↔ jI a1 8800 from by rw [r_454_12 s4, l_466 s4]).mpr g1)⟩ ?_
    refine EQ_jl (by rw [r_454_12 s4]) (fun h3 eh3 => ?_)
    have s5 := Sh_of eh3 (Sh_sta s4 (by decide +kernel) (jI_nn g1) (fun e => absurd ((k_466 s4).symm.trans e) (by decide)))
    clear eh3
    exact (eX14_addKid_j48 a1 s5)
  · refine EQ_jgd (show h 454 (-2) = 15 from by rw [k_454 hS]) ?_
    refine EQ_jgd (show h 454 (-2) = 15 from by rw [k_454 hS]) ?_
    refine EQ_jgd ⟨(show h (h 454 11) (-2) = 101 from by rw [r_454_11 hS, k_465 hS]), ((show jI a1 (h (h 454 11) (-1)) ↔ jI a1 8800 from by rw [r_454_11 hS, l_465 hS]).mpr g1)⟩ ?_
    refine EQ_jg ⟨fun ⟨_, _, x0⟩ => (show jI (w32 (w32 (3 * a1) + h (h 454 11) a1)) (h (h 454 10) (-1)) ↔ jI (w32 (w32 (3 * a1) + h 465 a1)) 26400 from by rw [r_454_11 hS, r_454_10 hS, l_464 hS]).mp x0, fun x0 => ⟨(show h (h 454 10) (-2) = 101 from by rw [r_454_10 hS, k_464 hS]), (show 200 ≤ h 454 10 from by rw [r_454_10 hS]; exact (by decide)), (show jI (w32 (w32 (3 * a1) + h (h 454 11) a1)) (h (h 454 10) (-1)) ↔ jI (w32 (w32 (3 * a1) + h 465 a1)) 26400 from by rw [r_454_11 hS, r_454_10 hS, l_464 hS]).mpr x0⟩⟩ (fun g6 => ?_)
    refine EQ_jl (by rw [r_454_10 hS, r_454_11 hS]) (fun h4 eh4 => ?_)
    have s7 := Sh_of eh4 (Sh_sta hS (by decide +kernel) (jI_nn g6) (fun e => absurd ((k_464 hS).symm.trans e) (by decide)))
    clear eh4
    exact (eX14_addKid_j48 a1 s7)
noncomputable def gX14_takeTerm_b132 (F : Int → Int → AH → Option (Int × Int × AH)) (i1 : Int) (i2 : Int) (i6 : Int) (h : AH) : Option ((AH) ⊕ ((AH) ⊕ (Int × AH))) := jb3 (F (w32 (i1 + 1)) i2 h) fun t58 v59 h60 => jq t58 (some (.inr (.inr (t58, h60)))) <| jb (gX14_addKid i6 v59 h60) fun h63 => jb3 (gX14_skipSign 44 h63) fun t65 v66 h67 => jq t65 (some (.inr (.inr (t65, h67)))) <| if v66 = 0 then (some (.inr (.inl h67))) else (some (.inl h67))
theorem eX14_takeTerm_b132 {F0 : Int → Int → Int → AH → Option (Int × Int × AH)} {F : Int → Int → AH → Option (Int × Int × AH)} (hF : ∀ (b_a1 : Int) (b_a2 : Int), ∀ {b_h : AH}, Sh S b_h → EQ (F0 454 b_a1 b_a2 b_h) (F b_a1 b_a2 b_h) (fun r => Sh S r.2.2)) (i1 : Int) (i2 : Int) (i6 : Int) {h : AH} (hS : Sh S h) : EQ (fX14_takeTerm_b132 F0 454 i1 i2 i6 h) (gX14_takeTerm_b132 F i1 i2 i6 h) (Sum.elim (fun r => Sh S r) (Sum.elim (fun r => Sh S r) (fun r => Sh S r.2))) := by
  unfold fX14_takeTerm_b132 gX14_takeTerm_b132
  refine EQ_jgd (show h 454 (-2) = 15 from by rw [k_454 hS]) ?_
  refine EQ_jb3 (hF (w32 (i1 + 1)) i2 hS) (fun t58 v59 h60 r1 => ?_)
  replace r1 : Sh S h60 := r1
  refine EQ_jq (fun _ => ?_) (fun _ => ?_)
  · exact EQ_some r1
  · refine EQ_jgd (show h60 454 (-2) = 15 from by rw [k_454 r1]) ?_
    refine EQ_jb (eX14_addKid i6 v59 r1) (fun h63 r2 => ?_)
    refine EQ_jgd (show h63 454 (-2) = 15 from by rw [k_454 r2]) ?_
    refine EQ_jb3 (eX14_skipSign 44 r2) (fun t65 v66 h67 r3 => ?_)
    replace r3 : Sh S h67 := r3
    refine EQ_jq (fun _ => ?_) (fun _ => ?_)
    · exact EQ_some r3
    · refine EQ_if Iff.rfl (fun c4 => ?_) (fun c4 => ?_)
      · exact EQ_some r3
      · exact EQ_some r3
noncomputable def gX14_takeTerm_l132 (F : Int → Int → AH → Option (Int × Int × AH)) (i1 : Int) (i2 : Int) (i6 : Int) (h : AH) : Option ((AH) ⊕ (Int × AH)) := jit (gX14_takeTerm_b132 F i1 i2 i6) h
theorem eX14_takeTerm_l132 {F0 : Int → Int → Int → AH → Option (Int × Int × AH)} {F : Int → Int → AH → Option (Int × Int × AH)} (hF : ∀ (b_a1 : Int) (b_a2 : Int), ∀ {b_h : AH}, Sh S b_h → EQ (F0 454 b_a1 b_a2 b_h) (F b_a1 b_a2 b_h) (fun r => Sh S r.2.2)) (i1 : Int) (i2 : Int) (i6 : Int) {h : AH} (hS : Sh S h) : EQ (fX14_takeTerm_l132 F0 454 i1 i2 i6 h) (gX14_takeTerm_l132 F i1 i2 i6 h) (Sum.elim (fun r => Sh S r) (fun r => Sh S r.2)) := EQ_jit (I := (fun r => Sh S r)) (fun s hs => eX14_takeTerm_b132 hF i1 i2 i6 hs) hS
noncomputable def gX14_takeTerm_j92 (F : Int → Int → AH → Option (Int × Int × AH)) (a1 : Int) (a2 : Int) (a3 : Int) (a4 : Int) (t1 : Int) (h : AH) : Option (Int × Int × AH) := jb2 (gX14_node t1 32 0 h) fun v36 h37 => jg (jI v36 8800) <| jl (jst h37 468 v36 a3) fun h38 => jl (jst h38 470 v36 a4) fun h39 => if h39 460 v36 = 2 then (jb2 (gX14_next h39) fun t42 h44 => jq t42 (some (t42, 0, h44)) <| jb (gX14_takeTerm_l132 F a1 a2 v36 h44) fun o46 => jm o46 (fun o48 => jb2 (gX14_passSign 41 o48) fun t51 h53 => jq t51 (some (t51, 0, h53)) <| some (0, v36, h53)) (fun o49 => jt2 o49 fun y55 h56 => jg (¬ y55 = 0) <| some (y55, 0, h56))) else (some (0, v36, h39))
theorem eX14_takeTerm_j92 {F0 : Int → Int → Int → AH → Option (Int × Int × AH)} {F : Int → Int → AH → Option (Int × Int × AH)} (hF : ∀ (b_a1 : Int) (b_a2 : Int), ∀ {b_h : AH}, Sh S b_h → EQ (F0 454 b_a1 b_a2 b_h) (F b_a1 b_a2 b_h) (fun r => Sh S r.2.2)) (a1 : Int) (a2 : Int) (a3 : Int) (a4 : Int) (t1 : Int) {h : AH} (hS : Sh S h) : EQ (fX14_takeTerm_j92 F0 454 a1 a2 a3 a4 454 t1 h) (gX14_takeTerm_j92 F a1 a2 a3 a4 t1 h) (fun r => Sh S r.2.2) := by
  unfold fX14_takeTerm_j92 gX14_takeTerm_j92
  refine EQ_jgd (show h 454 (-2) = 15 from by rw [k_454 hS]) ?_
  refine EQ_jb2 (eX14_node t1 32 0 hS) (fun v36 h37 r1 => ?_)
  replace r1 : Sh S h37 := r1
  refine EQ_jgd (show h37 454 (-2) = 15 from by rw [k_454 r1]) ?_
  refine EQ_jg ⟨fun ⟨_, _, x0⟩ => (show jI v36 (h37 (h37 454 14) (-1)) ↔ jI v36 8800 from by rw [r_454_14 r1, l_468 r1]).mp x0, fun x0 => ⟨(show h37 (h37 454 14) (-2) = 101 from by rw [r_454_14 r1, k_468 r1]), (show 200 ≤ h37 454 14 from by rw [r_454_14 r1]; exact (by decide)), (show jI v36 (h37 (h37 454 14) (-1)) ↔ jI v36 8800 from by rw [r_454_14 r1, l_468 r1]).mpr x0⟩⟩ (fun g2 => ?_)
  refine EQ_jl (by rw [r_454_14 r1]) (fun h38 eh38 => ?_)
  have s3 := Sh_of eh38 (Sh_sta r1 (by decide +kernel) (jI_nn g2) (fun e => absurd ((k_468 r1).symm.trans e) (by decide)))
  clear eh38
  refine EQ_jgd (show h38 454 (-2) = 15 from by rw [k_454 s3]) ?_
  refine EQ_jgd ⟨(show h38 (h38 454 16) (-2) = 102 from by rw [r_454_16 s3, k_470 s3]), (show 200 ≤ h38 454 16 from by rw [r_454_16 s3]; exact (by decide)), ((show jI v36 (h38 (h38 454 16) (-1)) ↔ jI v36 8800 from by rw [r_454_16 s3, l_470 s3]).mpr g2)⟩ ?_
  refine EQ_jl (by rw [r_454_16 s3]) (fun h39 eh39 => ?_)
  have s4 := Sh_of eh39 (Sh_sta s3 (by decide +kernel) (jI_nn g2) (fun e => absurd ((k_470 s3).symm.trans e) (by decide)))
  clear eh39
  refine EQ_jgd (show h39 454 (-2) = 15 from by rw [k_454 s4]) ?_
  refine EQ_jgd ⟨(show h39 (h39 454 6) (-2) = 101 from by rw [r_454_6 s4, k_460 s4]), ((show jI v36 (h39 (h39 454 6) (-1)) ↔ jI v36 8800 from by rw [r_454_6 s4, l_460 s4]).mpr g2)⟩ ?_
  refine EQ_if (show h39 (h39 454 6) v36 = 2 ↔ h39 460 v36 = 2 from by rw [r_454_6 s4]) (fun c5 => ?_) (fun c5 => ?_)
  · refine EQ_jgd (show h39 454 (-2) = 15 from by rw [k_454 s4]) ?_
    refine EQ_jb2 (eX14_next s4) (fun t42 h44 r6 => ?_)
    replace r6 : Sh S h44 := r6
    refine EQ_jq (fun _ => ?_) (fun _ => ?_)
    · exact EQ_some r6
    · refine EQ_jb (eX14_takeTerm_l132 hF a1 a2 v36 r6) (fun o46 r7 => ?_)
      refine EQ_jm r7 (fun o48 r8 => ?_) (fun o49 r9 => ?_)
      · refine EQ_jgd (show o48 454 (-2) = 15 from by rw [k_454 r8]) ?_
        refine EQ_jb2 (eX14_passSign 41 r8) (fun t51 h53 r10 => ?_)
        replace r10 : Sh S h53 := r10
        refine EQ_jq (fun _ => ?_) (fun _ => ?_)
        · exact EQ_some r10
        · exact EQ_some r10
      · obtain ⟨y55, h56⟩ := o49
        refine EQ_jt2 ?_
        replace r9 : Sh S h56 := r9
        refine EQ_jg Iff.rfl (fun g11 => ?_)
        exact EQ_some r9
  · exact EQ_some s4
noncomputable def gX14_takeTerm_j71 (F : Int → Int → AH → Option (Int × Int × AH)) (a1 : Int) (a2 : Int) (a3 : Int) (h : AH) : Option (Int × Int × AH) := jb3 (gX14_takeName h) fun t28 v29 h30 => jq t28 (some (t28, 0, h30)) <| jb (gX14_isSign 40 h30) fun v33 => if v33 = 0 then (gX14_takeTerm_j92 F a1 a2 a3 v29 1 h30) else (gX14_takeTerm_j92 F a1 a2 a3 v29 2 h30)
theorem eX14_takeTerm_j71 {F0 : Int → Int → Int → AH → Option (Int × Int × AH)} {F : Int → Int → AH → Option (Int × Int × AH)} (hF : ∀ (b_a1 : Int) (b_a2 : Int), ∀ {b_h : AH}, Sh S b_h → EQ (F0 454 b_a1 b_a2 b_h) (F b_a1 b_a2 b_h) (fun r => Sh S r.2.2)) (a1 : Int) (a2 : Int) (a3 : Int) {h : AH} (hS : Sh S h) : EQ (fX14_takeTerm_j71 F0 454 a1 a2 a3 h) (gX14_takeTerm_j71 F a1 a2 a3 h) (fun r => Sh S r.2.2) := by
  unfold fX14_takeTerm_j71 gX14_takeTerm_j71
  refine EQ_jgd (show h 454 (-2) = 15 from by rw [k_454 hS]) ?_
  refine EQ_jb3 (eX14_takeName hS) (fun t28 v29 h30 r1 => ?_)
  replace r1 : Sh S h30 := r1
  refine EQ_jq (fun _ => ?_) (fun _ => ?_)
  · exact EQ_some r1
  · refine EQ_jgd (show h30 454 (-2) = 15 from by rw [k_454 r1]) ?_
    refine EQ_jb (eX14_isSign 40 r1) (fun v33 r2 => ?_)
    refine EQ_if Iff.rfl (fun c3 => ?_) (fun c3 => ?_)
    · exact (eX14_takeTerm_j92 hF a1 a2 a3 v29 1 r1)
    · exact (eX14_takeTerm_j92 hF a1 a2 a3 v29 2 r1)
noncomputable def gX14_takeTerm_ (F : Int → Int → AH → Option (Int × Int × AH)) (a1 : Int) (a2 : Int) (h : AH) : Option (Int × Int × AH) := if a1 ≤ 12 then (jb (gX14_isValue h) fun v3 => if v3 = 0 then (jl (h 454 29) fun x5 => if a2 = 0 then (gX14_takeTerm_j71 F a1 a2 x5 h) else (jb (gX14_isSign 63 h) fun v8 => if v8 = 0 then (gX14_takeTerm_j71 F a1 a2 x5 h) else (jb2 (gX14_node 3 110 0 h) fun v11 h12 => jg (jI v11 8800) <| jl (jst h12 468 v11 x5) fun h13 => jb2 (gX14_next h13) fun t15 h17 => jq t15 (some (t15, 0, h17)) <| some (0, v11, h17)))) else (jb3 (gX14_takeValue h) fun t20 v21 h22 => jq t20 (some (t20, 0, h22)) <| some (0, v21, h22))) else (jb2 (gX14_fail 1 (h 454 29) h) fun v25 h26 => jg (¬ v25 = 0 ∧ v25 = 472) <| some (472, 0, h26))
theorem eX14_takeTerm_ {F0 : Int → Int → Int → AH → Option (Int × Int × AH)} {F : Int → Int → AH → Option (Int × Int × AH)} (hF : ∀ (b_a1 : Int) (b_a2 : Int), ∀ {b_h : AH}, Sh S b_h → EQ (F0 454 b_a1 b_a2 b_h) (F b_a1 b_a2 b_h) (fun r => Sh S r.2.2)) (a1 : Int) (a2 : Int) {h : AH} (hS : Sh S h) : EQ (fX14_takeTerm_ F0 454 a1 a2 h) (gX14_takeTerm_ F a1 a2 h) (fun r => Sh S r.2.2) := by
  unfold fX14_takeTerm_ gX14_takeTerm_
  refine EQ_if Iff.rfl (fun c1 => ?_) (fun c1 => ?_)
  · refine EQ_jgd (show h 454 (-2) = 15 from by rw [k_454 hS]) ?_
    refine EQ_jb (eX14_isValue hS) (fun v3 r2 => ?_)
    refine EQ_if Iff.rfl (fun c3 => ?_) (fun c3 => ?_)
    · refine EQ_jgd (show h 454 (-2) = 15 from by rw [k_454 hS]) ?_
      refine EQ_jl rfl (fun x5 ex5 => ?_)
      clear ex5
      refine EQ_if Iff.rfl (fun c4 => ?_) (fun c4 => ?_)
      · exact (eX14_takeTerm_j71 hF a1 a2 x5 hS)
      · refine EQ_jgd (show h 454 (-2) = 15 from by rw [k_454 hS]) ?_
        refine EQ_jb (eX14_isSign 63 hS) (fun v8 r5 => ?_)
        refine EQ_if Iff.rfl (fun c6 => ?_) (fun c6 => ?_)
        · exact (eX14_takeTerm_j71 hF a1 a2 x5 hS)
        · refine EQ_jgd (show h 454 (-2) = 15 from by rw [k_454 hS]) ?_
          refine EQ_jb2 (eX14_node 3 110 0 hS) (fun v11 h12 r7 => ?_)
          replace r7 : Sh S h12 := r7
          refine EQ_jgd (show h12 454 (-2) = 15 from by rw [k_454 r7]) ?_
          refine EQ_jg ⟨fun ⟨_, _, x0⟩ => (show jI v11 (h12 (h12 454 14) (-1)) ↔ jI v11 8800 from by rw [r_454_14 r7, l_468 r7]).mp x0, fun x0 => ⟨(show h12 (h12 454 14) (-2) = 101 from by rw [r_454_14 r7, k_468 r7]), (show 200 ≤ h12 454 14 from by rw [r_454_14 r7]; exact (by decide)), (show jI v11 (h12 (h12 454 14) (-1)) ↔ jI v11 8800 from by rw [r_454_14 r7, l_468 r7]).mpr x0⟩⟩ (fun g8 => ?_)
          refine EQ_jl (by rw [r_454_14 r7]) (fun h13 eh13 => ?_)
          have s9 := Sh_of eh13 (Sh_sta r7 (by decide +kernel) (jI_nn g8) (fun e => absurd ((k_468 r7).symm.trans e) (by decide)))
          clear eh13
          refine EQ_jgd (show h13 454 (-2) = 15 from by rw [k_454 s9]) ?_
          refine EQ_jb2 (eX14_next s9) (fun t15 h17 r10 => ?_)
          replace r10 : Sh S h17 := r10
          refine EQ_jq (fun _ => ?_) (fun _ => ?_)
          · exact EQ_some r10
          · exact EQ_some r10
    · refine EQ_jgd (show h 454 (-2) = 15 from by rw [k_454 hS]) ?_
      refine EQ_jb3 (eX14_takeValue hS) (fun t20 v21 h22 r11 => ?_)
      replace r11 : Sh S h22 := r11
      refine EQ_jq (fun _ => ?_) (fun _ => ?_)
      · exact EQ_some r11
      · exact EQ_some r11
  · refine EQ_jgd (show h 454 (-2) = 15 from by rw [k_454 hS]) ?_
    refine EQ_jgd (show h 454 (-2) = 15 from by rw [k_454 hS]) ?_
    refine EQ_jb2 (eX14_fail 1 (h 454 29) hS) (fun v25 h26 r12 => ?_)
    replace r12 : Sh S h26 := r12
    refine EQ_jg ⟨fun ⟨x0, x1⟩ => ⟨x0, (ik_X15 r12).mp x1⟩, fun ⟨x0, x1⟩ => ⟨x0, (ik_X15 r12).mpr x1⟩⟩ (fun g13 => ?_)
    exact EQ_some' (by rw [g13.2]) r12
noncomputable def gX14_takeTermD : Nat → Int → Int → AH → Option (Int × Int × AH)
  | 0 => fun _ _ _ => none
  | d + 1 => gX14_takeTerm_ (gX14_takeTermD d)
theorem eX14_takeTermD : ∀ (d : Nat) (a1 : Int) (a2 : Int) {h : AH} (hS : Sh S h) , EQ (fX14_takeTermD d 454 a1 a2 h) (gX14_takeTermD d a1 a2 h) (fun r => Sh S r.2.2) := by
  intro d
  induction d with
  | zero => intro a1 a2 h hS; exact EQ_none
  | succ d ih => intro a1 a2 h hS; exact eX14_takeTerm_ ih a1 a2 hS
noncomputable def gX14_takeTerm : Int → Int → AH → Option (Int × Int × AH) := gX14_takeTermD 40
theorem eX14_takeTerm (a1 : Int) (a2 : Int) {h : AH} (hS : Sh S h) : EQ (fX14_takeTerm 454 a1 a2 h) (gX14_takeTerm a1 a2 h) (fun r => Sh S r.2.2) := eX14_takeTermD 40 a1 a2 hS
noncomputable def gX14_mean_j458 (F : Int → Int → AH → Option (Int × AH)) (a1 : Int) (t1 : Int) (t2 : Int) (h : AH) : Option (Int × AH) := jg (jI t1 8800) <| jl (jst h 461 t1 t2) fun h38 => jg (jI a1 8800) <| some (h38 461 a1, h38)
theorem eX14_mean_j458 {F0 : Int → Int → Int → AH → Option (Int × AH)} {F : Int → Int → AH → Option (Int × AH)} (hF : ∀ (b_a1 : Int) (b_a2 : Int), ∀ {b_h : AH}, Sh S b_h → EQ (F0 454 b_a1 b_a2 b_h) (F b_a1 b_a2 b_h) (fun r => Sh S r.2)) (a1 : Int) (t1 : Int) (t2 : Int) {h : AH} (hS : Sh S h) : EQ (fX14_mean_j458 F0 454 a1 461 t1 t2 h) (gX14_mean_j458 F a1 t1 t2 h) (fun r => Sh S r.2) := by
  unfold fX14_mean_j458 gX14_mean_j458
  refine EQ_jg ⟨fun ⟨_, _, x0⟩ => (show jI t1 (h 461 (-1)) ↔ jI t1 8800 from by rw [l_461 hS]).mp x0, fun x0 => ⟨(show h 461 (-2) = 101 from by rw [k_461 hS]), (show (200 : Int) ≤ 461 from (by decide)), (show jI t1 (h 461 (-1)) ↔ jI t1 8800 from by rw [l_461 hS]).mpr x0⟩⟩ (fun g1 => ?_)
  refine EQ_jl rfl (fun h38 eh38 => ?_)
  have s2 := Sh_of eh38 (Sh_sta hS (by decide +kernel) (jI_nn g1) (fun e => absurd ((k_461 hS).symm.trans e) (by decide)))
  clear eh38
  refine EQ_jgd (show h38 454 (-2) = 15 from by rw [k_454 s2]) ?_
  refine EQ_jg ⟨fun ⟨_, x0⟩ => (show jI a1 (h38 (h38 454 7) (-1)) ↔ jI a1 8800 from by rw [r_454_7 s2, l_461 s2]).mp x0, fun x0 => ⟨(show h38 (h38 454 7) (-2) = 101 from by rw [r_454_7 s2, k_461 s2]), (show jI a1 (h38 (h38 454 7) (-1)) ↔ jI a1 8800 from by rw [r_454_7 s2, l_461 s2]).mpr x0⟩⟩ (fun g3 => ?_)
  exact EQ_some' (by rw [r_454_7 s2]) s2
noncomputable def gX14_mean_b399 (F : Int → Int → AH → Option (Int × AH)) (i1 : Int) (i2 : Int) (i3 : Int) (i4 : Int) (i5 : Int) (s : Int × AH) : Option ((Int × AH) ⊕ (AH)) := jt2 s fun a7 h => if a7 < 0 then (some (.inr h)) else (jb2 (F a7 i2 h) fun v41 h42 => jg (jI a7 8800) <| jl (h42 467 a7) fun x43 => some (.inl (x43, h42)))
theorem eX14_mean_b399 {F0 : Int → Int → Int → AH → Option (Int × AH)} {F : Int → Int → AH → Option (Int × AH)} (hF : ∀ (b_a1 : Int) (b_a2 : Int), ∀ {b_h : AH}, Sh S b_h → EQ (F0 454 b_a1 b_a2 b_h) (F b_a1 b_a2 b_h) (fun r => Sh S r.2)) (i1 : Int) (i2 : Int) (i3 : Int) (i4 : Int) (i5 : Int) {s : Int × AH} (hS : (fun r => Sh S r.2) s) : EQ (fX14_mean_b399 F0 454 i1 i2 i3 i4 i5 s) (gX14_mean_b399 F i1 i2 i3 i4 i5 s) (Sum.elim (fun r => Sh S r.2) (fun r => Sh S r)) := by
  unfold fX14_mean_b399 gX14_mean_b399
  obtain ⟨a7, h⟩ := s
  refine EQ_jt2 ?_
  replace hS : Sh S h := hS
  refine EQ_if Iff.rfl (fun c1 => ?_) (fun c1 => ?_)
  · exact EQ_some hS
  · refine EQ_jgd (show h 454 (-2) = 15 from by rw [k_454 hS]) ?_
    refine EQ_jb2 (hF a7 i2 hS) (fun v41 h42 r2 => ?_)
    replace r2 : Sh S h42 := r2
    refine EQ_jgd (show h42 454 (-2) = 15 from by rw [k_454 r2]) ?_
    refine EQ_jg ⟨fun ⟨_, x0⟩ => (show jI a7 (h42 (h42 454 13) (-1)) ↔ jI a7 8800 from by rw [r_454_13 r2, l_467 r2]).mp x0, fun x0 => ⟨(show h42 (h42 454 13) (-2) = 101 from by rw [r_454_13 r2, k_467 r2]), (show jI a7 (h42 (h42 454 13) (-1)) ↔ jI a7 8800 from by rw [r_454_13 r2, l_467 r2]).mpr x0⟩⟩ (fun g3 => ?_)
    refine EQ_jl (by rw [r_454_13 r2]) (fun x43 ex43 => ?_)
    clear ex43
    exact EQ_some r2
noncomputable def gX14_mean_l399 (F : Int → Int → AH → Option (Int × AH)) (i1 : Int) (i2 : Int) (i3 : Int) (i4 : Int) (i5 : Int) (a7 : Int) (h : AH) : Option (AH) := jit (gX14_mean_b399 F i1 i2 i3 i4 i5) (a7, h)
theorem eX14_mean_l399 {F0 : Int → Int → Int → AH → Option (Int × AH)} {F : Int → Int → AH → Option (Int × AH)} (hF : ∀ (b_a1 : Int) (b_a2 : Int), ∀ {b_h : AH}, Sh S b_h → EQ (F0 454 b_a1 b_a2 b_h) (F b_a1 b_a2 b_h) (fun r => Sh S r.2)) (i1 : Int) (i2 : Int) (i3 : Int) (i4 : Int) (i5 : Int) (a7 : Int) {h : AH} (hS : Sh S h) : EQ (fX14_mean_l399 F0 454 i1 i2 i3 i4 i5 a7 h) (gX14_mean_l399 F i1 i2 i3 i4 i5 a7 h) (fun r => Sh S r) := EQ_jit (I := (fun r => Sh S r.2)) (fun s hs => eX14_mean_b399 hF i1 i2 i3 i4 i5 hs) hS
noncomputable def gX14_mean_j391 (F : Int → Int → AH → Option (Int × AH)) (a1 : Int) (a2 : Int) (a3 : Int) (a4 : Int) (a5 : Int) (h : AH) : Option (Int × AH) := jg (jI a1 8800) <| jl (h 466 a1) fun x33 => jb (gX14_mean_l399 F a1 a2 a3 a4 a5 x33 h) fun o34 => if a5 = 0 then (gX14_mean_j458 F a1 a1 32 o34) else (if a3 = 0 then (jg (jI a4 36) <| gX14_mean_j458 F a1 a1 (o34 458 a4) o34) else (jg (isX16 a2) <| gX14_mean_j458 F a1 a1 (o34 a2 4) o34))
theorem eX14_mean_j391 {F0 : Int → Int → Int → AH → Option (Int × AH)} {F : Int → Int → AH → Option (Int × AH)} (hF : ∀ (b_a1 : Int) (b_a2 : Int), ∀ {b_h : AH}, Sh S b_h → EQ (F0 454 b_a1 b_a2 b_h) (F b_a1 b_a2 b_h) (fun r => Sh S r.2)) (a1 : Int) (a2 : Int) (a3 : Int) (a4 : Int) (a5 : Int) {h : AH} (hS : Sh S h) : EQ (fX14_mean_j391 F0 454 a1 a2 a3 a4 a5 h) (gX14_mean_j391 F a1 a2 a3 a4 a5 h) (fun r => Sh S r.2) := by
  unfold fX14_mean_j391 gX14_mean_j391
  refine EQ_jgd (show h 454 (-2) = 15 from by rw [k_454 hS]) ?_
  refine EQ_jg ⟨fun ⟨_, x0⟩ => (show jI a1 (h (h 454 12) (-1)) ↔ jI a1 8800 from by rw [r_454_12 hS, l_466 hS]).mp x0, fun x0 => ⟨(show h (h 454 12) (-2) = 101 from by rw [r_454_12 hS, k_466 hS]), (show jI a1 (h (h 454 12) (-1)) ↔ jI a1 8800 from by rw [r_454_12 hS, l_466 hS]).mpr x0⟩⟩ (fun g1 => ?_)
  refine EQ_jl (by rw [r_454_12 hS]) (fun x33 ex33 => ?_)
  clear ex33
  refine EQ_jb (eX14_mean_l399 hF a1 a2 a3 a4 a5 x33 hS) (fun o34 r2 => ?_)
  refine EQ_jgd (show o34 454 (-2) = 15 from by rw [k_454 r2]) ?_
  refine EQ_if Iff.rfl (fun c3 => ?_) (fun c3 => ?_)
  · exact (by rw [r_454_7 r2]; exact eX14_mean_j458 hF a1 a1 32 r2)
  · refine EQ_if Iff.rfl (fun c4 => ?_) (fun c4 => ?_)
    · refine EQ_jgd (show o34 454 (-2) = 15 from by rw [k_454 r2]) ?_
      refine EQ_jg ⟨fun ⟨_, x0⟩ => (show jI a4 (o34 (o34 454 3) (-1)) ↔ jI a4 36 from by rw [r_454_3 r2, l_458 r2]).mp x0, fun x0 => ⟨(show o34 (o34 454 3) (-2) = 101 from by rw [r_454_3 r2, k_458 r2]), (show jI a4 (o34 (o34 454 3) (-1)) ↔ jI a4 36 from by rw [r_454_3 r2, l_458 r2]).mpr x0⟩⟩ (fun g5 => ?_)
      exact (by rw [r_454_7 r2, r_454_3 r2]; exact eX14_mean_j458 hF a1 a1 (o34 458 a4) r2)
    · refine EQ_jg ⟨fun x0 => (ik_X16 r2).mp x0, fun x0 => (ik_X16 r2).mpr x0⟩ (fun g6 => ?_)
      exact (by rw [r_454_7 r2]; exact eX14_mean_j458 hF a1 a1 (o34 a2 4) r2)
noncomputable def gX14_mean_j385_263 (F : Int → Int → AH → Option (Int × AH)) (a1 : Int) (a2 : Int) (a3 : Int) (a4 : Int) (a5 : Int) (a6 : Int) (a7 : Int) (h : AH) : Option ((Int × AH) ⊕ (AH)) := jl (w32 (a7 + 1)) fun x57 => some (.inl (x57, h))
theorem eX14_mean_j385_263 {F0 : Int → Int → Int → AH → Option (Int × AH)} {F : Int → Int → AH → Option (Int × AH)} (hF : ∀ (b_a1 : Int) (b_a2 : Int), ∀ {b_h : AH}, Sh S b_h → EQ (F0 454 b_a1 b_a2 b_h) (F b_a1 b_a2 b_h) (fun r => Sh S r.2)) (a1 : Int) (a2 : Int) (a3 : Int) (a4 : Int) (a5 : Int) (a6 : Int) (a7 : Int) {h : AH} (hS : Sh S h) : EQ (fX14_mean_j385_263 F0 454 a1 a2 a3 a4 a5 a6 a7 h) (gX14_mean_j385_263 F a1 a2 a3 a4 a5 a6 a7 h) (Sum.elim (fun r => Sh S r.2) (fun r => Sh S r)) := by
  unfold fX14_mean_j385_263 gX14_mean_j385_263
  refine EQ_jl rfl (fun x57 ex57 => ?_)
  clear ex57
  exact EQ_some hS
noncomputable def gX14_mean_j341_263 (F : Int → Int → AH → Option (Int × AH)) (a1 : Int) (a2 : Int) (a3 : Int) (a4 : Int) (a5 : Int) (a6 : Int) (a7 : Int) (a8 : Int) (t0 : Int) (h : AH) : Option ((Int × AH) ⊕ (AH)) := if t0 = 32 then (gX14_mean_j385_263 F a1 a2 a3 a4 a5 a6 a7 h) else (if a8 = 32 then (gX14_mean_j385_263 F a1 a2 a3 a4 a5 a6 a7 h) else (if a8 = t0 then (gX14_mean_j385_263 F a1 a2 a3 a4 a5 a6 a7 h) else (jg (jI (w32 (w32 (3 * a1) + a7)) 26400) <| jg (jI (h 464 (w32 (w32 (3 * a1) + a7))) 8800) <| jb (gX14_note 3 (h 468 (h 464 (w32 (w32 (3 * a1) + a7)))) h) fun h56 => gX14_mean_j385_263 F a1 a2 a3 a4 a5 a6 a7 h56)))
theorem eX14_mean_j341_263 {F0 : Int → Int → Int → AH → Option (Int × AH)} {F : Int → Int → AH → Option (Int × AH)} (hF : ∀ (b_a1 : Int) (b_a2 : Int), ∀ {b_h : AH}, Sh S b_h → EQ (F0 454 b_a1 b_a2 b_h) (F b_a1 b_a2 b_h) (fun r => Sh S r.2)) (a1 : Int) (a2 : Int) (a3 : Int) (a4 : Int) (a5 : Int) (a6 : Int) (a7 : Int) (a8 : Int) (t0 : Int) {h : AH} (hS : Sh S h) : EQ (fX14_mean_j341_263 F0 454 a1 a2 a3 a4 a5 a6 a7 a8 t0 h) (gX14_mean_j341_263 F a1 a2 a3 a4 a5 a6 a7 a8 t0 h) (Sum.elim (fun r => Sh S r.2) (fun r => Sh S r)) := by
  unfold fX14_mean_j341_263 gX14_mean_j341_263
  refine EQ_if Iff.rfl (fun c1 => ?_) (fun c1 => ?_)
  · exact (eX14_mean_j385_263 hF a1 a2 a3 a4 a5 a6 a7 hS)
  · refine EQ_if Iff.rfl (fun c2 => ?_) (fun c2 => ?_)
    · exact (eX14_mean_j385_263 hF a1 a2 a3 a4 a5 a6 a7 hS)
    · refine EQ_if Iff.rfl (fun c3 => ?_) (fun c3 => ?_)
      · exact (eX14_mean_j385_263 hF a1 a2 a3 a4 a5 a6 a7 hS)
      · refine EQ_jgd (show h 454 (-2) = 15 from by rw [k_454 hS]) ?_
        refine EQ_jgd (show h 454 (-2) = 15 from by rw [k_454 hS]) ?_
        refine EQ_jg ⟨fun ⟨_, x0⟩ => (show jI (w32 (w32 (3 * a1) + a7)) (h (h 454 10) (-1)) ↔ jI (w32 (w32 (3 * a1) + a7)) 26400 from by rw [r_454_10 hS, l_464 hS]).mp x0, fun x0 => ⟨(show h (h 454 10) (-2) = 101 from by rw [r_454_10 hS, k_464 hS]), (show jI (w32 (w32 (3 * a1) + a7)) (h (h 454 10) (-1)) ↔ jI (w32 (w32 (3 * a1) + a7)) 26400 from by rw [r_454_10 hS, l_464 hS]).mpr x0⟩⟩ (fun g4 => ?_)
        refine EQ_jg ⟨fun ⟨_, x0⟩ => (show jI (h (h 454 10) (w32 (w32 (3 * a1) + a7))) (h (h 454 14) (-1)) ↔ jI (h 464 (w32 (w32 (3 * a1) + a7))) 8800 from by rw [r_454_10 hS, r_454_14 hS, l_468 hS]).mp x0, fun x0 => ⟨(show h (h 454 14) (-2) = 101 from by rw [r_454_14 hS, k_468 hS]), (show jI (h (h 454 10) (w32 (w32 (3 * a1) + a7))) (h (h 454 14) (-1)) ↔ jI (h 464 (w32 (w32 (3 * a1) + a7))) 8800 from by rw [r_454_10 hS, r_454_14 hS, l_468 hS]).mpr x0⟩⟩ (fun g5 => ?_)
        refine EQ_jgd (show h 454 (-2) = 15 from by rw [k_454 hS]) ?_
        refine EQ_jb (by rw [r_454_14 hS, r_454_10 hS]; exact eX14_note 3 (h 468 (h 464 (w32 (w32 (3 * a1) + a7)))) hS) (fun h56 r6 => ?_)
        exact (eX14_mean_j385_263 hF a1 a2 a3 a4 a5 a6 a7 r6)
noncomputable def gX14_mean_b263 (F : Int → Int → AH → Option (Int × AH)) (i1 : Int) (i2 : Int) (i3 : Int) (i4 : Int) (i5 : Int) (i6 : Int) (s : Int × AH) : Option ((Int × AH) ⊕ (AH)) := jt2 s fun a7 h => jg (jI i1 8800) <| if h 465 i1 ≤ a7 then (some (.inr h)) else (if 3 ≤ a7 then (some (.inr h)) else (jg (jI (w32 (w32 (3 * i1) + a7)) 26400) <| jb2 (F (h 464 (w32 (w32 (3 * i1) + a7))) i2 h) fun v47 h48 => if i5 = 0 then (gX14_mean_j341_263 F i1 i2 i3 i4 i5 i6 a7 v47 32 h48) else (if a7 < i6 then (if i3 = 0 then (jg (jI (w32 (w32 (3 * i4) + a7)) 108) <| gX14_mean_j341_263 F i1 i2 i3 i4 i5 i6 a7 v47 (h48 457 (w32 (w32 (3 * i4) + a7))) h48) else (jg (isX16 i2) <| jg (jI a7 3) <| gX14_mean_j341_263 F i1 i2 i3 i4 i5 i6 a7 v47 (h48 (i2 + 1) a7) h48)) else (gX14_mean_j341_263 F i1 i2 i3 i4 i5 i6 a7 v47 32 h48))))
theorem eX14_mean_b263 {F0 : Int → Int → Int → AH → Option (Int × AH)} {F : Int → Int → AH → Option (Int × AH)} (hF : ∀ (b_a1 : Int) (b_a2 : Int), ∀ {b_h : AH}, Sh S b_h → EQ (F0 454 b_a1 b_a2 b_h) (F b_a1 b_a2 b_h) (fun r => Sh S r.2)) (i1 : Int) (i2 : Int) (i3 : Int) (i4 : Int) (i5 : Int) (i6 : Int) {s : Int × AH} (hS : (fun r => Sh S r.2) s) : EQ (fX14_mean_b263 F0 454 i1 i2 i3 i4 i5 i6 s) (gX14_mean_b263 F i1 i2 i3 i4 i5 i6 s) (Sum.elim (fun r => Sh S r.2) (fun r => Sh S r)) := by
  unfold fX14_mean_b263 gX14_mean_b263
  obtain ⟨a7, h⟩ := s
  refine EQ_jt2 ?_
  replace hS : Sh S h := hS
  refine EQ_jgd (show h 454 (-2) = 15 from by rw [k_454 hS]) ?_
  refine EQ_jg ⟨fun ⟨_, x0⟩ => (show jI i1 (h (h 454 11) (-1)) ↔ jI i1 8800 from by rw [r_454_11 hS, l_465 hS]).mp x0, fun x0 => ⟨(show h (h 454 11) (-2) = 101 from by rw [r_454_11 hS, k_465 hS]), (show jI i1 (h (h 454 11) (-1)) ↔ jI i1 8800 from by rw [r_454_11 hS, l_465 hS]).mpr x0⟩⟩ (fun g1 => ?_)
  refine EQ_if (show h (h 454 11) i1 ≤ a7 ↔ h 465 i1 ≤ a7 from by rw [r_454_11 hS]) (fun c2 => ?_) (fun c2 => ?_)
  · exact EQ_some hS
  · refine EQ_if Iff.rfl (fun c3 => ?_) (fun c3 => ?_)
    · exact EQ_some hS
    · refine EQ_jgd (show h 454 (-2) = 15 from by rw [k_454 hS]) ?_
      refine EQ_jg ⟨fun ⟨_, x0⟩ => (show jI (w32 (w32 (3 * i1) + a7)) (h (h 454 10) (-1)) ↔ jI (w32 (w32 (3 * i1) + a7)) 26400 from by rw [r_454_10 hS, l_464 hS]).mp x0, fun x0 => ⟨(show h (h 454 10) (-2) = 101 from by rw [r_454_10 hS, k_464 hS]), (show jI (w32 (w32 (3 * i1) + a7)) (h (h 454 10) (-1)) ↔ jI (w32 (w32 (3 * i1) + a7)) 26400 from by rw [r_454_10 hS, l_464 hS]).mpr x0⟩⟩ (fun g4 => ?_)
      refine EQ_jgd (show h 454 (-2) = 15 from by rw [k_454 hS]) ?_
      refine EQ_jb2 (by rw [r_454_10 hS]; exact hF (h 464 (w32 (w32 (3 * i1) + a7))) i2 hS) (fun v47 h48 r5 => ?_)
      replace r5 : Sh S h48 := r5
      refine EQ_if Iff.rfl (fun c6 => ?_) (fun c6 => ?_)
      · exact (eX14_mean_j341_263 hF i1 i2 i3 i4 i5 i6 a7 v47 32 r5)
      · refine EQ_if Iff.rfl (fun c7 => ?_) (fun c7 => ?_)
        · refine EQ_if Iff.rfl (fun c8 => ?_) (fun c8 => ?_)
          · refine EQ_jgd (show h48 454 (-2) = 15 from by rw [k_454 r5]) ?_
            refine EQ_jg ⟨fun ⟨_, x0⟩ => (show jI (w32 (w32 (3 * i4) + a7)) (h48 (h48 454 2) (-1)) ↔ jI (w32 (w32 (3 * i4) + a7)) 108 from by rw [r_454_2 r5, l_457 r5]).mp x0, fun x0 => ⟨(show h48 (h48 454 2) (-2) = 101 from by rw [r_454_2 r5, k_457 r5]), (show jI (w32 (w32 (3 * i4) + a7)) (h48 (h48 454 2) (-1)) ↔ jI (w32 (w32 (3 * i4) + a7)) 108 from by rw [r_454_2 r5, l_457 r5]).mpr x0⟩⟩ (fun g9 => ?_)
            exact (by rw [r_454_2 r5]; exact eX14_mean_j341_263 hF i1 i2 i3 i4 i5 i6 a7 v47 (h48 457 (w32 (w32 (3 * i4) + a7))) r5)
          · refine EQ_jg ⟨fun x0 => (ik_X16 r5).mp x0, fun x0 => (ik_X16 r5).mpr x0⟩ (fun g10 => ?_)
            refine EQ_jg ⟨fun ⟨_, x0⟩ => (show jI a7 (h48 (h48 i2 2) (-1)) ↔ jI a7 3 from by rw [ft_X16_2 r5 g10, la_X16_2 r5 g10]).mp x0, fun x0 => ⟨(show h48 (h48 i2 2) (-2) = 101 from by rw [ft_X16_2 r5 g10, ka_X16_2 r5 g10]), (show jI a7 (h48 (h48 i2 2) (-1)) ↔ jI a7 3 from by rw [ft_X16_2 r5 g10, la_X16_2 r5 g10]).mpr x0⟩⟩ (fun g11 => ?_)
            exact (by rw [ft_X16_2 r5 g10]; exact eX14_mean_j341_263 hF i1 i2 i3 i4 i5 i6 a7 v47 (h48 (i2 + 1) a7) r5)
        · exact (eX14_mean_j341_263 hF i1 i2 i3 i4 i5 i6 a7 v47 32 r5)
noncomputable def gX14_mean_l263 (F : Int → Int → AH → Option (Int × AH)) (i1 : Int) (i2 : Int) (i3 : Int) (i4 : Int) (i5 : Int) (i6 : Int) (a7 : Int) (h : AH) : Option (AH) := jit (gX14_mean_b263 F i1 i2 i3 i4 i5 i6) (a7, h)
theorem eX14_mean_l263 {F0 : Int → Int → Int → AH → Option (Int × AH)} {F : Int → Int → AH → Option (Int × AH)} (hF : ∀ (b_a1 : Int) (b_a2 : Int), ∀ {b_h : AH}, Sh S b_h → EQ (F0 454 b_a1 b_a2 b_h) (F b_a1 b_a2 b_h) (fun r => Sh S r.2)) (i1 : Int) (i2 : Int) (i3 : Int) (i4 : Int) (i5 : Int) (i6 : Int) (a7 : Int) {h : AH} (hS : Sh S h) : EQ (fX14_mean_l263 F0 454 i1 i2 i3 i4 i5 i6 a7 h) (gX14_mean_l263 F i1 i2 i3 i4 i5 i6 a7 h) (fun r => Sh S r) := EQ_jit (I := (fun r => Sh S r.2)) (fun s hs => eX14_mean_b263 hF i1 i2 i3 i4 i5 i6 hs) hS
noncomputable def gX14_mean_j260 (F : Int → Int → AH → Option (Int × AH)) (a1 : Int) (a2 : Int) (a3 : Int) (a4 : Int) (a5 : Int) (a6 : Int) (h : AH) : Option (Int × AH) := jb (gX14_mean_l263 F a1 a2 a3 a4 a5 a6 0 h) fun o31 => gX14_mean_j391 F a1 a2 a3 a4 a5 o31
theorem eX14_mean_j260 {F0 : Int → Int → Int → AH → Option (Int × AH)} {F : Int → Int → AH → Option (Int × AH)} (hF : ∀ (b_a1 : Int) (b_a2 : Int), ∀ {b_h : AH}, Sh S b_h → EQ (F0 454 b_a1 b_a2 b_h) (F b_a1 b_a2 b_h) (fun r => Sh S r.2)) (a1 : Int) (a2 : Int) (a3 : Int) (a4 : Int) (a5 : Int) (a6 : Int) {h : AH} (hS : Sh S h) : EQ (fX14_mean_j260 F0 454 a1 a2 a3 a4 a5 a6 h) (gX14_mean_j260 F a1 a2 a3 a4 a5 a6 h) (fun r => Sh S r.2) := by
  unfold fX14_mean_j260 gX14_mean_j260
  refine EQ_jb (eX14_mean_l263 hF a1 a2 a3 a4 a5 a6 0 hS) (fun o31 r1 => ?_)
  exact (eX14_mean_j391 hF a1 a2 a3 a4 a5 r1)
noncomputable def gX14_mean_j217 (F : Int → Int → AH → Option (Int × AH)) (a1 : Int) (a2 : Int) (a3 : Int) (a4 : Int) (a5 : Int) (t0 : Int) (h : AH) : Option (Int × AH) := if a5 = 0 then (jg (jI a1 8800) <| jb (gX14_note 2 (h 468 a1) h) fun h27 => gX14_mean_j260 F a1 a2 a3 a4 a5 t0 h27) else (jg (jI a1 8800) <| if t0 = h 465 a1 then (gX14_mean_j260 F a1 a2 a3 a4 a5 t0 h) else (jb (gX14_note 4 (h 468 a1) h) fun h30 => gX14_mean_j260 F a1 a2 a3 a4 a5 t0 h30))
theorem eX14_mean_j217 {F0 : Int → Int → Int → AH → Option (Int × AH)} {F : Int → Int → AH → Option (Int × AH)} (hF : ∀ (b_a1 : Int) (b_a2 : Int), ∀ {b_h : AH}, Sh S b_h → EQ (F0 454 b_a1 b_a2 b_h) (F b_a1 b_a2 b_h) (fun r => Sh S r.2)) (a1 : Int) (a2 : Int) (a3 : Int) (a4 : Int) (a5 : Int) (t0 : Int) {h : AH} (hS : Sh S h) : EQ (fX14_mean_j217 F0 454 a1 a2 a3 a4 a5 t0 h) (gX14_mean_j217 F a1 a2 a3 a4 a5 t0 h) (fun r => Sh S r.2) := by
  unfold fX14_mean_j217 gX14_mean_j217
  refine EQ_if Iff.rfl (fun c1 => ?_) (fun c1 => ?_)
  · refine EQ_jgd (show h 454 (-2) = 15 from by rw [k_454 hS]) ?_
    refine EQ_jg ⟨fun ⟨_, x0⟩ => (show jI a1 (h (h 454 14) (-1)) ↔ jI a1 8800 from by rw [r_454_14 hS, l_468 hS]).mp x0, fun x0 => ⟨(show h (h 454 14) (-2) = 101 from by rw [r_454_14 hS, k_468 hS]), (show jI a1 (h (h 454 14) (-1)) ↔ jI a1 8800 from by rw [r_454_14 hS, l_468 hS]).mpr x0⟩⟩ (fun g2 => ?_)
    refine EQ_jgd (show h 454 (-2) = 15 from by rw [k_454 hS]) ?_
    refine EQ_jb (by rw [r_454_14 hS]; exact eX14_note 2 (h 468 a1) hS) (fun h27 r3 => ?_)
    exact (eX14_mean_j260 hF a1 a2 a3 a4 a5 t0 r3)
  · refine EQ_jgd (show h 454 (-2) = 15 from by rw [k_454 hS]) ?_
    refine EQ_jg ⟨fun ⟨_, x0⟩ => (show jI a1 (h (h 454 11) (-1)) ↔ jI a1 8800 from by rw [r_454_11 hS, l_465 hS]).mp x0, fun x0 => ⟨(show h (h 454 11) (-2) = 101 from by rw [r_454_11 hS, k_465 hS]), (show jI a1 (h (h 454 11) (-1)) ↔ jI a1 8800 from by rw [r_454_11 hS, l_465 hS]).mpr x0⟩⟩ (fun g4 => ?_)
    refine EQ_if (show t0 = h (h 454 11) a1 ↔ t0 = h 465 a1 from by rw [r_454_11 hS]) (fun c5 => ?_) (fun c5 => ?_)
    · exact (eX14_mean_j260 hF a1 a2 a3 a4 a5 t0 hS)
    · refine EQ_jgd (show h 454 (-2) = 15 from by rw [k_454 hS]) ?_
      refine EQ_jgd ⟨(show h (h 454 14) (-2) = 101 from by rw [r_454_14 hS, k_468 hS]), ((show jI a1 (h (h 454 14) (-1)) ↔ jI a1 8800 from by rw [r_454_14 hS, l_468 hS]).mpr g4)⟩ ?_
      refine EQ_jgd (show h 454 (-2) = 15 from by rw [k_454 hS]) ?_
      refine EQ_jb (by rw [r_454_14 hS]; exact eX14_note 4 (h 468 a1) hS) (fun h30 r6 => ?_)
      exact (eX14_mean_j260 hF a1 a2 a3 a4 a5 t0 r6)
noncomputable def gX14_mean_j188 (F : Int → Int → AH → Option (Int × AH)) (a1 : Int) (a2 : Int) (a3 : Int) (a4 : Int) (t0 : Int) (h : AH) : Option (Int × AH) := if a3 = 0 then (if t0 = 0 then (gX14_mean_j217 F a1 a2 a3 a4 t0 0 h) else (jg (jI a4 36) <| gX14_mean_j217 F a1 a2 a3 a4 t0 (h 456 a4) h)) else (jg (isX16 a2) <| gX14_mean_j217 F a1 a2 a3 a4 t0 (h a2 3) h)
theorem eX14_mean_j188 {F0 : Int → Int → Int → AH → Option (Int × AH)} {F : Int → Int → AH → Option (Int × AH)} (hF : ∀ (b_a1 : Int) (b_a2 : Int), ∀ {b_h : AH}, Sh S b_h → EQ (F0 454 b_a1 b_a2 b_h) (F b_a1 b_a2 b_h) (fun r => Sh S r.2)) (a1 : Int) (a2 : Int) (a3 : Int) (a4 : Int) (t0 : Int) {h : AH} (hS : Sh S h) : EQ (fX14_mean_j188 F0 454 a1 a2 a3 a4 t0 h) (gX14_mean_j188 F a1 a2 a3 a4 t0 h) (fun r => Sh S r.2) := by
  unfold fX14_mean_j188 gX14_mean_j188
  refine EQ_if Iff.rfl (fun c1 => ?_) (fun c1 => ?_)
  · refine EQ_if Iff.rfl (fun c2 => ?_) (fun c2 => ?_)
    · exact (eX14_mean_j217 hF a1 a2 a3 a4 t0 0 hS)
    · refine EQ_jgd (show h 454 (-2) = 15 from by rw [k_454 hS]) ?_
      refine EQ_jg ⟨fun ⟨_, x0⟩ => (show jI a4 (h (h 454 1) (-1)) ↔ jI a4 36 from by rw [r_454_1 hS, l_456 hS]).mp x0, fun x0 => ⟨(show h (h 454 1) (-2) = 101 from by rw [r_454_1 hS, k_456 hS]), (show jI a4 (h (h 454 1) (-1)) ↔ jI a4 36 from by rw [r_454_1 hS, l_456 hS]).mpr x0⟩⟩ (fun g3 => ?_)
      exact (by rw [r_454_1 hS]; exact eX14_mean_j217 hF a1 a2 a3 a4 t0 (h 456 a4) hS)
  · refine EQ_jg ⟨fun x0 => (ik_X16 hS).mp x0, fun x0 => (ik_X16 hS).mpr x0⟩ (fun g4 => ?_)
    exact (eX14_mean_j217 hF a1 a2 a3 a4 t0 (h a2 3) hS)
noncomputable def gX14_mean_j164 (F : Int → Int → AH → Option (Int × AH)) (a1 : Int) (a2 : Int) (a3 : Int) (t0 : Int) (h : AH) : Option (Int × AH) := jg (jI a1 8800) <| jl (jst h 463 a1 t0) fun h20 => if a3 = 0 then (if t0 < 0 then (gX14_mean_j188 F a1 a2 a3 t0 0 h20) else (gX14_mean_j188 F a1 a2 a3 t0 1 h20)) else (gX14_mean_j188 F a1 a2 a3 t0 1 h20)
theorem eX14_mean_j164 {F0 : Int → Int → Int → AH → Option (Int × AH)} {F : Int → Int → AH → Option (Int × AH)} (hF : ∀ (b_a1 : Int) (b_a2 : Int), ∀ {b_h : AH}, Sh S b_h → EQ (F0 454 b_a1 b_a2 b_h) (F b_a1 b_a2 b_h) (fun r => Sh S r.2)) (a1 : Int) (a2 : Int) (a3 : Int) (t0 : Int) {h : AH} (hS : Sh S h) : EQ (fX14_mean_j164 F0 454 a1 a2 a3 t0 h) (gX14_mean_j164 F a1 a2 a3 t0 h) (fun r => Sh S r.2) := by
  unfold fX14_mean_j164 gX14_mean_j164
  refine EQ_jgd (show h 454 (-2) = 15 from by rw [k_454 hS]) ?_
  refine EQ_jg ⟨fun ⟨_, _, x0⟩ => (show jI a1 (h (h 454 9) (-1)) ↔ jI a1 8800 from by rw [r_454_9 hS, l_463 hS]).mp x0, fun x0 => ⟨(show h (h 454 9) (-2) = 101 from by rw [r_454_9 hS, k_463 hS]), (show 200 ≤ h 454 9 from by rw [r_454_9 hS]; exact (by decide)), (show jI a1 (h (h 454 9) (-1)) ↔ jI a1 8800 from by rw [r_454_9 hS, l_463 hS]).mpr x0⟩⟩ (fun g1 => ?_)
  refine EQ_jl (by rw [r_454_9 hS]) (fun h20 eh20 => ?_)
  have s2 := Sh_of eh20 (Sh_sta hS (by decide +kernel) (jI_nn g1) (fun e => absurd ((k_463 hS).symm.trans e) (by decide)))
  clear eh20
  refine EQ_if Iff.rfl (fun c3 => ?_) (fun c3 => ?_)
  · refine EQ_if Iff.rfl (fun c4 => ?_) (fun c4 => ?_)
    · exact (eX14_mean_j188 hF a1 a2 a3 t0 0 s2)
    · exact (eX14_mean_j188 hF a1 a2 a3 t0 1 s2)
  · exact (eX14_mean_j188 hF a1 a2 a3 t0 1 s2)
noncomputable def gX14_mean_j145 (F : Int → Int → AH → Option (Int × AH)) (a1 : Int) (a2 : Int) (t0 : Int) (h : AH) : Option (Int × AH) := if t0 = 0 then (jg (jI a1 8800) <| jb (gX14_actOf (h 470 a1) h) fun v19 => gX14_mean_j164 F a1 a2 t0 v19 h) else (gX14_mean_j164 F a1 a2 t0 (-1) h)
theorem eX14_mean_j145 {F0 : Int → Int → Int → AH → Option (Int × AH)} {F : Int → Int → AH → Option (Int × AH)} (hF : ∀ (b_a1 : Int) (b_a2 : Int), ∀ {b_h : AH}, Sh S b_h → EQ (F0 454 b_a1 b_a2 b_h) (F b_a1 b_a2 b_h) (fun r => Sh S r.2)) (a1 : Int) (a2 : Int) (t0 : Int) {h : AH} (hS : Sh S h) : EQ (fX14_mean_j145 F0 454 a1 a2 t0 h) (gX14_mean_j145 F a1 a2 t0 h) (fun r => Sh S r.2) := by
  unfold fX14_mean_j145 gX14_mean_j145
  refine EQ_if Iff.rfl (fun c1 => ?_) (fun c1 => ?_)
  · refine EQ_jgd (show h 454 (-2) = 15 from by rw [k_454 hS]) ?_
    refine EQ_jg ⟨fun ⟨_, x0⟩ => (show jI a1 (h (h 454 16) (-1)) ↔ jI a1 8800 from by rw [r_454_16 hS, l_470 hS]).mp x0, fun x0 => ⟨(show h (h 454 16) (-2) = 102 from by rw [r_454_16 hS, k_470 hS]), (show jI a1 (h (h 454 16) (-1)) ↔ jI a1 8800 from by rw [r_454_16 hS, l_470 hS]).mpr x0⟩⟩ (fun g2 => ?_)
    refine EQ_jgd (show h 454 (-2) = 15 from by rw [k_454 hS]) ?_
    refine EQ_jb (by rw [r_454_16 hS]; exact eX14_actOf (h 470 a1) hS) (fun v19 r3 => ?_)
    exact (eX14_mean_j164 hF a1 a2 t0 v19 hS)
  · exact (eX14_mean_j164 hF a1 a2 t0 (-1) hS)
noncomputable def gX14_mean_ (F : Int → Int → AH → Option (Int × AH)) (a1 : Int) (a2 : Int) (h : AH) : Option (Int × AH) := jg (jI a1 8800) <| if h 460 a1 = 0 then (some (h 461 a1, h)) else (if h 460 a1 = 3 then (jl (jst h 454 35 (w32 (h 454 35 + 1))) fun h3 => if h3 454 35 ≤ 3 then (some (110, h3)) else (jb (gX14_note 5 (h3 468 a1) h3) fun h6 => some (110, h6))) else (if h 460 a1 = 1 then (jb (gX14_nameAt (h 470 a1) h) fun v9 => if 0 ≤ v9 then (jl (jst h 462 a1 v9) fun h11 => jg (jI v9 3) <| jl (jst h11 461 a1 (h11 475 v9)) fun h12 => some (h12 461 a1, h12)) else (jb (gX14_note 2 (h 468 a1) h) fun h14 => some (32, h14))) else (if a2 = 0 then (gX14_mean_j145 F a1 a2 0 h) else (if jcmp (h 470 a1) 6 = 0 then (gX14_mean_j145 F a1 a2 1 h) else (gX14_mean_j145 F a1 a2 0 h)))))
theorem eX14_mean_ {F0 : Int → Int → Int → AH → Option (Int × AH)} {F : Int → Int → AH → Option (Int × AH)} (hF : ∀ (b_a1 : Int) (b_a2 : Int), ∀ {b_h : AH}, Sh S b_h → EQ (F0 454 b_a1 b_a2 b_h) (F b_a1 b_a2 b_h) (fun r => Sh S r.2)) (a1 : Int) (a2 : Int) {h : AH} (hS : Sh S h) : EQ (fX14_mean_ F0 454 a1 a2 h) (gX14_mean_ F a1 a2 h) (fun r => Sh S r.2) := by
  unfold fX14_mean_ gX14_mean_
  refine EQ_jgd (show h 454 (-2) = 15 from by rw [k_454 hS]) ?_
  refine EQ_jg ⟨fun ⟨_, x0⟩ => (show jI a1 (h (h 454 6) (-1)) ↔ jI a1 8800 from by rw [r_454_6 hS, l_460 hS]).mp x0, fun x0 => ⟨(show h (h 454 6) (-2) = 101 from by rw [r_454_6 hS, k_460 hS]), (show jI a1 (h (h 454 6) (-1)) ↔ jI a1 8800 from by rw [r_454_6 hS, l_460 hS]).mpr x0⟩⟩ (fun g1 => ?_)
  refine EQ_if (show h (h 454 6) a1 = 0 ↔ h 460 a1 = 0 from by rw [r_454_6 hS]) (fun c2 => ?_) (fun c2 => ?_)
  · refine EQ_jgd (show h 454 (-2) = 15 from by rw [k_454 hS]) ?_
    refine EQ_jgd ⟨(show h (h 454 7) (-2) = 101 from by rw [r_454_7 hS, k_461 hS]), ((show jI a1 (h (h 454 7) (-1)) ↔ jI a1 8800 from by rw [r_454_7 hS, l_461 hS]).mpr g1)⟩ ?_
    exact EQ_some' (by rw [r_454_7 hS]) hS
  · refine EQ_jgd (show h 454 (-2) = 15 from by rw [k_454 hS]) ?_
    refine EQ_jgd ⟨(show h (h 454 6) (-2) = 101 from by rw [r_454_6 hS, k_460 hS]), ((show jI a1 (h (h 454 6) (-1)) ↔ jI a1 8800 from by rw [r_454_6 hS, l_460 hS]).mpr g1)⟩ ?_
    refine EQ_if (show h (h 454 6) a1 = 3 ↔ h 460 a1 = 3 from by rw [r_454_6 hS]) (fun c3 => ?_) (fun c3 => ?_)
    · refine EQ_jgd (show h 454 (-2) = 15 from by rw [k_454 hS]) ?_
      refine EQ_jgd ⟨(show h 454 (-2) = 15 from by rw [k_454 hS]), (show (200 : Int) ≤ 454 from (by decide))⟩ ?_
      refine EQ_jl rfl (fun h3 eh3 => ?_)
      have s4 := Sh_of eh3 (Sh_sto hS (a := 454) (i := 35) (by decide +kernel))
      clear eh3
      refine EQ_jgd (show h3 454 (-2) = 15 from by rw [k_454 s4]) ?_
      refine EQ_if Iff.rfl (fun c5 => ?_) (fun c5 => ?_)
      · exact EQ_some s4
      · refine EQ_jgd (show h3 454 (-2) = 15 from by rw [k_454 s4]) ?_
        refine EQ_jgd ⟨(show h3 (h3 454 14) (-2) = 101 from by rw [r_454_14 s4, k_468 s4]), ((show jI a1 (h3 (h3 454 14) (-1)) ↔ jI a1 8800 from by rw [r_454_14 s4, l_468 s4]).mpr g1)⟩ ?_
        refine EQ_jgd (show h3 454 (-2) = 15 from by rw [k_454 s4]) ?_
        refine EQ_jb (by rw [r_454_14 s4]; exact eX14_note 5 (h3 468 a1) s4) (fun h6 r6 => ?_)
        exact EQ_some r6
    · refine EQ_jgd (show h 454 (-2) = 15 from by rw [k_454 hS]) ?_
      refine EQ_jgd ⟨(show h (h 454 6) (-2) = 101 from by rw [r_454_6 hS, k_460 hS]), ((show jI a1 (h (h 454 6) (-1)) ↔ jI a1 8800 from by rw [r_454_6 hS, l_460 hS]).mpr g1)⟩ ?_
      refine EQ_if (show h (h 454 6) a1 = 1 ↔ h 460 a1 = 1 from by rw [r_454_6 hS]) (fun c7 => ?_) (fun c7 => ?_)
      · refine EQ_jgd (show h 454 (-2) = 15 from by rw [k_454 hS]) ?_
        refine EQ_jgd ⟨(show h (h 454 16) (-2) = 102 from by rw [r_454_16 hS, k_470 hS]), ((show jI a1 (h (h 454 16) (-1)) ↔ jI a1 8800 from by rw [r_454_16 hS, l_470 hS]).mpr g1)⟩ ?_
        refine EQ_jgd (show h 454 (-2) = 15 from by rw [k_454 hS]) ?_
        refine EQ_jb (by rw [r_454_16 hS]; exact eX14_nameAt (h 470 a1) hS) (fun v9 r8 => ?_)
        refine EQ_if Iff.rfl (fun c9 => ?_) (fun c9 => ?_)
        · refine EQ_jgd (show h 454 (-2) = 15 from by rw [k_454 hS]) ?_
          refine EQ_jgd ⟨(show h (h 454 8) (-2) = 101 from by rw [r_454_8 hS, k_462 hS]), (show 200 ≤ h 454 8 from by rw [r_454_8 hS]; exact (by decide)), ((show jI a1 (h (h 454 8) (-1)) ↔ jI a1 8800 from by rw [r_454_8 hS, l_462 hS]).mpr g1)⟩ ?_
          refine EQ_jl (by rw [r_454_8 hS]) (fun h11 eh11 => ?_)
          have s10 := Sh_of eh11 (Sh_sta hS (by decide +kernel) (jI_nn g1) (fun e => absurd ((k_462 hS).symm.trans e) (by decide)))
          clear eh11
          refine EQ_jgd (show h11 454 (-2) = 15 from by rw [k_454 s10]) ?_
          refine EQ_jgd (show h11 454 (-2) = 15 from by rw [k_454 s10]) ?_
          refine EQ_jg ⟨fun ⟨_, x0⟩ => (show jI v9 (h11 (h11 454 33) (-1)) ↔ jI v9 3 from by rw [r_454_33 s10, l_475 s10]).mp x0, fun x0 => ⟨(show h11 (h11 454 33) (-2) = 101 from by rw [r_454_33 s10, k_475 s10]), (show jI v9 (h11 (h11 454 33) (-1)) ↔ jI v9 3 from by rw [r_454_33 s10, l_475 s10]).mpr x0⟩⟩ (fun g11 => ?_)
          refine EQ_jgd ⟨(show h11 (h11 454 7) (-2) = 101 from by rw [r_454_7 s10, k_461 s10]), (show 200 ≤ h11 454 7 from by rw [r_454_7 s10]; exact (by decide)), ((show jI a1 (h11 (h11 454 7) (-1)) ↔ jI a1 8800 from by rw [r_454_7 s10, l_461 s10]).mpr g1)⟩ ?_
          refine EQ_jl (by rw [r_454_7 s10, r_454_33 s10]) (fun h12 eh12 => ?_)
          have s12 := Sh_of eh12 (Sh_sta s10 (by decide +kernel) (jI_nn g1) (fun e => absurd ((k_461 s10).symm.trans e) (by decide)))
          clear eh12
          refine EQ_jgd (show h12 454 (-2) = 15 from by rw [k_454 s12]) ?_
          refine EQ_jgd ⟨(show h12 (h12 454 7) (-2) = 101 from by rw [r_454_7 s12, k_461 s12]), ((show jI a1 (h12 (h12 454 7) (-1)) ↔ jI a1 8800 from by rw [r_454_7 s12, l_461 s12]).mpr g1)⟩ ?_
          exact EQ_some' (by rw [r_454_7 s12]) s12
        · refine EQ_jgd (show h 454 (-2) = 15 from by rw [k_454 hS]) ?_
          refine EQ_jgd ⟨(show h (h 454 14) (-2) = 101 from by rw [r_454_14 hS, k_468 hS]), ((show jI a1 (h (h 454 14) (-1)) ↔ jI a1 8800 from by rw [r_454_14 hS, l_468 hS]).mpr g1)⟩ ?_
          refine EQ_jgd (show h 454 (-2) = 15 from by rw [k_454 hS]) ?_
          refine EQ_jb (by rw [r_454_14 hS]; exact eX14_note 2 (h 468 a1) hS) (fun h14 r13 => ?_)
          exact EQ_some r13
      · refine EQ_if Iff.rfl (fun c14 => ?_) (fun c14 => ?_)
        · exact (eX14_mean_j145 hF a1 a2 0 hS)
        · refine EQ_jgd (show h 454 (-2) = 15 from by rw [k_454 hS]) ?_
          refine EQ_jgd ⟨(show h (h 454 16) (-2) = 102 from by rw [r_454_16 hS, k_470 hS]), ((show jI a1 (h (h 454 16) (-1)) ↔ jI a1 8800 from by rw [r_454_16 hS, l_470 hS]).mpr g1)⟩ ?_
          refine EQ_if (show jcmp (h (h 454 16) a1) 6 = 0 ↔ jcmp (h 470 a1) 6 = 0 from by rw [r_454_16 hS]) (fun c15 => ?_) (fun c15 => ?_)
          · exact (eX14_mean_j145 hF a1 a2 1 hS)
          · exact (eX14_mean_j145 hF a1 a2 0 hS)
noncomputable def gX14_meanD : Nat → Int → Int → AH → Option (Int × AH)
  | 0 => fun _ _ _ => none
  | d + 1 => gX14_mean_ (gX14_meanD d)
theorem eX14_meanD : ∀ (d : Nat) (a1 : Int) (a2 : Int) {h : AH} (hS : Sh S h) , EQ (fX14_meanD d 454 a1 a2 h) (gX14_meanD d a1 a2 h) (fun r => Sh S r.2) := by
  intro d
  induction d with
  | zero => intro a1 a2 h hS; exact EQ_none
  | succ d ih => intro a1 a2 h hS; exact eX14_mean_ ih a1 a2 hS
noncomputable def gX14_mean : Int → Int → AH → Option (Int × AH) := gX14_meanD 40
theorem eX14_mean (a1 : Int) (a2 : Int) {h : AH} (hS : Sh S h) : EQ (fX14_mean 454 a1 a2 h) (gX14_mean a1 a2 h) (fun r => Sh S r.2) := eX14_meanD 40 a1 a2 hS
noncomputable def gX14_weight_b100 (F : Int → AH → Option (Int)) (h : AH) (s : Int × Int) : Option ((Int × Int) ⊕ (Int)) := jt2 s fun a2 a3 => if a3 < 0 then (some (.inr a2)) else (jb (F a3 h) fun v12 => jl (min 100000 (w32 (a2 + v12))) fun x13 => jg (jI a3 8800) <| jl (h 467 a3) fun x14 => some (.inl (x13, x14)))
theorem eX14_weight_b100 {F0 : Int → Int → AH → Option (Int)} {F : Int → AH → Option (Int)} (hF : ∀ (b_a1 : Int), ∀ {b_h : AH}, Sh S b_h → EQ (F0 454 b_a1 b_h) (F b_a1 b_h) (fun _ => True)) (s : Int × Int) {h : AH} (hS : Sh S h) : EQ (fX14_weight_b100 F0 454 h s) (gX14_weight_b100 F h s) (Sum.elim (fun _ => True) (fun _ => True)) := by
  unfold fX14_weight_b100 gX14_weight_b100
  obtain ⟨a2, a3⟩ := s
  refine EQ_jt2 ?_
  refine EQ_if Iff.rfl (fun c1 => ?_) (fun c1 => ?_)
  · exact EQ_some trivial
  · refine EQ_jgd (show h 454 (-2) = 15 from by rw [k_454 hS]) ?_
    refine EQ_jb (hF a3 hS) (fun v12 r2 => ?_)
    refine EQ_jl rfl (fun x13 ex13 => ?_)
    clear ex13
    refine EQ_jgd (show h 454 (-2) = 15 from by rw [k_454 hS]) ?_
    refine EQ_jg ⟨fun ⟨_, x0⟩ => (show jI a3 (h (h 454 13) (-1)) ↔ jI a3 8800 from by rw [r_454_13 hS, l_467 hS]).mp x0, fun x0 => ⟨(show h (h 454 13) (-2) = 101 from by rw [r_454_13 hS, k_467 hS]), (show jI a3 (h (h 454 13) (-1)) ↔ jI a3 8800 from by rw [r_454_13 hS, l_467 hS]).mpr x0⟩⟩ (fun g3 => ?_)
    refine EQ_jl (by rw [r_454_13 hS]) (fun x14 ex14 => ?_)
    clear ex14
    exact EQ_some trivial
noncomputable def gX14_weight_l100 (F : Int → AH → Option (Int)) (a2 : Int) (a3 : Int) (h : AH) : Option (Int) := jit (gX14_weight_b100 F h) (a2, a3)
theorem eX14_weight_l100 {F0 : Int → Int → AH → Option (Int)} {F : Int → AH → Option (Int)} (hF : ∀ (b_a1 : Int), ∀ {b_h : AH}, Sh S b_h → EQ (F0 454 b_a1 b_h) (F b_a1 b_h) (fun _ => True)) (a2 : Int) (a3 : Int) {h : AH} (hS : Sh S h) : EQ (fX14_weight_l100 F0 454 a2 a3 h) (gX14_weight_l100 F a2 a3 h) (fun _ => True) := EQ_jit (I := (fun _ => True)) (fun s _ => eX14_weight_b100 hF s hS) trivial
noncomputable def gX14_weight_j93 (F : Int → AH → Option (Int)) (a1 : Int) (a2 : Int) (h : AH) : Option (Int) := jg (jI a1 8800) <| jl (h 466 a1) fun x7 => jb (gX14_weight_l100 F a2 x7 h) fun o8 => some o8
theorem eX14_weight_j93 {F0 : Int → Int → AH → Option (Int)} {F : Int → AH → Option (Int)} (hF : ∀ (b_a1 : Int), ∀ {b_h : AH}, Sh S b_h → EQ (F0 454 b_a1 b_h) (F b_a1 b_h) (fun _ => True)) (a1 : Int) (a2 : Int) {h : AH} (hS : Sh S h) : EQ (fX14_weight_j93 F0 454 a1 a2 h) (gX14_weight_j93 F a1 a2 h) (fun _ => True) := by
  unfold fX14_weight_j93 gX14_weight_j93
  refine EQ_jgd (show h 454 (-2) = 15 from by rw [k_454 hS]) ?_
  refine EQ_jg ⟨fun ⟨_, x0⟩ => (show jI a1 (h (h 454 12) (-1)) ↔ jI a1 8800 from by rw [r_454_12 hS, l_466 hS]).mp x0, fun x0 => ⟨(show h (h 454 12) (-2) = 101 from by rw [r_454_12 hS, k_466 hS]), (show jI a1 (h (h 454 12) (-1)) ↔ jI a1 8800 from by rw [r_454_12 hS, l_466 hS]).mpr x0⟩⟩ (fun g1 => ?_)
  refine EQ_jl (by rw [r_454_12 hS]) (fun x7 ex7 => ?_)
  clear ex7
  refine EQ_jb (eX14_weight_l100 hF a2 x7 hS) (fun o8 r2 => ?_)
  exact EQ_some trivial
noncomputable def gX14_weight_b49 (F : Int → AH → Option (Int)) (i1 : Int) (h : AH) (s : Int × Int) : Option ((Int × Int) ⊕ (Int)) := jt2 s fun a2 a3 => jg (jI i1 8800) <| if h 465 i1 ≤ a3 then (some (.inr a2)) else (if 3 ≤ a3 then (some (.inr a2)) else (jg (jI (w32 (w32 (3 * i1) + a3)) 26400) <| jb (F (h 464 (w32 (w32 (3 * i1) + a3))) h) fun v18 => jl (min 100000 (w32 (a2 + v18))) fun x19 => jl (w32 (a3 + 1)) fun x20 => some (.inl (x19, x20))))
theorem eX14_weight_b49 {F0 : Int → Int → AH → Option (Int)} {F : Int → AH → Option (Int)} (hF : ∀ (b_a1 : Int), ∀ {b_h : AH}, Sh S b_h → EQ (F0 454 b_a1 b_h) (F b_a1 b_h) (fun _ => True)) (i1 : Int) (s : Int × Int) {h : AH} (hS : Sh S h) : EQ (fX14_weight_b49 F0 454 i1 h s) (gX14_weight_b49 F i1 h s) (Sum.elim (fun _ => True) (fun _ => True)) := by
  unfold fX14_weight_b49 gX14_weight_b49
  obtain ⟨a2, a3⟩ := s
  refine EQ_jt2 ?_
  refine EQ_jgd (show h 454 (-2) = 15 from by rw [k_454 hS]) ?_
  refine EQ_jg ⟨fun ⟨_, x0⟩ => (show jI i1 (h (h 454 11) (-1)) ↔ jI i1 8800 from by rw [r_454_11 hS, l_465 hS]).mp x0, fun x0 => ⟨(show h (h 454 11) (-2) = 101 from by rw [r_454_11 hS, k_465 hS]), (show jI i1 (h (h 454 11) (-1)) ↔ jI i1 8800 from by rw [r_454_11 hS, l_465 hS]).mpr x0⟩⟩ (fun g1 => ?_)
  refine EQ_if (show h (h 454 11) i1 ≤ a3 ↔ h 465 i1 ≤ a3 from by rw [r_454_11 hS]) (fun c2 => ?_) (fun c2 => ?_)
  · exact EQ_some trivial
  · refine EQ_if Iff.rfl (fun c3 => ?_) (fun c3 => ?_)
    · exact EQ_some trivial
    · refine EQ_jgd (show h 454 (-2) = 15 from by rw [k_454 hS]) ?_
      refine EQ_jg ⟨fun ⟨_, x0⟩ => (show jI (w32 (w32 (3 * i1) + a3)) (h (h 454 10) (-1)) ↔ jI (w32 (w32 (3 * i1) + a3)) 26400 from by rw [r_454_10 hS, l_464 hS]).mp x0, fun x0 => ⟨(show h (h 454 10) (-2) = 101 from by rw [r_454_10 hS, k_464 hS]), (show jI (w32 (w32 (3 * i1) + a3)) (h (h 454 10) (-1)) ↔ jI (w32 (w32 (3 * i1) + a3)) 26400 from by rw [r_454_10 hS, l_464 hS]).mpr x0⟩⟩ (fun g4 => ?_)
      refine EQ_jgd (show h 454 (-2) = 15 from by rw [k_454 hS]) ?_
      refine EQ_jb (by rw [r_454_10 hS]; exact hF (h 464 (w32 (w32 (3 * i1) + a3))) hS) (fun v18 r5 => ?_)
      refine EQ_jl rfl (fun x19 ex19 => ?_)
      clear ex19
      refine EQ_jl rfl (fun x20 ex20 => ?_)
      clear ex20
      exact EQ_some trivial
noncomputable def gX14_weight_l49 (F : Int → AH → Option (Int)) (i1 : Int) (a2 : Int) (a3 : Int) (h : AH) : Option (Int) := jit (gX14_weight_b49 F i1 h) (a2, a3)
theorem eX14_weight_l49 {F0 : Int → Int → AH → Option (Int)} {F : Int → AH → Option (Int)} (hF : ∀ (b_a1 : Int), ∀ {b_h : AH}, Sh S b_h → EQ (F0 454 b_a1 b_h) (F b_a1 b_h) (fun _ => True)) (i1 : Int) (a2 : Int) (a3 : Int) {h : AH} (hS : Sh S h) : EQ (fX14_weight_l49 F0 454 i1 a2 a3 h) (gX14_weight_l49 F i1 a2 a3 h) (fun _ => True) := EQ_jit (I := (fun _ => True)) (fun s _ => eX14_weight_b49 hF i1 s hS) trivial
noncomputable def gX14_weight_j46 (F : Int → AH → Option (Int)) (a1 : Int) (t0 : Int) (h : AH) : Option (Int) := jb (gX14_weight_l49 F a1 t0 0 h) fun o5 => gX14_weight_j93 F a1 o5 h
theorem eX14_weight_j46 {F0 : Int → Int → AH → Option (Int)} {F : Int → AH → Option (Int)} (hF : ∀ (b_a1 : Int), ∀ {b_h : AH}, Sh S b_h → EQ (F0 454 b_a1 b_h) (F b_a1 b_h) (fun _ => True)) (a1 : Int) (t0 : Int) {h : AH} (hS : Sh S h) : EQ (fX14_weight_j46 F0 454 a1 t0 h) (gX14_weight_j46 F a1 t0 h) (fun _ => True) := by
  unfold fX14_weight_j46 gX14_weight_j46
  refine EQ_jb (eX14_weight_l49 hF a1 t0 0 hS) (fun o5 r1 => ?_)
  exact (eX14_weight_j93 hF a1 o5 hS)
noncomputable def gX14_weight_ (F : Int → AH → Option (Int)) (a1 : Int) (h : AH) : Option (Int) := jg (jI a1 8800) <| if h 460 a1 = 2 then (if 26 ≤ h 463 a1 then (jg (jI (h 463 a1) 36) <| jb (F (h 459 (h 463 a1)) h) fun v4 => gX14_weight_j46 F a1 (w32 (1 + v4)) h) else (gX14_weight_j46 F a1 1 h)) else (gX14_weight_j46 F a1 0 h)
theorem eX14_weight_ {F0 : Int → Int → AH → Option (Int)} {F : Int → AH → Option (Int)} (hF : ∀ (b_a1 : Int), ∀ {b_h : AH}, Sh S b_h → EQ (F0 454 b_a1 b_h) (F b_a1 b_h) (fun _ => True)) (a1 : Int) {h : AH} (hS : Sh S h) : EQ (fX14_weight_ F0 454 a1 h) (gX14_weight_ F a1 h) (fun _ => True) := by
  unfold fX14_weight_ gX14_weight_
  refine EQ_jgd (show h 454 (-2) = 15 from by rw [k_454 hS]) ?_
  refine EQ_jg ⟨fun ⟨_, x0⟩ => (show jI a1 (h (h 454 6) (-1)) ↔ jI a1 8800 from by rw [r_454_6 hS, l_460 hS]).mp x0, fun x0 => ⟨(show h (h 454 6) (-2) = 101 from by rw [r_454_6 hS, k_460 hS]), (show jI a1 (h (h 454 6) (-1)) ↔ jI a1 8800 from by rw [r_454_6 hS, l_460 hS]).mpr x0⟩⟩ (fun g1 => ?_)
  refine EQ_if (show h (h 454 6) a1 = 2 ↔ h 460 a1 = 2 from by rw [r_454_6 hS]) (fun c2 => ?_) (fun c2 => ?_)
  · refine EQ_jgd (show h 454 (-2) = 15 from by rw [k_454 hS]) ?_
    refine EQ_jgd ⟨(show h (h 454 9) (-2) = 101 from by rw [r_454_9 hS, k_463 hS]), ((show jI a1 (h (h 454 9) (-1)) ↔ jI a1 8800 from by rw [r_454_9 hS, l_463 hS]).mpr g1)⟩ ?_
    refine EQ_if (show 26 ≤ h (h 454 9) a1 ↔ 26 ≤ h 463 a1 from by rw [r_454_9 hS]) (fun c3 => ?_) (fun c3 => ?_)
    · refine EQ_jgd (show h 454 (-2) = 15 from by rw [k_454 hS]) ?_
      refine EQ_jgd (show h 454 (-2) = 15 from by rw [k_454 hS]) ?_
      refine EQ_jgd ⟨(show h (h 454 9) (-2) = 101 from by rw [r_454_9 hS, k_463 hS]), ((show jI a1 (h (h 454 9) (-1)) ↔ jI a1 8800 from by rw [r_454_9 hS, l_463 hS]).mpr g1)⟩ ?_
      refine EQ_jg ⟨fun ⟨_, x0⟩ => (show jI (h (h 454 9) a1) (h (h 454 4) (-1)) ↔ jI (h 463 a1) 36 from by rw [r_454_9 hS, r_454_4 hS, l_459 hS]).mp x0, fun x0 => ⟨(show h (h 454 4) (-2) = 101 from by rw [r_454_4 hS, k_459 hS]), (show jI (h (h 454 9) a1) (h (h 454 4) (-1)) ↔ jI (h 463 a1) 36 from by rw [r_454_9 hS, r_454_4 hS, l_459 hS]).mpr x0⟩⟩ (fun g4 => ?_)
      refine EQ_jgd (show h 454 (-2) = 15 from by rw [k_454 hS]) ?_
      refine EQ_jb (by rw [r_454_4 hS, r_454_9 hS]; exact hF (h 459 (h 463 a1)) hS) (fun v4 r5 => ?_)
      exact (eX14_weight_j46 hF a1 (w32 (1 + v4)) hS)
    · exact (eX14_weight_j46 hF a1 1 hS)
  · exact (eX14_weight_j46 hF a1 0 hS)
noncomputable def gX14_weightD : Nat → Int → AH → Option (Int)
  | 0 => fun _ _ => none
  | d + 1 => gX14_weight_ (gX14_weightD d)
theorem eX14_weightD : ∀ (d : Nat) (a1 : Int) {h : AH} (hS : Sh S h) , EQ (fX14_weightD d 454 a1 h) (gX14_weightD d a1 h) (fun _ => True) := by
  intro d
  induction d with
  | zero => intro a1 h hS; exact EQ_none
  | succ d ih => intro a1 h hS; exact eX14_weight_ ih a1 hS
noncomputable def gX14_weight : Int → AH → Option (Int) := gX14_weightD 100
theorem eX14_weight (a1 : Int) {h : AH} (hS : Sh S h) : EQ (fX14_weight 454 a1 h) (gX14_weight a1 h) (fun _ => True) := eX14_weightD 100 a1 hS
noncomputable def gX14_weighed (a1 : Int) (a2 : Int) (h : AH) : Option (Int × AH) := jb2 (gX14_mean a1 a2 h) fun v2 h3 => jb (gX14_weight a1 h3) fun v5 => if v5 ≤ 40 then (some (v2, h3)) else (jg (jI a1 8800) <| jb (gX14_note 5 (h3 468 a1) h3) fun h8 => some (v2, h8))
theorem eX14_weighed (a1 : Int) (a2 : Int) {h : AH} (hS : Sh S h) : EQ (fX14_weighed 454 a1 a2 h) (gX14_weighed a1 a2 h) (fun r => Sh S r.2) := by
  unfold fX14_weighed gX14_weighed
  refine EQ_jgd (show h 454 (-2) = 15 from by rw [k_454 hS]) ?_
  refine EQ_jb2 (eX14_mean a1 a2 hS) (fun v2 h3 r1 => ?_)
  replace r1 : Sh S h3 := r1
  refine EQ_jgd (show h3 454 (-2) = 15 from by rw [k_454 r1]) ?_
  refine EQ_jb (eX14_weight a1 r1) (fun v5 r2 => ?_)
  refine EQ_if Iff.rfl (fun c3 => ?_) (fun c3 => ?_)
  · exact EQ_some r1
  · refine EQ_jgd (show h3 454 (-2) = 15 from by rw [k_454 r1]) ?_
    refine EQ_jg ⟨fun ⟨_, x0⟩ => (show jI a1 (h3 (h3 454 14) (-1)) ↔ jI a1 8800 from by rw [r_454_14 r1, l_468 r1]).mp x0, fun x0 => ⟨(show h3 (h3 454 14) (-2) = 101 from by rw [r_454_14 r1, k_468 r1]), (show jI a1 (h3 (h3 454 14) (-1)) ↔ jI a1 8800 from by rw [r_454_14 r1, l_468 r1]).mpr x0⟩⟩ (fun g4 => ?_)
    refine EQ_jgd (show h3 454 (-2) = 15 from by rw [k_454 r1]) ?_
    refine EQ_jb (by rw [r_454_14 r1]; exact eX14_note 5 (h3 468 a1) r1) (fun h8 r5 => ?_)
    exact EQ_some r5
noncomputable def gX14_law_j370 (a1 : Int) (h : AH) : Option (Int × AH) := jl (jst h a1 12 (w32 (h a1 12 + 1))) fun h67 => some (0, h67)
theorem eX14_law_j370 (a1 : Int) (hT_a1 : isX16 a1) {h : AH} (hS : Sh S h) : EQ (fX14_law_j370 a1 h) (gX14_law_j370 a1 h) (fun r => Sh S r.2) := by
  unfold fX14_law_j370 gX14_law_j370
  refine EQ_jgd (show h a1 (-2) = 17 from by rw [kd_X16 hS hT_a1]) ?_
  refine EQ_jgd ⟨(show h a1 (-2) = 17 from by rw [kd_X16 hS hT_a1]), (show 200 ≤ a1 from ge_X16 hT_a1)⟩ ?_
  refine EQ_jl rfl (fun h67 eh67 => ?_)
  have s1 := Sh_of eh67 (Sh_sto_X16_12 hS hT_a1)
  clear eh67
  exact EQ_some s1
noncomputable def gX14_law_j303 (a1 : Int) (a3 : Int) (a4 : Int) (a5 : Int) (a6 : Int) (h : AH) : Option (Int × AH) := jb2 (gX14_passSign 59 h) fun t57 h59 => jq t57 (some (t57, h59)) <| if a4 = 0 then (gX14_law_j370 a1 h59) else (jg (jI a3 4) <| jl (jst h59 (a1 + 7) a3 (h59 454 34)) fun h62 => jg (jI (w32 (2 * a3)) 8) <| jl (jst h62 (a1 + 8) (w32 (2 * a3)) (h62 475 0)) fun h63 => jg (jI (w32 (w32 (2 * a3) + 1)) 8) <| jl (jst h63 (a1 + 8) (w32 (w32 (2 * a3) + 1)) (h63 475 1)) fun h64 => jl (jst h64 (a1 + 9) a3 a5) fun h65 => jl (jst h65 (a1 + 10) a3 a6) fun h66 => gX14_law_j370 a1 h66)
theorem eX14_law_j303 (a1 : Int) (a3 : Int) (a4 : Int) (a5 : Int) (a6 : Int) (hT_a1 : isX16 a1) {h : AH} (hS : Sh S h) : EQ (fX14_law_j303 454 a1 a3 a4 a5 a6 h) (gX14_law_j303 a1 a3 a4 a5 a6 h) (fun r => Sh S r.2) := by
  unfold fX14_law_j303 gX14_law_j303
  refine EQ_jgd (show h 454 (-2) = 15 from by rw [k_454 hS]) ?_
  refine EQ_jb2 (eX14_passSign 59 hS) (fun t57 h59 r1 => ?_)
  replace r1 : Sh S h59 := r1
  refine EQ_jq (fun _ => ?_) (fun _ => ?_)
  · exact EQ_some r1
  · refine EQ_if Iff.rfl (fun c2 => ?_) (fun c2 => ?_)
    · exact (eX14_law_j370 a1 hT_a1 r1)
    · refine EQ_jgd (show h59 a1 (-2) = 17 from by rw [kd_X16 r1 hT_a1]) ?_
      refine EQ_jgd (show h59 454 (-2) = 15 from by rw [k_454 r1]) ?_
      refine EQ_jg ⟨fun ⟨_, _, x0⟩ => (show jI a3 (h59 (h59 a1 13) (-1)) ↔ jI a3 4 from by rw [ft_X16_13 r1 hT_a1, la_X16_13 r1 hT_a1]).mp x0, fun x0 => ⟨(show h59 (h59 a1 13) (-2) = 101 from by rw [ft_X16_13 r1 hT_a1, ka_X16_13 r1 hT_a1]), (show 200 ≤ h59 a1 13 from by rw [ft_X16_13 r1 hT_a1]; exact gea_X16_13 hT_a1), (show jI a3 (h59 (h59 a1 13) (-1)) ↔ jI a3 4 from by rw [ft_X16_13 r1 hT_a1, la_X16_13 r1 hT_a1]).mpr x0⟩⟩ (fun g3 => ?_)
      refine EQ_jl (by rw [ft_X16_13 r1 hT_a1]) (fun h62 eh62 => ?_)
      have s4 := Sh_of eh62 (Sh_sta r1 (ara_X16_13 hT_a1) (jI_nn g3) (fun e => absurd ((ka_X16_13 r1 hT_a1).symm.trans e) (by decide)))
      clear eh62
      refine EQ_jgd (show h62 a1 (-2) = 17 from by rw [kd_X16 s4 hT_a1]) ?_
      refine EQ_jgd (show h62 454 (-2) = 15 from by rw [k_454 s4]) ?_
      refine EQ_jgd ⟨(show h62 (h62 454 33) (-2) = 101 from by rw [r_454_33 s4, k_475 s4]), (show jI 0 (h62 (h62 454 33) (-1)) from by rw [r_454_33 s4, l_475 s4]; unfold jI; decide)⟩ ?_
      refine EQ_jg ⟨fun ⟨_, _, x0⟩ => (show jI (w32 (2 * a3)) (h62 (h62 a1 14) (-1)) ↔ jI (w32 (2 * a3)) 8 from by rw [ft_X16_14 s4 hT_a1, la_X16_14 s4 hT_a1]).mp x0, fun x0 => ⟨(show h62 (h62 a1 14) (-2) = 101 from by rw [ft_X16_14 s4 hT_a1, ka_X16_14 s4 hT_a1]), (show 200 ≤ h62 a1 14 from by rw [ft_X16_14 s4 hT_a1]; exact gea_X16_14 hT_a1), (show jI (w32 (2 * a3)) (h62 (h62 a1 14) (-1)) ↔ jI (w32 (2 * a3)) 8 from by rw [ft_X16_14 s4 hT_a1, la_X16_14 s4 hT_a1]).mpr x0⟩⟩ (fun g5 => ?_)
      refine EQ_jl (by rw [ft_X16_14 s4 hT_a1, r_454_33 s4]) (fun h63 eh63 => ?_)
      have s6 := Sh_of eh63 (Sh_sta s4 (ara_X16_14 hT_a1) (jI_nn g5) (fun e => absurd ((ka_X16_14 s4 hT_a1).symm.trans e) (by decide)))
      clear eh63
      refine EQ_jgd (show h63 a1 (-2) = 17 from by rw [kd_X16 s6 hT_a1]) ?_
      refine EQ_jgd (show h63 454 (-2) = 15 from by rw [k_454 s6]) ?_
      refine EQ_jgd ⟨(show h63 (h63 454 33) (-2) = 101 from by rw [r_454_33 s6, k_475 s6]), (show jI 1 (h63 (h63 454 33) (-1)) from by rw [r_454_33 s6, l_475 s6]; unfold jI; decide)⟩ ?_
      refine EQ_jg ⟨fun ⟨_, _, x0⟩ => (show jI (w32 (w32 (2 * a3) + 1)) (h63 (h63 a1 14) (-1)) ↔ jI (w32 (w32 (2 * a3) + 1)) 8 from by rw [ft_X16_14 s6 hT_a1, la_X16_14 s6 hT_a1]).mp x0, fun x0 => ⟨(show h63 (h63 a1 14) (-2) = 101 from by rw [ft_X16_14 s6 hT_a1, ka_X16_14 s6 hT_a1]), (show 200 ≤ h63 a1 14 from by rw [ft_X16_14 s6 hT_a1]; exact gea_X16_14 hT_a1), (show jI (w32 (w32 (2 * a3) + 1)) (h63 (h63 a1 14) (-1)) ↔ jI (w32 (w32 (2 * a3) + 1)) 8 from by rw [ft_X16_14 s6 hT_a1, la_X16_14 s6 hT_a1]).mpr x0⟩⟩ (fun g7 => ?_)
      refine EQ_jl (by rw [ft_X16_14 s6 hT_a1, r_454_33 s6]) (fun h64 eh64 => ?_)
      have s8 := Sh_of eh64 (Sh_sta s6 (ara_X16_14 hT_a1) (jI_nn g7) (fun e => absurd ((ka_X16_14 s6 hT_a1).symm.trans e) (by decide)))
      clear eh64
      refine EQ_jgd (show h64 a1 (-2) = 17 from by rw [kd_X16 s8 hT_a1]) ?_
      refine EQ_jgd ⟨(show h64 (h64 a1 15) (-2) = 101 from by rw [ft_X16_15 s8 hT_a1, ka_X16_15 s8 hT_a1]), (show 200 ≤ h64 a1 15 from by rw [ft_X16_15 s8 hT_a1]; exact gea_X16_15 hT_a1), ((show jI a3 (h64 (h64 a1 15) (-1)) ↔ jI a3 4 from by rw [ft_X16_15 s8 hT_a1, la_X16_15 s8 hT_a1]).mpr g3)⟩ ?_
      refine EQ_jl (by rw [ft_X16_15 s8 hT_a1]) (fun h65 eh65 => ?_)
      have s9 := Sh_of eh65 (Sh_sta s8 (ara_X16_15 hT_a1) (jI_nn g3) (fun e => absurd ((ka_X16_15 s8 hT_a1).symm.trans e) (by decide)))
      clear eh65
      refine EQ_jgd (show h65 a1 (-2) = 17 from by rw [kd_X16 s9 hT_a1]) ?_
      refine EQ_jgd ⟨(show h65 (h65 a1 16) (-2) = 101 from by rw [ft_X16_16 s9 hT_a1, ka_X16_16 s9 hT_a1]), (show 200 ≤ h65 a1 16 from by rw [ft_X16_16 s9 hT_a1]; exact gea_X16_16 hT_a1), ((show jI a3 (h65 (h65 a1 16) (-1)) ↔ jI a3 4 from by rw [ft_X16_16 s9 hT_a1, la_X16_16 s9 hT_a1]).mpr g3)⟩ ?_
      refine EQ_jl (by rw [ft_X16_16 s9 hT_a1]) (fun h66 eh66 => ?_)
      have s10 := Sh_of eh66 (Sh_sta s9 (ara_X16_16 hT_a1) (jI_nn g3) (fun e => absurd ((ka_X16_16 s9 hT_a1).symm.trans e) (by decide)))
      clear eh66
      exact (eX14_law_j370 a1 hT_a1 s10)
noncomputable def gX14_law_j223 (a1 : Int) (a3 : Int) (a4 : Int) (h : AH) : Option (Int × AH) := jb2 (gX14_passSign 256 h) fun t26 h28 => jq t26 (some (t26, h28)) <| jb3 (gX14_takeTerm 0 0 h28) fun t31 v32 h33 => jq t31 (some (t31, h33)) <| jb2 (gX14_passSign 61 h33) fun t36 h38 => jq t36 (some (t36, h38)) <| jb3 (gX14_takeTerm 0 0 h38) fun t41 v42 h43 => jq t41 (some (t41, h43)) <| jb2 (gX14_weighed v32 a1 h43) fun v46 h47 => jb2 (gX14_weighed v42 a1 h47) fun v49 h50 => if v46 = 32 then (gX14_law_j303 a1 a3 a4 v32 v42 h50) else (if v49 = 32 then (gX14_law_j303 a1 a3 a4 v32 v42 h50) else (if v46 = v49 then (gX14_law_j303 a1 a3 a4 v32 v42 h50) else (jg (jI v42 8800) <| jb (gX14_note 3 (h50 468 v42) h50) fun h55 => gX14_law_j303 a1 a3 a4 v32 v42 h55)))
theorem eX14_law_j223 (a1 : Int) (a3 : Int) (a4 : Int) (hT_a1 : isX16 a1) {h : AH} (hS : Sh S h) : EQ (fX14_law_j223 454 a1 a3 a4 h) (gX14_law_j223 a1 a3 a4 h) (fun r => Sh S r.2) := by
  unfold fX14_law_j223 gX14_law_j223
  refine EQ_jgd (show h 454 (-2) = 15 from by rw [k_454 hS]) ?_
  refine EQ_jb2 (eX14_passSign 256 hS) (fun t26 h28 r1 => ?_)
  replace r1 : Sh S h28 := r1
  refine EQ_jq (fun _ => ?_) (fun _ => ?_)
  · exact EQ_some r1
  · refine EQ_jgd (show h28 454 (-2) = 15 from by rw [k_454 r1]) ?_
    refine EQ_jb3 (eX14_takeTerm 0 0 r1) (fun t31 v32 h33 r2 => ?_)
    replace r2 : Sh S h33 := r2
    refine EQ_jq (fun _ => ?_) (fun _ => ?_)
    · exact EQ_some r2
    · refine EQ_jgd (show h33 454 (-2) = 15 from by rw [k_454 r2]) ?_
      refine EQ_jb2 (eX14_passSign 61 r2) (fun t36 h38 r3 => ?_)
      replace r3 : Sh S h38 := r3
      refine EQ_jq (fun _ => ?_) (fun _ => ?_)
      · exact EQ_some r3
      · refine EQ_jgd (show h38 454 (-2) = 15 from by rw [k_454 r3]) ?_
        refine EQ_jb3 (eX14_takeTerm 0 0 r3) (fun t41 v42 h43 r4 => ?_)
        replace r4 : Sh S h43 := r4
        refine EQ_jq (fun _ => ?_) (fun _ => ?_)
        · exact EQ_some r4
        · refine EQ_jgd (show h43 454 (-2) = 15 from by rw [k_454 r4]) ?_
          refine EQ_jb2 (eX14_weighed v32 a1 r4) (fun v46 h47 r5 => ?_)
          replace r5 : Sh S h47 := r5
          refine EQ_jgd (show h47 454 (-2) = 15 from by rw [k_454 r5]) ?_
          refine EQ_jb2 (eX14_weighed v42 a1 r5) (fun v49 h50 r6 => ?_)
          replace r6 : Sh S h50 := r6
          refine EQ_if Iff.rfl (fun c7 => ?_) (fun c7 => ?_)
          · exact (eX14_law_j303 a1 a3 a4 v32 v42 hT_a1 r6)
          · refine EQ_if Iff.rfl (fun c8 => ?_) (fun c8 => ?_)
            · exact (eX14_law_j303 a1 a3 a4 v32 v42 hT_a1 r6)
            · refine EQ_if Iff.rfl (fun c9 => ?_) (fun c9 => ?_)
              · exact (eX14_law_j303 a1 a3 a4 v32 v42 hT_a1 r6)
              · refine EQ_jgd (show h50 454 (-2) = 15 from by rw [k_454 r6]) ?_
                refine EQ_jg ⟨fun ⟨_, x0⟩ => (show jI v42 (h50 (h50 454 14) (-1)) ↔ jI v42 8800 from by rw [r_454_14 r6, l_468 r6]).mp x0, fun x0 => ⟨(show h50 (h50 454 14) (-2) = 101 from by rw [r_454_14 r6, k_468 r6]), (show jI v42 (h50 (h50 454 14) (-1)) ↔ jI v42 8800 from by rw [r_454_14 r6, l_468 r6]).mpr x0⟩⟩ (fun g10 => ?_)
                refine EQ_jgd (show h50 454 (-2) = 15 from by rw [k_454 r6]) ?_
                refine EQ_jb (by rw [r_454_14 r6]; exact eX14_note 3 (h50 468 v42) r6) (fun h55 r11 => ?_)
                exact (eX14_law_j303 a1 a3 a4 v32 v42 hT_a1 r11)
noncomputable def gX14_law_j175_84 (a1 : Int) (a3 : Int) (a4 : Int) (a6 : Int) (a8 : Int) (h : AH) : Option ((AH) ⊕ ((AH) ⊕ (Int × AH))) := jg (jI (h 454 34) 3) <| jl (jst h 474 (h 454 34) a6) fun h96 => jg (jI (h96 454 34) 3) <| jl (jst h96 475 (h96 454 34) a8) fun h97 => jl (jst h97 454 34 (w32 (h97 454 34 + 1))) fun h98 => if 2 ≤ h98 454 34 then (some (.inr (.inl h98))) else (if h98 454 27 = 1 then (some (.inl h98)) else (some (.inr (.inl h98))))
theorem eX14_law_j175_84 (a1 : Int) (a3 : Int) (a4 : Int) (a6 : Int) (a8 : Int) (hT_a1 : isX16 a1) {h : AH} (hS : Sh S h) : EQ (fX14_law_j175_84 454 a1 a3 a4 a6 a8 h) (gX14_law_j175_84 a1 a3 a4 a6 a8 h) (Sum.elim (fun r => Sh S r) (Sum.elim (fun r => Sh S r) (fun r => Sh S r.2))) := by
  unfold fX14_law_j175_84 gX14_law_j175_84
  refine EQ_jgd (show h 454 (-2) = 15 from by rw [k_454 hS]) ?_
  refine EQ_jgd (show h 454 (-2) = 15 from by rw [k_454 hS]) ?_
  refine EQ_jg ⟨fun ⟨_, _, x0⟩ => (show jI (h 454 34) (h (h 454 32) (-1)) ↔ jI (h 454 34) 3 from by rw [r_454_32 hS, l_474 hS]).mp x0, fun x0 => ⟨(show h (h 454 32) (-2) = 102 from by rw [r_454_32 hS, k_474 hS]), (show 200 ≤ h 454 32 from by rw [r_454_32 hS]; exact (by decide)), (show jI (h 454 34) (h (h 454 32) (-1)) ↔ jI (h 454 34) 3 from by rw [r_454_32 hS, l_474 hS]).mpr x0⟩⟩ (fun g1 => ?_)
  refine EQ_jl (by rw [r_454_32 hS]) (fun h96 eh96 => ?_)
  have s2 := Sh_of eh96 (Sh_sta hS (by decide +kernel) (jI_nn g1) (fun e => absurd ((k_474 hS).symm.trans e) (by decide)))
  clear eh96
  refine EQ_jgd (show h96 454 (-2) = 15 from by rw [k_454 s2]) ?_
  refine EQ_jgd (show h96 454 (-2) = 15 from by rw [k_454 s2]) ?_
  refine EQ_jg ⟨fun ⟨_, _, x0⟩ => (show jI (h96 454 34) (h96 (h96 454 33) (-1)) ↔ jI (h96 454 34) 3 from by rw [r_454_33 s2, l_475 s2]).mp x0, fun x0 => ⟨(show h96 (h96 454 33) (-2) = 101 from by rw [r_454_33 s2, k_475 s2]), (show 200 ≤ h96 454 33 from by rw [r_454_33 s2]; exact (by decide)), (show jI (h96 454 34) (h96 (h96 454 33) (-1)) ↔ jI (h96 454 34) 3 from by rw [r_454_33 s2, l_475 s2]).mpr x0⟩⟩ (fun g3 => ?_)
  refine EQ_jl (by rw [r_454_33 s2]) (fun h97 eh97 => ?_)
  have s4 := Sh_of eh97 (Sh_sta s2 (by decide +kernel) (jI_nn g3) (fun e => absurd ((k_475 s2).symm.trans e) (by decide)))
  clear eh97
  refine EQ_jgd (show h97 454 (-2) = 15 from by rw [k_454 s4]) ?_
  refine EQ_jgd ⟨(show h97 454 (-2) = 15 from by rw [k_454 s4]), (show (200 : Int) ≤ 454 from (by decide))⟩ ?_
  refine EQ_jl rfl (fun h98 eh98 => ?_)
  have s5 := Sh_of eh98 (Sh_sto s4 (a := 454) (i := 34) (by decide +kernel))
  clear eh98
  refine EQ_jgd (show h98 454 (-2) = 15 from by rw [k_454 s5]) ?_
  refine EQ_if Iff.rfl (fun c6 => ?_) (fun c6 => ?_)
  · exact EQ_some s5
  · refine EQ_jgd (show h98 454 (-2) = 15 from by rw [k_454 s5]) ?_
    refine EQ_if Iff.rfl (fun c7 => ?_) (fun c7 => ?_)
    · exact EQ_some s5
    · exact EQ_some s5
noncomputable def gX14_law_j148_84 (a1 : Int) (a3 : Int) (a4 : Int) (a5 : Int) (a6 : Int) (h : AH) : Option ((AH) ⊕ ((AH) ⊕ (Int × AH))) := jb2 (gX14_passSign 58 h) fun t84 h86 => jq t84 (some (.inr (.inr (t84, h86)))) <| jb3 (gX14_takeKind h86) fun t89 v90 h91 => jq t89 (some (.inr (.inr (t89, h91)))) <| if v90 = 115 then (jb (gX14_note 6 a5 h91) fun h95 => gX14_law_j175_84 a1 a3 a4 a6 v90 h95) else (gX14_law_j175_84 a1 a3 a4 a6 v90 h91)
theorem eX14_law_j148_84 (a1 : Int) (a3 : Int) (a4 : Int) (a5 : Int) (a6 : Int) (hT_a1 : isX16 a1) {h : AH} (hS : Sh S h) : EQ (fX14_law_j148_84 454 a1 a3 a4 a5 a6 h) (gX14_law_j148_84 a1 a3 a4 a5 a6 h) (Sum.elim (fun r => Sh S r) (Sum.elim (fun r => Sh S r) (fun r => Sh S r.2))) := by
  unfold fX14_law_j148_84 gX14_law_j148_84
  refine EQ_jgd (show h 454 (-2) = 15 from by rw [k_454 hS]) ?_
  refine EQ_jb2 (eX14_passSign 58 hS) (fun t84 h86 r1 => ?_)
  replace r1 : Sh S h86 := r1
  refine EQ_jq (fun _ => ?_) (fun _ => ?_)
  · exact EQ_some r1
  · refine EQ_jgd (show h86 454 (-2) = 15 from by rw [k_454 r1]) ?_
    refine EQ_jb3 (eX14_takeKind r1) (fun t89 v90 h91 r2 => ?_)
    replace r2 : Sh S h91 := r2
    refine EQ_jq (fun _ => ?_) (fun _ => ?_)
    · exact EQ_some r2
    · refine EQ_if Iff.rfl (fun c3 => ?_) (fun c3 => ?_)
      · refine EQ_jgd (show h91 454 (-2) = 15 from by rw [k_454 r2]) ?_
        refine EQ_jb (eX14_note 6 a5 r2) (fun h95 r4 => ?_)
        exact (eX14_law_j175_84 a1 a3 a4 a6 v90 hT_a1 r4)
      · exact (eX14_law_j175_84 a1 a3 a4 a6 v90 hT_a1 r2)
noncomputable def gX14_law_j141_84 (a1 : Int) (a3 : Int) (a4 : Int) (a5 : Int) (a6 : Int) (h : AH) : Option ((AH) ⊕ ((AH) ⊕ (Int × AH))) := jb (gX14_note 2 a5 h) fun h82 => gX14_law_j148_84 a1 a3 a4 a5 a6 h82
theorem eX14_law_j141_84 (a1 : Int) (a3 : Int) (a4 : Int) (a5 : Int) (a6 : Int) (hT_a1 : isX16 a1) {h : AH} (hS : Sh S h) : EQ (fX14_law_j141_84 454 a1 a3 a4 a5 a6 h) (gX14_law_j141_84 a1 a3 a4 a5 a6 h) (Sum.elim (fun r => Sh S r) (Sum.elim (fun r => Sh S r) (fun r => Sh S r.2))) := by
  unfold fX14_law_j141_84 gX14_law_j141_84
  refine EQ_jgd (show h 454 (-2) = 15 from by rw [k_454 hS]) ?_
  refine EQ_jb (eX14_note 2 a5 hS) (fun h82 r1 => ?_)
  exact (eX14_law_j148_84 a1 a3 a4 a5 a6 hT_a1 r1)
noncomputable def gX14_law_b84 (i1 : Int) (i3 : Int) (i4 : Int) (h : AH) : Option ((AH) ⊕ ((AH) ⊕ (Int × AH))) := jl (h 454 29) fun x68 => jb3 (gX14_takeName h) fun t70 v71 h72 => jq t70 (some (.inr (.inr (t70, h72)))) <| if jcmp v71 6 = 0 then (gX14_law_j141_84 i1 i3 i4 x68 v71 h72) else (if jcmp v71 407354 = 0 then (gX14_law_j141_84 i1 i3 i4 x68 v71 h72) else (if jcmp v71 3217595 = 0 then (gX14_law_j141_84 i1 i3 i4 x68 v71 h72) else (if jcmp v71 3025044 = 0 then (gX14_law_j141_84 i1 i3 i4 x68 v71 h72) else (jb (gX14_nameAt v71 h72) fun v79 => if v79 < 0 then (gX14_law_j148_84 i1 i3 i4 x68 v71 h72) else (gX14_law_j141_84 i1 i3 i4 x68 v71 h72)))))
theorem eX14_law_b84 (i1 : Int) (i3 : Int) (i4 : Int) (hT_i1 : isX16 i1) {h : AH} (hS : Sh S h) : EQ (fX14_law_b84 454 i1 i3 i4 h) (gX14_law_b84 i1 i3 i4 h) (Sum.elim (fun r => Sh S r) (Sum.elim (fun r => Sh S r) (fun r => Sh S r.2))) := by
  unfold fX14_law_b84 gX14_law_b84
  refine EQ_jgd (show h 454 (-2) = 15 from by rw [k_454 hS]) ?_
  refine EQ_jl rfl (fun x68 ex68 => ?_)
  clear ex68
  refine EQ_jgd (show h 454 (-2) = 15 from by rw [k_454 hS]) ?_
  refine EQ_jb3 (eX14_takeName hS) (fun t70 v71 h72 r1 => ?_)
  replace r1 : Sh S h72 := r1
  refine EQ_jq (fun _ => ?_) (fun _ => ?_)
  · exact EQ_some r1
  · refine EQ_if Iff.rfl (fun c2 => ?_) (fun c2 => ?_)
    · exact (eX14_law_j141_84 i1 i3 i4 x68 v71 hT_i1 r1)
    · refine EQ_if Iff.rfl (fun c3 => ?_) (fun c3 => ?_)
      · exact (eX14_law_j141_84 i1 i3 i4 x68 v71 hT_i1 r1)
      · refine EQ_if Iff.rfl (fun c4 => ?_) (fun c4 => ?_)
        · exact (eX14_law_j141_84 i1 i3 i4 x68 v71 hT_i1 r1)
        · refine EQ_if Iff.rfl (fun c5 => ?_) (fun c5 => ?_)
          · exact (eX14_law_j141_84 i1 i3 i4 x68 v71 hT_i1 r1)
          · refine EQ_jgd (show h72 454 (-2) = 15 from by rw [k_454 r1]) ?_
            refine EQ_jb (eX14_nameAt v71 r1) (fun v79 r6 => ?_)
            refine EQ_if Iff.rfl (fun c7 => ?_) (fun c7 => ?_)
            · exact (eX14_law_j148_84 i1 i3 i4 x68 v71 hT_i1 r1)
            · exact (eX14_law_j141_84 i1 i3 i4 x68 v71 hT_i1 r1)
noncomputable def gX14_law_l84 (i1 : Int) (i3 : Int) (i4 : Int) (h : AH) : Option ((AH) ⊕ (Int × AH)) := jit (gX14_law_b84 i1 i3 i4) h
theorem eX14_law_l84 (i1 : Int) (i3 : Int) (i4 : Int) (hT_i1 : isX16 i1) {h : AH} (hS : Sh S h) : EQ (fX14_law_l84 454 i1 i3 i4 h) (gX14_law_l84 i1 i3 i4 h) (Sum.elim (fun r => Sh S r) (fun r => Sh S r.2)) := EQ_jit (I := (fun r => Sh S r)) (fun s hs => eX14_law_b84 i1 i3 i4 hT_i1 hs) hS
noncomputable def gX14_law_j75 (a1 : Int) (a3 : Int) (a4 : Int) (h : AH) : Option (Int × AH) := jb2 (gX14_next h) fun t14 h16 => jq t14 (some (t14, h16)) <| jl (jst h16 454 34 0) fun h18 => jb (gX14_law_l84 a1 a3 a4 h18) fun o19 => jm o19 (fun o21 => gX14_law_j223 a1 a3 a4 o21) (fun o22 => jt2 o22 fun y23 h24 => jg (¬ y23 = 0) <| some (y23, h24))
theorem eX14_law_j75 (a1 : Int) (a3 : Int) (a4 : Int) (hT_a1 : isX16 a1) {h : AH} (hS : Sh S h) : EQ (fX14_law_j75 454 a1 a3 a4 h) (gX14_law_j75 a1 a3 a4 h) (fun r => Sh S r.2) := by
  unfold fX14_law_j75 gX14_law_j75
  refine EQ_jgd (show h 454 (-2) = 15 from by rw [k_454 hS]) ?_
  refine EQ_jb2 (eX14_next hS) (fun t14 h16 r1 => ?_)
  replace r1 : Sh S h16 := r1
  refine EQ_jq (fun _ => ?_) (fun _ => ?_)
  · exact EQ_some r1
  · refine EQ_jgd ⟨(show h16 454 (-2) = 15 from by rw [k_454 r1]), (show (200 : Int) ≤ 454 from (by decide))⟩ ?_
    refine EQ_jl rfl (fun h18 eh18 => ?_)
    have s2 := Sh_of eh18 (Sh_sto r1 (a := 454) (i := 34) (by decide +kernel))
    clear eh18
    refine EQ_jb (eX14_law_l84 a1 a3 a4 hT_a1 s2) (fun o19 r3 => ?_)
    refine EQ_jm r3 (fun o21 r4 => ?_) (fun o22 r5 => ?_)
    · exact (eX14_law_j223 a1 a3 a4 hT_a1 r4)
    · obtain ⟨y23, h24⟩ := o22
      refine EQ_jt2 ?_
      replace r5 : Sh S h24 := r5
      refine EQ_jg Iff.rfl (fun g6 => ?_)
      exact EQ_some r5
noncomputable def gX14_law_j68 (a1 : Int) (a2 : Int) (a3 : Int) (a4 : Int) (h : AH) : Option (Int × AH) := jb (gX14_note 6 a2 h) fun h102 => gX14_law_j75 a1 a3 a4 h102
theorem eX14_law_j68 (a1 : Int) (a2 : Int) (a3 : Int) (a4 : Int) (hT_a1 : isX16 a1) {h : AH} (hS : Sh S h) : EQ (fX14_law_j68 454 a1 a2 a3 a4 h) (gX14_law_j68 a1 a2 a3 a4 h) (fun r => Sh S r.2) := by
  unfold fX14_law_j68 gX14_law_j68
  refine EQ_jgd (show h 454 (-2) = 15 from by rw [k_454 hS]) ?_
  refine EQ_jb (eX14_note 6 a2 hS) (fun h102 r1 => ?_)
  exact (eX14_law_j75 a1 a3 a4 hT_a1 r1)
noncomputable def gX14_law_j41 (a1 : Int) (a2 : Int) (a3 : Int) (t0 : Int) (h : AH) : Option (Int × AH) := jb (gX14_hasWords a1 h) fun v8 => if v8 = 0 then (jb (gX14_rowsOf (a1 + 1) 0 (h a1 3) h) fun v11 => if v11 ≤ 256 then (gX14_law_j75 a1 a3 t0 h) else (gX14_law_j68 a1 a2 a3 t0 h)) else (gX14_law_j68 a1 a2 a3 t0 h)
theorem eX14_law_j41 (a1 : Int) (a2 : Int) (a3 : Int) (t0 : Int) (hT_a1 : isX16 a1) {h : AH} (hS : Sh S h) : EQ (fX14_law_j41 454 a1 a2 a3 t0 h) (gX14_law_j41 a1 a2 a3 t0 h) (fun r => Sh S r.2) := by
  unfold fX14_law_j41 gX14_law_j41
  refine EQ_jb (eX14_hasWords a1 hT_a1 hS) (fun v8 r1 => ?_)
  refine EQ_if Iff.rfl (fun c2 => ?_) (fun c2 => ?_)
  · refine EQ_jgd (show h a1 (-2) = 17 from by rw [kd_X16 hS hT_a1]) ?_
    refine EQ_jgd (show h a1 (-2) = 17 from by rw [kd_X16 hS hT_a1]) ?_
    refine EQ_jb (by rw [ft_X16_2 hS hT_a1]; exact eX14_rowsOf (a1 + 1) 0 (h a1 3) hS) (fun v11 r3 => ?_)
    refine EQ_if Iff.rfl (fun c4 => ?_) (fun c4 => ?_)
    · exact (eX14_law_j75 a1 a3 t0 hT_a1 hS)
    · exact (eX14_law_j68 a1 a2 a3 t0 hT_a1 hS)
  · exact (eX14_law_j68 a1 a2 a3 t0 hT_a1 hS)
noncomputable def gX14_law_j19 (a1 : Int) (a2 : Int) (h : AH) : Option (Int × AH) := jl (min (h a1 12) 3) fun x5 => if 4 ≤ h a1 12 then (gX14_law_j41 a1 a2 x5 0 h) else (gX14_law_j41 a1 a2 x5 1 h)
theorem eX14_law_j19 (a1 : Int) (a2 : Int) (hT_a1 : isX16 a1) {h : AH} (hS : Sh S h) : EQ (fX14_law_j19 454 a1 a2 h) (gX14_law_j19 a1 a2 h) (fun r => Sh S r.2) := by
  unfold fX14_law_j19 gX14_law_j19
  refine EQ_jgd (show h a1 (-2) = 17 from by rw [kd_X16 hS hT_a1]) ?_
  refine EQ_jl rfl (fun x5 ex5 => ?_)
  clear ex5
  refine EQ_jgd (show h a1 (-2) = 17 from by rw [kd_X16 hS hT_a1]) ?_
  refine EQ_if Iff.rfl (fun c1 => ?_) (fun c1 => ?_)
  · exact (eX14_law_j41 a1 a2 x5 0 hT_a1 hS)
  · exact (eX14_law_j41 a1 a2 x5 1 hT_a1 hS)
noncomputable def gX14_law (a1 : Int) (h : AH) : Option (Int × AH) := jl (h 454 29) fun x1 => if h a1 12 = 4 then (jb (gX14_note 5 x1 h) fun h4 => gX14_law_j19 a1 x1 h4) else (gX14_law_j19 a1 x1 h)
theorem eX14_law (a1 : Int) (hT_a1 : isX16 a1) {h : AH} (hS : Sh S h) : EQ (fX14_law 454 a1 h) (gX14_law a1 h) (fun r => Sh S r.2) := by
  unfold fX14_law gX14_law
  refine EQ_jgd (show h 454 (-2) = 15 from by rw [k_454 hS]) ?_
  refine EQ_jl rfl (fun x1 ex1 => ?_)
  clear ex1
  refine EQ_jgd (show h a1 (-2) = 17 from by rw [kd_X16 hS hT_a1]) ?_
  refine EQ_if Iff.rfl (fun c1 => ?_) (fun c1 => ?_)
  · refine EQ_jgd (show h 454 (-2) = 15 from by rw [k_454 hS]) ?_
    refine EQ_jb (eX14_note 5 x1 hS) (fun h4 r2 => ?_)
    exact (eX14_law_j19 a1 x1 hT_a1 r2)
  · exact (eX14_law_j19 a1 x1 hT_a1 hS)
noncomputable def gX14_finish (h : AH) : Option (Int × AH) := if h 454 27 = 0 then (if h 454 30 ≤ 0 then (some (0, h)) else (jb2 (gX14_fail (h 454 30) (h 454 31) h) fun v4 h5 => jg (¬ v4 = 0 ∧ v4 = 472) <| some (472, h5))) else (jb2 (gX14_fail 1 (h 454 29) h) fun v7 h8 => jg (¬ v7 = 0 ∧ v7 = 472) <| some (472, h8))
theorem eX14_finish {h : AH} (hS : Sh S h) : EQ (fX14_finish 454 h) (gX14_finish h) (fun r => Sh S r.2) := by
  unfold fX14_finish gX14_finish
  refine EQ_jgd (show h 454 (-2) = 15 from by rw [k_454 hS]) ?_
  refine EQ_if Iff.rfl (fun c1 => ?_) (fun c1 => ?_)
  · refine EQ_jgd (show h 454 (-2) = 15 from by rw [k_454 hS]) ?_
    refine EQ_if Iff.rfl (fun c2 => ?_) (fun c2 => ?_)
    · exact EQ_some hS
    · refine EQ_jgd (show h 454 (-2) = 15 from by rw [k_454 hS]) ?_
      refine EQ_jgd (show h 454 (-2) = 15 from by rw [k_454 hS]) ?_
      refine EQ_jgd (show h 454 (-2) = 15 from by rw [k_454 hS]) ?_
      refine EQ_jb2 (eX14_fail (h 454 30) (h 454 31) hS) (fun v4 h5 r3 => ?_)
      replace r3 : Sh S h5 := r3
      refine EQ_jg ⟨fun ⟨x0, x1⟩ => ⟨x0, (ik_X15 r3).mp x1⟩, fun ⟨x0, x1⟩ => ⟨x0, (ik_X15 r3).mpr x1⟩⟩ (fun g4 => ?_)
      exact EQ_some' (by rw [g4.2]) r3
  · refine EQ_jgd (show h 454 (-2) = 15 from by rw [k_454 hS]) ?_
    refine EQ_jgd (show h 454 (-2) = 15 from by rw [k_454 hS]) ?_
    refine EQ_jb2 (eX14_fail 1 (h 454 29) hS) (fun v7 h8 r5 => ?_)
    replace r5 : Sh S h8 := r5
    refine EQ_jg ⟨fun ⟨x0, x1⟩ => ⟨x0, (ik_X15 r5).mp x1⟩, fun ⟨x0, x1⟩ => ⟨x0, (ik_X15 r5).mpr x1⟩⟩ (fun g6 => ?_)
    exact EQ_some' (by rw [g6.2]) r5
noncomputable def gX14_valueAt_j34_8 (a0 : Int) (a1 : Int) (a2 : Int) (a4 : Int) (a6 : Int) (t0 : Int) (t1 : Int) (h : AH) : Option ((Int × Int) ⊕ (Int)) := jg (¬ t1 = (0 : Int)) <| jl (jdiv t0 t1) fun x8 => jl (w32 (a6 + (-1))) fun x9 => some (.inl (x8, x9))
theorem eX14_valueAt_j34_8 (a0 : Int) (a1 : Int) (a2 : Int) (a4 : Int) (a6 : Int) (t0 : Int) (t1 : Int) {h : AH} (hS : Sh S h) : EQ (fX14_valueAt_j34_8 a0 a1 a2 a4 a6 t0 t1 h) (gX14_valueAt_j34_8 a0 a1 a2 a4 a6 t0 t1 h) (Sum.elim (fun _ => True) (fun _ => True)) := by
  unfold fX14_valueAt_j34_8 gX14_valueAt_j34_8
  refine EQ_jg Iff.rfl (fun g1 => ?_)
  refine EQ_jl rfl (fun x8 ex8 => ?_)
  clear ex8
  refine EQ_jl rfl (fun x9 ex9 => ?_)
  clear ex9
  exact EQ_some trivial
noncomputable def gX14_valueAt_b8 (i0 : Int) (i1 : Int) (i2 : Int) (i4 : Int) (h : AH) (s : Int × Int) : Option ((Int × Int) ⊕ (Int)) := jt2 s fun a5 a6 => if a6 ≤ i4 then (some (.inr a5)) else (jg (h i0 (-2) = 101 ∧ jI (w32 (i1 + a6)) (h i0 (-1))) <| if h i0 (w32 (i1 + a6)) = 110 then (gX14_valueAt_j34_8 i0 i1 i2 i4 a6 a5 16 h) else (gX14_valueAt_j34_8 i0 i1 i2 i4 a6 a5 2 h))
theorem eX14_valueAt_b8 (i0 : Int) (i1 : Int) (i2 : Int) (i4 : Int) (s : Int × Int) {h : AH} (hS : Sh S h) : EQ (fX14_valueAt_b8 i0 i1 i2 i4 h s) (gX14_valueAt_b8 i0 i1 i2 i4 h s) (Sum.elim (fun _ => True) (fun _ => True)) := by
  unfold fX14_valueAt_b8 gX14_valueAt_b8
  obtain ⟨a5, a6⟩ := s
  refine EQ_jt2 ?_
  refine EQ_if Iff.rfl (fun c1 => ?_) (fun c1 => ?_)
  · exact EQ_some trivial
  · refine EQ_jg Iff.rfl (fun g2 => ?_)
    refine EQ_if Iff.rfl (fun c3 => ?_) (fun c3 => ?_)
    · exact (eX14_valueAt_j34_8 i0 i1 i2 i4 a6 a5 16 hS)
    · exact (eX14_valueAt_j34_8 i0 i1 i2 i4 a6 a5 2 hS)
noncomputable def gX14_valueAt_l8 (i0 : Int) (i1 : Int) (i2 : Int) (i4 : Int) (a5 : Int) (a6 : Int) (h : AH) : Option (Int) := jit (gX14_valueAt_b8 i0 i1 i2 i4 h) (a5, a6)
theorem eX14_valueAt_l8 (i0 : Int) (i1 : Int) (i2 : Int) (i4 : Int) (a5 : Int) (a6 : Int) {h : AH} (hS : Sh S h) : EQ (fX14_valueAt_l8 i0 i1 i2 i4 a5 a6 h) (gX14_valueAt_l8 i0 i1 i2 i4 a5 a6 h) (fun _ => True) := EQ_jit (I := (fun _ => True)) (fun s _ => eX14_valueAt_b8 i0 i1 i2 i4 s hS) trivial
noncomputable def gX14_valueAt (a0 : Int) (a1 : Int) (a2 : Int) (a3 : Int) (a4 : Int) (h : AH) : Option (Int) := jl (w32 (a2 - 1)) fun x1 => jb (gX14_valueAt_l8 a0 a1 a2 a4 a3 x1 h) fun o2 => if a2 ≤ a4 then (some 0) else (jg (h a0 (-2) = 101 ∧ jI (w32 (a1 + a4)) (h a0 (-1))) <| if h a0 (w32 (a1 + a4)) = 110 then (some (jrem o2 16)) else (some (jrem o2 2)))
theorem eX14_valueAt (a0 : Int) (a1 : Int) (a2 : Int) (a3 : Int) (a4 : Int) {h : AH} (hS : Sh S h) : EQ (fX14_valueAt a0 a1 a2 a3 a4 h) (gX14_valueAt a0 a1 a2 a3 a4 h) (fun _ => True) := by
  unfold fX14_valueAt gX14_valueAt
  refine EQ_jl rfl (fun x1 ex1 => ?_)
  clear ex1
  refine EQ_jb (eX14_valueAt_l8 a0 a1 a2 a4 a3 x1 hS) (fun o2 r1 => ?_)
  refine EQ_if Iff.rfl (fun c2 => ?_) (fun c2 => ?_)
  · exact EQ_some trivial
  · refine EQ_jg Iff.rfl (fun g3 => ?_)
    refine EQ_if Iff.rfl (fun c4 => ?_) (fun c4 => ?_)
    · exact EQ_some trivial
    · exact EQ_some trivial
noncomputable def gX14_readAsk_j262_210 (a1 : Int) (a3 : Int) (a4 : Int) (t0 : Int) (t1 : Int) (t2 : Int) (h : AH) : Option ((Int × AH) ⊕ (AH)) := jg (h t0 (-2) = 101 ∧ 200 ≤ t0 ∧ jI t1 (h t0 (-1))) <| jl (jst h t0 t1 t2) fun h83 => jl (w32 (a4 + 1)) fun x84 => some (.inl (x84, h83))
theorem eX14_readAsk_j262_210 (a1 : Int) (a3 : Int) (a4 : Int) (t0 : Int) (t1 : Int) (t2 : Int) (hT_a1 : isX16 a1) {h : AH} (hS : Sh S h) : EQ (fX14_readAsk_j262_210 a1 a3 a4 t0 t1 t2 h) (gX14_readAsk_j262_210 a1 a3 a4 t0 t1 t2 h) (Sum.elim (fun r => Sh S r.2) (fun r => Sh S r)) := by
  unfold fX14_readAsk_j262_210 gX14_readAsk_j262_210
  refine EQ_jg Iff.rfl (fun g1 => ?_)
  refine EQ_jl rfl (fun h83 eh83 => ?_)
  have s2 := Sh_of eh83 (Sh_stk hS (Or.inl (g1.1)) (g1.2.1) (jI_nn (g1.2.2)) (fun e => absurd (((g1.1)).symm.trans e) (by decide)))
  clear eh83
  refine EQ_jl rfl (fun x84 ex84 => ?_)
  clear ex84
  exact EQ_some s2
noncomputable def gX14_readAsk_b210 (i1 : Int) (i3 : Int) (s : Int × AH) : Option ((Int × AH) ⊕ (AH)) := jt2 s fun a4 h => if 3 ≤ a4 then (some (.inr h)) else (if h i1 17 = 0 then (jg (jI (w32 (w32 (3 * i3) + a4)) 36) <| gX14_readAsk_j262_210 i1 i3 a4 (i1 + 11) (w32 (w32 (3 * i3) + a4)) (h (i1 + 5) (w32 (w32 (3 * i3) + a4))) h) else (jb (gX14_valueAt (i1 + 1) 0 (h i1 3) i3 a4 h) fun v82 => gX14_readAsk_j262_210 i1 i3 a4 (i1 + 11) (w32 (w32 (3 * i3) + a4)) v82 h))
theorem eX14_readAsk_b210 (i1 : Int) (i3 : Int) (hT_i1 : isX16 i1) {s : Int × AH} (hS : (fun r => Sh S r.2) s) : EQ (fX14_readAsk_b210 i1 i3 s) (gX14_readAsk_b210 i1 i3 s) (Sum.elim (fun r => Sh S r.2) (fun r => Sh S r)) := by
  unfold fX14_readAsk_b210 gX14_readAsk_b210
  obtain ⟨a4, h⟩ := s
  refine EQ_jt2 ?_
  replace hS : Sh S h := hS
  refine EQ_if Iff.rfl (fun c1 => ?_) (fun c1 => ?_)
  · exact EQ_some hS
  · refine EQ_jgd (show h i1 (-2) = 17 from by rw [kd_X16 hS hT_i1]) ?_
    refine EQ_jgd (show h i1 (-2) = 17 from by rw [kd_X16 hS hT_i1]) ?_
    refine EQ_if Iff.rfl (fun c2 => ?_) (fun c2 => ?_)
    · refine EQ_jgd (show h i1 (-2) = 17 from by rw [kd_X16 hS hT_i1]) ?_
      refine EQ_jg ⟨fun ⟨_, x0⟩ => (show jI (w32 (w32 (3 * i3) + a4)) (h (h i1 10) (-1)) ↔ jI (w32 (w32 (3 * i3) + a4)) 36 from by rw [ft_X16_10 hS hT_i1, la_X16_10 hS hT_i1]).mp x0, fun x0 => ⟨(show h (h i1 10) (-2) = 101 from by rw [ft_X16_10 hS hT_i1, ka_X16_10 hS hT_i1]), (show jI (w32 (w32 (3 * i3) + a4)) (h (h i1 10) (-1)) ↔ jI (w32 (w32 (3 * i3) + a4)) 36 from by rw [ft_X16_10 hS hT_i1, la_X16_10 hS hT_i1]).mpr x0⟩⟩ (fun g3 => ?_)
      exact (by rw [ft_X16_19 hS hT_i1, ft_X16_10 hS hT_i1]; exact eX14_readAsk_j262_210 i1 i3 a4 (i1 + 11) (w32 (w32 (3 * i3) + a4)) (h (i1 + 5) (w32 (w32 (3 * i3) + a4))) hT_i1 hS)
    · refine EQ_jgd (show h i1 (-2) = 17 from by rw [kd_X16 hS hT_i1]) ?_
      refine EQ_jgd (show h i1 (-2) = 17 from by rw [kd_X16 hS hT_i1]) ?_
      refine EQ_jb (by rw [ft_X16_2 hS hT_i1]; exact eX14_valueAt (i1 + 1) 0 (h i1 3) i3 a4 hS) (fun v82 r4 => ?_)
      exact (by rw [ft_X16_19 hS hT_i1]; exact eX14_readAsk_j262_210 i1 i3 a4 (i1 + 11) (w32 (w32 (3 * i3) + a4)) v82 hT_i1 hS)
noncomputable def gX14_readAsk_l210 (i1 : Int) (i3 : Int) (a4 : Int) (h : AH) : Option (AH) := jit (gX14_readAsk_b210 i1 i3) (a4, h)
theorem eX14_readAsk_l210 (i1 : Int) (i3 : Int) (a4 : Int) (hT_i1 : isX16 i1) {h : AH} (hS : Sh S h) : EQ (fX14_readAsk_l210 i1 i3 a4 h) (gX14_readAsk_l210 i1 i3 a4 h) (fun r => Sh S r) := EQ_jit (I := (fun r => Sh S r.2)) (fun s hs => eX14_readAsk_b210 i1 i3 hT_i1 hs) hS
noncomputable def gX14_readAsk_b199 (i1 : Int) (s : Int × AH) : Option ((Int × AH) ⊕ (AH)) := jt2 s fun a3 h => if h i1 18 ≤ a3 then (some (.inr h)) else (jb (gX14_readAsk_l210 i1 a3 0 h) fun o76 => jl (w32 (a3 + 1)) fun x78 => some (.inl (x78, o76)))
theorem eX14_readAsk_b199 (i1 : Int) (hT_i1 : isX16 i1) {s : Int × AH} (hS : (fun r => Sh S r.2) s) : EQ (fX14_readAsk_b199 i1 s) (gX14_readAsk_b199 i1 s) (Sum.elim (fun r => Sh S r.2) (fun r => Sh S r)) := by
  unfold fX14_readAsk_b199 gX14_readAsk_b199
  obtain ⟨a3, h⟩ := s
  refine EQ_jt2 ?_
  replace hS : Sh S h := hS
  refine EQ_jgd (show h i1 (-2) = 17 from by rw [kd_X16 hS hT_i1]) ?_
  refine EQ_if Iff.rfl (fun c1 => ?_) (fun c1 => ?_)
  · exact EQ_some hS
  · refine EQ_jb (eX14_readAsk_l210 i1 a3 0 hT_i1 hS) (fun o76 r2 => ?_)
    refine EQ_jl rfl (fun x78 ex78 => ?_)
    clear ex78
    exact EQ_some r2
noncomputable def gX14_readAsk_l199 (i1 : Int) (a3 : Int) (h : AH) : Option (AH) := jit (gX14_readAsk_b199 i1) (a3, h)
theorem eX14_readAsk_l199 (i1 : Int) (a3 : Int) (hT_i1 : isX16 i1) {h : AH} (hS : Sh S h) : EQ (fX14_readAsk_l199 i1 a3 h) (gX14_readAsk_l199 i1 a3 h) (fun r => Sh S r) := EQ_jit (I := (fun r => Sh S r.2)) (fun s hs => eX14_readAsk_b199 i1 hT_i1 hs) hS
noncomputable def gX14_readAsk_j194 (a1 : Int) (t0 : Int) (t1 : Int) (h : AH) : Option (Int × AH) := jl (jst h t0 18 t1) fun h69 => jb (gX14_readAsk_l199 a1 0 h69) fun o70 => jl (jst o70 a1 20 0) fun h72 => jl (jst h72 a1 26 0) fun h73 => jl (jst h73 a1 27 100) fun h74 => some (0, h74)
theorem eX14_readAsk_j194 (a1 : Int) (t0 : Int) (t1 : Int) (hT_a1 : isX16 a1) (hT_t0 : isX16 t0) {h : AH} (hS : Sh S h) : EQ (fX14_readAsk_j194 a1 t0 t1 h) (gX14_readAsk_j194 a1 t0 t1 h) (fun r => Sh S r.2) := by
  unfold fX14_readAsk_j194 gX14_readAsk_j194
  refine EQ_jgd ⟨(show h t0 (-2) = 17 from by rw [kd_X16 hS hT_t0]), (show 200 ≤ t0 from ge_X16 hT_t0)⟩ ?_
  refine EQ_jl rfl (fun h69 eh69 => ?_)
  have s1 := Sh_of eh69 (Sh_sto_X16_18 hS hT_t0)
  clear eh69
  refine EQ_jb (eX14_readAsk_l199 a1 0 hT_a1 s1) (fun o70 r2 => ?_)
  refine EQ_jgd ⟨(show o70 a1 (-2) = 17 from by rw [kd_X16 r2 hT_a1]), (show 200 ≤ a1 from ge_X16 hT_a1)⟩ ?_
  refine EQ_jl rfl (fun h72 eh72 => ?_)
  have s3 := Sh_of eh72 (Sh_sto_X16_20 r2 hT_a1)
  clear eh72
  refine EQ_jgd ⟨(show h72 a1 (-2) = 17 from by rw [kd_X16 s3 hT_a1]), (show 200 ≤ a1 from ge_X16 hT_a1)⟩ ?_
  refine EQ_jl rfl (fun h73 eh73 => ?_)
  have s4 := Sh_of eh73 (Sh_sto_X16_26 s3 hT_a1)
  clear eh73
  refine EQ_jgd ⟨(show h73 a1 (-2) = 17 from by rw [kd_X16 s4 hT_a1]), (show 200 ≤ a1 from ge_X16 hT_a1)⟩ ?_
  refine EQ_jl rfl (fun h74 eh74 => ?_)
  have s5 := Sh_of eh74 (Sh_sto_X16_27 s4 hT_a1)
  clear eh74
  exact EQ_some s5
noncomputable def gX14_readAsk_j175 (a1 : Int) (a2 : Int) (t0 : Int) (t1 : Int) (h : AH) : Option (Int × AH) := jg (jZ t1) <| jl (jst h t0 17 t1) fun h67 => if h67 a1 17 = 0 then (gX14_readAsk_j194 a1 a1 (h67 a1 9) h67) else (gX14_readAsk_j194 a1 a1 a2 h67)
theorem eX14_readAsk_j175 (a1 : Int) (a2 : Int) (t0 : Int) (t1 : Int) (hT_a1 : isX16 a1) (hT_t0 : isX16 t0) {h : AH} (hS : Sh S h) : EQ (fX14_readAsk_j175 a1 a2 t0 t1 h) (gX14_readAsk_j175 a1 a2 t0 t1 h) (fun r => Sh S r.2) := by
  unfold fX14_readAsk_j175 gX14_readAsk_j175
  refine EQ_jg ⟨fun ⟨_, _, x0⟩ => x0, fun x0 => ⟨(show h t0 (-2) = 17 from by rw [kd_X16 hS hT_t0]), (show 200 ≤ t0 from ge_X16 hT_t0), x0⟩⟩ (fun g1 => ?_)
  refine EQ_jl rfl (fun h67 eh67 => ?_)
  have s2 := Sh_of eh67 (Sh_sto_X16_17 hS hT_t0)
  clear eh67
  refine EQ_jgd (show h67 a1 (-2) = 17 from by rw [kd_X16 s2 hT_a1]) ?_
  refine EQ_if Iff.rfl (fun c3 => ?_) (fun c3 => ?_)
  · refine EQ_jgd (show h67 a1 (-2) = 17 from by rw [kd_X16 s2 hT_a1]) ?_
    exact (eX14_readAsk_j194 a1 a1 (h67 a1 9) hT_a1 hT_a1 s2)
  · exact (eX14_readAsk_j194 a1 a1 a2 hT_a1 hT_a1 s2)
noncomputable def gX14_readAsk_b72 (i1 : Int) (h : AH) : Option ((AH) ⊕ ((AH) ⊕ (Int × AH))) := jb2 (gX14_piece i1 h) fun t86 h88 => jq t86 (some (.inr (.inr (t86, h88)))) <| jb3 (gX14_skipSign 44 h88) fun t91 v92 h93 => jq t91 (some (.inr (.inr (t91, h93)))) <| if v92 = 0 then (some (.inr (.inl h93))) else (some (.inl h93))
theorem eX14_readAsk_b72 (i1 : Int) (hT_i1 : isX16 i1) {h : AH} (hS : Sh S h) : EQ (fX14_readAsk_b72 454 i1 h) (gX14_readAsk_b72 i1 h) (Sum.elim (fun r => Sh S r) (Sum.elim (fun r => Sh S r) (fun r => Sh S r.2))) := by
  unfold fX14_readAsk_b72 gX14_readAsk_b72
  refine EQ_jgd (show h 454 (-2) = 15 from by rw [k_454 hS]) ?_
  refine EQ_jb2 (eX14_piece i1 hT_i1 hS) (fun t86 h88 r1 => ?_)
  replace r1 : Sh S h88 := r1
  refine EQ_jq (fun _ => ?_) (fun _ => ?_)
  · exact EQ_some r1
  · refine EQ_jgd (show h88 454 (-2) = 15 from by rw [k_454 r1]) ?_
    refine EQ_jb3 (eX14_skipSign 44 r1) (fun t91 v92 h93 r2 => ?_)
    replace r2 : Sh S h93 := r2
    refine EQ_jq (fun _ => ?_) (fun _ => ?_)
    · exact EQ_some r2
    · refine EQ_if Iff.rfl (fun c3 => ?_) (fun c3 => ?_)
      · exact EQ_some r2
      · exact EQ_some r2
noncomputable def gX14_readAsk_l72 (i1 : Int) (h : AH) : Option ((AH) ⊕ (Int × AH)) := jit (gX14_readAsk_b72 i1) h
theorem eX14_readAsk_l72 (i1 : Int) (hT_i1 : isX16 i1) {h : AH} (hS : Sh S h) : EQ (fX14_readAsk_l72 454 i1 h) (gX14_readAsk_l72 i1 h) (Sum.elim (fun r => Sh S r) (fun r => Sh S r.2)) := EQ_jit (I := (fun r => Sh S r)) (fun s hs => eX14_readAsk_b72 i1 hT_i1 hs) hS
noncomputable def gX14_readAsk_b92 (i1 : Int) (h : AH) : Option ((AH) ⊕ ((AH) ⊕ ((AH) ⊕ ((Int × AH))))) := if h 454 27 = 0 then (some (.inr (.inr (.inl h)))) else (jb (gX14_isName 13550 h) fun v98 => if v98 = 0 then (jb (gX14_isName 8798 h) fun v101 => if v101 = 0 then (some (.inr (.inl h))) else (jb2 (gX14_law i1 h) fun t104 h106 => jq t104 (some (.inr (.inr (.inr (t104, h106))))) <| some (.inl h106))) else (jb2 (gX14_row i1 h) fun t109 h111 => jq t109 (some (.inr (.inr (.inr (t109, h111))))) <| some (.inl h111)))
theorem eX14_readAsk_b92 (i1 : Int) (hT_i1 : isX16 i1) {h : AH} (hS : Sh S h) : EQ (fX14_readAsk_b92 454 i1 h) (gX14_readAsk_b92 i1 h) (Sum.elim (fun r => Sh S r) (Sum.elim (fun r => Sh S r) (Sum.elim (fun r => Sh S r) (fun r => Sh S r.2)))) := by
  unfold fX14_readAsk_b92 gX14_readAsk_b92
  refine EQ_jgd (show h 454 (-2) = 15 from by rw [k_454 hS]) ?_
  refine EQ_if Iff.rfl (fun c1 => ?_) (fun c1 => ?_)
  · exact EQ_some hS
  · refine EQ_jgd (show h 454 (-2) = 15 from by rw [k_454 hS]) ?_
    refine EQ_jb (eX14_isName 13550 hS) (fun v98 r2 => ?_)
    refine EQ_if Iff.rfl (fun c3 => ?_) (fun c3 => ?_)
    · refine EQ_jgd (show h 454 (-2) = 15 from by rw [k_454 hS]) ?_
      refine EQ_jb (eX14_isName 8798 hS) (fun v101 r4 => ?_)
      refine EQ_if Iff.rfl (fun c5 => ?_) (fun c5 => ?_)
      · exact EQ_some hS
      · refine EQ_jgd (show h 454 (-2) = 15 from by rw [k_454 hS]) ?_
        refine EQ_jb2 (eX14_law i1 hT_i1 hS) (fun t104 h106 r6 => ?_)
        replace r6 : Sh S h106 := r6
        refine EQ_jq (fun _ => ?_) (fun _ => ?_)
        · exact EQ_some r6
        · exact EQ_some r6
    · refine EQ_jgd (show h 454 (-2) = 15 from by rw [k_454 hS]) ?_
      refine EQ_jb2 (eX14_row i1 hT_i1 hS) (fun t109 h111 r7 => ?_)
      replace r7 : Sh S h111 := r7
      refine EQ_jq (fun _ => ?_) (fun _ => ?_)
      · exact EQ_some r7
      · exact EQ_some r7
noncomputable def gX14_readAsk_l92 (i1 : Int) (h : AH) : Option ((AH) ⊕ ((AH) ⊕ ((Int × AH)))) := jit (gX14_readAsk_b92 i1) h
theorem eX14_readAsk_l92 (i1 : Int) (hT_i1 : isX16 i1) {h : AH} (hS : Sh S h) : EQ (fX14_readAsk_l92 454 i1 h) (gX14_readAsk_l92 i1 h) (Sum.elim (fun r => Sh S r) (Sum.elim (fun r => Sh S r) (fun r => Sh S r.2))) := EQ_jit (I := (fun r => Sh S r)) (fun s hs => eX14_readAsk_b92 i1 hT_i1 hs) hS
noncomputable def gX14_readAsk (a1 : Int) (h : AH) : Option (Int × AH) := jl (jst h 454 17 (h a1 0)) fun h1 => jb2 (gX14_passName 125041 h1) fun t3 h5 => jq t3 (some (t3, h5)) <| jb3 (gX14_takeKinds (a1 + 1) 3 1 h5) fun t8 v9 h10 => jq t8 (some (t8, h10)) <| jl (jst h10 a1 3 v9) fun h12 => jb2 (gX14_passSign 256 h12) fun t14 h16 => jq t14 (some (t14, h16)) <| jb3 (gX14_takeKind h16) fun t19 v20 h21 => jq t19 (some (t19, h21)) <| jl (jst h21 a1 4 v20) fun h23 => jb2 (gX14_passSign 59 h23) fun t25 h27 => jq t25 (some (t25, h27)) <| jb2 (gX14_passName 15827 h27) fun t30 h32 => jq t30 (some (t30, h32)) <| jl (jst h32 a1 5 0) fun h34 => jl (jst h34 a1 9 0) fun h35 => jl (jst h35 a1 12 0) fun h36 => jb (gX14_readAsk_l72 a1 h36) fun o37 => jm o37 (fun o39 => jb2 (gX14_passSign 59 o39) fun t42 h44 => jq t42 (some (t42, h44)) <| jb (gX14_readAsk_l92 a1 h44) fun o46 => jm o46 (fun o48 => jb2 (gX14_fail 1 (o48 454 29) o48) fun v51 h52 => jg (¬ v51 = 0 ∧ v51 = 472) <| some (472, h52)) (fun o49 => jm o49 (fun o53 => jb2 (gX14_finish o53) fun t56 h58 => jq t56 (some (t56, h58)) <| jb (gX14_rowsOf (a1 + 1) 0 (h58 a1 3) h58) fun v61 => if 256 < v61 then (gX14_readAsk_j175 a1 v61 a1 0 h58) else (gX14_readAsk_j175 a1 v61 a1 1 h58)) (fun o54 => jt2 o54 fun y63 h64 => jg (¬ y63 = 0) <| some (y63, h64)))) (fun o40 => jt2 o40 fun y65 h66 => jg (¬ y65 = 0) <| some (y65, h66))
theorem eX14_readAsk (a1 : Int) (hT_a1 : isX16 a1) {h : AH} (hS : Sh S h) : EQ (fX14_readAsk 454 a1 h) (gX14_readAsk a1 h) (fun r => Sh S r.2) := by
  unfold fX14_readAsk gX14_readAsk
  refine EQ_jgd (show h a1 (-2) = 17 from by rw [kd_X16 hS hT_a1]) ?_
  refine EQ_jgd ⟨(show h 454 (-2) = 15 from by rw [k_454 hS]), (show (200 : Int) ≤ 454 from (by decide))⟩ ?_
  refine EQ_jl rfl (fun h1 eh1 => ?_)
  have s1 := Sh_of eh1 (Sh_sto hS (a := 454) (i := 17) (by decide +kernel))
  clear eh1
  refine EQ_jgd (show h1 454 (-2) = 15 from by rw [k_454 s1]) ?_
  refine EQ_jb2 (eX14_passName 125041 s1) (fun t3 h5 r2 => ?_)
  replace r2 : Sh S h5 := r2
  refine EQ_jq (fun _ => ?_) (fun _ => ?_)
  · exact EQ_some r2
  · refine EQ_jgd (show h5 a1 (-2) = 17 from by rw [kd_X16 r2 hT_a1]) ?_
    refine EQ_jgd (show h5 454 (-2) = 15 from by rw [k_454 r2]) ?_
    refine EQ_jb3 (by rw [ft_X16_2 r2 hT_a1]; exact eX14_takeKinds (a1 + 1) 3 1 r2) (fun t8 v9 h10 r3 => ?_)
    replace r3 : Sh S h10 := r3
    refine EQ_jq (fun _ => ?_) (fun _ => ?_)
    · exact EQ_some r3
    · refine EQ_jgd ⟨(show h10 a1 (-2) = 17 from by rw [kd_X16 r3 hT_a1]), (show 200 ≤ a1 from ge_X16 hT_a1)⟩ ?_
      refine EQ_jl rfl (fun h12 eh12 => ?_)
      have s4 := Sh_of eh12 (Sh_sto_X16_3 r3 hT_a1)
      clear eh12
      refine EQ_jgd (show h12 454 (-2) = 15 from by rw [k_454 s4]) ?_
      refine EQ_jb2 (eX14_passSign 256 s4) (fun t14 h16 r5 => ?_)
      replace r5 : Sh S h16 := r5
      refine EQ_jq (fun _ => ?_) (fun _ => ?_)
      · exact EQ_some r5
      · refine EQ_jgd (show h16 454 (-2) = 15 from by rw [k_454 r5]) ?_
        refine EQ_jb3 (eX14_takeKind r5) (fun t19 v20 h21 r6 => ?_)
        replace r6 : Sh S h21 := r6
        refine EQ_jq (fun _ => ?_) (fun _ => ?_)
        · exact EQ_some r6
        · refine EQ_jgd ⟨(show h21 a1 (-2) = 17 from by rw [kd_X16 r6 hT_a1]), (show 200 ≤ a1 from ge_X16 hT_a1)⟩ ?_
          refine EQ_jl rfl (fun h23 eh23 => ?_)
          have s7 := Sh_of eh23 (Sh_sto_X16_4 r6 hT_a1)
          clear eh23
          refine EQ_jgd (show h23 454 (-2) = 15 from by rw [k_454 s7]) ?_
          refine EQ_jb2 (eX14_passSign 59 s7) (fun t25 h27 r8 => ?_)
          replace r8 : Sh S h27 := r8
          refine EQ_jq (fun _ => ?_) (fun _ => ?_)
          · exact EQ_some r8
          · refine EQ_jgd (show h27 454 (-2) = 15 from by rw [k_454 r8]) ?_
            refine EQ_jb2 (eX14_passName 15827 r8) (fun t30 h32 r9 => ?_)
            replace r9 : Sh S h32 := r9
            refine EQ_jq (fun _ => ?_) (fun _ => ?_)
            · exact EQ_some r9
            · refine EQ_jgd ⟨(show h32 a1 (-2) = 17 from by rw [kd_X16 r9 hT_a1]), (show 200 ≤ a1 from ge_X16 hT_a1)⟩ ?_
              refine EQ_jl rfl (fun h34 eh34 => ?_)
              have s10 := Sh_of eh34 (Sh_sto_X16_5 r9 hT_a1)
              clear eh34
              refine EQ_jgd ⟨(show h34 a1 (-2) = 17 from by rw [kd_X16 s10 hT_a1]), (show 200 ≤ a1 from ge_X16 hT_a1)⟩ ?_
              refine EQ_jl rfl (fun h35 eh35 => ?_)
              have s11 := Sh_of eh35 (Sh_sto_X16_9 s10 hT_a1)
              clear eh35
              refine EQ_jgd ⟨(show h35 a1 (-2) = 17 from by rw [kd_X16 s11 hT_a1]), (show 200 ≤ a1 from ge_X16 hT_a1)⟩ ?_
              refine EQ_jl rfl (fun h36 eh36 => ?_)
              have s12 := Sh_of eh36 (Sh_sto_X16_12 s11 hT_a1)
              clear eh36
              refine EQ_jb (eX14_readAsk_l72 a1 hT_a1 s12) (fun o37 r13 => ?_)
              refine EQ_jm r13 (fun o39 r14 => ?_) (fun o40 r15 => ?_)
              · refine EQ_jgd (show o39 454 (-2) = 15 from by rw [k_454 r14]) ?_
                refine EQ_jb2 (eX14_passSign 59 r14) (fun t42 h44 r16 => ?_)
                replace r16 : Sh S h44 := r16
                refine EQ_jq (fun _ => ?_) (fun _ => ?_)
                · exact EQ_some r16
                · refine EQ_jb (eX14_readAsk_l92 a1 hT_a1 r16) (fun o46 r17 => ?_)
                  refine EQ_jm r17 (fun o48 r18 => ?_) (fun o49 r19 => ?_)
                  · refine EQ_jgd (show o48 454 (-2) = 15 from by rw [k_454 r18]) ?_
                    refine EQ_jgd (show o48 454 (-2) = 15 from by rw [k_454 r18]) ?_
                    refine EQ_jb2 (eX14_fail 1 (o48 454 29) r18) (fun v51 h52 r20 => ?_)
                    replace r20 : Sh S h52 := r20
                    refine EQ_jg ⟨fun ⟨x0, x1⟩ => ⟨x0, (ik_X15 r20).mp x1⟩, fun ⟨x0, x1⟩ => ⟨x0, (ik_X15 r20).mpr x1⟩⟩ (fun g21 => ?_)
                    exact EQ_some' (by rw [g21.2]) r20
                  · refine EQ_jm r19 (fun o53 r22 => ?_) (fun o54 r23 => ?_)
                    · refine EQ_jgd (show o53 454 (-2) = 15 from by rw [k_454 r22]) ?_
                      refine EQ_jb2 (eX14_finish r22) (fun t56 h58 r24 => ?_)
                      replace r24 : Sh S h58 := r24
                      refine EQ_jq (fun _ => ?_) (fun _ => ?_)
                      · exact EQ_some r24
                      · refine EQ_jgd (show h58 a1 (-2) = 17 from by rw [kd_X16 r24 hT_a1]) ?_
                        refine EQ_jgd (show h58 a1 (-2) = 17 from by rw [kd_X16 r24 hT_a1]) ?_
                        refine EQ_jb (by rw [ft_X16_2 r24 hT_a1]; exact eX14_rowsOf (a1 + 1) 0 (h58 a1 3) r24) (fun v61 r25 => ?_)
                        refine EQ_if Iff.rfl (fun c26 => ?_) (fun c26 => ?_)
                        · exact (eX14_readAsk_j175 a1 v61 a1 0 hT_a1 hT_a1 r24)
                        · exact (eX14_readAsk_j175 a1 v61 a1 1 hT_a1 hT_a1 r24)
                    · obtain ⟨y63, h64⟩ := o54
                      refine EQ_jt2 ?_
                      replace r23 : Sh S h64 := r23
                      refine EQ_jg Iff.rfl (fun g27 => ?_)
                      exact EQ_some r23
              · obtain ⟨y65, h66⟩ := o40
                refine EQ_jt2 ?_
                replace r15 : Sh S h66 := r15
                refine EQ_jg Iff.rfl (fun g28 => ?_)
                exact EQ_some r15
noncomputable def gX14_faulty (a1 : Int) (h : AH) : Option (Int × AH) := jg (a1 = 472) <| jl (jst h 454 55 (h 472 7)) fun h1 => some (w32 ((-10) - h1 472 6), h1)
theorem eX14_faulty (a1 : Int) {h : AH} (hS : Sh S h) : EQ (fX14_faulty 454 a1 h) (gX14_faulty a1 h) (fun r => Sh S r.2) := by
  unfold fX14_faulty gX14_faulty
  refine EQ_jg ⟨fun x0 => (ik_X15 hS).mp x0, fun x0 => (ik_X15 hS).mpr x0⟩ (fun g1 => ?_)
  refine EQ_jgd ⟨(show h 454 (-2) = 15 from by rw [k_454 hS]), (show (200 : Int) ≤ 454 from (by decide))⟩ ?_
  refine EQ_jl (by rw [g1]) (fun h1 eh1 => ?_)
  have s2 := Sh_of eh1 (Sh_sto hS (a := 454) (i := 55) (by decide +kernel))
  clear eh1
  refine EQ_jgd (show h1 a1 (-2) = 16 from by rw [g1, k_472 s2]) ?_
  exact EQ_some' (by rw [g1]) s2
noncomputable def gX14_ask_j36 (t0 : Int) (h : AH) : Option (Int × AH) := jb2 (gX14_begin h) fun t9 h11 => jq t9 (jg (0 < t9) <| jb2 (gX14_faulty t9 h11) fun v14 h15 => some (v14, h15)) <| jb2 (gX14_readAsk t0 h11) fun t17 h19 => jq t17 (jg (0 < t17) <| jb2 (gX14_faulty t17 h19) fun v22 h23 => some (v22, h23)) <| jl (jst h19 454 38 t0) fun h24 => some (h24 t0 18, h24)
theorem eX14_ask_j36 (t0 : Int) (hT_t0 : isX16 t0) {h : AH} (hS : Sh S h) : EQ (fX14_ask_j36 454 t0 h) (gX14_ask_j36 t0 h) (fun r => Sh S r.2) := by
  unfold fX14_ask_j36 gX14_ask_j36
  refine EQ_jgd (show h 454 (-2) = 15 from by rw [k_454 hS]) ?_
  refine EQ_jb2 (eX14_begin hS) (fun t9 h11 r1 => ?_)
  replace r1 : Sh S h11 := r1
  refine EQ_jq (fun _ => ?_) (fun _ => ?_)
  · refine EQ_jg Iff.rfl (fun g2 => ?_)
    refine EQ_jgd (show h11 454 (-2) = 15 from by rw [k_454 r1]) ?_
    refine EQ_jb2 (eX14_faulty t9 r1) (fun v14 h15 r3 => ?_)
    replace r3 : Sh S h15 := r3
    exact EQ_some r3
  · refine EQ_jgd (show h11 454 (-2) = 15 from by rw [k_454 r1]) ?_
    refine EQ_jb2 (eX14_readAsk t0 hT_t0 r1) (fun t17 h19 r4 => ?_)
    replace r4 : Sh S h19 := r4
    refine EQ_jq (fun _ => ?_) (fun _ => ?_)
    · refine EQ_jg Iff.rfl (fun g5 => ?_)
      refine EQ_jgd (show h19 454 (-2) = 15 from by rw [k_454 r4]) ?_
      refine EQ_jb2 (eX14_faulty t17 r4) (fun v22 h23 r6 => ?_)
      replace r6 : Sh S h23 := r6
      exact EQ_some r6
    · refine EQ_jgd ⟨(show h19 454 (-2) = 15 from by rw [k_454 r4]), (show (200 : Int) ≤ 454 from (by decide))⟩ ?_
      refine EQ_jl rfl (fun h24 eh24 => ?_)
      have s7 := Sh_of eh24 (Sh_sto r4 (a := 454) (i := 38) (by decide +kernel))
      clear eh24
      refine EQ_jgd (show h24 t0 (-2) = 17 from by rw [kd_X16 s7 hT_t0]) ?_
      exact EQ_some s7
noncomputable def gX14_ask (h : AH) : Option (Int × AH) := jb2 (gX14_isDown h) fun v2 h3 => if v2 = 0 then (jb (gX14_takeTape h3) fun h6 => jg ((h6 454 38 = 0 ∨ 200 ≤ h6 454 38) ∧ ((476 : Int) = 0 ∨ (200 : Int) ≤ 476)) <| if h6 454 38 = 476 then (gX14_ask_j36 615 h6) else (gX14_ask_j36 476 h6)) else (some ((-5), h3))
theorem eX14_ask {h : AH} (hS : Sh S h) : EQ (fX14_ask 454 h) (gX14_ask h) (fun r => Sh S r.2) := by
  unfold fX14_ask gX14_ask
  refine EQ_jgd (show h 454 (-2) = 15 from by rw [k_454 hS]) ?_
  refine EQ_jb2 (eX14_isDown hS) (fun v2 h3 r1 => ?_)
  replace r1 : Sh S h3 := r1
  refine EQ_if Iff.rfl (fun c2 => ?_) (fun c2 => ?_)
  · refine EQ_jgd (show h3 454 (-2) = 15 from by rw [k_454 r1]) ?_
    refine EQ_jb (eX14_takeTape r1) (fun h6 r3 => ?_)
    refine EQ_jgd (show h6 454 (-2) = 15 from by rw [k_454 r3]) ?_
    refine EQ_jgd (show h6 454 (-2) = 15 from by rw [k_454 r3]) ?_
    refine EQ_jg ⟨fun ⟨x0, x1⟩ => ⟨x0, (show h6 454 36 = 0 ∨ 200 ≤ h6 454 36 ↔ (476 : Int) = 0 ∨ (200 : Int) ≤ 476 from by rw [r_454_36 r3]).mp x1⟩, fun ⟨x0, x1⟩ => ⟨x0, (show h6 454 36 = 0 ∨ 200 ≤ h6 454 36 ↔ (476 : Int) = 0 ∨ (200 : Int) ≤ 476 from by rw [r_454_36 r3]).mpr x1⟩⟩ (fun g4 => ?_)
    refine EQ_if (show h6 454 38 = h6 454 36 ↔ h6 454 38 = 476 from by rw [r_454_36 r3]) (fun c5 => ?_) (fun c5 => ?_)
    · refine EQ_jgd (show h6 454 (-2) = 15 from by rw [k_454 r3]) ?_
      exact (by rw [r_454_37 r3]; exact eX14_ask_j36 615 (by unfold isX16; decide) r3)
    · refine EQ_jgd (show h6 454 (-2) = 15 from by rw [k_454 r3]) ?_
      exact (by rw [r_454_36 r3]; exact eX14_ask_j36 476 (by unfold isX16; decide) r3)
  · exact EQ_some r1
noncomputable def gX14_isTaken_j22 (a0 : Int) : Option (Int) := if jcmp a0 407354 = 0 then (some 1) else (if jcmp a0 3217595 = 0 then (some 1) else (if jcmp a0 3025044 = 0 then (some 1) else (some 0)))
theorem eX14_isTaken_j22 (a0 : Int) : EQ (fX14_isTaken_j22 a0) (gX14_isTaken_j22 a0) (fun _ => True) := by
  unfold fX14_isTaken_j22 gX14_isTaken_j22
  refine EQ_if Iff.rfl (fun c1 => ?_) (fun c1 => ?_)
  · exact EQ_some trivial
  · refine EQ_if Iff.rfl (fun c2 => ?_) (fun c2 => ?_)
    · exact EQ_some trivial
    · refine EQ_if Iff.rfl (fun c3 => ?_) (fun c3 => ?_)
      · exact EQ_some trivial
      · exact EQ_some trivial
noncomputable def gX14_isTaken (a0 : Int) : Option (Int) := if jcmp a0 6 = 0 then (some 1) else (if jcmp a0 1 < 0 then (gX14_isTaken_j22 a0) else (if jcmp a0 3 ≤ 0 then (some 1) else (gX14_isTaken_j22 a0)))
theorem eX14_isTaken (a0 : Int) : EQ (fX14_isTaken a0) (gX14_isTaken a0) (fun _ => True) := by
  unfold fX14_isTaken gX14_isTaken
  refine EQ_if Iff.rfl (fun c1 => ?_) (fun c1 => ?_)
  · exact EQ_some trivial
  · refine EQ_if Iff.rfl (fun c2 => ?_) (fun c2 => ?_)
    · exact (eX14_isTaken_j22 a0)
    · refine EQ_if Iff.rfl (fun c3 => ?_) (fun c3 => ?_)
      · exact EQ_some trivial
      · exact (eX14_isTaken_j22 a0)
noncomputable def gX14_parameters_b8 (i1 : Int) (i2 : Int) (i3 : Int) (s : Int × AH) : Option ((Int × AH) ⊕ (AH)) := jt2 s fun a4 h => if i3 ≤ a4 then (some (.inr h)) else (jg (jI a4 3) <| jl (jst h 474 a4 (w64 (a4 + 1))) fun h5 => jg (h5 i1 (-2) = 101 ∧ jI (w32 (i2 + a4)) (h5 i1 (-1))) <| jl (jst h5 475 a4 (h5 i1 (w32 (i2 + a4)))) fun h6 => jl (w32 (a4 + 1)) fun x7 => some (.inl (x7, h6)))
theorem eX14_parameters_b8 (i1 : Int) (i2 : Int) (i3 : Int) {s : Int × AH} (hS : (fun r => Sh S r.2) s) : EQ (fX14_parameters_b8 454 i1 i2 i3 s) (gX14_parameters_b8 i1 i2 i3 s) (Sum.elim (fun r => Sh S r.2) (fun r => Sh S r)) := by
  unfold fX14_parameters_b8 gX14_parameters_b8
  obtain ⟨a4, h⟩ := s
  refine EQ_jt2 ?_
  replace hS : Sh S h := hS
  refine EQ_if Iff.rfl (fun c1 => ?_) (fun c1 => ?_)
  · exact EQ_some hS
  · refine EQ_jgd (show h 454 (-2) = 15 from by rw [k_454 hS]) ?_
    refine EQ_jg ⟨fun ⟨_, _, x0⟩ => (show jI a4 (h (h 454 32) (-1)) ↔ jI a4 3 from by rw [r_454_32 hS, l_474 hS]).mp x0, fun x0 => ⟨(show h (h 454 32) (-2) = 102 from by rw [r_454_32 hS, k_474 hS]), (show 200 ≤ h 454 32 from by rw [r_454_32 hS]; exact (by decide)), (show jI a4 (h (h 454 32) (-1)) ↔ jI a4 3 from by rw [r_454_32 hS, l_474 hS]).mpr x0⟩⟩ (fun g2 => ?_)
    refine EQ_jl (by rw [r_454_32 hS]) (fun h5 eh5 => ?_)
    have s3 := Sh_of eh5 (Sh_sta hS (by decide +kernel) (jI_nn g2) (fun e => absurd ((k_474 hS).symm.trans e) (by decide)))
    clear eh5
    refine EQ_jgd (show h5 454 (-2) = 15 from by rw [k_454 s3]) ?_
    refine EQ_jg Iff.rfl (fun g4 => ?_)
    refine EQ_jgd ⟨(show h5 (h5 454 33) (-2) = 101 from by rw [r_454_33 s3, k_475 s3]), (show 200 ≤ h5 454 33 from by rw [r_454_33 s3]; exact (by decide)), ((show jI a4 (h5 (h5 454 33) (-1)) ↔ jI a4 3 from by rw [r_454_33 s3, l_475 s3]).mpr g2)⟩ ?_
    refine EQ_jl (by rw [r_454_33 s3]) (fun h6 eh6 => ?_)
    have s5 := Sh_of eh6 (Sh_sta s3 (by decide +kernel) (jI_nn g2) (fun e => absurd ((k_475 s3).symm.trans e) (by decide)))
    clear eh6
    refine EQ_jl rfl (fun x7 ex7 => ?_)
    clear ex7
    exact EQ_some s5
noncomputable def gX14_parameters_l8 (i1 : Int) (i2 : Int) (i3 : Int) (a4 : Int) (h : AH) : Option (AH) := jit (gX14_parameters_b8 i1 i2 i3) (a4, h)
theorem eX14_parameters_l8 (i1 : Int) (i2 : Int) (i3 : Int) (a4 : Int) {h : AH} (hS : Sh S h) : EQ (fX14_parameters_l8 454 i1 i2 i3 a4 h) (gX14_parameters_l8 i1 i2 i3 a4 h) (fun r => Sh S r) := EQ_jit (I := (fun r => Sh S r.2)) (fun s hs => eX14_parameters_b8 i1 i2 i3 hs) hS
noncomputable def gX14_parameters (a1 : Int) (a2 : Int) (a3 : Int) (h : AH) : Option (AH) := jl (jst h 454 34 a3) fun h1 => jb (gX14_parameters_l8 a1 a2 a3 0 h1) fun o2 => some o2
theorem eX14_parameters (a1 : Int) (a2 : Int) (a3 : Int) {h : AH} (hS : Sh S h) : EQ (fX14_parameters 454 a1 a2 a3 h) (gX14_parameters a1 a2 a3 h) (fun r => Sh S r) := by
  unfold fX14_parameters gX14_parameters
  refine EQ_jgd ⟨(show h 454 (-2) = 15 from by rw [k_454 hS]), (show (200 : Int) ≤ 454 from (by decide))⟩ ?_
  refine EQ_jl rfl (fun h1 eh1 => ?_)
  have s1 := Sh_of eh1 (Sh_sto hS (a := 454) (i := 34) (by decide +kernel))
  clear eh1
  refine EQ_jb (eX14_parameters_l8 a1 a2 a3 0 s1) (fun o2 r2 => ?_)
  exact EQ_some r2
noncomputable def gX14_readAct_j172 (h : AH) : Option (Int × AH) := jb2 (gX14_finish h) fun t68 h70 => jq t68 (some (t68, h70)) <| some (0, h70)
theorem eX14_readAct_j172 {h : AH} (hS : Sh S h) : EQ (fX14_readAct_j172 454 h) (gX14_readAct_j172 h) (fun r => Sh S r.2) := by
  unfold fX14_readAct_j172 gX14_readAct_j172
  refine EQ_jgd (show h 454 (-2) = 15 from by rw [k_454 hS]) ?_
  refine EQ_jb2 (eX14_finish hS) (fun t68 h70 r1 => ?_)
  replace r1 : Sh S h70 := r1
  refine EQ_jq (fun _ => ?_) (fun _ => ?_)
  · exact EQ_some r1
  · exact EQ_some r1
noncomputable def gX14_readAct_j154 (h : AH) : Option (Int × AH) := if w32 (h 454 5 - 26) = 10 then (jb (gX14_note 5 0 h) fun h66 => gX14_readAct_j172 h66) else (gX14_readAct_j172 h)
theorem eX14_readAct_j154 {h : AH} (hS : Sh S h) : EQ (fX14_readAct_j154 454 h) (gX14_readAct_j154 h) (fun r => Sh S r.2) := by
  unfold fX14_readAct_j154 gX14_readAct_j154
  refine EQ_jgd (show h 454 (-2) = 15 from by rw [k_454 hS]) ?_
  refine EQ_if Iff.rfl (fun c1 => ?_) (fun c1 => ?_)
  · refine EQ_jgd (show h 454 (-2) = 15 from by rw [k_454 hS]) ?_
    refine EQ_jb (eX14_note 5 0 hS) (fun h66 r2 => ?_)
    exact (eX14_readAct_j172 r2)
  · exact (eX14_readAct_j172 hS)
noncomputable def gX14_readAct_j58 (h : AH) : Option (Int × AH) := jb3 (gX14_takeKinds 794 2 1 h) fun t28 v29 h30 => jq t28 (some (t28, h30)) <| jl (jst h30 454 68 v29) fun h32 => jb2 (gX14_passSign 256 h32) fun t34 h36 => jq t34 (some (t34, h36)) <| jb3 (gX14_takeKind h36) fun t39 v40 h41 => jq t39 (some (t39, h41)) <| jl (jst h41 454 66 v40) fun h43 => jb2 (gX14_passSign 61 h43) fun t45 h47 => jq t45 (some (t45, h47)) <| jb3 (gX14_takeTerm 0 0 h47) fun t50 v51 h52 => jq t50 (some (t50, h52)) <| jl (jst h52 454 69 v51) fun h54 => jb (gX14_parameters 794 0 (h54 454 68) h54) fun h56 => jb2 (gX14_weighed (h56 454 69) 0 h56) fun v58 h59 => if v58 = 32 then (gX14_readAct_j154 h59) else (if v58 = h59 454 66 then (gX14_readAct_j154 h59) else (jg (jI (h59 454 69) 8800) <| jb (gX14_note 3 (h59 468 (h59 454 69)) h59) fun h63 => gX14_readAct_j154 h63))
theorem eX14_readAct_j58 {h : AH} (hS : Sh S h) : EQ (fX14_readAct_j58 454 h) (gX14_readAct_j58 h) (fun r => Sh S r.2) := by
  unfold fX14_readAct_j58 gX14_readAct_j58
  refine EQ_jgd (show h 454 (-2) = 15 from by rw [k_454 hS]) ?_
  refine EQ_jgd (show h 454 (-2) = 15 from by rw [k_454 hS]) ?_
  refine EQ_jb3 (by rw [r_454_65 hS]; exact eX14_takeKinds 794 2 1 hS) (fun t28 v29 h30 r1 => ?_)
  replace r1 : Sh S h30 := r1
  refine EQ_jq (fun _ => ?_) (fun _ => ?_)
  · exact EQ_some r1
  · refine EQ_jgd ⟨(show h30 454 (-2) = 15 from by rw [k_454 r1]), (show (200 : Int) ≤ 454 from (by decide))⟩ ?_
    refine EQ_jl rfl (fun h32 eh32 => ?_)
    have s2 := Sh_of eh32 (Sh_sto r1 (a := 454) (i := 68) (by decide +kernel))
    clear eh32
    refine EQ_jgd (show h32 454 (-2) = 15 from by rw [k_454 s2]) ?_
    refine EQ_jb2 (eX14_passSign 256 s2) (fun t34 h36 r3 => ?_)
    replace r3 : Sh S h36 := r3
    refine EQ_jq (fun _ => ?_) (fun _ => ?_)
    · exact EQ_some r3
    · refine EQ_jgd (show h36 454 (-2) = 15 from by rw [k_454 r3]) ?_
      refine EQ_jb3 (eX14_takeKind r3) (fun t39 v40 h41 r4 => ?_)
      replace r4 : Sh S h41 := r4
      refine EQ_jq (fun _ => ?_) (fun _ => ?_)
      · exact EQ_some r4
      · refine EQ_jgd ⟨(show h41 454 (-2) = 15 from by rw [k_454 r4]), (show (200 : Int) ≤ 454 from (by decide))⟩ ?_
        refine EQ_jl rfl (fun h43 eh43 => ?_)
        have s5 := Sh_of eh43 (Sh_sto r4 (a := 454) (i := 66) (by decide +kernel))
        clear eh43
        refine EQ_jgd (show h43 454 (-2) = 15 from by rw [k_454 s5]) ?_
        refine EQ_jb2 (eX14_passSign 61 s5) (fun t45 h47 r6 => ?_)
        replace r6 : Sh S h47 := r6
        refine EQ_jq (fun _ => ?_) (fun _ => ?_)
        · exact EQ_some r6
        · refine EQ_jgd (show h47 454 (-2) = 15 from by rw [k_454 r6]) ?_
          refine EQ_jb3 (eX14_takeTerm 0 0 r6) (fun t50 v51 h52 r7 => ?_)
          replace r7 : Sh S h52 := r7
          refine EQ_jq (fun _ => ?_) (fun _ => ?_)
          · exact EQ_some r7
          · refine EQ_jgd ⟨(show h52 454 (-2) = 15 from by rw [k_454 r7]), (show (200 : Int) ≤ 454 from (by decide))⟩ ?_
            refine EQ_jl rfl (fun h54 eh54 => ?_)
            have s8 := Sh_of eh54 (Sh_sto r7 (a := 454) (i := 69) (by decide +kernel))
            clear eh54
            refine EQ_jgd (show h54 454 (-2) = 15 from by rw [k_454 s8]) ?_
            refine EQ_jgd (show h54 454 (-2) = 15 from by rw [k_454 s8]) ?_
            refine EQ_jgd (show h54 454 (-2) = 15 from by rw [k_454 s8]) ?_
            refine EQ_jb (by rw [r_454_65 s8]; exact eX14_parameters 794 0 (h54 454 68) s8) (fun h56 r9 => ?_)
            refine EQ_jgd (show h56 454 (-2) = 15 from by rw [k_454 r9]) ?_
            refine EQ_jgd (show h56 454 (-2) = 15 from by rw [k_454 r9]) ?_
            refine EQ_jb2 (eX14_weighed (h56 454 69) 0 r9) (fun v58 h59 r10 => ?_)
            replace r10 : Sh S h59 := r10
            refine EQ_if Iff.rfl (fun c11 => ?_) (fun c11 => ?_)
            · exact (eX14_readAct_j154 r10)
            · refine EQ_jgd (show h59 454 (-2) = 15 from by rw [k_454 r10]) ?_
              refine EQ_if Iff.rfl (fun c12 => ?_) (fun c12 => ?_)
              · exact (eX14_readAct_j154 r10)
              · refine EQ_jgd (show h59 454 (-2) = 15 from by rw [k_454 r10]) ?_
                refine EQ_jgd (show h59 454 (-2) = 15 from by rw [k_454 r10]) ?_
                refine EQ_jg ⟨fun ⟨_, x0⟩ => (show jI (h59 454 69) (h59 (h59 454 14) (-1)) ↔ jI (h59 454 69) 8800 from by rw [r_454_14 r10, l_468 r10]).mp x0, fun x0 => ⟨(show h59 (h59 454 14) (-2) = 101 from by rw [r_454_14 r10, k_468 r10]), (show jI (h59 454 69) (h59 (h59 454 14) (-1)) ↔ jI (h59 454 69) 8800 from by rw [r_454_14 r10, l_468 r10]).mpr x0⟩⟩ (fun g13 => ?_)
                refine EQ_jgd (show h59 454 (-2) = 15 from by rw [k_454 r10]) ?_
                refine EQ_jb (by rw [r_454_14 r10]; exact eX14_note 3 (h59 468 (h59 454 69)) r10) (fun h63 r14 => ?_)
                exact (eX14_readAct_j154 r14)
noncomputable def gX14_readAct_j52 (a1 : Int) (h : AH) : Option (Int × AH) := jb (gX14_note 2 a1 h) fun h26 => gX14_readAct_j58 h26
theorem eX14_readAct_j52 (a1 : Int) {h : AH} (hS : Sh S h) : EQ (fX14_readAct_j52 454 a1 h) (gX14_readAct_j52 a1 h) (fun r => Sh S r.2) := by
  unfold fX14_readAct_j52 gX14_readAct_j52
  refine EQ_jgd (show h 454 (-2) = 15 from by rw [k_454 hS]) ?_
  refine EQ_jb (eX14_note 2 a1 hS) (fun h26 r1 => ?_)
  exact (eX14_readAct_j58 r1)
noncomputable def gX14_readAct (h : AH) : Option (Int × AH) := jb2 (gX14_begin h) fun t2 h4 => jq t2 (some (t2, h4)) <| jl (jst h4 454 17 4400) fun h6 => jb2 (gX14_passName 830 h6) fun t8 h10 => jq t8 (some (t8, h10)) <| jl (h10 454 29) fun x12 => jb3 (gX14_takeName h10) fun t14 v15 h16 => jq t14 (some (t14, h16)) <| jl (jst h16 454 67 v15) fun h18 => jb (gX14_actOf (h18 454 67) h18) fun v20 => if 0 ≤ v20 then (gX14_readAct_j52 x12 h18) else (jb (gX14_isTaken (h18 454 67)) fun v23 => if v23 = 0 then (gX14_readAct_j58 h18) else (gX14_readAct_j52 x12 h18))
theorem eX14_readAct {h : AH} (hS : Sh S h) : EQ (fX14_readAct 454 h) (gX14_readAct h) (fun r => Sh S r.2) := by
  unfold fX14_readAct gX14_readAct
  refine EQ_jgd (show h 454 (-2) = 15 from by rw [k_454 hS]) ?_
  refine EQ_jb2 (eX14_begin hS) (fun t2 h4 r1 => ?_)
  replace r1 : Sh S h4 := r1
  refine EQ_jq (fun _ => ?_) (fun _ => ?_)
  · exact EQ_some r1
  · refine EQ_jgd ⟨(show h4 454 (-2) = 15 from by rw [k_454 r1]), (show (200 : Int) ≤ 454 from (by decide))⟩ ?_
    refine EQ_jl rfl (fun h6 eh6 => ?_)
    have s2 := Sh_of eh6 (Sh_sto r1 (a := 454) (i := 17) (by decide +kernel))
    clear eh6
    refine EQ_jgd (show h6 454 (-2) = 15 from by rw [k_454 s2]) ?_
    refine EQ_jb2 (eX14_passName 830 s2) (fun t8 h10 r3 => ?_)
    replace r3 : Sh S h10 := r3
    refine EQ_jq (fun _ => ?_) (fun _ => ?_)
    · exact EQ_some r3
    · refine EQ_jgd (show h10 454 (-2) = 15 from by rw [k_454 r3]) ?_
      refine EQ_jl rfl (fun x12 ex12 => ?_)
      clear ex12
      refine EQ_jgd (show h10 454 (-2) = 15 from by rw [k_454 r3]) ?_
      refine EQ_jb3 (eX14_takeName r3) (fun t14 v15 h16 r4 => ?_)
      replace r4 : Sh S h16 := r4
      refine EQ_jq (fun _ => ?_) (fun _ => ?_)
      · exact EQ_some r4
      · refine EQ_jgd ⟨(show h16 454 (-2) = 15 from by rw [k_454 r4]), (show (200 : Int) ≤ 454 from (by decide))⟩ ?_
        refine EQ_jl rfl (fun h18 eh18 => ?_)
        have s5 := Sh_of eh18 (Sh_sto r4 (a := 454) (i := 67) (by decide +kernel))
        clear eh18
        refine EQ_jgd (show h18 454 (-2) = 15 from by rw [k_454 s5]) ?_
        refine EQ_jgd (show h18 454 (-2) = 15 from by rw [k_454 s5]) ?_
        refine EQ_jb (eX14_actOf (h18 454 67) s5) (fun v20 r6 => ?_)
        refine EQ_if Iff.rfl (fun c7 => ?_) (fun c7 => ?_)
        · exact (eX14_readAct_j52 x12 s5)
        · refine EQ_jgd (show h18 454 (-2) = 15 from by rw [k_454 s5]) ?_
          refine EQ_jb (eX14_isTaken (h18 454 67)) (fun v23 r8 => ?_)
          refine EQ_if Iff.rfl (fun c9 => ?_) (fun c9 => ?_)
          · exact (eX14_readAct_j58 s5)
          · exact (eX14_readAct_j52 x12 s5)
noncomputable def gX14_blocksFor (a0 : Int) : Option (Int) := some (jdiv (w32 (w32 (a0 + 121) - 1)) 121)
theorem eX14_blocksFor (a0 : Int) : EQ (fX14_blocksFor a0) (gX14_blocksFor a0) (fun _ => True) := by
  unfold fX14_blocksFor gX14_blocksFor
  exact EQ_some trivial
noncomputable def gX14_hasRoom (a1 : Int) (h : AH) : Option (Int) := jb (gX14_blocksFor (w32 (w32 (h 454 156 + a1) + 3))) fun v2 => if w32 (200 - h 454 160) < v2 then (some 0) else (some 1)
theorem eX14_hasRoom (a1 : Int) {h : AH} (hS : Sh S h) : EQ (fX14_hasRoom 454 a1 h) (gX14_hasRoom a1 h) (fun _ => True) := by
  unfold fX14_hasRoom gX14_hasRoom
  refine EQ_jgd (show h 454 (-2) = 15 from by rw [k_454 hS]) ?_
  refine EQ_jb (eX14_blocksFor (w32 (w32 (h 454 156 + a1) + 3))) (fun v2 r1 => ?_)
  refine EQ_jgd (show h 454 (-2) = 15 from by rw [k_454 hS]) ?_
  refine EQ_if Iff.rfl (fun c2 => ?_) (fun c2 => ?_)
  · exact EQ_some trivial
  · exact EQ_some trivial
noncomputable def gX14_record_b50 (i2 : Int) (i3 : Int) (i4 : Int) (s : Int × AH) : Option ((Int × AH) ⊕ (AH)) := jt2 s fun a5 h => if i4 ≤ a5 then (some (.inr h)) else (jg (h i2 (-2) = 101 ∧ jI a5 (h i2 (-1))) <| jg (jI (w32 (w32 (w32 (h 454 156 + 3) + a5) - i3)) 24204) <| jl (jst h 872 (w32 (w32 (w32 (h 454 156 + 3) + a5) - i3)) (h i2 a5)) fun h9 => jl (w32 (a5 + 1)) fun x10 => some (.inl (x10, h9)))
theorem eX14_record_b50 (i2 : Int) (i3 : Int) (i4 : Int) {s : Int × AH} (hS : (fun r => Sh S r.2) s) : EQ (fX14_record_b50 454 i2 i3 i4 s) (gX14_record_b50 i2 i3 i4 s) (Sum.elim (fun r => Sh S r.2) (fun r => Sh S r)) := by
  unfold fX14_record_b50 gX14_record_b50
  obtain ⟨a5, h⟩ := s
  refine EQ_jt2 ?_
  replace hS : Sh S h := hS
  refine EQ_if Iff.rfl (fun c1 => ?_) (fun c1 => ?_)
  · exact EQ_some hS
  · refine EQ_jgd (show h 454 (-2) = 15 from by rw [k_454 hS]) ?_
    refine EQ_jgd (show h 454 (-2) = 15 from by rw [k_454 hS]) ?_
    refine EQ_jg Iff.rfl (fun g2 => ?_)
    refine EQ_jg ⟨fun ⟨_, _, x0⟩ => (show jI (w32 (w32 (w32 (h 454 156 + 3) + a5) - i3)) (h (h 454 155) (-1)) ↔ jI (w32 (w32 (w32 (h 454 156 + 3) + a5) - i3)) 24204 from by rw [r_454_155 hS, l_872 hS]).mp x0, fun x0 => ⟨(show h (h 454 155) (-2) = 101 from by rw [r_454_155 hS, k_872 hS]), (show 200 ≤ h 454 155 from by rw [r_454_155 hS]; exact (by decide)), (show jI (w32 (w32 (w32 (h 454 156 + 3) + a5) - i3)) (h (h 454 155) (-1)) ↔ jI (w32 (w32 (w32 (h 454 156 + 3) + a5) - i3)) 24204 from by rw [r_454_155 hS, l_872 hS]).mpr x0⟩⟩ (fun g3 => ?_)
    refine EQ_jl (by rw [r_454_155 hS]) (fun h9 eh9 => ?_)
    have s4 := Sh_of eh9 (Sh_sta hS (by decide +kernel) (jI_nn g3) (fun e => absurd ((k_872 hS).symm.trans e) (by decide)))
    clear eh9
    refine EQ_jl rfl (fun x10 ex10 => ?_)
    clear ex10
    exact EQ_some s4
noncomputable def gX14_record_l50 (i2 : Int) (i3 : Int) (i4 : Int) (a5 : Int) (h : AH) : Option (AH) := jit (gX14_record_b50 i2 i3 i4) (a5, h)
theorem eX14_record_l50 (i2 : Int) (i3 : Int) (i4 : Int) (a5 : Int) {h : AH} (hS : Sh S h) : EQ (fX14_record_l50 454 i2 i3 i4 a5 h) (gX14_record_l50 i2 i3 i4 a5 h) (fun r => Sh S r) := EQ_jit (I := (fun r => Sh S r.2)) (fun s hs => eX14_record_b50 i2 i3 i4 hs) hS
noncomputable def gX14_record (a1 : Int) (a2 : Int) (a3 : Int) (a4 : Int) (h : AH) : Option (AH) := jg (jI (h 454 156) 24204) <| jl (jst h 872 (h 454 156) a1) fun h1 => jg (jI (w32 (h1 454 156 + 1)) 24204) <| jl (jst h1 872 (w32 (h1 454 156 + 1)) (jshr (w32 (a4 - a3)) 8)) fun h2 => jg (jI (w32 (h2 454 156 + 2)) 24204) <| jl (jst h2 872 (w32 (h2 454 156 + 2)) (jand (w32 (a4 - a3)) 255)) fun h3 => jb (gX14_record_l50 a2 a3 a4 a3 h3) fun o4 => jl (jst o4 454 156 (w32 (o4 454 156 + w32 (w32 (3 + a4) - a3)))) fun h6 => jl (jst h6 454 154 (w32 (h6 454 154 + 1))) fun h7 => some h7
theorem eX14_record (a1 : Int) (a2 : Int) (a3 : Int) (a4 : Int) {h : AH} (hS : Sh S h) : EQ (fX14_record 454 a1 a2 a3 a4 h) (gX14_record a1 a2 a3 a4 h) (fun r => Sh S r) := by
  unfold fX14_record gX14_record
  refine EQ_jgd (show h 454 (-2) = 15 from by rw [k_454 hS]) ?_
  refine EQ_jgd (show h 454 (-2) = 15 from by rw [k_454 hS]) ?_
  refine EQ_jg ⟨fun ⟨_, _, x0⟩ => (show jI (h 454 156) (h (h 454 155) (-1)) ↔ jI (h 454 156) 24204 from by rw [r_454_155 hS, l_872 hS]).mp x0, fun x0 => ⟨(show h (h 454 155) (-2) = 101 from by rw [r_454_155 hS, k_872 hS]), (show 200 ≤ h 454 155 from by rw [r_454_155 hS]; exact (by decide)), (show jI (h 454 156) (h (h 454 155) (-1)) ↔ jI (h 454 156) 24204 from by rw [r_454_155 hS, l_872 hS]).mpr x0⟩⟩ (fun g1 => ?_)
  refine EQ_jl (by rw [r_454_155 hS]) (fun h1 eh1 => ?_)
  have s2 := Sh_of eh1 (Sh_sta hS (by decide +kernel) (jI_nn g1) (fun e => absurd ((k_872 hS).symm.trans e) (by decide)))
  clear eh1
  refine EQ_jgd (show h1 454 (-2) = 15 from by rw [k_454 s2]) ?_
  refine EQ_jgd (show h1 454 (-2) = 15 from by rw [k_454 s2]) ?_
  refine EQ_jg ⟨fun ⟨_, _, x0⟩ => (show jI (w32 (h1 454 156 + 1)) (h1 (h1 454 155) (-1)) ↔ jI (w32 (h1 454 156 + 1)) 24204 from by rw [r_454_155 s2, l_872 s2]).mp x0, fun x0 => ⟨(show h1 (h1 454 155) (-2) = 101 from by rw [r_454_155 s2, k_872 s2]), (show 200 ≤ h1 454 155 from by rw [r_454_155 s2]; exact (by decide)), (show jI (w32 (h1 454 156 + 1)) (h1 (h1 454 155) (-1)) ↔ jI (w32 (h1 454 156 + 1)) 24204 from by rw [r_454_155 s2, l_872 s2]).mpr x0⟩⟩ (fun g3 => ?_)
  refine EQ_jl (by rw [r_454_155 s2]) (fun h2 eh2 => ?_)
  have s4 := Sh_of eh2 (Sh_sta s2 (by decide +kernel) (jI_nn g3) (fun e => absurd ((k_872 s2).symm.trans e) (by decide)))
  clear eh2
  refine EQ_jgd (show h2 454 (-2) = 15 from by rw [k_454 s4]) ?_
  refine EQ_jgd (show h2 454 (-2) = 15 from by rw [k_454 s4]) ?_
  refine EQ_jg ⟨fun ⟨_, _, x0⟩ => (show jI (w32 (h2 454 156 + 2)) (h2 (h2 454 155) (-1)) ↔ jI (w32 (h2 454 156 + 2)) 24204 from by rw [r_454_155 s4, l_872 s4]).mp x0, fun x0 => ⟨(show h2 (h2 454 155) (-2) = 101 from by rw [r_454_155 s4, k_872 s4]), (show 200 ≤ h2 454 155 from by rw [r_454_155 s4]; exact (by decide)), (show jI (w32 (h2 454 156 + 2)) (h2 (h2 454 155) (-1)) ↔ jI (w32 (h2 454 156 + 2)) 24204 from by rw [r_454_155 s4, l_872 s4]).mpr x0⟩⟩ (fun g5 => ?_)
  refine EQ_jl (by rw [r_454_155 s4]) (fun h3 eh3 => ?_)
  have s6 := Sh_of eh3 (Sh_sta s4 (by decide +kernel) (jI_nn g5) (fun e => absurd ((k_872 s4).symm.trans e) (by decide)))
  clear eh3
  refine EQ_jb (eX14_record_l50 a2 a3 a4 a3 s6) (fun o4 r7 => ?_)
  refine EQ_jgd (show o4 454 (-2) = 15 from by rw [k_454 r7]) ?_
  refine EQ_jgd ⟨(show o4 454 (-2) = 15 from by rw [k_454 r7]), (show (200 : Int) ≤ 454 from (by decide))⟩ ?_
  refine EQ_jl rfl (fun h6 eh6 => ?_)
  have s8 := Sh_of eh6 (Sh_sto r7 (a := 454) (i := 156) (by decide +kernel))
  clear eh6
  refine EQ_jgd (show h6 454 (-2) = 15 from by rw [k_454 s8]) ?_
  refine EQ_jgd ⟨(show h6 454 (-2) = 15 from by rw [k_454 s8]), (show (200 : Int) ≤ 454 from (by decide))⟩ ?_
  refine EQ_jl rfl (fun h7 eh7 => ?_)
  have s9 := Sh_of eh7 (Sh_sto s8 (a := 454) (i := 154) (by decide +kernel))
  clear eh7
  exact EQ_some s9
noncomputable def gX14_copyNode (a1 : Int) (h : AH) : Option (Int × AH) := jg (jI a1 8800) <| jb2 (gX14_node (h 460 a1) (h 461 a1) (h 462 a1) h) fun v2 h3 => jg (jI v2 8800) <| jl (jst h3 463 v2 (h3 463 a1)) fun h4 => jl (jst h4 469 v2 (h4 469 a1)) fun h5 => some (v2, h5)
theorem eX14_copyNode (a1 : Int) {h : AH} (hS : Sh S h) : EQ (fX14_copyNode 454 a1 h) (gX14_copyNode a1 h) (fun r => Sh S r.2) := by
  unfold fX14_copyNode gX14_copyNode
  refine EQ_jgd (show h 454 (-2) = 15 from by rw [k_454 hS]) ?_
  refine EQ_jg ⟨fun ⟨_, x0⟩ => (show jI a1 (h (h 454 6) (-1)) ↔ jI a1 8800 from by rw [r_454_6 hS, l_460 hS]).mp x0, fun x0 => ⟨(show h (h 454 6) (-2) = 101 from by rw [r_454_6 hS, k_460 hS]), (show jI a1 (h (h 454 6) (-1)) ↔ jI a1 8800 from by rw [r_454_6 hS, l_460 hS]).mpr x0⟩⟩ (fun g1 => ?_)
  refine EQ_jgd (show h 454 (-2) = 15 from by rw [k_454 hS]) ?_
  refine EQ_jgd ⟨(show h (h 454 7) (-2) = 101 from by rw [r_454_7 hS, k_461 hS]), ((show jI a1 (h (h 454 7) (-1)) ↔ jI a1 8800 from by rw [r_454_7 hS, l_461 hS]).mpr g1)⟩ ?_
  refine EQ_jgd (show h 454 (-2) = 15 from by rw [k_454 hS]) ?_
  refine EQ_jgd ⟨(show h (h 454 8) (-2) = 101 from by rw [r_454_8 hS, k_462 hS]), ((show jI a1 (h (h 454 8) (-1)) ↔ jI a1 8800 from by rw [r_454_8 hS, l_462 hS]).mpr g1)⟩ ?_
  refine EQ_jgd (show h 454 (-2) = 15 from by rw [k_454 hS]) ?_
  refine EQ_jb2 (by rw [r_454_6 hS, r_454_7 hS, r_454_8 hS]; exact eX14_node (h 460 a1) (h 461 a1) (h 462 a1) hS) (fun v2 h3 r2 => ?_)
  replace r2 : Sh S h3 := r2
  refine EQ_jgd (show h3 454 (-2) = 15 from by rw [k_454 r2]) ?_
  refine EQ_jgd (show h3 454 (-2) = 15 from by rw [k_454 r2]) ?_
  refine EQ_jgd ⟨(show h3 (h3 454 9) (-2) = 101 from by rw [r_454_9 r2, k_463 r2]), ((show jI a1 (h3 (h3 454 9) (-1)) ↔ jI a1 8800 from by rw [r_454_9 r2, l_463 r2]).mpr g1)⟩ ?_
  refine EQ_jg ⟨fun ⟨_, _, x0⟩ => (show jI v2 (h3 (h3 454 9) (-1)) ↔ jI v2 8800 from by rw [r_454_9 r2, l_463 r2]).mp x0, fun x0 => ⟨(show h3 (h3 454 9) (-2) = 101 from by rw [r_454_9 r2, k_463 r2]), (show 200 ≤ h3 454 9 from by rw [r_454_9 r2]; exact (by decide)), (show jI v2 (h3 (h3 454 9) (-1)) ↔ jI v2 8800 from by rw [r_454_9 r2, l_463 r2]).mpr x0⟩⟩ (fun g3 => ?_)
  refine EQ_jl (by rw [r_454_9 r2]) (fun h4 eh4 => ?_)
  have s4 := Sh_of eh4 (Sh_sta r2 (by decide +kernel) (jI_nn g3) (fun e => absurd ((k_463 r2).symm.trans e) (by decide)))
  clear eh4
  refine EQ_jgd (show h4 454 (-2) = 15 from by rw [k_454 s4]) ?_
  refine EQ_jgd (show h4 454 (-2) = 15 from by rw [k_454 s4]) ?_
  refine EQ_jgd ⟨(show h4 (h4 454 15) (-2) = 101 from by rw [r_454_15 s4, k_469 s4]), ((show jI a1 (h4 (h4 454 15) (-1)) ↔ jI a1 8800 from by rw [r_454_15 s4, l_469 s4]).mpr g1)⟩ ?_
  refine EQ_jgd ⟨(show h4 (h4 454 15) (-2) = 101 from by rw [r_454_15 s4, k_469 s4]), (show 200 ≤ h4 454 15 from by rw [r_454_15 s4]; exact (by decide)), ((show jI v2 (h4 (h4 454 15) (-1)) ↔ jI v2 8800 from by rw [r_454_15 s4, l_469 s4]).mpr g3)⟩ ?_
  refine EQ_jl (by rw [r_454_15 s4]) (fun h5 eh5 => ?_)
  have s5 := Sh_of eh5 (Sh_sta s4 (by decide +kernel) (jI_nn g3) (fun e => absurd ((k_469 s4).symm.trans e) (by decide)))
  clear eh5
  exact EQ_some s5
noncomputable def gX14_copy_b23 (F : Int → Int → Int → AH → Option (Int × AH)) (i1 : Int) (i2 : Int) (i3 : Int) (i4 : Int) (s : Int × AH) : Option ((Int × AH) ⊕ (AH)) := jt2 s fun a5 h => jg (jI i1 8800) <| if h 465 i1 ≤ a5 then (some (.inr h)) else (jg (jI (w32 (w32 (3 * i1) + a5)) 26400) <| jb2 (F (h 464 (w32 (w32 (3 * i1) + a5))) i2 i3 h) fun v12 h13 => jb (gX14_addKid i4 v12 h13) fun h15 => jl (w32 (a5 + 1)) fun x16 => some (.inl (x16, h15)))
theorem eX14_copy_b23 {F0 : Int → Int → Int → Int → AH → Option (Int × AH)} {F : Int → Int → Int → AH → Option (Int × AH)} (hF : ∀ (b_a1 : Int) (b_a2 : Int) (b_a3 : Int), ∀ {b_h : AH}, Sh S b_h → EQ (F0 454 b_a1 b_a2 b_a3 b_h) (F b_a1 b_a2 b_a3 b_h) (fun r => Sh S r.2)) (i1 : Int) (i2 : Int) (i3 : Int) (i4 : Int) {s : Int × AH} (hS : (fun r => Sh S r.2) s) : EQ (fX14_copy_b23 F0 454 i1 i2 i3 i4 s) (gX14_copy_b23 F i1 i2 i3 i4 s) (Sum.elim (fun r => Sh S r.2) (fun r => Sh S r)) := by
  unfold fX14_copy_b23 gX14_copy_b23
  obtain ⟨a5, h⟩ := s
  refine EQ_jt2 ?_
  replace hS : Sh S h := hS
  refine EQ_jgd (show h 454 (-2) = 15 from by rw [k_454 hS]) ?_
  refine EQ_jg ⟨fun ⟨_, x0⟩ => (show jI i1 (h (h 454 11) (-1)) ↔ jI i1 8800 from by rw [r_454_11 hS, l_465 hS]).mp x0, fun x0 => ⟨(show h (h 454 11) (-2) = 101 from by rw [r_454_11 hS, k_465 hS]), (show jI i1 (h (h 454 11) (-1)) ↔ jI i1 8800 from by rw [r_454_11 hS, l_465 hS]).mpr x0⟩⟩ (fun g1 => ?_)
  refine EQ_if (show h (h 454 11) i1 ≤ a5 ↔ h 465 i1 ≤ a5 from by rw [r_454_11 hS]) (fun c2 => ?_) (fun c2 => ?_)
  · exact EQ_some hS
  · refine EQ_jgd (show h 454 (-2) = 15 from by rw [k_454 hS]) ?_
    refine EQ_jg ⟨fun ⟨_, x0⟩ => (show jI (w32 (w32 (3 * i1) + a5)) (h (h 454 10) (-1)) ↔ jI (w32 (w32 (3 * i1) + a5)) 26400 from by rw [r_454_10 hS, l_464 hS]).mp x0, fun x0 => ⟨(show h (h 454 10) (-2) = 101 from by rw [r_454_10 hS, k_464 hS]), (show jI (w32 (w32 (3 * i1) + a5)) (h (h 454 10) (-1)) ↔ jI (w32 (w32 (3 * i1) + a5)) 26400 from by rw [r_454_10 hS, l_464 hS]).mpr x0⟩⟩ (fun g3 => ?_)
    refine EQ_jgd (show h 454 (-2) = 15 from by rw [k_454 hS]) ?_
    refine EQ_jb2 (by rw [r_454_10 hS]; exact hF (h 464 (w32 (w32 (3 * i1) + a5))) i2 i3 hS) (fun v12 h13 r4 => ?_)
    replace r4 : Sh S h13 := r4
    refine EQ_jgd (show h13 454 (-2) = 15 from by rw [k_454 r4]) ?_
    refine EQ_jb (eX14_addKid i4 v12 r4) (fun h15 r5 => ?_)
    refine EQ_jl rfl (fun x16 ex16 => ?_)
    clear ex16
    exact EQ_some r5
noncomputable def gX14_copy_l23 (F : Int → Int → Int → AH → Option (Int × AH)) (i1 : Int) (i2 : Int) (i3 : Int) (i4 : Int) (a5 : Int) (h : AH) : Option (AH) := jit (gX14_copy_b23 F i1 i2 i3 i4) (a5, h)
theorem eX14_copy_l23 {F0 : Int → Int → Int → Int → AH → Option (Int × AH)} {F : Int → Int → Int → AH → Option (Int × AH)} (hF : ∀ (b_a1 : Int) (b_a2 : Int) (b_a3 : Int), ∀ {b_h : AH}, Sh S b_h → EQ (F0 454 b_a1 b_a2 b_a3 b_h) (F b_a1 b_a2 b_a3 b_h) (fun r => Sh S r.2)) (i1 : Int) (i2 : Int) (i3 : Int) (i4 : Int) (a5 : Int) {h : AH} (hS : Sh S h) : EQ (fX14_copy_l23 F0 454 i1 i2 i3 i4 a5 h) (gX14_copy_l23 F i1 i2 i3 i4 a5 h) (fun r => Sh S r) := EQ_jit (I := (fun r => Sh S r.2)) (fun s hs => eX14_copy_b23 hF i1 i2 i3 i4 hs) hS
noncomputable def gX14_copy_ (F : Int → Int → Int → AH → Option (Int × AH)) (a1 : Int) (a2 : Int) (a3 : Int) (h : AH) : Option (Int × AH) := if a1 = a2 then (jb2 (F a3 (-1) (-1) h) fun v3 h4 => some (v3, h4)) else (jb2 (gX14_copyNode a1 h) fun v6 h7 => jb (gX14_copy_l23 F a1 a2 a3 v6 0 h7) fun o8 => some (v6, o8))
theorem eX14_copy_ {F0 : Int → Int → Int → Int → AH → Option (Int × AH)} {F : Int → Int → Int → AH → Option (Int × AH)} (hF : ∀ (b_a1 : Int) (b_a2 : Int) (b_a3 : Int), ∀ {b_h : AH}, Sh S b_h → EQ (F0 454 b_a1 b_a2 b_a3 b_h) (F b_a1 b_a2 b_a3 b_h) (fun r => Sh S r.2)) (a1 : Int) (a2 : Int) (a3 : Int) {h : AH} (hS : Sh S h) : EQ (fX14_copy_ F0 454 a1 a2 a3 h) (gX14_copy_ F a1 a2 a3 h) (fun r => Sh S r.2) := by
  unfold fX14_copy_ gX14_copy_
  refine EQ_if Iff.rfl (fun c1 => ?_) (fun c1 => ?_)
  · refine EQ_jgd (show h 454 (-2) = 15 from by rw [k_454 hS]) ?_
    refine EQ_jb2 (hF a3 (-1) (-1) hS) (fun v3 h4 r2 => ?_)
    replace r2 : Sh S h4 := r2
    exact EQ_some r2
  · refine EQ_jgd (show h 454 (-2) = 15 from by rw [k_454 hS]) ?_
    refine EQ_jb2 (eX14_copyNode a1 hS) (fun v6 h7 r3 => ?_)
    replace r3 : Sh S h7 := r3
    refine EQ_jb (eX14_copy_l23 hF a1 a2 a3 v6 0 r3) (fun o8 r4 => ?_)
    exact EQ_some r4
noncomputable def gX14_copyD : Nat → Int → Int → Int → AH → Option (Int × AH)
  | 0 => fun _ _ _ _ => none
  | d + 1 => gX14_copy_ (gX14_copyD d)
theorem eX14_copyD : ∀ (d : Nat) (a1 : Int) (a2 : Int) (a3 : Int) {h : AH} (hS : Sh S h) , EQ (fX14_copyD d 454 a1 a2 a3 h) (gX14_copyD d a1 a2 a3 h) (fun r => Sh S r.2) := by
  intro d
  induction d with
  | zero => intro a1 a2 a3 h hS; exact EQ_none
  | succ d ih => intro a1 a2 a3 h hS; exact eX14_copy_ ih a1 a2 a3 hS
noncomputable def gX14_copy : Int → Int → Int → AH → Option (Int × AH) := gX14_copyD 40
theorem eX14_copy (a1 : Int) (a2 : Int) (a3 : Int) {h : AH} (hS : Sh S h) : EQ (fX14_copy 454 a1 a2 a3 h) (gX14_copy a1 a2 a3 h) (fun r => Sh S r.2) := eX14_copyD 40 a1 a2 a3 hS
noncomputable def gX14_addAct (a1 : Int) (a3 : Int) (h : AH) : Option (AH) := jg (jI (h 454 5) 36) <| jl (jst h 455 (h 454 5) a1) fun h1 => jl (jst h1 454 17 (w32 (5500 + w32 (130 * w32 (h1 454 5 - 26))))) fun h2 => jb2 (gX14_copy a3 (-1) (-1) h2) fun v4 h5 => jg (jI (h2 454 5) 36) <| jl (jst h5 459 (h2 454 5) v4) fun h6 => jl (jst h6 454 5 (w32 (h6 454 5 + 1))) fun h7 => some h7
theorem eX14_addAct (a1 : Int) (a3 : Int) {h : AH} (hS : Sh S h) : EQ (fX14_addAct 454 a1 a3 h) (gX14_addAct a1 a3 h) (fun r => Sh S r) := by
  unfold fX14_addAct gX14_addAct
  refine EQ_jgd (show h 454 (-2) = 15 from by rw [k_454 hS]) ?_
  refine EQ_jgd (show h 454 (-2) = 15 from by rw [k_454 hS]) ?_
  refine EQ_jg ⟨fun ⟨_, _, x0⟩ => (show jI (h 454 5) (h (h 454 0) (-1)) ↔ jI (h 454 5) 36 from by rw [r_454_0 hS, l_455 hS]).mp x0, fun x0 => ⟨(show h (h 454 0) (-2) = 102 from by rw [r_454_0 hS, k_455 hS]), (show 200 ≤ h 454 0 from by rw [r_454_0 hS]; exact (by decide)), (show jI (h 454 5) (h (h 454 0) (-1)) ↔ jI (h 454 5) 36 from by rw [r_454_0 hS, l_455 hS]).mpr x0⟩⟩ (fun g1 => ?_)
  refine EQ_jl (by rw [r_454_0 hS]) (fun h1 eh1 => ?_)
  have s2 := Sh_of eh1 (Sh_sta hS (by decide +kernel) (jI_nn g1) (fun e => absurd ((k_455 hS).symm.trans e) (by decide)))
  clear eh1
  refine EQ_jgd (show h1 454 (-2) = 15 from by rw [k_454 s2]) ?_
  refine EQ_jgd ⟨(show h1 454 (-2) = 15 from by rw [k_454 s2]), (show (200 : Int) ≤ 454 from (by decide))⟩ ?_
  refine EQ_jl rfl (fun h2 eh2 => ?_)
  have s3 := Sh_of eh2 (Sh_sto s2 (a := 454) (i := 17) (by decide +kernel))
  clear eh2
  refine EQ_jgd (show h2 454 (-2) = 15 from by rw [k_454 s3]) ?_
  refine EQ_jgd (show h2 454 (-2) = 15 from by rw [k_454 s3]) ?_
  refine EQ_jgd (show h2 454 (-2) = 15 from by rw [k_454 s3]) ?_
  refine EQ_jb2 (eX14_copy a3 (-1) (-1) s3) (fun v4 h5 r4 => ?_)
  replace r4 : Sh S h5 := r4
  refine EQ_jg ⟨fun ⟨_, _, x0⟩ => (show jI (h2 454 5) (h5 (h2 454 4) (-1)) ↔ jI (h2 454 5) 36 from by rw [r_454_4 s3, l_459 r4]).mp x0, fun x0 => ⟨(show h5 (h2 454 4) (-2) = 101 from by rw [r_454_4 s3, k_459 r4]), (show 200 ≤ h2 454 4 from by rw [r_454_4 s3]; exact (by decide)), (show jI (h2 454 5) (h5 (h2 454 4) (-1)) ↔ jI (h2 454 5) 36 from by rw [r_454_4 s3, l_459 r4]).mpr x0⟩⟩ (fun g5 => ?_)
  refine EQ_jl (by rw [r_454_4 s3]) (fun h6 eh6 => ?_)
  have s6 := Sh_of eh6 (Sh_sta r4 (by decide +kernel) (jI_nn g5) (fun e => absurd ((k_459 r4).symm.trans e) (by decide)))
  clear eh6
  refine EQ_jgd (show h6 454 (-2) = 15 from by rw [k_454 s6]) ?_
  refine EQ_jgd ⟨(show h6 454 (-2) = 15 from by rw [k_454 s6]), (show (200 : Int) ≤ 454 from (by decide))⟩ ?_
  refine EQ_jl rfl (fun h7 eh7 => ?_)
  have s7 := Sh_of eh7 (Sh_sto s6 (a := 454) (i := 5) (by decide +kernel))
  clear eh7
  exact EQ_some s7
noncomputable def gX14_newAct_b15 (s : Int × AH) : Option ((Int × AH) ⊕ (AH)) := jt2 s fun a1 h => if h 454 68 ≤ a1 then (some (.inr h)) else (jg (jI a1 3) <| jg (jI (w32 (w32 (3 * h 454 5) + a1)) 108) <| jl (jst h 457 (w32 (w32 (3 * h 454 5) + a1)) (h 794 a1)) fun h8 => jl (w32 (a1 + 1)) fun x9 => some (.inl (x9, h8)))
theorem eX14_newAct_b15 {s : Int × AH} (hS : (fun r => Sh S r.2) s) : EQ (fX14_newAct_b15 454 s) (gX14_newAct_b15 s) (Sum.elim (fun r => Sh S r.2) (fun r => Sh S r)) := by
  unfold fX14_newAct_b15 gX14_newAct_b15
  obtain ⟨a1, h⟩ := s
  refine EQ_jt2 ?_
  replace hS : Sh S h := hS
  refine EQ_jgd (show h 454 (-2) = 15 from by rw [k_454 hS]) ?_
  refine EQ_if Iff.rfl (fun c1 => ?_) (fun c1 => ?_)
  · exact EQ_some hS
  · refine EQ_jgd (show h 454 (-2) = 15 from by rw [k_454 hS]) ?_
    refine EQ_jgd (show h 454 (-2) = 15 from by rw [k_454 hS]) ?_
    refine EQ_jgd (show h 454 (-2) = 15 from by rw [k_454 hS]) ?_
    refine EQ_jg ⟨fun ⟨_, x0⟩ => (show jI a1 (h (h 454 65) (-1)) ↔ jI a1 3 from by rw [r_454_65 hS, l_794 hS]).mp x0, fun x0 => ⟨(show h (h 454 65) (-2) = 101 from by rw [r_454_65 hS, k_794 hS]), (show jI a1 (h (h 454 65) (-1)) ↔ jI a1 3 from by rw [r_454_65 hS, l_794 hS]).mpr x0⟩⟩ (fun g2 => ?_)
    refine EQ_jg ⟨fun ⟨_, _, x0⟩ => (show jI (w32 (w32 (3 * h 454 5) + a1)) (h (h 454 2) (-1)) ↔ jI (w32 (w32 (3 * h 454 5) + a1)) 108 from by rw [r_454_2 hS, l_457 hS]).mp x0, fun x0 => ⟨(show h (h 454 2) (-2) = 101 from by rw [r_454_2 hS, k_457 hS]), (show 200 ≤ h 454 2 from by rw [r_454_2 hS]; exact (by decide)), (show jI (w32 (w32 (3 * h 454 5) + a1)) (h (h 454 2) (-1)) ↔ jI (w32 (w32 (3 * h 454 5) + a1)) 108 from by rw [r_454_2 hS, l_457 hS]).mpr x0⟩⟩ (fun g3 => ?_)
    refine EQ_jl (by rw [r_454_2 hS, r_454_65 hS]) (fun h8 eh8 => ?_)
    have s4 := Sh_of eh8 (Sh_sta hS (by decide +kernel) (jI_nn g3) (fun e => absurd ((k_457 hS).symm.trans e) (by decide)))
    clear eh8
    refine EQ_jl rfl (fun x9 ex9 => ?_)
    clear ex9
    exact EQ_some s4
noncomputable def gX14_newAct_l15 (a1 : Int) (h : AH) : Option (AH) := jit gX14_newAct_b15 (a1, h)
theorem eX14_newAct_l15 (a1 : Int) {h : AH} (hS : Sh S h) : EQ (fX14_newAct_l15 454 a1 h) (gX14_newAct_l15 a1 h) (fun r => Sh S r) := EQ_jit (I := (fun r => Sh S r.2)) (fun s hs => eX14_newAct_b15 hs) hS
noncomputable def gX14_newAct (h : AH) : Option (AH) := jg (jI (h 454 5) 36) <| jl (jst h 456 (h 454 5) (h 454 68)) fun h1 => jb (gX14_newAct_l15 0 h1) fun o2 => jg (jI (o2 454 5) 36) <| jl (jst o2 458 (o2 454 5) (o2 454 66)) fun h4 => jb (gX14_addAct (h4 454 67) (h4 454 69) h4) fun h6 => some h6
theorem eX14_newAct {h : AH} (hS : Sh S h) : EQ (fX14_newAct 454 h) (gX14_newAct h) (fun r => Sh S r) := by
  unfold fX14_newAct gX14_newAct
  refine EQ_jgd (show h 454 (-2) = 15 from by rw [k_454 hS]) ?_
  refine EQ_jgd (show h 454 (-2) = 15 from by rw [k_454 hS]) ?_
  refine EQ_jgd (show h 454 (-2) = 15 from by rw [k_454 hS]) ?_
  refine EQ_jg ⟨fun ⟨_, _, x0⟩ => (show jI (h 454 5) (h (h 454 1) (-1)) ↔ jI (h 454 5) 36 from by rw [r_454_1 hS, l_456 hS]).mp x0, fun x0 => ⟨(show h (h 454 1) (-2) = 101 from by rw [r_454_1 hS, k_456 hS]), (show 200 ≤ h 454 1 from by rw [r_454_1 hS]; exact (by decide)), (show jI (h 454 5) (h (h 454 1) (-1)) ↔ jI (h 454 5) 36 from by rw [r_454_1 hS, l_456 hS]).mpr x0⟩⟩ (fun g1 => ?_)
  refine EQ_jl (by rw [r_454_1 hS]) (fun h1 eh1 => ?_)
  have s2 := Sh_of eh1 (Sh_sta hS (by decide +kernel) (jI_nn g1) (fun e => absurd ((k_456 hS).symm.trans e) (by decide)))
  clear eh1
  refine EQ_jb (eX14_newAct_l15 0 s2) (fun o2 r3 => ?_)
  refine EQ_jgd (show o2 454 (-2) = 15 from by rw [k_454 r3]) ?_
  refine EQ_jgd (show o2 454 (-2) = 15 from by rw [k_454 r3]) ?_
  refine EQ_jgd (show o2 454 (-2) = 15 from by rw [k_454 r3]) ?_
  refine EQ_jg ⟨fun ⟨_, _, x0⟩ => (show jI (o2 454 5) (o2 (o2 454 3) (-1)) ↔ jI (o2 454 5) 36 from by rw [r_454_3 r3, l_458 r3]).mp x0, fun x0 => ⟨(show o2 (o2 454 3) (-2) = 101 from by rw [r_454_3 r3, k_458 r3]), (show 200 ≤ o2 454 3 from by rw [r_454_3 r3]; exact (by decide)), (show jI (o2 454 5) (o2 (o2 454 3) (-1)) ↔ jI (o2 454 5) 36 from by rw [r_454_3 r3, l_458 r3]).mpr x0⟩⟩ (fun g4 => ?_)
  refine EQ_jl (by rw [r_454_3 r3]) (fun h4 eh4 => ?_)
  have s5 := Sh_of eh4 (Sh_sta r3 (by decide +kernel) (jI_nn g4) (fun e => absurd ((k_458 r3).symm.trans e) (by decide)))
  clear eh4
  refine EQ_jgd (show h4 454 (-2) = 15 from by rw [k_454 s5]) ?_
  refine EQ_jgd (show h4 454 (-2) = 15 from by rw [k_454 s5]) ?_
  refine EQ_jgd (show h4 454 (-2) = 15 from by rw [k_454 s5]) ?_
  refine EQ_jb (eX14_addAct (h4 454 67) (h4 454 69) s5) (fun h6 r6 => ?_)
  exact EQ_some r6
noncomputable def gX14_act (h : AH) : Option (Int × AH) := jb2 (gX14_isDown h) fun v2 h3 => if v2 = 0 then (jb (gX14_takeTape h3) fun h6 => jb2 (gX14_readAct h6) fun t8 h10 => jq t8 (jg (0 < t8) <| jb2 (gX14_faulty t8 h10) fun v13 h14 => some (v13, h14)) <| jb (gX14_hasRoom (h10 454 25) h10) fun v16 => if v16 = 0 then (some ((-3), h10)) else (jb (gX14_record 1 473 0 (h10 454 25) h10) fun h19 => jb (gX14_newAct h19) fun h21 => some (w32 (h21 454 5 - 26), h21))) else (some ((-5), h3))
theorem eX14_act {h : AH} (hS : Sh S h) : EQ (fX14_act 454 h) (gX14_act h) (fun r => Sh S r.2) := by
  unfold fX14_act gX14_act
  refine EQ_jgd (show h 454 (-2) = 15 from by rw [k_454 hS]) ?_
  refine EQ_jb2 (eX14_isDown hS) (fun v2 h3 r1 => ?_)
  replace r1 : Sh S h3 := r1
  refine EQ_if Iff.rfl (fun c2 => ?_) (fun c2 => ?_)
  · refine EQ_jgd (show h3 454 (-2) = 15 from by rw [k_454 r1]) ?_
    refine EQ_jb (eX14_takeTape r1) (fun h6 r3 => ?_)
    refine EQ_jgd (show h6 454 (-2) = 15 from by rw [k_454 r3]) ?_
    refine EQ_jb2 (eX14_readAct r3) (fun t8 h10 r4 => ?_)
    replace r4 : Sh S h10 := r4
    refine EQ_jq (fun _ => ?_) (fun _ => ?_)
    · refine EQ_jg Iff.rfl (fun g5 => ?_)
      refine EQ_jgd (show h10 454 (-2) = 15 from by rw [k_454 r4]) ?_
      refine EQ_jb2 (eX14_faulty t8 r4) (fun v13 h14 r6 => ?_)
      replace r6 : Sh S h14 := r6
      exact EQ_some r6
    · refine EQ_jgd (show h10 454 (-2) = 15 from by rw [k_454 r4]) ?_
      refine EQ_jgd (show h10 454 (-2) = 15 from by rw [k_454 r4]) ?_
      refine EQ_jb (eX14_hasRoom (h10 454 25) r4) (fun v16 r7 => ?_)
      refine EQ_if Iff.rfl (fun c8 => ?_) (fun c8 => ?_)
      · exact EQ_some r4
      · refine EQ_jgd (show h10 454 (-2) = 15 from by rw [k_454 r4]) ?_
        refine EQ_jgd (show h10 454 (-2) = 15 from by rw [k_454 r4]) ?_
        refine EQ_jgd (show h10 454 (-2) = 15 from by rw [k_454 r4]) ?_
        refine EQ_jb (by rw [r_454_24 r4]; exact eX14_record 1 473 0 (h10 454 25) r4) (fun h19 r9 => ?_)
        refine EQ_jgd (show h19 454 (-2) = 15 from by rw [k_454 r9]) ?_
        refine EQ_jb (eX14_newAct r9) (fun h21 r10 => ?_)
        refine EQ_jgd (show h21 454 (-2) = 15 from by rw [k_454 r10]) ?_
        exact EQ_some r10
  · exact EQ_some r1
noncomputable def gX14_chooses (a0 : Int) : Option (Int) := if a0 = 15 then (some 1) else (if a0 = 16 then (some 1) else (some 0))
theorem eX14_chooses (a0 : Int) : EQ (fX14_chooses a0) (gX14_chooses a0) (fun _ => True) := by
  unfold fX14_chooses gX14_chooses
  refine EQ_if Iff.rfl (fun c1 => ?_) (fun c1 => ?_)
  · exact EQ_some trivial
  · refine EQ_if Iff.rfl (fun c2 => ?_) (fun c2 => ?_)
    · exact EQ_some trivial
    · exact EQ_some trivial
noncomputable def gX14_length_b4 (s : Int × Int) : Option ((Int × Int) ⊕ (Int)) := jt2 s fun a1 a2 => if a2 ≤ 0 then (some (.inr a1)) else (jl (w32 (a1 + 1)) fun x4 => jl (jdiv a2 27) fun x5 => some (.inl (x4, x5)))
theorem eX14_length_b4 (s : Int × Int) : EQ (fX14_length_b4 s) (gX14_length_b4 s) (Sum.elim (fun _ => True) (fun _ => True)) := by
  unfold fX14_length_b4 gX14_length_b4
  obtain ⟨a1, a2⟩ := s
  refine EQ_jt2 ?_
  refine EQ_if Iff.rfl (fun c1 => ?_) (fun c1 => ?_)
  · exact EQ_some trivial
  · refine EQ_jl rfl (fun x4 ex4 => ?_)
    clear ex4
    refine EQ_jl rfl (fun x5 ex5 => ?_)
    clear ex5
    exact EQ_some trivial
noncomputable def gX14_length_l4 (a1 : Int) (a2 : Int) : Option (Int) := jit gX14_length_b4 (a1, a2)
theorem eX14_length_l4 (a1 : Int) (a2 : Int) : EQ (fX14_length_l4 a1 a2) (gX14_length_l4 a1 a2) (fun _ => True) := EQ_jit (I := (fun _ => True)) (fun s _ => eX14_length_b4 s) trivial
noncomputable def gX14_length (a0 : Int) : Option (Int) := jb (gX14_length_l4 0 a0) fun o1 => some o1
theorem eX14_length (a0 : Int) : EQ (fX14_length a0) (gX14_length a0) (fun _ => True) := by
  unfold fX14_length gX14_length
  refine EQ_jb (eX14_length_l4 0 a0) (fun o1 r1 => ?_)
  exact EQ_some trivial
noncomputable def gX14_power_b4 (i0 : Int) (s : Int × Int) : Option ((Int × Int) ⊕ (Int)) := jt2 s fun a1 a2 => if i0 ≤ a2 then (some (.inr a1)) else (jl (w32 (a1 * 27)) fun x4 => jl (w32 (a2 + 1)) fun x5 => some (.inl (x4, x5)))
theorem eX14_power_b4 (i0 : Int) (s : Int × Int) : EQ (fX14_power_b4 i0 s) (gX14_power_b4 i0 s) (Sum.elim (fun _ => True) (fun _ => True)) := by
  unfold fX14_power_b4 gX14_power_b4
  obtain ⟨a1, a2⟩ := s
  refine EQ_jt2 ?_
  refine EQ_if Iff.rfl (fun c1 => ?_) (fun c1 => ?_)
  · exact EQ_some trivial
  · refine EQ_jl rfl (fun x4 ex4 => ?_)
    clear ex4
    refine EQ_jl rfl (fun x5 ex5 => ?_)
    clear ex5
    exact EQ_some trivial
noncomputable def gX14_power_l4 (i0 : Int) (a1 : Int) (a2 : Int) : Option (Int) := jit (gX14_power_b4 i0) (a1, a2)
theorem eX14_power_l4 (i0 : Int) (a1 : Int) (a2 : Int) : EQ (fX14_power_l4 i0 a1 a2) (gX14_power_l4 i0 a1 a2) (fun _ => True) := EQ_jit (I := (fun _ => True)) (fun s _ => eX14_power_b4 i0 s) trivial
noncomputable def gX14_power (a0 : Int) : Option (Int) := jb (gX14_power_l4 a0 1 0) fun o1 => some o1
theorem eX14_power (a0 : Int) : EQ (fX14_power a0) (gX14_power a0) (fun _ => True) := by
  unfold fX14_power gX14_power
  refine EQ_jb (eX14_power_l4 a0 1 0) (fun o1 r1 => ?_)
  exact EQ_some trivial
noncomputable def gX14_taken (a0 : Int) (a1 : Int) : Option (Int) := jb (gX14_length a0) fun v2 => if a1 < v2 then (jb (gX14_power (w32 (v2 - a1))) fun v5 => jg (¬ v5 = (0 : Int)) <| some (jdiv a0 v5)) else (some a0)
theorem eX14_taken (a0 : Int) (a1 : Int) : EQ (fX14_taken a0 a1) (gX14_taken a0 a1) (fun _ => True) := by
  unfold fX14_taken gX14_taken
  refine EQ_jb (eX14_length a0) (fun v2 r1 => ?_)
  refine EQ_if Iff.rfl (fun c2 => ?_) (fun c2 => ?_)
  · refine EQ_jb (eX14_power (w32 (v2 - a1))) (fun v5 r3 => ?_)
    refine EQ_jg Iff.rfl (fun g4 => ?_)
    exact EQ_some trivial
  · exact EQ_some trivial
noncomputable def gX14_dropped (a0 : Int) (a1 : Int) : Option (Int) := jb (gX14_length a0) fun v2 => if a1 < v2 then (jb (gX14_power (w32 (v2 - a1))) fun v5 => jg (¬ v5 = (0 : Int)) <| some (jrem a0 v5)) else (some 0)
theorem eX14_dropped (a0 : Int) (a1 : Int) : EQ (fX14_dropped a0 a1) (gX14_dropped a0 a1) (fun _ => True) := by
  unfold fX14_dropped gX14_dropped
  refine EQ_jb (eX14_length a0) (fun v2 r1 => ?_)
  refine EQ_if Iff.rfl (fun c2 => ?_) (fun c2 => ?_)
  · refine EQ_jb (eX14_power (w32 (v2 - a1))) (fun v5 r3 => ?_)
    refine EQ_jg Iff.rfl (fun g4 => ?_)
    exact EQ_some trivial
  · exact EQ_some trivial
noncomputable def gX14_turned_b4 (s : Int × Int) : Option ((Int × Int) ⊕ (Int)) := jt2 s fun a1 a2 => if a2 ≤ 0 then (some (.inr a1)) else (jl (w32 (w32 (a1 * 27) + jrem a2 27)) fun x4 => jl (jdiv a2 27) fun x5 => some (.inl (x4, x5)))
theorem eX14_turned_b4 (s : Int × Int) : EQ (fX14_turned_b4 s) (gX14_turned_b4 s) (Sum.elim (fun _ => True) (fun _ => True)) := by
  unfold fX14_turned_b4 gX14_turned_b4
  obtain ⟨a1, a2⟩ := s
  refine EQ_jt2 ?_
  refine EQ_if Iff.rfl (fun c1 => ?_) (fun c1 => ?_)
  · exact EQ_some trivial
  · refine EQ_jl rfl (fun x4 ex4 => ?_)
    clear ex4
    refine EQ_jl rfl (fun x5 ex5 => ?_)
    clear ex5
    exact EQ_some trivial
noncomputable def gX14_turned_l4 (a1 : Int) (a2 : Int) : Option (Int) := jit gX14_turned_b4 (a1, a2)
theorem eX14_turned_l4 (a1 : Int) (a2 : Int) : EQ (fX14_turned_l4 a1 a2) (gX14_turned_l4 a1 a2) (fun _ => True) := EQ_jit (I := (fun _ => True)) (fun s _ => eX14_turned_b4 s) trivial
noncomputable def gX14_turned (a0 : Int) : Option (Int) := jb (gX14_turned_l4 0 a0) fun o1 => some o1
theorem eX14_turned (a0 : Int) : EQ (fX14_turned a0) (gX14_turned a0) (fun _ => True) := by
  unfold fX14_turned gX14_turned
  refine EQ_jb (eX14_turned_l4 0 a0) (fun o1 r1 => ?_)
  exact EQ_some trivial
noncomputable def gX14_plain_j296 (a1 : Int) : Option (Int) := some (w32 (a1 + 1))
theorem eX14_plain_j296 (a1 : Int) : EQ (fX14_plain_j296 a1) (gX14_plain_j296 a1) (fun _ => True) := by
  unfold fX14_plain_j296 gX14_plain_j296
  exact EQ_some trivial
noncomputable def gX14_plain_j173 (a1 : Int) (a2 : Int) : Option (Int) := some (jand a1 a2)
theorem eX14_plain_j173 (a1 : Int) (a2 : Int) : EQ (fX14_plain_j173 a1 a2) (gX14_plain_j173 a1 a2) (fun _ => True) := by
  unfold fX14_plain_j173 gX14_plain_j173
  exact EQ_some trivial
noncomputable def gX14_plain_j177 (a1 : Int) (a2 : Int) : Option (Int) := some (jor a1 a2)
theorem eX14_plain_j177 (a1 : Int) (a2 : Int) : EQ (fX14_plain_j177 a1 a2) (gX14_plain_j177 a1 a2) (fun _ => True) := by
  unfold fX14_plain_j177 gX14_plain_j177
  exact EQ_some trivial
noncomputable def gX14_plain_j196 (a1 : Int) (a2 : Int) : Option (Int) := if a1 = a2 then (some 1) else (some 0)
theorem eX14_plain_j196 (a1 : Int) (a2 : Int) : EQ (fX14_plain_j196 a1 a2) (gX14_plain_j196 a1 a2) (fun _ => True) := by
  unfold fX14_plain_j196 gX14_plain_j196
  refine EQ_if Iff.rfl (fun c1 => ?_) (fun c1 => ?_)
  · exact EQ_some trivial
  · exact EQ_some trivial
noncomputable def gX14_plain (a0 : Int) (a1 : Int) (a2 : Int) : Option (Int) := if a0 < 0 ∨ 24 < a0 then (gX14_plain_j296 a1) else (if a0 = 0 then (some (jand (w32 (a1 + a2)) 15)) else (if a0 = 1 then (some (jand (w32 (a1 - a2)) 15)) else (if a0 = 2 then (some (jand (w32 (a1 * a2)) 15)) else (if a0 = 3 then (if a2 = 0 then (some (-1)) else (jg (¬ a2 = (0 : Int)) <| some (jdiv a1 a2))) else (if a0 = 4 then (if a2 = 0 then (some (-1)) else (jg (¬ a2 = (0 : Int)) <| some (jrem a1 a2))) else (if a0 = 5 then (some (min a1 a2)) else (if a0 = 6 then (some (max a1 a2)) else (if a0 = 7 then (gX14_plain_j173 a1 a2) else (if a0 = 8 then (gX14_plain_j177 a1 a2) else (if a0 = 9 then (some (jxor a1 a2)) else (if a0 = 10 then (if a2 ≤ a1 then (some 0) else (some 1)) else (if a0 = 11 then (gX14_plain_j196 a1 a2) else (if a0 = 12 then (some (w32 (1 - a1))) else (if a0 = 13 then (gX14_plain_j173 a1 a2) else (if a0 = 14 then (gX14_plain_j177 a1 a2) else (if a0 = 15 then (gX14_plain_j296 a1) else (if a0 = 16 then (gX14_plain_j296 a1) else (if a0 = 17 then (jb (gX14_length a1) fun v24 => jb (gX14_length a2) fun v26 => if w32 (v24 + v26) ≤ 6 then (jb (gX14_length a2) fun v29 => jb (gX14_power v29) fun v31 => some (w32 (w32 (a1 * v31) + a2))) else (some (-1))) else (if a0 = 18 then (jb (gX14_length a1) fun v34 => some v34) else (if a0 = 19 then (jb (gX14_taken a1 a2) fun v37 => some v37) else (if a0 = 20 then (jb (gX14_dropped a1 a2) fun v40 => some v40) else (if a0 = 21 then (jb (gX14_turned a1) fun v43 => some v43) else (if a0 = 22 then (if a1 = 0 then (some (-1)) else (jb (gX14_taken a1 1) fun v47 => some v47)) else (if a0 = 23 then (gX14_plain_j196 a1 a2) else (if a1 = 0 then (some (-1)) else (jb (gX14_taken a1 1) fun v52 => some (jand (w32 (v52 - 1)) 15)))))))))))))))))))))))))))
theorem eX14_plain (a0 : Int) (a1 : Int) (a2 : Int) : EQ (fX14_plain a0 a1 a2) (gX14_plain a0 a1 a2) (fun _ => True) := by
  unfold fX14_plain gX14_plain
  refine EQ_if Iff.rfl (fun c1 => ?_) (fun c1 => ?_)
  · exact (eX14_plain_j296 a1)
  · refine EQ_if Iff.rfl (fun c2 => ?_) (fun c2 => ?_)
    · exact EQ_some trivial
    · refine EQ_if Iff.rfl (fun c3 => ?_) (fun c3 => ?_)
      · exact EQ_some trivial
      · refine EQ_if Iff.rfl (fun c4 => ?_) (fun c4 => ?_)
        · exact EQ_some trivial
        · refine EQ_if Iff.rfl (fun c5 => ?_) (fun c5 => ?_)
          · refine EQ_if Iff.rfl (fun c6 => ?_) (fun c6 => ?_)
            · exact EQ_some trivial
            · refine EQ_jg Iff.rfl (fun g7 => ?_)
              exact EQ_some trivial
          · refine EQ_if Iff.rfl (fun c8 => ?_) (fun c8 => ?_)
            · refine EQ_if Iff.rfl (fun c9 => ?_) (fun c9 => ?_)
              · exact EQ_some trivial
              · refine EQ_jg Iff.rfl (fun g10 => ?_)
                exact EQ_some trivial
            · refine EQ_if Iff.rfl (fun c11 => ?_) (fun c11 => ?_)
              · exact EQ_some trivial
              · refine EQ_if Iff.rfl (fun c12 => ?_) (fun c12 => ?_)
                · exact EQ_some trivial
                · refine EQ_if Iff.rfl (fun c13 => ?_) (fun c13 => ?_)
                  · exact (eX14_plain_j173 a1 a2)
                  · refine EQ_if Iff.rfl (fun c14 => ?_) (fun c14 => ?_)
                    · exact (eX14_plain_j177 a1 a2)
                    · refine EQ_if Iff.rfl (fun c15 => ?_) (fun c15 => ?_)
                      · exact EQ_some trivial
                      · refine EQ_if Iff.rfl (fun c16 => ?_) (fun c16 => ?_)
                        · refine EQ_if Iff.rfl (fun c17 => ?_) (fun c17 => ?_)
                          · exact EQ_some trivial
                          · exact EQ_some trivial
                        · refine EQ_if Iff.rfl (fun c18 => ?_) (fun c18 => ?_)
                          · exact (eX14_plain_j196 a1 a2)
                          · refine EQ_if Iff.rfl (fun c19 => ?_) (fun c19 => ?_)
                            · exact EQ_some trivial
                            · refine EQ_if Iff.rfl (fun c20 => ?_) (fun c20 => ?_)
                              · exact (eX14_plain_j173 a1 a2)
                              · refine EQ_if Iff.rfl (fun c21 => ?_) (fun c21 => ?_)
                                · exact (eX14_plain_j177 a1 a2)
                                · refine EQ_if Iff.rfl (fun c22 => ?_) (fun c22 => ?_)
                                  · exact (eX14_plain_j296 a1)
                                  · refine EQ_if Iff.rfl (fun c23 => ?_) (fun c23 => ?_)
                                    · exact (eX14_plain_j296 a1)
                                    · refine EQ_if Iff.rfl (fun c24 => ?_) (fun c24 => ?_)
                                      · refine EQ_jb (eX14_length a1) (fun v24 r25 => ?_)
                                        refine EQ_jb (eX14_length a2) (fun v26 r26 => ?_)
                                        refine EQ_if Iff.rfl (fun c27 => ?_) (fun c27 => ?_)
                                        · refine EQ_jb (eX14_length a2) (fun v29 r28 => ?_)
                                          refine EQ_jb (eX14_power v29) (fun v31 r29 => ?_)
                                          exact EQ_some trivial
                                        · exact EQ_some trivial
                                      · refine EQ_if Iff.rfl (fun c30 => ?_) (fun c30 => ?_)
                                        · refine EQ_jb (eX14_length a1) (fun v34 r31 => ?_)
                                          exact EQ_some trivial
                                        · refine EQ_if Iff.rfl (fun c32 => ?_) (fun c32 => ?_)
                                          · refine EQ_jb (eX14_taken a1 a2) (fun v37 r33 => ?_)
                                            exact EQ_some trivial
                                          · refine EQ_if Iff.rfl (fun c34 => ?_) (fun c34 => ?_)
                                            · refine EQ_jb (eX14_dropped a1 a2) (fun v40 r35 => ?_)
                                              exact EQ_some trivial
                                            · refine EQ_if Iff.rfl (fun c36 => ?_) (fun c36 => ?_)
                                              · refine EQ_jb (eX14_turned a1) (fun v43 r37 => ?_)
                                                exact EQ_some trivial
                                              · refine EQ_if Iff.rfl (fun c38 => ?_) (fun c38 => ?_)
                                                · refine EQ_if Iff.rfl (fun c39 => ?_) (fun c39 => ?_)
                                                  · exact EQ_some trivial
                                                  · refine EQ_jb (eX14_taken a1 1) (fun v47 r40 => ?_)
                                                    exact EQ_some trivial
                                                · refine EQ_if Iff.rfl (fun c41 => ?_) (fun c41 => ?_)
                                                  · exact (eX14_plain_j196 a1 a2)
                                                  · refine EQ_if Iff.rfl (fun c42 => ?_) (fun c42 => ?_)
                                                    · exact EQ_some trivial
                                                    · refine EQ_jb (eX14_taken a1 1) (fun v52 r43 => ?_)
                                                      exact EQ_some trivial
noncomputable def gX14_base (a0 : Int) : Option (Int) := if a0 = 110 then (some 16) else (some 2)
theorem eX14_base (a0 : Int) : EQ (fX14_base a0) (gX14_base a0) (fun _ => True) := by
  unfold fX14_base gX14_base
  refine EQ_if Iff.rfl (fun c1 => ?_) (fun c1 => ?_)
  · exact EQ_some trivial
  · exact EQ_some trivial
noncomputable def gX14_given_j66 (F : Int → Int → Int → Int → Int → AH → Option (Int × AH)) (a1 : Int) (a2 : Int) (a3 : Int) (a4 : Int) (h : AH) : Option (Int × AH) := if 26 ≤ a1 then (jg (jI a1 36) <| jb2 (F (h 459 a1) a2 a3 a4 0 h) fun v14 h15 => some (v14, h15)) else (jb (gX14_plain a1 a2 a3) fun v17 => some (v17, h))
theorem eX14_given_j66 {F0 : Int → Int → Int → Int → Int → Int → AH → Option (Int × AH)} {F : Int → Int → Int → Int → Int → AH → Option (Int × AH)} (hF : ∀ (b_a1 : Int) (b_a2 : Int) (b_a3 : Int) (b_a4 : Int) (b_a5 : Int), ∀ {b_h : AH}, Sh S b_h → EQ (F0 454 b_a1 b_a2 b_a3 b_a4 b_a5 b_h) (F b_a1 b_a2 b_a3 b_a4 b_a5 b_h) (fun r => Sh S r.2)) (a1 : Int) (a2 : Int) (a3 : Int) (a4 : Int) {h : AH} (hS : Sh S h) : EQ (fX14_given_j66 F0 454 a1 a2 a3 a4 h) (gX14_given_j66 F a1 a2 a3 a4 h) (fun r => Sh S r.2) := by
  unfold fX14_given_j66 gX14_given_j66
  refine EQ_if Iff.rfl (fun c1 => ?_) (fun c1 => ?_)
  · refine EQ_jgd (show h 454 (-2) = 15 from by rw [k_454 hS]) ?_
    refine EQ_jg ⟨fun ⟨_, x0⟩ => (show jI a1 (h (h 454 4) (-1)) ↔ jI a1 36 from by rw [r_454_4 hS, l_459 hS]).mp x0, fun x0 => ⟨(show h (h 454 4) (-2) = 101 from by rw [r_454_4 hS, k_459 hS]), (show jI a1 (h (h 454 4) (-1)) ↔ jI a1 36 from by rw [r_454_4 hS, l_459 hS]).mpr x0⟩⟩ (fun g2 => ?_)
    refine EQ_jgd (show h 454 (-2) = 15 from by rw [k_454 hS]) ?_
    refine EQ_jb2 (by rw [r_454_4 hS]; exact hF (h 459 a1) a2 a3 a4 0 hS) (fun v14 h15 r3 => ?_)
    replace r3 : Sh S h15 := r3
    exact EQ_some r3
  · refine EQ_jb (eX14_plain a1 a2 a3) (fun v17 r4 => ?_)
    exact EQ_some hS
noncomputable def gX14_given_j52 (F : Int → Int → Int → Int → Int → AH → Option (Int × AH)) (a1 : Int) (a2 : Int) (a3 : Int) (a4 : Int) (a5 : Int) (h : AH) : Option (Int × AH) := if a5 ≤ 2 then (gX14_given_j66 F a1 a2 a3 a4 h) else (if a4 = (-1) then (some ((-1), h)) else (gX14_given_j66 F a1 a2 a3 a4 h))
theorem eX14_given_j52 {F0 : Int → Int → Int → Int → Int → Int → AH → Option (Int × AH)} {F : Int → Int → Int → Int → Int → AH → Option (Int × AH)} (hF : ∀ (b_a1 : Int) (b_a2 : Int) (b_a3 : Int) (b_a4 : Int) (b_a5 : Int), ∀ {b_h : AH}, Sh S b_h → EQ (F0 454 b_a1 b_a2 b_a3 b_a4 b_a5 b_h) (F b_a1 b_a2 b_a3 b_a4 b_a5 b_h) (fun r => Sh S r.2)) (a1 : Int) (a2 : Int) (a3 : Int) (a4 : Int) (a5 : Int) {h : AH} (hS : Sh S h) : EQ (fX14_given_j52 F0 454 a1 a2 a3 a4 a5 h) (gX14_given_j52 F a1 a2 a3 a4 a5 h) (fun r => Sh S r.2) := by
  unfold fX14_given_j52 gX14_given_j52
  refine EQ_if Iff.rfl (fun c1 => ?_) (fun c1 => ?_)
  · exact (eX14_given_j66 hF a1 a2 a3 a4 hS)
  · refine EQ_if Iff.rfl (fun c2 => ?_) (fun c2 => ?_)
    · exact EQ_some hS
    · exact (eX14_given_j66 hF a1 a2 a3 a4 hS)
noncomputable def gX14_given_ (F : Int → Int → Int → Int → Int → AH → Option (Int × AH)) (a1 : Int) (a2 : Int) (a3 : Int) (a4 : Int) (h : AH) : Option (Int × AH) := jb (gX14_chooses a1) fun v2 => if v2 = 0 then (jg (jI a1 36) <| jl (h 456 a1) fun x4 => if a2 = (-1) then (some ((-1), h)) else (if x4 ≤ 1 then (gX14_given_j52 F a1 a2 a3 a4 x4 h) else (if a3 = (-1) then (some ((-1), h)) else (gX14_given_j52 F a1 a2 a3 a4 x4 h)))) else (if a2 = (-1) then (some ((-1), h)) else (if a2 = 1 then (some (a3, h)) else (some (a4, h))))
theorem eX14_given_ {F0 : Int → Int → Int → Int → Int → Int → AH → Option (Int × AH)} {F : Int → Int → Int → Int → Int → AH → Option (Int × AH)} (hF : ∀ (b_a1 : Int) (b_a2 : Int) (b_a3 : Int) (b_a4 : Int) (b_a5 : Int), ∀ {b_h : AH}, Sh S b_h → EQ (F0 454 b_a1 b_a2 b_a3 b_a4 b_a5 b_h) (F b_a1 b_a2 b_a3 b_a4 b_a5 b_h) (fun r => Sh S r.2)) (a1 : Int) (a2 : Int) (a3 : Int) (a4 : Int) {h : AH} (hS : Sh S h) : EQ (fX14_given_ F0 454 a1 a2 a3 a4 h) (gX14_given_ F a1 a2 a3 a4 h) (fun r => Sh S r.2) := by
  unfold fX14_given_ gX14_given_
  refine EQ_jb (eX14_chooses a1) (fun v2 r1 => ?_)
  refine EQ_if Iff.rfl (fun c2 => ?_) (fun c2 => ?_)
  · refine EQ_jgd (show h 454 (-2) = 15 from by rw [k_454 hS]) ?_
    refine EQ_jg ⟨fun ⟨_, x0⟩ => (show jI a1 (h (h 454 1) (-1)) ↔ jI a1 36 from by rw [r_454_1 hS, l_456 hS]).mp x0, fun x0 => ⟨(show h (h 454 1) (-2) = 101 from by rw [r_454_1 hS, k_456 hS]), (show jI a1 (h (h 454 1) (-1)) ↔ jI a1 36 from by rw [r_454_1 hS, l_456 hS]).mpr x0⟩⟩ (fun g3 => ?_)
    refine EQ_jl (by rw [r_454_1 hS]) (fun x4 ex4 => ?_)
    clear ex4
    refine EQ_if Iff.rfl (fun c4 => ?_) (fun c4 => ?_)
    · exact EQ_some hS
    · refine EQ_if Iff.rfl (fun c5 => ?_) (fun c5 => ?_)
      · exact (eX14_given_j52 hF a1 a2 a3 a4 x4 hS)
      · refine EQ_if Iff.rfl (fun c6 => ?_) (fun c6 => ?_)
        · exact EQ_some hS
        · exact (eX14_given_j52 hF a1 a2 a3 a4 x4 hS)
  · refine EQ_if Iff.rfl (fun c7 => ?_) (fun c7 => ?_)
    · exact EQ_some hS
    · refine EQ_if Iff.rfl (fun c8 => ?_) (fun c8 => ?_)
      · exact EQ_some hS
      · exact EQ_some hS
noncomputable def gX14_answer_j344 (F : Int → Int → Int → Int → Int → AH → Option (Int × AH)) (a5 : Int) (a10 : Int) (h : AH) : Option (Int × AH) := jg (h a5 (-2) = 101 ∧ jI a10 (h a5 (-1))) <| some (h a5 a10, h)
theorem eX14_answer_j344 {F0 : Int → Int → Int → Int → Int → Int → AH → Option (Int × AH)} {F : Int → Int → Int → Int → Int → AH → Option (Int × AH)} (hF : ∀ (b_a1 : Int) (b_a2 : Int) (b_a3 : Int) (b_a4 : Int) (b_a5 : Int), ∀ {b_h : AH}, Sh S b_h → EQ (F0 454 b_a1 b_a2 b_a3 b_a4 b_a5 b_h) (F b_a1 b_a2 b_a3 b_a4 b_a5 b_h) (fun r => Sh S r.2)) (a5 : Int) (a10 : Int) {h : AH} (hS : Sh S h) : EQ (fX14_answer_j344 F0 a5 a10 h) (gX14_answer_j344 F a5 a10 h) (fun r => Sh S r.2) := by
  unfold fX14_answer_j344 gX14_answer_j344
  refine EQ_jg Iff.rfl (fun g1 => ?_)
  exact EQ_some hS
noncomputable def gX14_answer_j314 (F : Int → Int → Int → Int → Int → AH → Option (Int × AH)) (a1 : Int) (a5 : Int) (a9 : Int) (a10 : Int) (h : AH) : Option (Int × AH) := jg (jI a1 8800) <| if h 465 a1 ≤ 2 then (gX14_answer_j344 F a5 a10 h) else (jg (isX16 (h 454 38)) <| jb (gX14_base (h (h 454 38 + 1) 2)) fun v38 => jl (w32 (w32 (a10 * v38) + a9)) fun x39 => gX14_answer_j344 F a5 x39 h)
theorem eX14_answer_j314 {F0 : Int → Int → Int → Int → Int → Int → AH → Option (Int × AH)} {F : Int → Int → Int → Int → Int → AH → Option (Int × AH)} (hF : ∀ (b_a1 : Int) (b_a2 : Int) (b_a3 : Int) (b_a4 : Int) (b_a5 : Int), ∀ {b_h : AH}, Sh S b_h → EQ (F0 454 b_a1 b_a2 b_a3 b_a4 b_a5 b_h) (F b_a1 b_a2 b_a3 b_a4 b_a5 b_h) (fun r => Sh S r.2)) (a1 : Int) (a5 : Int) (a9 : Int) (a10 : Int) {h : AH} (hS : Sh S h) : EQ (fX14_answer_j314 F0 454 a1 a5 a9 a10 h) (gX14_answer_j314 F a1 a5 a9 a10 h) (fun r => Sh S r.2) := by
  unfold fX14_answer_j314 gX14_answer_j314
  refine EQ_jgd (show h 454 (-2) = 15 from by rw [k_454 hS]) ?_
  refine EQ_jg ⟨fun ⟨_, x0⟩ => (show jI a1 (h (h 454 11) (-1)) ↔ jI a1 8800 from by rw [r_454_11 hS, l_465 hS]).mp x0, fun x0 => ⟨(show h (h 454 11) (-2) = 101 from by rw [r_454_11 hS, k_465 hS]), (show jI a1 (h (h 454 11) (-1)) ↔ jI a1 8800 from by rw [r_454_11 hS, l_465 hS]).mpr x0⟩⟩ (fun g1 => ?_)
  refine EQ_if (show h (h 454 11) a1 ≤ 2 ↔ h 465 a1 ≤ 2 from by rw [r_454_11 hS]) (fun c2 => ?_) (fun c2 => ?_)
  · exact (eX14_answer_j344 hF a5 a10 hS)
  · refine EQ_jgd (show h 454 (-2) = 15 from by rw [k_454 hS]) ?_
    refine EQ_jg ⟨fun x0 => (ik_X16 hS).mp x0, fun x0 => (ik_X16 hS).mpr x0⟩ (fun g3 => ?_)
    refine EQ_jgd ⟨(show h (h (h 454 38) 2) (-2) = 101 from by rw [ft_X16_2 hS g3, ka_X16_2 hS g3]), (show jI 2 (h (h (h 454 38) 2) (-1)) from by rw [ft_X16_2 hS g3, la_X16_2 hS g3]; unfold jI; decide)⟩ ?_
    refine EQ_jb (by rw [ft_X16_2 hS g3]; exact eX14_base (h (h 454 38 + 1) 2)) (fun v38 r4 => ?_)
    refine EQ_jl rfl (fun x39 ex39 => ?_)
    clear ex39
    exact (eX14_answer_j344 hF a5 x39 hS)
noncomputable def gX14_answer_j232 (F : Int → Int → Int → Int → Int → AH → Option (Int × AH)) (a1 : Int) (a5 : Int) (a7 : Int) (a8 : Int) (t0 : Int) (h : AH) : Option (Int × AH) := jg (jI a1 8800) <| if h 463 a1 < 0 then (if a7 = (-1) then (some ((-1), h)) else (if a8 = (-1) then (some ((-1), h)) else (if t0 = (-1) then (some ((-1), h)) else (if h 465 a1 ≤ 1 then (gX14_answer_j314 F a1 a5 t0 a7 h) else (jg (isX16 (h 454 38)) <| jb (gX14_base (h (h 454 38 + 1) 1)) fun v31 => jl (w32 (w32 (a7 * v31) + a8)) fun x32 => gX14_answer_j314 F a1 a5 t0 x32 h))))) else (jb2 (gX14_given_ F (h 463 a1) a7 a8 t0 h) fun v34 h35 => some (v34, h35))
theorem eX14_answer_j232 {F0 : Int → Int → Int → Int → Int → Int → AH → Option (Int × AH)} {F : Int → Int → Int → Int → Int → AH → Option (Int × AH)} (hF : ∀ (b_a1 : Int) (b_a2 : Int) (b_a3 : Int) (b_a4 : Int) (b_a5 : Int), ∀ {b_h : AH}, Sh S b_h → EQ (F0 454 b_a1 b_a2 b_a3 b_a4 b_a5 b_h) (F b_a1 b_a2 b_a3 b_a4 b_a5 b_h) (fun r => Sh S r.2)) (a1 : Int) (a5 : Int) (a7 : Int) (a8 : Int) (t0 : Int) {h : AH} (hS : Sh S h) : EQ (fX14_answer_j232 F0 454 a1 a5 a7 a8 t0 h) (gX14_answer_j232 F a1 a5 a7 a8 t0 h) (fun r => Sh S r.2) := by
  unfold fX14_answer_j232 gX14_answer_j232
  refine EQ_jgd (show h 454 (-2) = 15 from by rw [k_454 hS]) ?_
  refine EQ_jg ⟨fun ⟨_, x0⟩ => (show jI a1 (h (h 454 9) (-1)) ↔ jI a1 8800 from by rw [r_454_9 hS, l_463 hS]).mp x0, fun x0 => ⟨(show h (h 454 9) (-2) = 101 from by rw [r_454_9 hS, k_463 hS]), (show jI a1 (h (h 454 9) (-1)) ↔ jI a1 8800 from by rw [r_454_9 hS, l_463 hS]).mpr x0⟩⟩ (fun g1 => ?_)
  refine EQ_if (show h (h 454 9) a1 < 0 ↔ h 463 a1 < 0 from by rw [r_454_9 hS]) (fun c2 => ?_) (fun c2 => ?_)
  · refine EQ_if Iff.rfl (fun c3 => ?_) (fun c3 => ?_)
    · exact EQ_some hS
    · refine EQ_if Iff.rfl (fun c4 => ?_) (fun c4 => ?_)
      · exact EQ_some hS
      · refine EQ_if Iff.rfl (fun c5 => ?_) (fun c5 => ?_)
        · exact EQ_some hS
        · refine EQ_jgd (show h 454 (-2) = 15 from by rw [k_454 hS]) ?_
          refine EQ_jgd ⟨(show h (h 454 11) (-2) = 101 from by rw [r_454_11 hS, k_465 hS]), ((show jI a1 (h (h 454 11) (-1)) ↔ jI a1 8800 from by rw [r_454_11 hS, l_465 hS]).mpr g1)⟩ ?_
          refine EQ_if (show h (h 454 11) a1 ≤ 1 ↔ h 465 a1 ≤ 1 from by rw [r_454_11 hS]) (fun c6 => ?_) (fun c6 => ?_)
          · exact (eX14_answer_j314 hF a1 a5 t0 a7 hS)
          · refine EQ_jgd (show h 454 (-2) = 15 from by rw [k_454 hS]) ?_
            refine EQ_jg ⟨fun x0 => (ik_X16 hS).mp x0, fun x0 => (ik_X16 hS).mpr x0⟩ (fun g7 => ?_)
            refine EQ_jgd ⟨(show h (h (h 454 38) 2) (-2) = 101 from by rw [ft_X16_2 hS g7, ka_X16_2 hS g7]), (show jI 1 (h (h (h 454 38) 2) (-1)) from by rw [ft_X16_2 hS g7, la_X16_2 hS g7]; unfold jI; decide)⟩ ?_
            refine EQ_jb (by rw [ft_X16_2 hS g7]; exact eX14_base (h (h 454 38 + 1) 1)) (fun v31 r8 => ?_)
            refine EQ_jl rfl (fun x32 ex32 => ?_)
            clear ex32
            exact (eX14_answer_j314 hF a1 a5 t0 x32 hS)
  · refine EQ_jgd (show h 454 (-2) = 15 from by rw [k_454 hS]) ?_
    refine EQ_jgd ⟨(show h (h 454 9) (-2) = 101 from by rw [r_454_9 hS, k_463 hS]), ((show jI a1 (h (h 454 9) (-1)) ↔ jI a1 8800 from by rw [r_454_9 hS, l_463 hS]).mpr g1)⟩ ?_
    refine EQ_jgd (show h 454 (-2) = 15 from by rw [k_454 hS]) ?_
    refine EQ_jb2 (by rw [r_454_9 hS]; exact eX14_given_ hF (h 463 a1) a7 a8 t0 hS) (fun v34 h35 r9 => ?_)
    replace r9 : Sh S h35 := r9
    exact EQ_some r9
noncomputable def gX14_answer_j197 (F : Int → Int → Int → Int → Int → AH → Option (Int × AH)) (a1 : Int) (a2 : Int) (a3 : Int) (a4 : Int) (a5 : Int) (a6 : Int) (a7 : Int) (t0 : Int) (h : AH) : Option (Int × AH) := jg (jI a1 8800) <| if h 465 a1 ≤ 2 then (gX14_answer_j232 F a1 a5 a7 t0 0 h) else (jg (jI (w32 (a6 + 2)) 26400) <| jb2 (F (h 464 (w32 (a6 + 2))) a2 a3 a4 a5 h) fun v23 h24 => gX14_answer_j232 F a1 a5 a7 t0 v23 h24)
theorem eX14_answer_j197 {F0 : Int → Int → Int → Int → Int → Int → AH → Option (Int × AH)} {F : Int → Int → Int → Int → Int → AH → Option (Int × AH)} (hF : ∀ (b_a1 : Int) (b_a2 : Int) (b_a3 : Int) (b_a4 : Int) (b_a5 : Int), ∀ {b_h : AH}, Sh S b_h → EQ (F0 454 b_a1 b_a2 b_a3 b_a4 b_a5 b_h) (F b_a1 b_a2 b_a3 b_a4 b_a5 b_h) (fun r => Sh S r.2)) (a1 : Int) (a2 : Int) (a3 : Int) (a4 : Int) (a5 : Int) (a6 : Int) (a7 : Int) (t0 : Int) {h : AH} (hS : Sh S h) : EQ (fX14_answer_j197 F0 454 a1 a2 a3 a4 a5 a6 a7 t0 h) (gX14_answer_j197 F a1 a2 a3 a4 a5 a6 a7 t0 h) (fun r => Sh S r.2) := by
  unfold fX14_answer_j197 gX14_answer_j197
  refine EQ_jgd (show h 454 (-2) = 15 from by rw [k_454 hS]) ?_
  refine EQ_jg ⟨fun ⟨_, x0⟩ => (show jI a1 (h (h 454 11) (-1)) ↔ jI a1 8800 from by rw [r_454_11 hS, l_465 hS]).mp x0, fun x0 => ⟨(show h (h 454 11) (-2) = 101 from by rw [r_454_11 hS, k_465 hS]), (show jI a1 (h (h 454 11) (-1)) ↔ jI a1 8800 from by rw [r_454_11 hS, l_465 hS]).mpr x0⟩⟩ (fun g1 => ?_)
  refine EQ_if (show h (h 454 11) a1 ≤ 2 ↔ h 465 a1 ≤ 2 from by rw [r_454_11 hS]) (fun c2 => ?_) (fun c2 => ?_)
  · exact (eX14_answer_j232 hF a1 a5 a7 t0 0 hS)
  · refine EQ_jgd (show h 454 (-2) = 15 from by rw [k_454 hS]) ?_
    refine EQ_jg ⟨fun ⟨_, x0⟩ => (show jI (w32 (a6 + 2)) (h (h 454 10) (-1)) ↔ jI (w32 (a6 + 2)) 26400 from by rw [r_454_10 hS, l_464 hS]).mp x0, fun x0 => ⟨(show h (h 454 10) (-2) = 101 from by rw [r_454_10 hS, k_464 hS]), (show jI (w32 (a6 + 2)) (h (h 454 10) (-1)) ↔ jI (w32 (a6 + 2)) 26400 from by rw [r_454_10 hS, l_464 hS]).mpr x0⟩⟩ (fun g3 => ?_)
    refine EQ_jgd (show h 454 (-2) = 15 from by rw [k_454 hS]) ?_
    refine EQ_jb2 (by rw [r_454_10 hS]; exact hF (h 464 (w32 (a6 + 2))) a2 a3 a4 a5 hS) (fun v23 h24 r4 => ?_)
    replace r4 : Sh S h24 := r4
    exact (eX14_answer_j232 hF a1 a5 a7 t0 v23 r4)
noncomputable def gX14_answer_j164 (F : Int → Int → Int → Int → Int → AH → Option (Int × AH)) (a1 : Int) (a2 : Int) (a3 : Int) (a4 : Int) (a5 : Int) (a6 : Int) (a7 : Int) (h : AH) : Option (Int × AH) := jg (jI a1 8800) <| if h 465 a1 ≤ 1 then (gX14_answer_j197 F a1 a2 a3 a4 a5 a6 a7 0 h) else (jg (jI (w32 (a6 + 1)) 26400) <| jb2 (F (h 464 (w32 (a6 + 1))) a2 a3 a4 a5 h) fun v19 h20 => gX14_answer_j197 F a1 a2 a3 a4 a5 a6 a7 v19 h20)
theorem eX14_answer_j164 {F0 : Int → Int → Int → Int → Int → Int → AH → Option (Int × AH)} {F : Int → Int → Int → Int → Int → AH → Option (Int × AH)} (hF : ∀ (b_a1 : Int) (b_a2 : Int) (b_a3 : Int) (b_a4 : Int) (b_a5 : Int), ∀ {b_h : AH}, Sh S b_h → EQ (F0 454 b_a1 b_a2 b_a3 b_a4 b_a5 b_h) (F b_a1 b_a2 b_a3 b_a4 b_a5 b_h) (fun r => Sh S r.2)) (a1 : Int) (a2 : Int) (a3 : Int) (a4 : Int) (a5 : Int) (a6 : Int) (a7 : Int) {h : AH} (hS : Sh S h) : EQ (fX14_answer_j164 F0 454 a1 a2 a3 a4 a5 a6 a7 h) (gX14_answer_j164 F a1 a2 a3 a4 a5 a6 a7 h) (fun r => Sh S r.2) := by
  unfold fX14_answer_j164 gX14_answer_j164
  refine EQ_jgd (show h 454 (-2) = 15 from by rw [k_454 hS]) ?_
  refine EQ_jg ⟨fun ⟨_, x0⟩ => (show jI a1 (h (h 454 11) (-1)) ↔ jI a1 8800 from by rw [r_454_11 hS, l_465 hS]).mp x0, fun x0 => ⟨(show h (h 454 11) (-2) = 101 from by rw [r_454_11 hS, k_465 hS]), (show jI a1 (h (h 454 11) (-1)) ↔ jI a1 8800 from by rw [r_454_11 hS, l_465 hS]).mpr x0⟩⟩ (fun g1 => ?_)
  refine EQ_if (show h (h 454 11) a1 ≤ 1 ↔ h 465 a1 ≤ 1 from by rw [r_454_11 hS]) (fun c2 => ?_) (fun c2 => ?_)
  · exact (eX14_answer_j197 hF a1 a2 a3 a4 a5 a6 a7 0 hS)
  · refine EQ_jgd (show h 454 (-2) = 15 from by rw [k_454 hS]) ?_
    refine EQ_jg ⟨fun ⟨_, x0⟩ => (show jI (w32 (a6 + 1)) (h (h 454 10) (-1)) ↔ jI (w32 (a6 + 1)) 26400 from by rw [r_454_10 hS, l_464 hS]).mp x0, fun x0 => ⟨(show h (h 454 10) (-2) = 101 from by rw [r_454_10 hS, k_464 hS]), (show jI (w32 (a6 + 1)) (h (h 454 10) (-1)) ↔ jI (w32 (a6 + 1)) 26400 from by rw [r_454_10 hS, l_464 hS]).mpr x0⟩⟩ (fun g3 => ?_)
    refine EQ_jgd (show h 454 (-2) = 15 from by rw [k_454 hS]) ?_
    refine EQ_jb2 (by rw [r_454_10 hS]; exact hF (h 464 (w32 (a6 + 1))) a2 a3 a4 a5 hS) (fun v19 h20 r4 => ?_)
    replace r4 : Sh S h20 := r4
    exact (eX14_answer_j197 hF a1 a2 a3 a4 a5 a6 a7 v19 r4)
noncomputable def gX14_answer_j152 (F : Int → Int → Int → Int → Int → AH → Option (Int × AH)) (a2 : Int) (a3 : Int) (a4 : Int) (a5 : Int) (t2 : Int) (t3 : Int) (h : AH) : Option (Int × AH) := jg (jI (w32 (t2 + t3)) 26400) <| jb2 (F (h 464 (w32 (t2 + t3))) a2 a3 a4 a5 h) fun v41 h42 => some (v41, h42)
theorem eX14_answer_j152 {F0 : Int → Int → Int → Int → Int → Int → AH → Option (Int × AH)} {F : Int → Int → Int → Int → Int → AH → Option (Int × AH)} (hF : ∀ (b_a1 : Int) (b_a2 : Int) (b_a3 : Int) (b_a4 : Int) (b_a5 : Int), ∀ {b_h : AH}, Sh S b_h → EQ (F0 454 b_a1 b_a2 b_a3 b_a4 b_a5 b_h) (F b_a1 b_a2 b_a3 b_a4 b_a5 b_h) (fun r => Sh S r.2)) (a2 : Int) (a3 : Int) (a4 : Int) (a5 : Int) (t2 : Int) (t3 : Int) {h : AH} (hS : Sh S h) : EQ (fX14_answer_j152 F0 a2 a3 a4 a5 454 464 t2 t3 h) (gX14_answer_j152 F a2 a3 a4 a5 t2 t3 h) (fun r => Sh S r.2) := by
  unfold fX14_answer_j152 gX14_answer_j152
  refine EQ_jg ⟨fun ⟨_, x0⟩ => (show jI (w32 (t2 + t3)) (h 464 (-1)) ↔ jI (w32 (t2 + t3)) 26400 from by rw [l_464 hS]).mp x0, fun x0 => ⟨(show h 464 (-2) = 101 from by rw [k_464 hS]), (show jI (w32 (t2 + t3)) (h 464 (-1)) ↔ jI (w32 (t2 + t3)) 26400 from by rw [l_464 hS]).mpr x0⟩⟩ (fun g1 => ?_)
  refine EQ_jgd (show h 454 (-2) = 15 from by rw [k_454 hS]) ?_
  refine EQ_jb2 (hF (h 464 (w32 (t2 + t3))) a2 a3 a4 a5 hS) (fun v41 h42 r2 => ?_)
  replace r2 : Sh S h42 := r2
  exact EQ_some r2
noncomputable def gX14_answer_ (F : Int → Int → Int → Int → Int → AH → Option (Int × AH)) (a1 : Int) (a2 : Int) (a3 : Int) (a4 : Int) (a5 : Int) (h : AH) : Option (Int × AH) := if a1 = h 454 21 then (some (h 454 22, h)) else (jg (jI a1 8800) <| if h 460 a1 = 0 then (some (h 462 a1, h)) else (if h 460 a1 = 1 then (if h 462 a1 = 0 then (some (a2, h)) else (if h 462 a1 = 1 then (some (a3, h)) else (some (a4, h)))) else (jl (jst h 454 20 (w64 (h 454 20 + 1))) fun h6 => jl (w32 (3 * a1)) fun x7 => jg (jI x7 26400) <| jb2 (F (h6 464 x7) a2 a3 a4 a5 h6) fun v9 h10 => if h10 463 a1 < 0 then (gX14_answer_j164 F a1 a2 a3 a4 a5 x7 v9 h10) else (jb (gX14_chooses (h10 463 a1)) fun v13 => if v13 = 0 then (gX14_answer_j164 F a1 a2 a3 a4 a5 x7 v9 h10) else (if v9 = (-1) then (some ((-1), h10)) else (if v9 = 1 then (gX14_answer_j152 F a2 a3 a4 a5 x7 1 h10) else (gX14_answer_j152 F a2 a3 a4 a5 x7 2 h10)))))))
theorem eX14_answer_ {F0 : Int → Int → Int → Int → Int → Int → AH → Option (Int × AH)} {F : Int → Int → Int → Int → Int → AH → Option (Int × AH)} (hF : ∀ (b_a1 : Int) (b_a2 : Int) (b_a3 : Int) (b_a4 : Int) (b_a5 : Int), ∀ {b_h : AH}, Sh S b_h → EQ (F0 454 b_a1 b_a2 b_a3 b_a4 b_a5 b_h) (F b_a1 b_a2 b_a3 b_a4 b_a5 b_h) (fun r => Sh S r.2)) (a1 : Int) (a2 : Int) (a3 : Int) (a4 : Int) (a5 : Int) {h : AH} (hS : Sh S h) : EQ (fX14_answer_ F0 454 a1 a2 a3 a4 a5 h) (gX14_answer_ F a1 a2 a3 a4 a5 h) (fun r => Sh S r.2) := by
  unfold fX14_answer_ gX14_answer_
  refine EQ_jgd (show h 454 (-2) = 15 from by rw [k_454 hS]) ?_
  refine EQ_if Iff.rfl (fun c1 => ?_) (fun c1 => ?_)
  · refine EQ_jgd (show h 454 (-2) = 15 from by rw [k_454 hS]) ?_
    exact EQ_some hS
  · refine EQ_jgd (show h 454 (-2) = 15 from by rw [k_454 hS]) ?_
    refine EQ_jg ⟨fun ⟨_, x0⟩ => (show jI a1 (h (h 454 6) (-1)) ↔ jI a1 8800 from by rw [r_454_6 hS, l_460 hS]).mp x0, fun x0 => ⟨(show h (h 454 6) (-2) = 101 from by rw [r_454_6 hS, k_460 hS]), (show jI a1 (h (h 454 6) (-1)) ↔ jI a1 8800 from by rw [r_454_6 hS, l_460 hS]).mpr x0⟩⟩ (fun g2 => ?_)
    refine EQ_if (show h (h 454 6) a1 = 0 ↔ h 460 a1 = 0 from by rw [r_454_6 hS]) (fun c3 => ?_) (fun c3 => ?_)
    · refine EQ_jgd (show h 454 (-2) = 15 from by rw [k_454 hS]) ?_
      refine EQ_jgd ⟨(show h (h 454 8) (-2) = 101 from by rw [r_454_8 hS, k_462 hS]), ((show jI a1 (h (h 454 8) (-1)) ↔ jI a1 8800 from by rw [r_454_8 hS, l_462 hS]).mpr g2)⟩ ?_
      exact EQ_some' (by rw [r_454_8 hS]) hS
    · refine EQ_jgd (show h 454 (-2) = 15 from by rw [k_454 hS]) ?_
      refine EQ_jgd ⟨(show h (h 454 6) (-2) = 101 from by rw [r_454_6 hS, k_460 hS]), ((show jI a1 (h (h 454 6) (-1)) ↔ jI a1 8800 from by rw [r_454_6 hS, l_460 hS]).mpr g2)⟩ ?_
      refine EQ_if (show h (h 454 6) a1 = 1 ↔ h 460 a1 = 1 from by rw [r_454_6 hS]) (fun c4 => ?_) (fun c4 => ?_)
      · refine EQ_jgd (show h 454 (-2) = 15 from by rw [k_454 hS]) ?_
        refine EQ_jgd ⟨(show h (h 454 8) (-2) = 101 from by rw [r_454_8 hS, k_462 hS]), ((show jI a1 (h (h 454 8) (-1)) ↔ jI a1 8800 from by rw [r_454_8 hS, l_462 hS]).mpr g2)⟩ ?_
        refine EQ_if (show h (h 454 8) a1 = 0 ↔ h 462 a1 = 0 from by rw [r_454_8 hS]) (fun c5 => ?_) (fun c5 => ?_)
        · exact EQ_some hS
        · refine EQ_jgd (show h 454 (-2) = 15 from by rw [k_454 hS]) ?_
          refine EQ_jgd ⟨(show h (h 454 8) (-2) = 101 from by rw [r_454_8 hS, k_462 hS]), ((show jI a1 (h (h 454 8) (-1)) ↔ jI a1 8800 from by rw [r_454_8 hS, l_462 hS]).mpr g2)⟩ ?_
          refine EQ_if (show h (h 454 8) a1 = 1 ↔ h 462 a1 = 1 from by rw [r_454_8 hS]) (fun c6 => ?_) (fun c6 => ?_)
          · exact EQ_some hS
          · exact EQ_some hS
      · refine EQ_jgd (show h 454 (-2) = 15 from by rw [k_454 hS]) ?_
        refine EQ_jgd ⟨(show h 454 (-2) = 15 from by rw [k_454 hS]), (show (200 : Int) ≤ 454 from (by decide))⟩ ?_
        refine EQ_jl rfl (fun h6 eh6 => ?_)
        have s7 := Sh_of eh6 (Sh_sto hS (a := 454) (i := 20) (by decide +kernel))
        clear eh6
        refine EQ_jl rfl (fun x7 ex7 => ?_)
        clear ex7
        refine EQ_jgd (show h6 454 (-2) = 15 from by rw [k_454 s7]) ?_
        refine EQ_jg ⟨fun ⟨_, x0⟩ => (show jI x7 (h6 (h6 454 10) (-1)) ↔ jI x7 26400 from by rw [r_454_10 s7, l_464 s7]).mp x0, fun x0 => ⟨(show h6 (h6 454 10) (-2) = 101 from by rw [r_454_10 s7, k_464 s7]), (show jI x7 (h6 (h6 454 10) (-1)) ↔ jI x7 26400 from by rw [r_454_10 s7, l_464 s7]).mpr x0⟩⟩ (fun g8 => ?_)
        refine EQ_jgd (show h6 454 (-2) = 15 from by rw [k_454 s7]) ?_
        refine EQ_jb2 (by rw [r_454_10 s7]; exact hF (h6 464 x7) a2 a3 a4 a5 s7) (fun v9 h10 r9 => ?_)
        replace r9 : Sh S h10 := r9
        refine EQ_jgd (show h10 454 (-2) = 15 from by rw [k_454 r9]) ?_
        refine EQ_jgd ⟨(show h10 (h10 454 9) (-2) = 101 from by rw [r_454_9 r9, k_463 r9]), ((show jI a1 (h10 (h10 454 9) (-1)) ↔ jI a1 8800 from by rw [r_454_9 r9, l_463 r9]).mpr g2)⟩ ?_
        refine EQ_if (show h10 (h10 454 9) a1 < 0 ↔ h10 463 a1 < 0 from by rw [r_454_9 r9]) (fun c10 => ?_) (fun c10 => ?_)
        · exact (eX14_answer_j164 hF a1 a2 a3 a4 a5 x7 v9 r9)
        · refine EQ_jgd (show h10 454 (-2) = 15 from by rw [k_454 r9]) ?_
          refine EQ_jgd ⟨(show h10 (h10 454 9) (-2) = 101 from by rw [r_454_9 r9, k_463 r9]), ((show jI a1 (h10 (h10 454 9) (-1)) ↔ jI a1 8800 from by rw [r_454_9 r9, l_463 r9]).mpr g2)⟩ ?_
          refine EQ_jb (by rw [r_454_9 r9]; exact eX14_chooses (h10 463 a1)) (fun v13 r11 => ?_)
          refine EQ_if Iff.rfl (fun c12 => ?_) (fun c12 => ?_)
          · exact (eX14_answer_j164 hF a1 a2 a3 a4 a5 x7 v9 r9)
          · refine EQ_if Iff.rfl (fun c13 => ?_) (fun c13 => ?_)
            · exact EQ_some r9
            · refine EQ_jgd (show h10 454 (-2) = 15 from by rw [k_454 r9]) ?_
              refine EQ_if Iff.rfl (fun c14 => ?_) (fun c14 => ?_)
              · exact (by rw [r_454_10 r9]; exact eX14_answer_j152 hF a2 a3 a4 a5 x7 1 r9)
              · exact (by rw [r_454_10 r9]; exact eX14_answer_j152 hF a2 a3 a4 a5 x7 2 r9)
noncomputable def gX14_answerD : Nat → Int → Int → Int → Int → Int → AH → Option (Int × AH)
  | 0 => fun _ _ _ _ _ _ => none
  | d + 1 => gX14_answer_ (gX14_answerD d)
theorem eX14_answerD : ∀ (d : Nat) (a1 : Int) (a2 : Int) (a3 : Int) (a4 : Int) (a5 : Int) {h : AH} (hS : Sh S h) , EQ (fX14_answerD d 454 a1 a2 a3 a4 a5 h) (gX14_answerD d a1 a2 a3 a4 a5 h) (fun r => Sh S r.2) := by
  intro d
  induction d with
  | zero => intro a1 a2 a3 a4 a5 h hS; exact EQ_none
  | succ d ih => intro a1 a2 a3 a4 a5 h hS; exact eX14_answer_ ih a1 a2 a3 a4 a5 hS
noncomputable def gX14_answer : Int → Int → Int → Int → Int → AH → Option (Int × AH) := gX14_answerD 100
theorem eX14_answer (a1 : Int) (a2 : Int) (a3 : Int) (a4 : Int) (a5 : Int) {h : AH} (hS : Sh S h) : EQ (fX14_answer 454 a1 a2 a3 a4 a5 h) (gX14_answer a1 a2 a3 a4 a5 h) (fun r => Sh S r.2) := eX14_answerD 100 a1 a2 a3 a4 a5 hS
noncomputable def gX14_given : Int → Int → Int → Int → AH → Option (Int × AH) := gX14_given_ gX14_answer
theorem eX14_given (a1 : Int) (a2 : Int) (a3 : Int) (a4 : Int) {h : AH} (hS : Sh S h) : EQ (fX14_given 454 a1 a2 a3 a4 h) (gX14_given a1 a2 a3 a4 h) (fun r => Sh S r.2) := eX14_given_ eX14_answer a1 a2 a3 a4 hS
noncomputable def gX14_function_j33_3 (a1 : Int) (a2 : Int) (a3 : Int) (a4 : Int) (t1 : Int) (h : AH) : Option ((Int × AH) ⊕ (AH)) := jl (jst h 454 22 t1) fun h7 => jg (isX16 (h7 454 38)) <| jg (jI (w32 (3 * a4)) 768) <| jg (jI (w32 (w32 (3 * a4) + 1)) 768) <| jg (jI (w32 (w32 (3 * a4) + 2)) 768) <| jb2 (gX14_answer a1 (h7 (h7 454 38 + 11) (w32 (3 * a4))) (h7 (h7 454 38 + 11) (w32 (w32 (3 * a4) + 1))) (h7 (h7 454 38 + 11) (w32 (w32 (3 * a4) + 2))) 0 h7) fun v9 h10 => jg (jI a4 256) <| jl (jst h10 754 a4 v9) fun h11 => jl (w32 (a4 + 1)) fun x12 => some (.inl (x12, h11))
theorem eX14_function_j33_3 (a1 : Int) (a2 : Int) (a3 : Int) (a4 : Int) (t1 : Int) {h : AH} (hS : Sh S h) : EQ (fX14_function_j33_3 454 a1 a2 a3 a4 454 t1 h) (gX14_function_j33_3 a1 a2 a3 a4 t1 h) (Sum.elim (fun r => Sh S r.2) (fun r => Sh S r)) := by
  unfold fX14_function_j33_3 gX14_function_j33_3
  refine EQ_jgd ⟨(show h 454 (-2) = 15 from by rw [k_454 hS]), (show (200 : Int) ≤ 454 from (by decide))⟩ ?_
  refine EQ_jl rfl (fun h7 eh7 => ?_)
  have s1 := Sh_of eh7 (Sh_sto hS (a := 454) (i := 22) (by decide +kernel))
  clear eh7
  refine EQ_jgd (show h7 454 (-2) = 15 from by rw [k_454 s1]) ?_
  refine EQ_jgd (show h7 454 (-2) = 15 from by rw [k_454 s1]) ?_
  refine EQ_jg ⟨fun x0 => (ik_X16 s1).mp x0, fun x0 => (ik_X16 s1).mpr x0⟩ (fun g2 => ?_)
  refine EQ_jg ⟨fun ⟨_, x0⟩ => (show jI (w32 (3 * a4)) (h7 (h7 (h7 454 38) 19) (-1)) ↔ jI (w32 (3 * a4)) 768 from by rw [ft_X16_19 s1 g2, la_X16_19 s1 g2]).mp x0, fun x0 => ⟨(show h7 (h7 (h7 454 38) 19) (-2) = 101 from by rw [ft_X16_19 s1 g2, ka_X16_19 s1 g2]), (show jI (w32 (3 * a4)) (h7 (h7 (h7 454 38) 19) (-1)) ↔ jI (w32 (3 * a4)) 768 from by rw [ft_X16_19 s1 g2, la_X16_19 s1 g2]).mpr x0⟩⟩ (fun g3 => ?_)
  refine EQ_jgd (show h7 454 (-2) = 15 from by rw [k_454 s1]) ?_
  refine EQ_jgd (show h7 (h7 454 38) (-2) = 17 from by rw [kd_X16 s1 g2]) ?_
  refine EQ_jg ⟨fun ⟨_, x0⟩ => (show jI (w32 (w32 (3 * a4) + 1)) (h7 (h7 (h7 454 38) 19) (-1)) ↔ jI (w32 (w32 (3 * a4) + 1)) 768 from by rw [ft_X16_19 s1 g2, la_X16_19 s1 g2]).mp x0, fun x0 => ⟨(show h7 (h7 (h7 454 38) 19) (-2) = 101 from by rw [ft_X16_19 s1 g2, ka_X16_19 s1 g2]), (show jI (w32 (w32 (3 * a4) + 1)) (h7 (h7 (h7 454 38) 19) (-1)) ↔ jI (w32 (w32 (3 * a4) + 1)) 768 from by rw [ft_X16_19 s1 g2, la_X16_19 s1 g2]).mpr x0⟩⟩ (fun g4 => ?_)
  refine EQ_jgd (show h7 454 (-2) = 15 from by rw [k_454 s1]) ?_
  refine EQ_jgd (show h7 (h7 454 38) (-2) = 17 from by rw [kd_X16 s1 g2]) ?_
  refine EQ_jg ⟨fun ⟨_, x0⟩ => (show jI (w32 (w32 (3 * a4) + 2)) (h7 (h7 (h7 454 38) 19) (-1)) ↔ jI (w32 (w32 (3 * a4) + 2)) 768 from by rw [ft_X16_19 s1 g2, la_X16_19 s1 g2]).mp x0, fun x0 => ⟨(show h7 (h7 (h7 454 38) 19) (-2) = 101 from by rw [ft_X16_19 s1 g2, ka_X16_19 s1 g2]), (show jI (w32 (w32 (3 * a4) + 2)) (h7 (h7 (h7 454 38) 19) (-1)) ↔ jI (w32 (w32 (3 * a4) + 2)) 768 from by rw [ft_X16_19 s1 g2, la_X16_19 s1 g2]).mpr x0⟩⟩ (fun g5 => ?_)
  refine EQ_jgd (show h7 454 (-2) = 15 from by rw [k_454 s1]) ?_
  refine EQ_jb2 (by rw [ft_X16_19 s1 g2]; exact eX14_answer a1 (h7 (h7 454 38 + 11) (w32 (3 * a4))) (h7 (h7 454 38 + 11) (w32 (w32 (3 * a4) + 1))) (h7 (h7 454 38 + 11) (w32 (w32 (3 * a4) + 2))) 0 s1) (fun v9 h10 r6 => ?_)
  replace r6 : Sh S h10 := r6
  refine EQ_jg ⟨fun ⟨_, _, x0⟩ => (show jI a4 (h10 (h7 454 39) (-1)) ↔ jI a4 256 from by rw [r_454_39 s1, l_754 r6]).mp x0, fun x0 => ⟨(show h10 (h7 454 39) (-2) = 101 from by rw [r_454_39 s1, k_754 r6]), (show 200 ≤ h7 454 39 from by rw [r_454_39 s1]; exact (by decide)), (show jI a4 (h10 (h7 454 39) (-1)) ↔ jI a4 256 from by rw [r_454_39 s1, l_754 r6]).mpr x0⟩⟩ (fun g7 => ?_)
  refine EQ_jl (by rw [r_454_39 s1]) (fun h11 eh11 => ?_)
  have s8 := Sh_of eh11 (Sh_sta r6 (by decide +kernel) (jI_nn g7) (fun e => absurd ((k_754 r6).symm.trans e) (by decide)))
  clear eh11
  refine EQ_jl rfl (fun x12 ex12 => ?_)
  clear ex12
  exact EQ_some s8
noncomputable def gX14_function_b3 (i1 : Int) (i2 : Int) (i3 : Int) (s : Int × AH) : Option ((Int × AH) ⊕ (AH)) := jt2 s fun a4 h => jg (isX16 (h 454 38)) <| if h (h 454 38) 18 ≤ a4 then (some (.inr h)) else (jl (jst h 454 21 i2) fun h5 => if i3 = 0 then (gX14_function_j33_3 i1 i2 i3 a4 0 h5) else (jg (h5 i3 (-2) = 101 ∧ jI a4 (h5 i3 (-1))) <| gX14_function_j33_3 i1 i2 i3 a4 (h5 i3 a4) h5))
theorem eX14_function_b3 (i1 : Int) (i2 : Int) (i3 : Int) {s : Int × AH} (hS : (fun r => Sh S r.2) s) : EQ (fX14_function_b3 454 i1 i2 i3 s) (gX14_function_b3 i1 i2 i3 s) (Sum.elim (fun r => Sh S r.2) (fun r => Sh S r)) := by
  unfold fX14_function_b3 gX14_function_b3
  obtain ⟨a4, h⟩ := s
  refine EQ_jt2 ?_
  replace hS : Sh S h := hS
  refine EQ_jgd (show h 454 (-2) = 15 from by rw [k_454 hS]) ?_
  refine EQ_jg ⟨fun x0 => (ik_X16 hS).mp x0, fun x0 => (ik_X16 hS).mpr x0⟩ (fun g1 => ?_)
  refine EQ_if Iff.rfl (fun c2 => ?_) (fun c2 => ?_)
  · exact EQ_some hS
  · refine EQ_jgd ⟨(show h 454 (-2) = 15 from by rw [k_454 hS]), (show (200 : Int) ≤ 454 from (by decide))⟩ ?_
    refine EQ_jl rfl (fun h5 eh5 => ?_)
    have s3 := Sh_of eh5 (Sh_sto hS (a := 454) (i := 21) (by decide +kernel))
    clear eh5
    refine EQ_if Iff.rfl (fun c4 => ?_) (fun c4 => ?_)
    · exact (eX14_function_j33_3 i1 i2 i3 a4 0 s3)
    · refine EQ_jg Iff.rfl (fun g5 => ?_)
      exact (eX14_function_j33_3 i1 i2 i3 a4 (h5 i3 a4) s3)
noncomputable def gX14_function_l3 (i1 : Int) (i2 : Int) (i3 : Int) (a4 : Int) (h : AH) : Option (AH) := jit (gX14_function_b3 i1 i2 i3) (a4, h)
theorem eX14_function_l3 (i1 : Int) (i2 : Int) (i3 : Int) (a4 : Int) {h : AH} (hS : Sh S h) : EQ (fX14_function_l3 454 i1 i2 i3 a4 h) (gX14_function_l3 i1 i2 i3 a4 h) (fun r => Sh S r) := EQ_jit (I := (fun r => Sh S r.2)) (fun s hs => eX14_function_b3 i1 i2 i3 hs) hS
noncomputable def gX14_function (a1 : Int) (a2 : Int) (a3 : Int) (h : AH) : Option (AH) := jb (gX14_function_l3 a1 a2 a3 0 h) fun o1 => jl (jst o1 454 21 (-1)) fun h3 => some h3
theorem eX14_function (a1 : Int) (a2 : Int) (a3 : Int) {h : AH} (hS : Sh S h) : EQ (fX14_function 454 a1 a2 a3 h) (gX14_function a1 a2 a3 h) (fun r => Sh S r) := by
  unfold fX14_function gX14_function
  refine EQ_jb (eX14_function_l3 a1 a2 a3 0 hS) (fun o1 r1 => ?_)
  refine EQ_jgd ⟨(show o1 454 (-2) = 15 from by rw [k_454 r1]), (show (200 : Int) ≤ 454 from (by decide))⟩ ?_
  refine EQ_jl rfl (fun h3 eh3 => ?_)
  have s2 := Sh_of eh3 (Sh_sto r1 (a := 454) (i := 21) (by decide +kernel))
  clear eh3
  exact EQ_some s2
noncomputable def gX14_hash_b4 (h : AH) (s : Int × Int) : Option ((Int × Int) ⊕ (Int)) := jt2 s fun a1 a2 => jg (isX16 (h 454 38)) <| if h (h 454 38) 18 ≤ a2 then (some (.inr a1)) else (jg (jI a2 256) <| jl (w32 (w32 (31 * a1) + h 754 a2)) fun x4 => jl (w32 (a2 + 1)) fun x5 => some (.inl (x4, x5)))
theorem eX14_hash_b4 (s : Int × Int) {h : AH} (hS : Sh S h) : EQ (fX14_hash_b4 454 h s) (gX14_hash_b4 h s) (Sum.elim (fun _ => True) (fun _ => True)) := by
  unfold fX14_hash_b4 gX14_hash_b4
  obtain ⟨a1, a2⟩ := s
  refine EQ_jt2 ?_
  refine EQ_jgd (show h 454 (-2) = 15 from by rw [k_454 hS]) ?_
  refine EQ_jg ⟨fun x0 => (ik_X16 hS).mp x0, fun x0 => (ik_X16 hS).mpr x0⟩ (fun g1 => ?_)
  refine EQ_if Iff.rfl (fun c2 => ?_) (fun c2 => ?_)
  · exact EQ_some trivial
  · refine EQ_jgd (show h 454 (-2) = 15 from by rw [k_454 hS]) ?_
    refine EQ_jg ⟨fun ⟨_, x0⟩ => (show jI a2 (h (h 454 39) (-1)) ↔ jI a2 256 from by rw [r_454_39 hS, l_754 hS]).mp x0, fun x0 => ⟨(show h (h 454 39) (-2) = 101 from by rw [r_454_39 hS, k_754 hS]), (show jI a2 (h (h 454 39) (-1)) ↔ jI a2 256 from by rw [r_454_39 hS, l_754 hS]).mpr x0⟩⟩ (fun g3 => ?_)
    refine EQ_jl (by rw [r_454_39 hS]) (fun x4 ex4 => ?_)
    clear ex4
    refine EQ_jl rfl (fun x5 ex5 => ?_)
    clear ex5
    exact EQ_some trivial
noncomputable def gX14_hash_l4 (a1 : Int) (a2 : Int) (h : AH) : Option (Int) := jit (gX14_hash_b4 h) (a1, a2)
theorem eX14_hash_l4 (a1 : Int) (a2 : Int) {h : AH} (hS : Sh S h) : EQ (fX14_hash_l4 454 a1 a2 h) (gX14_hash_l4 a1 a2 h) (fun _ => True) := EQ_jit (I := (fun _ => True)) (fun s _ => eX14_hash_b4 s hS) trivial
noncomputable def gX14_hash (h : AH) : Option (Int) := jb (gX14_hash_l4 1 0 h) fun o1 => some o1
theorem eX14_hash {h : AH} (hS : Sh S h) : EQ (fX14_hash 454 h) (gX14_hash h) (fun _ => True) := by
  unfold fX14_hash gX14_hash
  refine EQ_jb (eX14_hash_l4 1 0 hS) (fun o1 r1 => ?_)
  exact EQ_some trivial
noncomputable def gX14_indexOf_j112_8 (a1 : Int) (a2 : Int) (a3 : Int) (a4 : Int) (h : AH) : Option ((Int) ⊕ ((Int) ⊕ (Unit))) := jl (w32 (a4 + 1)) fun x13 => some (.inl x13)
theorem eX14_indexOf_j112_8 (a1 : Int) (a2 : Int) (a3 : Int) (a4 : Int) {h : AH} (hS : Sh S h) : EQ (fX14_indexOf_j112_8 454 a1 a2 a3 a4 h) (gX14_indexOf_j112_8 a1 a2 a3 a4 h) (Sum.elim (fun _ => True) (Sum.elim (fun _ => True) (fun _ => True))) := by
  unfold fX14_indexOf_j112_8 gX14_indexOf_j112_8
  refine EQ_jl rfl (fun x13 ex13 => ?_)
  clear ex13
  exact EQ_some trivial
noncomputable def gX14_indexOf_j104_8 (a1 : Int) (a2 : Int) (a3 : Int) (a4 : Int) (a5 : Int) (h : AH) : Option ((Int) ⊕ ((Int) ⊕ (Unit))) := if a5 = 0 then (gX14_indexOf_j112_8 a1 a2 a3 a4 h) else (some (.inr (.inl a4)))
theorem eX14_indexOf_j104_8 (a1 : Int) (a2 : Int) (a3 : Int) (a4 : Int) (a5 : Int) {h : AH} (hS : Sh S h) : EQ (fX14_indexOf_j104_8 454 a1 a2 a3 a4 a5 h) (gX14_indexOf_j104_8 a1 a2 a3 a4 a5 h) (Sum.elim (fun _ => True) (Sum.elim (fun _ => True) (fun _ => True))) := by
  unfold fX14_indexOf_j104_8 gX14_indexOf_j104_8
  refine EQ_if Iff.rfl (fun c1 => ?_) (fun c1 => ?_)
  · exact (eX14_indexOf_j112_8 a1 a2 a3 a4 hS)
  · exact EQ_some trivial
noncomputable def gX14_indexOf_j96_51 (a1 : Int) (a2 : Int) (a3 : Int) (a4 : Int) (a6 : Int) (t0 : Int) (h : AH) : Option ((Int × Int) ⊕ (Int)) := jl (w32 (a6 + 1)) fun x17 => some (.inl (t0, x17))
theorem eX14_indexOf_j96_51 (a1 : Int) (a2 : Int) (a3 : Int) (a4 : Int) (a6 : Int) (t0 : Int) {h : AH} (hS : Sh S h) : EQ (fX14_indexOf_j96_51 454 a1 a2 a3 a4 a6 t0 h) (gX14_indexOf_j96_51 a1 a2 a3 a4 a6 t0 h) (Sum.elim (fun _ => True) (fun _ => True)) := by
  unfold fX14_indexOf_j96_51 gX14_indexOf_j96_51
  refine EQ_jl rfl (fun x17 ex17 => ?_)
  clear ex17
  exact EQ_some trivial
noncomputable def gX14_indexOf_b51 (i1 : Int) (i2 : Int) (i3 : Int) (i4 : Int) (h : AH) (s : Int × Int) : Option ((Int × Int) ⊕ (Int)) := jt2 s fun a5 a6 => jg (isX16 (h 454 38)) <| if h (h 454 38) 18 ≤ a6 then (some (.inr a5)) else (if a5 = 0 then (some (.inr a5)) else (jg (jI i4 122) <| jg (jI a6 256) <| if h (h 454 38 + 17 + i4) a6 = h 754 a6 then (gX14_indexOf_j96_51 i1 i2 i3 i4 a6 1 h) else (gX14_indexOf_j96_51 i1 i2 i3 i4 a6 0 h)))
theorem eX14_indexOf_b51 (i1 : Int) (i2 : Int) (i3 : Int) (i4 : Int) (s : Int × Int) {h : AH} (hS : Sh S h) : EQ (fX14_indexOf_b51 454 i1 i2 i3 i4 h s) (gX14_indexOf_b51 i1 i2 i3 i4 h s) (Sum.elim (fun _ => True) (fun _ => True)) := by
  unfold fX14_indexOf_b51 gX14_indexOf_b51
  obtain ⟨a5, a6⟩ := s
  refine EQ_jt2 ?_
  refine EQ_jgd (show h 454 (-2) = 15 from by rw [k_454 hS]) ?_
  refine EQ_jg ⟨fun x0 => (ik_X16 hS).mp x0, fun x0 => (ik_X16 hS).mpr x0⟩ (fun g1 => ?_)
  refine EQ_if Iff.rfl (fun c2 => ?_) (fun c2 => ?_)
  · exact EQ_some trivial
  · refine EQ_if Iff.rfl (fun c3 => ?_) (fun c3 => ?_)
    · exact EQ_some trivial
    · refine EQ_jgd (show h 454 (-2) = 15 from by rw [k_454 hS]) ?_
      refine EQ_jgd (show h (h 454 38) (-2) = 17 from by rw [kd_X16 hS g1]) ?_
      refine EQ_jg ⟨fun ⟨_, x0⟩ => (show jI i4 (h (h (h 454 38) 25) (-1)) ↔ jI i4 122 from by rw [ft_X16_25 hS g1, la_X16_25 hS g1]).mp x0, fun x0 => ⟨(show h (h (h 454 38) 25) (-2) = 105 from by rw [ft_X16_25 hS g1, ka_X16_25 hS g1]), (show jI i4 (h (h (h 454 38) 25) (-1)) ↔ jI i4 122 from by rw [ft_X16_25 hS g1, la_X16_25 hS g1]).mpr x0⟩⟩ (fun g4 => ?_)
      refine EQ_jg ⟨fun ⟨_, x0⟩ => (show jI a6 (h (h (h (h 454 38) 25) i4) (-1)) ↔ jI a6 256 from by rw [ft_X16_25 hS g1, rro_X16_25 hS g1 g4, rlo_X16_25 hS g1 g4]).mp x0, fun x0 => ⟨(show h (h (h (h 454 38) 25) i4) (-2) = 101 from by rw [ft_X16_25 hS g1, rro_X16_25 hS g1 g4, rko_X16_25 hS g1 g4]), (show jI a6 (h (h (h (h 454 38) 25) i4) (-1)) ↔ jI a6 256 from by rw [ft_X16_25 hS g1, rro_X16_25 hS g1 g4, rlo_X16_25 hS g1 g4]).mpr x0⟩⟩ (fun g5 => ?_)
      refine EQ_jgd (show h 454 (-2) = 15 from by rw [k_454 hS]) ?_
      refine EQ_jgd ⟨(show h (h 454 39) (-2) = 101 from by rw [r_454_39 hS, k_754 hS]), ((show jI a6 (h (h 454 39) (-1)) ↔ jI a6 256 from by rw [r_454_39 hS, l_754 hS]).mpr g5)⟩ ?_
      refine EQ_if (show h (h (h (h 454 38) 25) i4) a6 = h (h 454 39) a6 ↔ h (h 454 38 + 17 + i4) a6 = h 754 a6 from by rw [ft_X16_25 hS g1, rro_X16_25 hS g1 g4, r_454_39 hS]) (fun c6 => ?_) (fun c6 => ?_)
      · exact (eX14_indexOf_j96_51 i1 i2 i3 i4 a6 1 hS)
      · exact (eX14_indexOf_j96_51 i1 i2 i3 i4 a6 0 hS)
noncomputable def gX14_indexOf_l51 (i1 : Int) (i2 : Int) (i3 : Int) (i4 : Int) (a5 : Int) (a6 : Int) (h : AH) : Option (Int) := jit (gX14_indexOf_b51 i1 i2 i3 i4 h) (a5, a6)
theorem eX14_indexOf_l51 (i1 : Int) (i2 : Int) (i3 : Int) (i4 : Int) (a5 : Int) (a6 : Int) {h : AH} (hS : Sh S h) : EQ (fX14_indexOf_l51 454 i1 i2 i3 i4 a5 a6 h) (gX14_indexOf_l51 i1 i2 i3 i4 a5 a6 h) (fun _ => True) := EQ_jit (I := (fun _ => True)) (fun s _ => eX14_indexOf_b51 i1 i2 i3 i4 s hS) trivial
noncomputable def gX14_indexOf_b8 (i1 : Int) (i2 : Int) (i3 : Int) (h : AH) (a4 : Int) : Option ((Int) ⊕ ((Int) ⊕ (Unit))) := if i2 ≤ a4 then (some (.inr (.inr ()))) else (jg (isX16 (h 454 38)) <| jg (jI a4 122) <| if h (h 454 38 + 15) a4 = i3 then (if h (h 454 38 + 12) a4 = i1 then (jb (gX14_indexOf_l51 i1 i2 i3 a4 1 0 h) fun o10 => gX14_indexOf_j104_8 i1 i2 i3 a4 o10 h) else (gX14_indexOf_j112_8 i1 i2 i3 a4 h)) else (gX14_indexOf_j112_8 i1 i2 i3 a4 h))
theorem eX14_indexOf_b8 (i1 : Int) (i2 : Int) (i3 : Int) (a4 : Int) {h : AH} (hS : Sh S h) : EQ (fX14_indexOf_b8 454 i1 i2 i3 h a4) (gX14_indexOf_b8 i1 i2 i3 h a4) (Sum.elim (fun _ => True) (Sum.elim (fun _ => True) (fun _ => True))) := by
  unfold fX14_indexOf_b8 gX14_indexOf_b8
  refine EQ_if Iff.rfl (fun c1 => ?_) (fun c1 => ?_)
  · exact EQ_some trivial
  · refine EQ_jgd (show h 454 (-2) = 15 from by rw [k_454 hS]) ?_
    refine EQ_jg ⟨fun x0 => (ik_X16 hS).mp x0, fun x0 => (ik_X16 hS).mpr x0⟩ (fun g2 => ?_)
    refine EQ_jg ⟨fun ⟨_, x0⟩ => (show jI a4 (h (h (h 454 38) 24) (-1)) ↔ jI a4 122 from by rw [ft_X16_24 hS g2, la_X16_24 hS g2]).mp x0, fun x0 => ⟨(show h (h (h 454 38) 24) (-2) = 101 from by rw [ft_X16_24 hS g2, ka_X16_24 hS g2]), (show jI a4 (h (h (h 454 38) 24) (-1)) ↔ jI a4 122 from by rw [ft_X16_24 hS g2, la_X16_24 hS g2]).mpr x0⟩⟩ (fun g3 => ?_)
    refine EQ_if (show h (h (h 454 38) 24) a4 = i3 ↔ h (h 454 38 + 15) a4 = i3 from by rw [ft_X16_24 hS g2]) (fun c4 => ?_) (fun c4 => ?_)
    · refine EQ_jgd (show h 454 (-2) = 15 from by rw [k_454 hS]) ?_
      refine EQ_jgd (show h (h 454 38) (-2) = 17 from by rw [kd_X16 hS g2]) ?_
      refine EQ_jgd ⟨(show h (h (h 454 38) 21) (-2) = 101 from by rw [ft_X16_21 hS g2, ka_X16_21 hS g2]), ((show jI a4 (h (h (h 454 38) 21) (-1)) ↔ jI a4 122 from by rw [ft_X16_21 hS g2, la_X16_21 hS g2]).mpr g3)⟩ ?_
      refine EQ_if (show h (h (h 454 38) 21) a4 = i1 ↔ h (h 454 38 + 12) a4 = i1 from by rw [ft_X16_21 hS g2]) (fun c5 => ?_) (fun c5 => ?_)
      · refine EQ_jb (eX14_indexOf_l51 i1 i2 i3 a4 1 0 hS) (fun o10 r6 => ?_)
        exact (eX14_indexOf_j104_8 i1 i2 i3 a4 o10 hS)
      · exact (eX14_indexOf_j112_8 i1 i2 i3 a4 hS)
    · exact (eX14_indexOf_j112_8 i1 i2 i3 a4 hS)
noncomputable def gX14_indexOf_l8 (i1 : Int) (i2 : Int) (i3 : Int) (a4 : Int) (h : AH) : Option ((Int) ⊕ (Unit)) := jit (gX14_indexOf_b8 i1 i2 i3 h) a4
theorem eX14_indexOf_l8 (i1 : Int) (i2 : Int) (i3 : Int) (a4 : Int) {h : AH} (hS : Sh S h) : EQ (fX14_indexOf_l8 454 i1 i2 i3 a4 h) (gX14_indexOf_l8 i1 i2 i3 a4 h) (Sum.elim (fun _ => True) (fun _ => True)) := EQ_jit (I := (fun _ => True)) (fun s _ => eX14_indexOf_b8 i1 i2 i3 s hS) trivial
noncomputable def gX14_indexOf (a1 : Int) (a2 : Int) (h : AH) : Option (Int) := jb (gX14_hash h) fun v2 => jb (gX14_indexOf_l8 a1 a2 v2 0 h) fun o3 => jm o3 (fun o5 => some o5) (fun o6 => some (-1))
theorem eX14_indexOf (a1 : Int) (a2 : Int) {h : AH} (hS : Sh S h) : EQ (fX14_indexOf 454 a1 a2 h) (gX14_indexOf a1 a2 h) (fun _ => True) := by
  unfold fX14_indexOf gX14_indexOf
  refine EQ_jgd (show h 454 (-2) = 15 from by rw [k_454 hS]) ?_
  refine EQ_jb (eX14_hash hS) (fun v2 r1 => ?_)
  refine EQ_jb (eX14_indexOf_l8 a1 a2 v2 0 hS) (fun o3 r2 => ?_)
  refine EQ_jm r2 (fun o5 r3 => ?_) (fun o6 r4 => ?_)
  · exact EQ_some trivial
  · exact EQ_some trivial
noncomputable def gX14_put_b62 (s : Int × AH) : Option ((Int × AH) ⊕ (AH)) := jt2 s fun a3 h => jg (isX16 (h 454 38)) <| if h (h 454 38) 18 ≤ a3 then (some (.inr h)) else (jg (jI (h 454 40) 122) <| jg (jI a3 256) <| jl (jst h (h 454 38 + 17 + h 454 40) a3 (h 754 a3)) fun h11 => jl (w32 (a3 + 1)) fun x12 => some (.inl (x12, h11)))
theorem eX14_put_b62 {s : Int × AH} (hS : (fun r => Sh S r.2) s) : EQ (fX14_put_b62 454 s) (gX14_put_b62 s) (Sum.elim (fun r => Sh S r.2) (fun r => Sh S r)) := by
  unfold fX14_put_b62 gX14_put_b62
  obtain ⟨a3, h⟩ := s
  refine EQ_jt2 ?_
  replace hS : Sh S h := hS
  refine EQ_jgd (show h 454 (-2) = 15 from by rw [k_454 hS]) ?_
  refine EQ_jg ⟨fun x0 => (ik_X16 hS).mp x0, fun x0 => (ik_X16 hS).mpr x0⟩ (fun g1 => ?_)
  refine EQ_if Iff.rfl (fun c2 => ?_) (fun c2 => ?_)
  · exact EQ_some hS
  · refine EQ_jgd (show h 454 (-2) = 15 from by rw [k_454 hS]) ?_
    refine EQ_jgd (show h (h 454 38) (-2) = 17 from by rw [kd_X16 hS g1]) ?_
    refine EQ_jgd (show h 454 (-2) = 15 from by rw [k_454 hS]) ?_
    refine EQ_jg ⟨fun ⟨_, x0⟩ => (show jI (h 454 40) (h (h (h 454 38) 25) (-1)) ↔ jI (h 454 40) 122 from by rw [ft_X16_25 hS g1, la_X16_25 hS g1]).mp x0, fun x0 => ⟨(show h (h (h 454 38) 25) (-2) = 105 from by rw [ft_X16_25 hS g1, ka_X16_25 hS g1]), (show jI (h 454 40) (h (h (h 454 38) 25) (-1)) ↔ jI (h 454 40) 122 from by rw [ft_X16_25 hS g1, la_X16_25 hS g1]).mpr x0⟩⟩ (fun g3 => ?_)
    refine EQ_jgd (show h 454 (-2) = 15 from by rw [k_454 hS]) ?_
    refine EQ_jg ⟨fun ⟨_, x0⟩ => (show jI a3 (h (h 454 39) (-1)) ↔ jI a3 256 from by rw [r_454_39 hS, l_754 hS]).mp x0, fun x0 => ⟨(show h (h 454 39) (-2) = 101 from by rw [r_454_39 hS, k_754 hS]), (show jI a3 (h (h 454 39) (-1)) ↔ jI a3 256 from by rw [r_454_39 hS, l_754 hS]).mpr x0⟩⟩ (fun g4 => ?_)
    refine EQ_jgd ⟨(show h (h (h (h 454 38) 25) (h 454 40)) (-2) = 101 from by rw [ft_X16_25 hS g1, rro_X16_25 hS g1 g3, rko_X16_25 hS g1 g3]), (show 200 ≤ h (h (h 454 38) 25) (h 454 40) from by rw [ft_X16_25 hS g1, rro_X16_25 hS g1 g3]; exact rgeo_X16_25 g1 g3), ((show jI a3 (h (h (h (h 454 38) 25) (h 454 40)) (-1)) ↔ jI a3 256 from by rw [ft_X16_25 hS g1, rro_X16_25 hS g1 g3, rlo_X16_25 hS g1 g3]).mpr g4)⟩ ?_
    refine EQ_jl (by rw [ft_X16_25 hS g1, rro_X16_25 hS g1 g3, r_454_39 hS]) (fun h11 eh11 => ?_)
    have s5 := Sh_of eh11 (Sh_sta hS (arro_X16_25 g1 g3) (jI_nn g4) (fun e => absurd ((rko_X16_25 hS g1 g3).symm.trans e) (by decide)))
    clear eh11
    refine EQ_jl rfl (fun x12 ex12 => ?_)
    clear ex12
    exact EQ_some s5
noncomputable def gX14_put_l62 (a3 : Int) (h : AH) : Option (AH) := jit gX14_put_b62 (a3, h)
theorem eX14_put_l62 (a3 : Int) {h : AH} (hS : Sh S h) : EQ (fX14_put_l62 454 a3 h) (gX14_put_l62 a3 h) (fun r => Sh S r) := EQ_jit (I := (fun r => Sh S r.2)) (fun s hs => eX14_put_b62 hs) hS
noncomputable def gX14_put (a1 : Int) (a2 : Int) (h : AH) : Option (AH) := jg (isX16 (h 454 38)) <| jg (jI (h 454 40) 122) <| jl (jst h (h 454 38 + 12) (h 454 40) a2) fun h1 => jg (isX16 (h1 454 38)) <| jg (jI (h1 454 40) 122) <| jl (jst h1 (h1 454 38 + 13) (h1 454 40) a1) fun h2 => jg (isX16 (h2 454 38)) <| jg (jI a1 8800) <| jg (jI (h2 454 40) 122) <| jl (jst h2 (h2 454 38 + 14) (h2 454 40) (h2 469 a1)) fun h3 => jg (isX16 (h3 454 38)) <| jb (gX14_hash h3) fun v5 => jg (jI (h3 454 40) 122) <| jl (jst h3 (h3 454 38 + 15) (h3 454 40) v5) fun h6 => jb (gX14_put_l62 0 h6) fun o7 => jl (jst o7 454 40 (w32 (o7 454 40 + 1))) fun h9 => some h9
theorem eX14_put (a1 : Int) (a2 : Int) {h : AH} (hS : Sh S h) : EQ (fX14_put 454 a1 a2 h) (gX14_put a1 a2 h) (fun r => Sh S r) := by
  unfold fX14_put gX14_put
  refine EQ_jgd (show h 454 (-2) = 15 from by rw [k_454 hS]) ?_
  refine EQ_jg ⟨fun x0 => (ik_X16 hS).mp x0, fun x0 => (ik_X16 hS).mpr x0⟩ (fun g1 => ?_)
  refine EQ_jgd (show h 454 (-2) = 15 from by rw [k_454 hS]) ?_
  refine EQ_jg ⟨fun ⟨_, _, x0⟩ => (show jI (h 454 40) (h (h (h 454 38) 21) (-1)) ↔ jI (h 454 40) 122 from by rw [ft_X16_21 hS g1, la_X16_21 hS g1]).mp x0, fun x0 => ⟨(show h (h (h 454 38) 21) (-2) = 101 from by rw [ft_X16_21 hS g1, ka_X16_21 hS g1]), (show 200 ≤ h (h 454 38) 21 from by rw [ft_X16_21 hS g1]; exact gea_X16_21 g1), (show jI (h 454 40) (h (h (h 454 38) 21) (-1)) ↔ jI (h 454 40) 122 from by rw [ft_X16_21 hS g1, la_X16_21 hS g1]).mpr x0⟩⟩ (fun g2 => ?_)
  refine EQ_jl (by rw [ft_X16_21 hS g1]) (fun h1 eh1 => ?_)
  have s3 := Sh_of eh1 (Sh_sta hS (ara_X16_21 g1) (jI_nn g2) (fun e => absurd ((ka_X16_21 hS g1).symm.trans e) (by decide)))
  clear eh1
  refine EQ_jgd (show h1 454 (-2) = 15 from by rw [k_454 s3]) ?_
  refine EQ_jg ⟨fun x0 => (ik_X16 s3).mp x0, fun x0 => (ik_X16 s3).mpr x0⟩ (fun g4 => ?_)
  refine EQ_jgd (show h1 454 (-2) = 15 from by rw [k_454 s3]) ?_
  refine EQ_jg ⟨fun ⟨_, _, x0⟩ => (show jI (h1 454 40) (h1 (h1 (h1 454 38) 22) (-1)) ↔ jI (h1 454 40) 122 from by rw [ft_X16_22 s3 g4, la_X16_22 s3 g4]).mp x0, fun x0 => ⟨(show h1 (h1 (h1 454 38) 22) (-2) = 101 from by rw [ft_X16_22 s3 g4, ka_X16_22 s3 g4]), (show 200 ≤ h1 (h1 454 38) 22 from by rw [ft_X16_22 s3 g4]; exact gea_X16_22 g4), (show jI (h1 454 40) (h1 (h1 (h1 454 38) 22) (-1)) ↔ jI (h1 454 40) 122 from by rw [ft_X16_22 s3 g4, la_X16_22 s3 g4]).mpr x0⟩⟩ (fun g5 => ?_)
  refine EQ_jl (by rw [ft_X16_22 s3 g4]) (fun h2 eh2 => ?_)
  have s6 := Sh_of eh2 (Sh_sta s3 (ara_X16_22 g4) (jI_nn g5) (fun e => absurd ((ka_X16_22 s3 g4).symm.trans e) (by decide)))
  clear eh2
  refine EQ_jgd (show h2 454 (-2) = 15 from by rw [k_454 s6]) ?_
  refine EQ_jg ⟨fun x0 => (ik_X16 s6).mp x0, fun x0 => (ik_X16 s6).mpr x0⟩ (fun g7 => ?_)
  refine EQ_jgd (show h2 454 (-2) = 15 from by rw [k_454 s6]) ?_
  refine EQ_jgd (show h2 454 (-2) = 15 from by rw [k_454 s6]) ?_
  refine EQ_jg ⟨fun ⟨_, x0⟩ => (show jI a1 (h2 (h2 454 15) (-1)) ↔ jI a1 8800 from by rw [r_454_15 s6, l_469 s6]).mp x0, fun x0 => ⟨(show h2 (h2 454 15) (-2) = 101 from by rw [r_454_15 s6, k_469 s6]), (show jI a1 (h2 (h2 454 15) (-1)) ↔ jI a1 8800 from by rw [r_454_15 s6, l_469 s6]).mpr x0⟩⟩ (fun g8 => ?_)
  refine EQ_jg ⟨fun ⟨_, _, x0⟩ => (show jI (h2 454 40) (h2 (h2 (h2 454 38) 23) (-1)) ↔ jI (h2 454 40) 122 from by rw [ft_X16_23 s6 g7, la_X16_23 s6 g7]).mp x0, fun x0 => ⟨(show h2 (h2 (h2 454 38) 23) (-2) = 101 from by rw [ft_X16_23 s6 g7, ka_X16_23 s6 g7]), (show 200 ≤ h2 (h2 454 38) 23 from by rw [ft_X16_23 s6 g7]; exact gea_X16_23 g7), (show jI (h2 454 40) (h2 (h2 (h2 454 38) 23) (-1)) ↔ jI (h2 454 40) 122 from by rw [ft_X16_23 s6 g7, la_X16_23 s6 g7]).mpr x0⟩⟩ (fun g9 => ?_)
  refine EQ_jl (by rw [ft_X16_23 s6 g7, r_454_15 s6]) (fun h3 eh3 => ?_)
  have s10 := Sh_of eh3 (Sh_sta s6 (ara_X16_23 g7) (jI_nn g9) (fun e => absurd ((ka_X16_23 s6 g7).symm.trans e) (by decide)))
  clear eh3
  refine EQ_jgd (show h3 454 (-2) = 15 from by rw [k_454 s10]) ?_
  refine EQ_jg ⟨fun x0 => (ik_X16 s10).mp x0, fun x0 => (ik_X16 s10).mpr x0⟩ (fun g11 => ?_)
  refine EQ_jgd (show h3 454 (-2) = 15 from by rw [k_454 s10]) ?_
  refine EQ_jgd (show h3 454 (-2) = 15 from by rw [k_454 s10]) ?_
  refine EQ_jb (eX14_hash s10) (fun v5 r12 => ?_)
  refine EQ_jg ⟨fun ⟨_, _, x0⟩ => (show jI (h3 454 40) (h3 (h3 (h3 454 38) 24) (-1)) ↔ jI (h3 454 40) 122 from by rw [ft_X16_24 s10 g11, la_X16_24 s10 g11]).mp x0, fun x0 => ⟨(show h3 (h3 (h3 454 38) 24) (-2) = 101 from by rw [ft_X16_24 s10 g11, ka_X16_24 s10 g11]), (show 200 ≤ h3 (h3 454 38) 24 from by rw [ft_X16_24 s10 g11]; exact gea_X16_24 g11), (show jI (h3 454 40) (h3 (h3 (h3 454 38) 24) (-1)) ↔ jI (h3 454 40) 122 from by rw [ft_X16_24 s10 g11, la_X16_24 s10 g11]).mpr x0⟩⟩ (fun g13 => ?_)
  refine EQ_jl (by rw [ft_X16_24 s10 g11]) (fun h6 eh6 => ?_)
  have s14 := Sh_of eh6 (Sh_sta s10 (ara_X16_24 g11) (jI_nn g13) (fun e => absurd ((ka_X16_24 s10 g11).symm.trans e) (by decide)))
  clear eh6
  refine EQ_jb (eX14_put_l62 0 s14) (fun o7 r15 => ?_)
  refine EQ_jgd (show o7 454 (-2) = 15 from by rw [k_454 r15]) ?_
  refine EQ_jgd ⟨(show o7 454 (-2) = 15 from by rw [k_454 r15]), (show (200 : Int) ≤ 454 from (by decide))⟩ ?_
  refine EQ_jl rfl (fun h9 eh9 => ?_)
  have s16 := Sh_of eh9 (Sh_sto r15 (a := 454) (i := 40) (by decide +kernel))
  clear eh9
  exact EQ_some s16
noncomputable def gX14_headOf_j100_19 (a1 : Int) (a2 : Int) (t0 : Int) (h : AH) : Option ((Int) ⊕ ((Int) ⊕ (Unit))) := if t0 = 0 then (jl (w32 (a2 + 1)) fun x14 => some (.inl x14)) else (some (.inr (.inl a2)))
theorem eX14_headOf_j100_19 (a1 : Int) (a2 : Int) (t0 : Int) {h : AH} (hS : Sh S h) : EQ (fX14_headOf_j100_19 454 a1 a2 t0 h) (gX14_headOf_j100_19 a1 a2 t0 h) (Sum.elim (fun _ => True) (Sum.elim (fun _ => True) (fun _ => True))) := by
  unfold fX14_headOf_j100_19 gX14_headOf_j100_19
  refine EQ_if Iff.rfl (fun c1 => ?_) (fun c1 => ?_)
  · refine EQ_jl rfl (fun x14 ex14 => ?_)
    clear ex14
    exact EQ_some trivial
  · exact EQ_some trivial
noncomputable def gX14_headOf_b19 (i1 : Int) (h : AH) (a2 : Int) : Option ((Int) ⊕ ((Int) ⊕ (Unit))) := jg (isX16 (h 454 38)) <| if h (h 454 38) 5 ≤ a2 then (some (.inr (.inr ()))) else (jg (jI i1 8800) <| if h 460 i1 = 2 then (jg (jI a2 13) <| if h (h 454 38 + 3) a2 = h 463 i1 then (gX14_headOf_j100_19 i1 a2 1 h) else (gX14_headOf_j100_19 i1 a2 0 h)) else (jg (jI a2 13) <| if h (h 454 38 + 2) a2 < 0 then (gX14_headOf_j100_19 i1 a2 0 h) else (jb (gX14_isLike (h (h 454 38 + 2) a2) i1 h) fun v11 => if v11 = 0 then (gX14_headOf_j100_19 i1 a2 0 h) else (gX14_headOf_j100_19 i1 a2 1 h))))
theorem eX14_headOf_b19 (i1 : Int) (a2 : Int) {h : AH} (hS : Sh S h) : EQ (fX14_headOf_b19 454 i1 h a2) (gX14_headOf_b19 i1 h a2) (Sum.elim (fun _ => True) (Sum.elim (fun _ => True) (fun _ => True))) := by
  unfold fX14_headOf_b19 gX14_headOf_b19
  refine EQ_jgd (show h 454 (-2) = 15 from by rw [k_454 hS]) ?_
  refine EQ_jg ⟨fun x0 => (ik_X16 hS).mp x0, fun x0 => (ik_X16 hS).mpr x0⟩ (fun g1 => ?_)
  refine EQ_if Iff.rfl (fun c2 => ?_) (fun c2 => ?_)
  · exact EQ_some trivial
  · refine EQ_jgd (show h 454 (-2) = 15 from by rw [k_454 hS]) ?_
    refine EQ_jg ⟨fun ⟨_, x0⟩ => (show jI i1 (h (h 454 6) (-1)) ↔ jI i1 8800 from by rw [r_454_6 hS, l_460 hS]).mp x0, fun x0 => ⟨(show h (h 454 6) (-2) = 101 from by rw [r_454_6 hS, k_460 hS]), (show jI i1 (h (h 454 6) (-1)) ↔ jI i1 8800 from by rw [r_454_6 hS, l_460 hS]).mpr x0⟩⟩ (fun g3 => ?_)
    refine EQ_if (show h (h 454 6) i1 = 2 ↔ h 460 i1 = 2 from by rw [r_454_6 hS]) (fun c4 => ?_) (fun c4 => ?_)
    · refine EQ_jgd (show h 454 (-2) = 15 from by rw [k_454 hS]) ?_
      refine EQ_jgd (show h (h 454 38) (-2) = 17 from by rw [kd_X16 hS g1]) ?_
      refine EQ_jg ⟨fun ⟨_, x0⟩ => (show jI a2 (h (h (h 454 38) 7) (-1)) ↔ jI a2 13 from by rw [ft_X16_7 hS g1, la_X16_7 hS g1]).mp x0, fun x0 => ⟨(show h (h (h 454 38) 7) (-2) = 101 from by rw [ft_X16_7 hS g1, ka_X16_7 hS g1]), (show jI a2 (h (h (h 454 38) 7) (-1)) ↔ jI a2 13 from by rw [ft_X16_7 hS g1, la_X16_7 hS g1]).mpr x0⟩⟩ (fun g5 => ?_)
      refine EQ_jgd (show h 454 (-2) = 15 from by rw [k_454 hS]) ?_
      refine EQ_jgd ⟨(show h (h 454 9) (-2) = 101 from by rw [r_454_9 hS, k_463 hS]), ((show jI i1 (h (h 454 9) (-1)) ↔ jI i1 8800 from by rw [r_454_9 hS, l_463 hS]).mpr g3)⟩ ?_
      refine EQ_if (show h (h (h 454 38) 7) a2 = h (h 454 9) i1 ↔ h (h 454 38 + 3) a2 = h 463 i1 from by rw [ft_X16_7 hS g1, r_454_9 hS]) (fun c6 => ?_) (fun c6 => ?_)
      · exact (eX14_headOf_j100_19 i1 a2 1 hS)
      · exact (eX14_headOf_j100_19 i1 a2 0 hS)
    · refine EQ_jgd (show h 454 (-2) = 15 from by rw [k_454 hS]) ?_
      refine EQ_jgd (show h (h 454 38) (-2) = 17 from by rw [kd_X16 hS g1]) ?_
      refine EQ_jg ⟨fun ⟨_, x0⟩ => (show jI a2 (h (h (h 454 38) 6) (-1)) ↔ jI a2 13 from by rw [ft_X16_6 hS g1, la_X16_6 hS g1]).mp x0, fun x0 => ⟨(show h (h (h 454 38) 6) (-2) = 101 from by rw [ft_X16_6 hS g1, ka_X16_6 hS g1]), (show jI a2 (h (h (h 454 38) 6) (-1)) ↔ jI a2 13 from by rw [ft_X16_6 hS g1, la_X16_6 hS g1]).mpr x0⟩⟩ (fun g7 => ?_)
      refine EQ_if (show h (h (h 454 38) 6) a2 < 0 ↔ h (h 454 38 + 2) a2 < 0 from by rw [ft_X16_6 hS g1]) (fun c8 => ?_) (fun c8 => ?_)
      · exact (eX14_headOf_j100_19 i1 a2 0 hS)
      · refine EQ_jgd (show h 454 (-2) = 15 from by rw [k_454 hS]) ?_
        refine EQ_jgd (show h (h 454 38) (-2) = 17 from by rw [kd_X16 hS g1]) ?_
        refine EQ_jgd ⟨(show h (h (h 454 38) 6) (-2) = 101 from by rw [ft_X16_6 hS g1, ka_X16_6 hS g1]), ((show jI a2 (h (h (h 454 38) 6) (-1)) ↔ jI a2 13 from by rw [ft_X16_6 hS g1, la_X16_6 hS g1]).mpr g7)⟩ ?_
        refine EQ_jgd (show h 454 (-2) = 15 from by rw [k_454 hS]) ?_
        refine EQ_jb (by rw [ft_X16_6 hS g1]; exact eX14_isLike (h (h 454 38 + 2) a2) i1 hS) (fun v11 r9 => ?_)
        refine EQ_if Iff.rfl (fun c10 => ?_) (fun c10 => ?_)
        · exact (eX14_headOf_j100_19 i1 a2 0 hS)
        · exact (eX14_headOf_j100_19 i1 a2 1 hS)
noncomputable def gX14_headOf_l19 (i1 : Int) (a2 : Int) (h : AH) : Option ((Int) ⊕ (Unit)) := jit (gX14_headOf_b19 i1 h) a2
theorem eX14_headOf_l19 (i1 : Int) (a2 : Int) {h : AH} (hS : Sh S h) : EQ (fX14_headOf_l19 454 i1 a2 h) (gX14_headOf_l19 i1 a2 h) (Sum.elim (fun _ => True) (fun _ => True)) := EQ_jit (I := (fun _ => True)) (fun s _ => eX14_headOf_b19 i1 s hS) trivial
noncomputable def gX14_headOf (a1 : Int) (h : AH) : Option (Int) := jg (jI a1 8800) <| if h 460 a1 = 1 then (some (h 462 a1)) else (jb (gX14_headOf_l19 a1 0 h) fun o2 => jm o2 (fun o4 => some (w32 (3 + o4))) (fun o5 => some (-1)))
theorem eX14_headOf (a1 : Int) {h : AH} (hS : Sh S h) : EQ (fX14_headOf 454 a1 h) (gX14_headOf a1 h) (fun _ => True) := by
  unfold fX14_headOf gX14_headOf
  refine EQ_jgd (show h 454 (-2) = 15 from by rw [k_454 hS]) ?_
  refine EQ_jg ⟨fun ⟨_, x0⟩ => (show jI a1 (h (h 454 6) (-1)) ↔ jI a1 8800 from by rw [r_454_6 hS, l_460 hS]).mp x0, fun x0 => ⟨(show h (h 454 6) (-2) = 101 from by rw [r_454_6 hS, k_460 hS]), (show jI a1 (h (h 454 6) (-1)) ↔ jI a1 8800 from by rw [r_454_6 hS, l_460 hS]).mpr x0⟩⟩ (fun g1 => ?_)
  refine EQ_if (show h (h 454 6) a1 = 1 ↔ h 460 a1 = 1 from by rw [r_454_6 hS]) (fun c2 => ?_) (fun c2 => ?_)
  · refine EQ_jgd (show h 454 (-2) = 15 from by rw [k_454 hS]) ?_
    refine EQ_jgd ⟨(show h (h 454 8) (-2) = 101 from by rw [r_454_8 hS, k_462 hS]), ((show jI a1 (h (h 454 8) (-1)) ↔ jI a1 8800 from by rw [r_454_8 hS, l_462 hS]).mpr g1)⟩ ?_
    exact EQ_some' (by rw [r_454_8 hS]) trivial
  · refine EQ_jb (eX14_headOf_l19 a1 0 hS) (fun o2 r3 => ?_)
    refine EQ_jm r3 (fun o4 r4 => ?_) (fun o5 r5 => ?_)
    · exact EQ_some trivial
    · exact EQ_some trivial
noncomputable def gX14_order_b59 (F : Int → Int → AH → Option (Int)) (i1 : Int) (i2 : Int) (h : AH) (s : Int × Int) : Option ((Int × Int) ⊕ (Int)) := jt2 s fun a5 a6 => jg (jI i1 8800) <| if h 465 i1 ≤ a6 then (some (.inr a5)) else (if a5 = 0 then (jg (jI (w32 (w32 (3 * i1) + a6)) 26400) <| jg (jI (w32 (w32 (3 * i2) + a6)) 26400) <| jb (F (h 464 (w32 (w32 (3 * i1) + a6))) (h 464 (w32 (w32 (3 * i2) + a6))) h) fun v12 => jl (w32 (a6 + 1)) fun x13 => some (.inl (v12, x13))) else (some (.inr a5)))
theorem eX14_order_b59 {F0 : Int → Int → Int → AH → Option (Int)} {F : Int → Int → AH → Option (Int)} (hF : ∀ (b_a1 : Int) (b_a2 : Int), ∀ {b_h : AH}, Sh S b_h → EQ (F0 454 b_a1 b_a2 b_h) (F b_a1 b_a2 b_h) (fun _ => True)) (i1 : Int) (i2 : Int) (s : Int × Int) {h : AH} (hS : Sh S h) : EQ (fX14_order_b59 F0 454 i1 i2 h s) (gX14_order_b59 F i1 i2 h s) (Sum.elim (fun _ => True) (fun _ => True)) := by
  unfold fX14_order_b59 gX14_order_b59
  obtain ⟨a5, a6⟩ := s
  refine EQ_jt2 ?_
  refine EQ_jgd (show h 454 (-2) = 15 from by rw [k_454 hS]) ?_
  refine EQ_jg ⟨fun ⟨_, x0⟩ => (show jI i1 (h (h 454 11) (-1)) ↔ jI i1 8800 from by rw [r_454_11 hS, l_465 hS]).mp x0, fun x0 => ⟨(show h (h 454 11) (-2) = 101 from by rw [r_454_11 hS, k_465 hS]), (show jI i1 (h (h 454 11) (-1)) ↔ jI i1 8800 from by rw [r_454_11 hS, l_465 hS]).mpr x0⟩⟩ (fun g1 => ?_)
  refine EQ_if (show h (h 454 11) i1 ≤ a6 ↔ h 465 i1 ≤ a6 from by rw [r_454_11 hS]) (fun c2 => ?_) (fun c2 => ?_)
  · exact EQ_some trivial
  · refine EQ_if Iff.rfl (fun c3 => ?_) (fun c3 => ?_)
    · refine EQ_jgd (show h 454 (-2) = 15 from by rw [k_454 hS]) ?_
      refine EQ_jg ⟨fun ⟨_, x0⟩ => (show jI (w32 (w32 (3 * i1) + a6)) (h (h 454 10) (-1)) ↔ jI (w32 (w32 (3 * i1) + a6)) 26400 from by rw [r_454_10 hS, l_464 hS]).mp x0, fun x0 => ⟨(show h (h 454 10) (-2) = 101 from by rw [r_454_10 hS, k_464 hS]), (show jI (w32 (w32 (3 * i1) + a6)) (h (h 454 10) (-1)) ↔ jI (w32 (w32 (3 * i1) + a6)) 26400 from by rw [r_454_10 hS, l_464 hS]).mpr x0⟩⟩ (fun g4 => ?_)
      refine EQ_jgd (show h 454 (-2) = 15 from by rw [k_454 hS]) ?_
      refine EQ_jg ⟨fun ⟨_, x0⟩ => (show jI (w32 (w32 (3 * i2) + a6)) (h (h 454 10) (-1)) ↔ jI (w32 (w32 (3 * i2) + a6)) 26400 from by rw [r_454_10 hS, l_464 hS]).mp x0, fun x0 => ⟨(show h (h 454 10) (-2) = 101 from by rw [r_454_10 hS, k_464 hS]), (show jI (w32 (w32 (3 * i2) + a6)) (h (h 454 10) (-1)) ↔ jI (w32 (w32 (3 * i2) + a6)) 26400 from by rw [r_454_10 hS, l_464 hS]).mpr x0⟩⟩ (fun g5 => ?_)
      refine EQ_jgd (show h 454 (-2) = 15 from by rw [k_454 hS]) ?_
      refine EQ_jb (by rw [r_454_10 hS]; exact hF (h 464 (w32 (w32 (3 * i1) + a6))) (h 464 (w32 (w32 (3 * i2) + a6))) hS) (fun v12 r6 => ?_)
      refine EQ_jl rfl (fun x13 ex13 => ?_)
      clear ex13
      exact EQ_some trivial
    · exact EQ_some trivial
noncomputable def gX14_order_l59 (F : Int → Int → AH → Option (Int)) (i1 : Int) (i2 : Int) (a5 : Int) (a6 : Int) (h : AH) : Option (Int) := jit (gX14_order_b59 F i1 i2 h) (a5, a6)
theorem eX14_order_l59 {F0 : Int → Int → Int → AH → Option (Int)} {F : Int → Int → AH → Option (Int)} (hF : ∀ (b_a1 : Int) (b_a2 : Int), ∀ {b_h : AH}, Sh S b_h → EQ (F0 454 b_a1 b_a2 b_h) (F b_a1 b_a2 b_h) (fun _ => True)) (i1 : Int) (i2 : Int) (a5 : Int) (a6 : Int) {h : AH} (hS : Sh S h) : EQ (fX14_order_l59 F0 454 i1 i2 a5 a6 h) (gX14_order_l59 F i1 i2 a5 a6 h) (fun _ => True) := EQ_jit (I := (fun _ => True)) (fun s _ => eX14_order_b59 hF i1 i2 s hS) trivial
noncomputable def gX14_order_ (F : Int → Int → AH → Option (Int)) (a1 : Int) (a2 : Int) (h : AH) : Option (Int) := jg (jI a1 8800) <| jg (jI a2 8800) <| if h 469 a1 = h 469 a2 then (jb (gX14_headOf a1 h) fun v3 => jb (gX14_headOf a2 h) fun v5 => if v3 = v5 then (jb (gX14_order_l59 F a1 a2 0 0 h) fun o7 => some o7) else (some (w32 (v3 - v5)))) else (some (w32 (h 469 a1 - h 469 a2)))
theorem eX14_order_ {F0 : Int → Int → Int → AH → Option (Int)} {F : Int → Int → AH → Option (Int)} (hF : ∀ (b_a1 : Int) (b_a2 : Int), ∀ {b_h : AH}, Sh S b_h → EQ (F0 454 b_a1 b_a2 b_h) (F b_a1 b_a2 b_h) (fun _ => True)) (a1 : Int) (a2 : Int) {h : AH} (hS : Sh S h) : EQ (fX14_order_ F0 454 a1 a2 h) (gX14_order_ F a1 a2 h) (fun _ => True) := by
  unfold fX14_order_ gX14_order_
  refine EQ_jgd (show h 454 (-2) = 15 from by rw [k_454 hS]) ?_
  refine EQ_jg ⟨fun ⟨_, x0⟩ => (show jI a1 (h (h 454 15) (-1)) ↔ jI a1 8800 from by rw [r_454_15 hS, l_469 hS]).mp x0, fun x0 => ⟨(show h (h 454 15) (-2) = 101 from by rw [r_454_15 hS, k_469 hS]), (show jI a1 (h (h 454 15) (-1)) ↔ jI a1 8800 from by rw [r_454_15 hS, l_469 hS]).mpr x0⟩⟩ (fun g1 => ?_)
  refine EQ_jgd (show h 454 (-2) = 15 from by rw [k_454 hS]) ?_
  refine EQ_jg ⟨fun ⟨_, x0⟩ => (show jI a2 (h (h 454 15) (-1)) ↔ jI a2 8800 from by rw [r_454_15 hS, l_469 hS]).mp x0, fun x0 => ⟨(show h (h 454 15) (-2) = 101 from by rw [r_454_15 hS, k_469 hS]), (show jI a2 (h (h 454 15) (-1)) ↔ jI a2 8800 from by rw [r_454_15 hS, l_469 hS]).mpr x0⟩⟩ (fun g2 => ?_)
  refine EQ_if (show h (h 454 15) a1 = h (h 454 15) a2 ↔ h 469 a1 = h 469 a2 from by rw [r_454_15 hS]) (fun c3 => ?_) (fun c3 => ?_)
  · refine EQ_jgd (show h 454 (-2) = 15 from by rw [k_454 hS]) ?_
    refine EQ_jb (eX14_headOf a1 hS) (fun v3 r4 => ?_)
    refine EQ_jgd (show h 454 (-2) = 15 from by rw [k_454 hS]) ?_
    refine EQ_jb (eX14_headOf a2 hS) (fun v5 r5 => ?_)
    refine EQ_if Iff.rfl (fun c6 => ?_) (fun c6 => ?_)
    · refine EQ_jb (eX14_order_l59 hF a1 a2 0 0 hS) (fun o7 r7 => ?_)
      exact EQ_some trivial
    · exact EQ_some trivial
  · refine EQ_jgd (show h 454 (-2) = 15 from by rw [k_454 hS]) ?_
    refine EQ_jgd ⟨(show h (h 454 15) (-2) = 101 from by rw [r_454_15 hS, k_469 hS]), ((show jI a1 (h (h 454 15) (-1)) ↔ jI a1 8800 from by rw [r_454_15 hS, l_469 hS]).mpr g1)⟩ ?_
    refine EQ_jgd (show h 454 (-2) = 15 from by rw [k_454 hS]) ?_
    refine EQ_jgd ⟨(show h (h 454 15) (-2) = 101 from by rw [r_454_15 hS, k_469 hS]), ((show jI a2 (h (h 454 15) (-1)) ↔ jI a2 8800 from by rw [r_454_15 hS, l_469 hS]).mpr g2)⟩ ?_
    exact EQ_some' (by rw [r_454_15 hS]) trivial
noncomputable def gX14_orderD : Nat → Int → Int → AH → Option (Int)
  | 0 => fun _ _ _ => none
  | d + 1 => gX14_order_ (gX14_orderD d)
theorem eX14_orderD : ∀ (d : Nat) (a1 : Int) (a2 : Int) {h : AH} (hS : Sh S h) , EQ (fX14_orderD d 454 a1 a2 h) (gX14_orderD d a1 a2 h) (fun _ => True) := by
  intro d
  induction d with
  | zero => intro a1 a2 h hS; exact EQ_none
  | succ d ih => intro a1 a2 h hS; exact eX14_order_ ih a1 a2 hS
noncomputable def gX14_order : Int → Int → AH → Option (Int) := gX14_orderD 40
theorem eX14_order (a1 : Int) (a2 : Int) {h : AH} (hS : Sh S h) : EQ (fX14_order 454 a1 a2 h) (gX14_order a1 a2 h) (fun _ => True) := eX14_orderD 40 a1 a2 hS
noncomputable def gX14_copyInto_b74 (i1 : Int) (i2 : Int) (s : Int × AH) : Option ((Int × AH) ⊕ (AH)) := jt2 s fun a3 h => if 3 ≤ a3 then (some (.inr h)) else (jg (jI (w32 (w32 (3 * i1) + a3)) 26400) <| jg (jI (w32 (w32 (3 * i2) + a3)) 26400) <| jl (jst h 464 (w32 (w32 (3 * i2) + a3)) (h 464 (w32 (w32 (3 * i1) + a3)))) fun h10 => jl (w32 (a3 + 1)) fun x11 => some (.inl (x11, h10)))
theorem eX14_copyInto_b74 (i1 : Int) (i2 : Int) {s : Int × AH} (hS : (fun r => Sh S r.2) s) : EQ (fX14_copyInto_b74 454 i1 i2 s) (gX14_copyInto_b74 i1 i2 s) (Sum.elim (fun r => Sh S r.2) (fun r => Sh S r)) := by
  unfold fX14_copyInto_b74 gX14_copyInto_b74
  obtain ⟨a3, h⟩ := s
  refine EQ_jt2 ?_
  replace hS : Sh S h := hS
  refine EQ_if Iff.rfl (fun c1 => ?_) (fun c1 => ?_)
  · exact EQ_some hS
  · refine EQ_jgd (show h 454 (-2) = 15 from by rw [k_454 hS]) ?_
    refine EQ_jgd (show h 454 (-2) = 15 from by rw [k_454 hS]) ?_
    refine EQ_jg ⟨fun ⟨_, x0⟩ => (show jI (w32 (w32 (3 * i1) + a3)) (h (h 454 10) (-1)) ↔ jI (w32 (w32 (3 * i1) + a3)) 26400 from by rw [r_454_10 hS, l_464 hS]).mp x0, fun x0 => ⟨(show h (h 454 10) (-2) = 101 from by rw [r_454_10 hS, k_464 hS]), (show jI (w32 (w32 (3 * i1) + a3)) (h (h 454 10) (-1)) ↔ jI (w32 (w32 (3 * i1) + a3)) 26400 from by rw [r_454_10 hS, l_464 hS]).mpr x0⟩⟩ (fun g2 => ?_)
    refine EQ_jg ⟨fun ⟨_, _, x0⟩ => (show jI (w32 (w32 (3 * i2) + a3)) (h (h 454 10) (-1)) ↔ jI (w32 (w32 (3 * i2) + a3)) 26400 from by rw [r_454_10 hS, l_464 hS]).mp x0, fun x0 => ⟨(show h (h 454 10) (-2) = 101 from by rw [r_454_10 hS, k_464 hS]), (show 200 ≤ h 454 10 from by rw [r_454_10 hS]; exact (by decide)), (show jI (w32 (w32 (3 * i2) + a3)) (h (h 454 10) (-1)) ↔ jI (w32 (w32 (3 * i2) + a3)) 26400 from by rw [r_454_10 hS, l_464 hS]).mpr x0⟩⟩ (fun g3 => ?_)
    refine EQ_jl (by rw [r_454_10 hS]) (fun h10 eh10 => ?_)
    have s4 := Sh_of eh10 (Sh_sta hS (by decide +kernel) (jI_nn g3) (fun e => absurd ((k_464 hS).symm.trans e) (by decide)))
    clear eh10
    refine EQ_jl rfl (fun x11 ex11 => ?_)
    clear ex11
    exact EQ_some s4
noncomputable def gX14_copyInto_l74 (i1 : Int) (i2 : Int) (a3 : Int) (h : AH) : Option (AH) := jit (gX14_copyInto_b74 i1 i2) (a3, h)
theorem eX14_copyInto_l74 (i1 : Int) (i2 : Int) (a3 : Int) {h : AH} (hS : Sh S h) : EQ (fX14_copyInto_l74 454 i1 i2 a3 h) (gX14_copyInto_l74 i1 i2 a3 h) (fun r => Sh S r) := EQ_jit (I := (fun r => Sh S r.2)) (fun s hs => eX14_copyInto_b74 i1 i2 hs) hS
noncomputable def gX14_copyInto (a1 : Int) (a2 : Int) (h : AH) : Option (AH) := jg (jI a1 8800) <| jg (jI a2 8800) <| jl (jst h 460 a2 (h 460 a1)) fun h1 => jl (jst h1 461 a2 (h1 461 a1)) fun h2 => jl (jst h2 462 a2 (h2 462 a1)) fun h3 => jl (jst h3 463 a2 (h3 463 a1)) fun h4 => jl (jst h4 469 a2 (h4 469 a1)) fun h5 => jl (jst h5 465 a2 (h5 465 a1)) fun h6 => jb (gX14_copyInto_l74 a1 a2 0 h6) fun o7 => some o7
theorem eX14_copyInto (a1 : Int) (a2 : Int) {h : AH} (hS : Sh S h) : EQ (fX14_copyInto 454 a1 a2 h) (gX14_copyInto a1 a2 h) (fun r => Sh S r) := by
  unfold fX14_copyInto gX14_copyInto
  refine EQ_jgd (show h 454 (-2) = 15 from by rw [k_454 hS]) ?_
  refine EQ_jgd (show h 454 (-2) = 15 from by rw [k_454 hS]) ?_
  refine EQ_jg ⟨fun ⟨_, x0⟩ => (show jI a1 (h (h 454 6) (-1)) ↔ jI a1 8800 from by rw [r_454_6 hS, l_460 hS]).mp x0, fun x0 => ⟨(show h (h 454 6) (-2) = 101 from by rw [r_454_6 hS, k_460 hS]), (show jI a1 (h (h 454 6) (-1)) ↔ jI a1 8800 from by rw [r_454_6 hS, l_460 hS]).mpr x0⟩⟩ (fun g1 => ?_)
  refine EQ_jg ⟨fun ⟨_, _, x0⟩ => (show jI a2 (h (h 454 6) (-1)) ↔ jI a2 8800 from by rw [r_454_6 hS, l_460 hS]).mp x0, fun x0 => ⟨(show h (h 454 6) (-2) = 101 from by rw [r_454_6 hS, k_460 hS]), (show 200 ≤ h 454 6 from by rw [r_454_6 hS]; exact (by decide)), (show jI a2 (h (h 454 6) (-1)) ↔ jI a2 8800 from by rw [r_454_6 hS, l_460 hS]).mpr x0⟩⟩ (fun g2 => ?_)
  refine EQ_jl (by rw [r_454_6 hS]) (fun h1 eh1 => ?_)
  have s3 := Sh_of eh1 (Sh_sta hS (by decide +kernel) (jI_nn g2) (fun e => absurd ((k_460 hS).symm.trans e) (by decide)))
  clear eh1
  refine EQ_jgd (show h1 454 (-2) = 15 from by rw [k_454 s3]) ?_
  refine EQ_jgd (show h1 454 (-2) = 15 from by rw [k_454 s3]) ?_
  refine EQ_jgd ⟨(show h1 (h1 454 7) (-2) = 101 from by rw [r_454_7 s3, k_461 s3]), ((show jI a1 (h1 (h1 454 7) (-1)) ↔ jI a1 8800 from by rw [r_454_7 s3, l_461 s3]).mpr g1)⟩ ?_
  refine EQ_jgd ⟨(show h1 (h1 454 7) (-2) = 101 from by rw [r_454_7 s3, k_461 s3]), (show 200 ≤ h1 454 7 from by rw [r_454_7 s3]; exact (by decide)), ((show jI a2 (h1 (h1 454 7) (-1)) ↔ jI a2 8800 from by rw [r_454_7 s3, l_461 s3]).mpr g2)⟩ ?_
  refine EQ_jl (by rw [r_454_7 s3]) (fun h2 eh2 => ?_)
  have s4 := Sh_of eh2 (Sh_sta s3 (by decide +kernel) (jI_nn g2) (fun e => absurd ((k_461 s3).symm.trans e) (by decide)))
  clear eh2
  refine EQ_jgd (show h2 454 (-2) = 15 from by rw [k_454 s4]) ?_
  refine EQ_jgd (show h2 454 (-2) = 15 from by rw [k_454 s4]) ?_
  refine EQ_jgd ⟨(show h2 (h2 454 8) (-2) = 101 from by rw [r_454_8 s4, k_462 s4]), ((show jI a1 (h2 (h2 454 8) (-1)) ↔ jI a1 8800 from by rw [r_454_8 s4, l_462 s4]).mpr g1)⟩ ?_
  refine EQ_jgd ⟨(show h2 (h2 454 8) (-2) = 101 from by rw [r_454_8 s4, k_462 s4]), (show 200 ≤ h2 454 8 from by rw [r_454_8 s4]; exact (by decide)), ((show jI a2 (h2 (h2 454 8) (-1)) ↔ jI a2 8800 from by rw [r_454_8 s4, l_462 s4]).mpr g2)⟩ ?_
  refine EQ_jl (by rw [r_454_8 s4]) (fun h3 eh3 => ?_)
  have s5 := Sh_of eh3 (Sh_sta s4 (by decide +kernel) (jI_nn g2) (fun e => absurd ((k_462 s4).symm.trans e) (by decide)))
  clear eh3
  refine EQ_jgd (show h3 454 (-2) = 15 from by rw [k_454 s5]) ?_
  refine EQ_jgd (show h3 454 (-2) = 15 from by rw [k_454 s5]) ?_
  refine EQ_jgd ⟨(show h3 (h3 454 9) (-2) = 101 from by rw [r_454_9 s5, k_463 s5]), ((show jI a1 (h3 (h3 454 9) (-1)) ↔ jI a1 8800 from by rw [r_454_9 s5, l_463 s5]).mpr g1)⟩ ?_
  refine EQ_jgd ⟨(show h3 (h3 454 9) (-2) = 101 from by rw [r_454_9 s5, k_463 s5]), (show 200 ≤ h3 454 9 from by rw [r_454_9 s5]; exact (by decide)), ((show jI a2 (h3 (h3 454 9) (-1)) ↔ jI a2 8800 from by rw [r_454_9 s5, l_463 s5]).mpr g2)⟩ ?_
  refine EQ_jl (by rw [r_454_9 s5]) (fun h4 eh4 => ?_)
  have s6 := Sh_of eh4 (Sh_sta s5 (by decide +kernel) (jI_nn g2) (fun e => absurd ((k_463 s5).symm.trans e) (by decide)))
  clear eh4
  refine EQ_jgd (show h4 454 (-2) = 15 from by rw [k_454 s6]) ?_
  refine EQ_jgd (show h4 454 (-2) = 15 from by rw [k_454 s6]) ?_
  refine EQ_jgd ⟨(show h4 (h4 454 15) (-2) = 101 from by rw [r_454_15 s6, k_469 s6]), ((show jI a1 (h4 (h4 454 15) (-1)) ↔ jI a1 8800 from by rw [r_454_15 s6, l_469 s6]).mpr g1)⟩ ?_
  refine EQ_jgd ⟨(show h4 (h4 454 15) (-2) = 101 from by rw [r_454_15 s6, k_469 s6]), (show 200 ≤ h4 454 15 from by rw [r_454_15 s6]; exact (by decide)), ((show jI a2 (h4 (h4 454 15) (-1)) ↔ jI a2 8800 from by rw [r_454_15 s6, l_469 s6]).mpr g2)⟩ ?_
  refine EQ_jl (by rw [r_454_15 s6]) (fun h5 eh5 => ?_)
  have s7 := Sh_of eh5 (Sh_sta s6 (by decide +kernel) (jI_nn g2) (fun e => absurd ((k_469 s6).symm.trans e) (by decide)))
  clear eh5
  refine EQ_jgd (show h5 454 (-2) = 15 from by rw [k_454 s7]) ?_
  refine EQ_jgd (show h5 454 (-2) = 15 from by rw [k_454 s7]) ?_
  refine EQ_jgd ⟨(show h5 (h5 454 11) (-2) = 101 from by rw [r_454_11 s7, k_465 s7]), ((show jI a1 (h5 (h5 454 11) (-1)) ↔ jI a1 8800 from by rw [r_454_11 s7, l_465 s7]).mpr g1)⟩ ?_
  refine EQ_jgd ⟨(show h5 (h5 454 11) (-2) = 101 from by rw [r_454_11 s7, k_465 s7]), (show 200 ≤ h5 454 11 from by rw [r_454_11 s7]; exact (by decide)), ((show jI a2 (h5 (h5 454 11) (-1)) ↔ jI a2 8800 from by rw [r_454_11 s7, l_465 s7]).mpr g2)⟩ ?_
  refine EQ_jl (by rw [r_454_11 s7]) (fun h6 eh6 => ?_)
  have s8 := Sh_of eh6 (Sh_sta s7 (by decide +kernel) (jI_nn g2) (fun e => absurd ((k_465 s7).symm.trans e) (by decide)))
  clear eh6
  refine EQ_jb (eX14_copyInto_l74 a1 a2 0 s8) (fun o7 r9 => ?_)
  exact EQ_some r9
noncomputable def gX14_accept_j42 (a1 : Int) (a2 : Int) (h : AH) : Option (AH) := jg (isX16 (h 454 38)) <| if a2 < h (h 454 38) 20 then (some h) else (jg (jI a2 122) <| jb (gX14_order a1 (h (h 454 38 + 13) a2) h) fun v9 => if 0 ≤ v9 then (some h) else (jb (gX14_copyInto a1 (h (h 454 38 + 13) a2) h) fun h12 => some h12))
theorem eX14_accept_j42 (a1 : Int) (a2 : Int) {h : AH} (hS : Sh S h) : EQ (fX14_accept_j42 454 a1 a2 h) (gX14_accept_j42 a1 a2 h) (fun r => Sh S r) := by
  unfold fX14_accept_j42 gX14_accept_j42
  refine EQ_jgd (show h 454 (-2) = 15 from by rw [k_454 hS]) ?_
  refine EQ_jg ⟨fun x0 => (ik_X16 hS).mp x0, fun x0 => (ik_X16 hS).mpr x0⟩ (fun g1 => ?_)
  refine EQ_if Iff.rfl (fun c2 => ?_) (fun c2 => ?_)
  · exact EQ_some hS
  · refine EQ_jgd (show h 454 (-2) = 15 from by rw [k_454 hS]) ?_
    refine EQ_jgd (show h (h 454 38) (-2) = 17 from by rw [kd_X16 hS g1]) ?_
    refine EQ_jg ⟨fun ⟨_, x0⟩ => (show jI a2 (h (h (h 454 38) 22) (-1)) ↔ jI a2 122 from by rw [ft_X16_22 hS g1, la_X16_22 hS g1]).mp x0, fun x0 => ⟨(show h (h (h 454 38) 22) (-2) = 101 from by rw [ft_X16_22 hS g1, ka_X16_22 hS g1]), (show jI a2 (h (h (h 454 38) 22) (-1)) ↔ jI a2 122 from by rw [ft_X16_22 hS g1, la_X16_22 hS g1]).mpr x0⟩⟩ (fun g3 => ?_)
    refine EQ_jgd (show h 454 (-2) = 15 from by rw [k_454 hS]) ?_
    refine EQ_jb (by rw [ft_X16_22 hS g1]; exact eX14_order a1 (h (h 454 38 + 13) a2) hS) (fun v9 r4 => ?_)
    refine EQ_if Iff.rfl (fun c5 => ?_) (fun c5 => ?_)
    · exact EQ_some hS
    · refine EQ_jgd (show h 454 (-2) = 15 from by rw [k_454 hS]) ?_
      refine EQ_jgd (show h (h 454 38) (-2) = 17 from by rw [kd_X16 hS g1]) ?_
      refine EQ_jgd ⟨(show h (h (h 454 38) 22) (-2) = 101 from by rw [ft_X16_22 hS g1, ka_X16_22 hS g1]), ((show jI a2 (h (h (h 454 38) 22) (-1)) ↔ jI a2 122 from by rw [ft_X16_22 hS g1, la_X16_22 hS g1]).mpr g3)⟩ ?_
      refine EQ_jgd (show h 454 (-2) = 15 from by rw [k_454 hS]) ?_
      refine EQ_jb (by rw [ft_X16_22 hS g1]; exact eX14_copyInto a1 (h (h 454 38 + 13) a2) hS) (fun h12 r6 => ?_)
      exact EQ_some r6
noncomputable def gX14_accept (a1 : Int) (h : AH) : Option (AH) := jg (jI a1 8800) <| jb (gX14_indexOf (h 461 a1) (h 454 40) h) fun v2 => if 0 ≤ v2 then (gX14_accept_j42 a1 v2 h) else (if 120 < h 454 40 then (gX14_accept_j42 a1 v2 h) else (jb (gX14_put a1 (h 461 a1) h) fun h6 => some h6))
theorem eX14_accept (a1 : Int) {h : AH} (hS : Sh S h) : EQ (fX14_accept 454 a1 h) (gX14_accept a1 h) (fun r => Sh S r) := by
  unfold fX14_accept gX14_accept
  refine EQ_jgd (show h 454 (-2) = 15 from by rw [k_454 hS]) ?_
  refine EQ_jg ⟨fun ⟨_, x0⟩ => (show jI a1 (h (h 454 7) (-1)) ↔ jI a1 8800 from by rw [r_454_7 hS, l_461 hS]).mp x0, fun x0 => ⟨(show h (h 454 7) (-2) = 101 from by rw [r_454_7 hS, k_461 hS]), (show jI a1 (h (h 454 7) (-1)) ↔ jI a1 8800 from by rw [r_454_7 hS, l_461 hS]).mpr x0⟩⟩ (fun g1 => ?_)
  refine EQ_jgd (show h 454 (-2) = 15 from by rw [k_454 hS]) ?_
  refine EQ_jgd (show h 454 (-2) = 15 from by rw [k_454 hS]) ?_
  refine EQ_jb (by rw [r_454_7 hS]; exact eX14_indexOf (h 461 a1) (h 454 40) hS) (fun v2 r2 => ?_)
  refine EQ_if Iff.rfl (fun c3 => ?_) (fun c3 => ?_)
  · exact (eX14_accept_j42 a1 v2 hS)
  · refine EQ_jgd (show h 454 (-2) = 15 from by rw [k_454 hS]) ?_
    refine EQ_if Iff.rfl (fun c4 => ?_) (fun c4 => ?_)
    · exact (eX14_accept_j42 a1 v2 hS)
    · refine EQ_jgd (show h 454 (-2) = 15 from by rw [k_454 hS]) ?_
      refine EQ_jgd ⟨(show h (h 454 7) (-2) = 101 from by rw [r_454_7 hS, k_461 hS]), ((show jI a1 (h (h 454 7) (-1)) ↔ jI a1 8800 from by rw [r_454_7 hS, l_461 hS]).mpr g1)⟩ ?_
      refine EQ_jgd (show h 454 (-2) = 15 from by rw [k_454 hS]) ?_
      refine EQ_jb (by rw [r_454_7 hS]; exact eX14_put a1 (h 461 a1) hS) (fun h6 r5 => ?_)
      exact EQ_some r5
noncomputable def gX14_isOf (a1 : Int) (a2 : Int) (a3 : Int) (h : AH) : Option (Int) := jg (isX16 (h 454 38)) <| jg (jI a1 122) <| jg (jI (w32 (w32 (3 * a2) + a3)) 108) <| if h (h 454 38 + 12) a1 = h 457 (w32 (w32 (3 * a2) + a3)) then (some 1) else (some 0)
theorem eX14_isOf (a1 : Int) (a2 : Int) (a3 : Int) {h : AH} (hS : Sh S h) : EQ (fX14_isOf 454 a1 a2 a3 h) (gX14_isOf a1 a2 a3 h) (fun _ => True) := by
  unfold fX14_isOf gX14_isOf
  refine EQ_jgd (show h 454 (-2) = 15 from by rw [k_454 hS]) ?_
  refine EQ_jg ⟨fun x0 => (ik_X16 hS).mp x0, fun x0 => (ik_X16 hS).mpr x0⟩ (fun g1 => ?_)
  refine EQ_jg ⟨fun ⟨_, x0⟩ => (show jI a1 (h (h (h 454 38) 21) (-1)) ↔ jI a1 122 from by rw [ft_X16_21 hS g1, la_X16_21 hS g1]).mp x0, fun x0 => ⟨(show h (h (h 454 38) 21) (-2) = 101 from by rw [ft_X16_21 hS g1, ka_X16_21 hS g1]), (show jI a1 (h (h (h 454 38) 21) (-1)) ↔ jI a1 122 from by rw [ft_X16_21 hS g1, la_X16_21 hS g1]).mpr x0⟩⟩ (fun g2 => ?_)
  refine EQ_jgd (show h 454 (-2) = 15 from by rw [k_454 hS]) ?_
  refine EQ_jg ⟨fun ⟨_, x0⟩ => (show jI (w32 (w32 (3 * a2) + a3)) (h (h 454 2) (-1)) ↔ jI (w32 (w32 (3 * a2) + a3)) 108 from by rw [r_454_2 hS, l_457 hS]).mp x0, fun x0 => ⟨(show h (h 454 2) (-2) = 101 from by rw [r_454_2 hS, k_457 hS]), (show jI (w32 (w32 (3 * a2) + a3)) (h (h 454 2) (-1)) ↔ jI (w32 (w32 (3 * a2) + a3)) 108 from by rw [r_454_2 hS, l_457 hS]).mpr x0⟩⟩ (fun g3 => ?_)
  refine EQ_if (show h (h (h 454 38) 21) a1 = h (h 454 2) (w32 (w32 (3 * a2) + a3)) ↔ h (h 454 38 + 12) a1 = h 457 (w32 (w32 (3 * a2) + a3)) from by rw [ft_X16_21 hS g1, r_454_2 hS]) (fun c4 => ?_) (fun c4 => ?_)
  · exact EQ_some trivial
  · exact EQ_some trivial
noncomputable def gX14_together_j77_3 (a1 : Int) (a2 : Int) (a3 : Int) (a4 : Int) (a5 : Int) (t1 : Int) (t3 : Int) (t4 : Int) (t5 : Int) (t6 : Int) (h : AH) : Option ((Int × AH) ⊕ (AH)) := jb2 (gX14_given t3 t4 t5 t6 h) fun v7 h8 => jg (jI t1 256) <| jl (jst h8 754 t1 v7) fun h9 => jl (w32 (a5 + 1)) fun x10 => some (.inl (x10, h9))
theorem eX14_together_j77_3 (a1 : Int) (a2 : Int) (a3 : Int) (a4 : Int) (a5 : Int) (t1 : Int) (t3 : Int) (t4 : Int) (t5 : Int) (t6 : Int) {h : AH} (hS : Sh S h) : EQ (fX14_together_j77_3 454 a1 a2 a3 a4 a5 754 t1 454 t3 t4 t5 t6 h) (gX14_together_j77_3 a1 a2 a3 a4 a5 t1 t3 t4 t5 t6 h) (Sum.elim (fun r => Sh S r.2) (fun r => Sh S r)) := by
  unfold fX14_together_j77_3 gX14_together_j77_3
  refine EQ_jgd (show h 454 (-2) = 15 from by rw [k_454 hS]) ?_
  refine EQ_jb2 (eX14_given t3 t4 t5 t6 hS) (fun v7 h8 r1 => ?_)
  replace r1 : Sh S h8 := r1
  refine EQ_jg ⟨fun ⟨_, _, x0⟩ => (show jI t1 (h8 754 (-1)) ↔ jI t1 256 from by rw [l_754 r1]).mp x0, fun x0 => ⟨(show h8 754 (-2) = 101 from by rw [k_754 r1]), (show (200 : Int) ≤ 754 from (by decide)), (show jI t1 (h8 754 (-1)) ↔ jI t1 256 from by rw [l_754 r1]).mpr x0⟩⟩ (fun g2 => ?_)
  refine EQ_jl rfl (fun h9 eh9 => ?_)
  have s3 := Sh_of eh9 (Sh_sta r1 (by decide +kernel) (jI_nn g2) (fun e => absurd ((k_754 r1).symm.trans e) (by decide)))
  clear eh9
  refine EQ_jl rfl (fun x10 ex10 => ?_)
  clear ex10
  exact EQ_some s3
noncomputable def gX14_together_j55_3 (a1 : Int) (a2 : Int) (a3 : Int) (a4 : Int) (a5 : Int) (t1 : Int) (t3 : Int) (t4 : Int) (t5 : Int) (h : AH) : Option ((Int × AH) ⊕ (AH)) := if 0 ≤ a4 then (jg (isX16 (h 454 38)) <| jg (jI a4 122) <| jg (jI a5 256) <| gX14_together_j77_3 a1 a2 a3 a4 a5 t1 t3 t4 t5 (h (h 454 38 + 17 + a4) a5) h) else (gX14_together_j77_3 a1 a2 a3 a4 a5 t1 t3 t4 t5 0 h)
theorem eX14_together_j55_3 (a1 : Int) (a2 : Int) (a3 : Int) (a4 : Int) (a5 : Int) (t1 : Int) (t3 : Int) (t4 : Int) (t5 : Int) {h : AH} (hS : Sh S h) : EQ (fX14_together_j55_3 454 a1 a2 a3 a4 a5 754 t1 454 t3 t4 t5 h) (gX14_together_j55_3 a1 a2 a3 a4 a5 t1 t3 t4 t5 h) (Sum.elim (fun r => Sh S r.2) (fun r => Sh S r)) := by
  unfold fX14_together_j55_3 gX14_together_j55_3
  refine EQ_if Iff.rfl (fun c1 => ?_) (fun c1 => ?_)
  · refine EQ_jgd (show h 454 (-2) = 15 from by rw [k_454 hS]) ?_
    refine EQ_jg ⟨fun x0 => (ik_X16 hS).mp x0, fun x0 => (ik_X16 hS).mpr x0⟩ (fun g2 => ?_)
    refine EQ_jg ⟨fun ⟨_, x0⟩ => (show jI a4 (h (h (h 454 38) 25) (-1)) ↔ jI a4 122 from by rw [ft_X16_25 hS g2, la_X16_25 hS g2]).mp x0, fun x0 => ⟨(show h (h (h 454 38) 25) (-2) = 105 from by rw [ft_X16_25 hS g2, ka_X16_25 hS g2]), (show jI a4 (h (h (h 454 38) 25) (-1)) ↔ jI a4 122 from by rw [ft_X16_25 hS g2, la_X16_25 hS g2]).mpr x0⟩⟩ (fun g3 => ?_)
    refine EQ_jg ⟨fun ⟨_, x0⟩ => (show jI a5 (h (h (h (h 454 38) 25) a4) (-1)) ↔ jI a5 256 from by rw [ft_X16_25 hS g2, rro_X16_25 hS g2 g3, rlo_X16_25 hS g2 g3]).mp x0, fun x0 => ⟨(show h (h (h (h 454 38) 25) a4) (-2) = 101 from by rw [ft_X16_25 hS g2, rro_X16_25 hS g2 g3, rko_X16_25 hS g2 g3]), (show jI a5 (h (h (h (h 454 38) 25) a4) (-1)) ↔ jI a5 256 from by rw [ft_X16_25 hS g2, rro_X16_25 hS g2 g3, rlo_X16_25 hS g2 g3]).mpr x0⟩⟩ (fun g4 => ?_)
    exact (by rw [ft_X16_25 hS g2, rro_X16_25 hS g2 g3]; exact eX14_together_j77_3 a1 a2 a3 a4 a5 t1 t3 t4 t5 (h (h 454 38 + 17 + a4) a5) hS)
  · exact (eX14_together_j77_3 a1 a2 a3 a4 a5 t1 t3 t4 t5 0 hS)
noncomputable def gX14_together_b3 (i1 : Int) (i2 : Int) (i3 : Int) (i4 : Int) (s : Int × AH) : Option ((Int × AH) ⊕ (AH)) := jt2 s fun a5 h => jg (isX16 (h 454 38)) <| if h (h 454 38) 18 ≤ a5 then (some (.inr h)) else (jg (jI i2 122) <| jg (jI a5 256) <| if 0 ≤ i3 then (jg (jI i3 122) <| gX14_together_j55_3 i1 i2 i3 i4 a5 a5 i1 (h (h 454 38 + 17 + i2) a5) (h (h 454 38 + 17 + i3) a5) h) else (gX14_together_j55_3 i1 i2 i3 i4 a5 a5 i1 (h (h 454 38 + 17 + i2) a5) 0 h))
theorem eX14_together_b3 (i1 : Int) (i2 : Int) (i3 : Int) (i4 : Int) {s : Int × AH} (hS : (fun r => Sh S r.2) s) : EQ (fX14_together_b3 454 i1 i2 i3 i4 s) (gX14_together_b3 i1 i2 i3 i4 s) (Sum.elim (fun r => Sh S r.2) (fun r => Sh S r)) := by
  unfold fX14_together_b3 gX14_together_b3
  obtain ⟨a5, h⟩ := s
  refine EQ_jt2 ?_
  replace hS : Sh S h := hS
  refine EQ_jgd (show h 454 (-2) = 15 from by rw [k_454 hS]) ?_
  refine EQ_jg ⟨fun x0 => (ik_X16 hS).mp x0, fun x0 => (ik_X16 hS).mpr x0⟩ (fun g1 => ?_)
  refine EQ_if Iff.rfl (fun c2 => ?_) (fun c2 => ?_)
  · exact EQ_some hS
  · refine EQ_jgd (show h 454 (-2) = 15 from by rw [k_454 hS]) ?_
    refine EQ_jgd (show h 454 (-2) = 15 from by rw [k_454 hS]) ?_
    refine EQ_jgd (show h (h 454 38) (-2) = 17 from by rw [kd_X16 hS g1]) ?_
    refine EQ_jg ⟨fun ⟨_, x0⟩ => (show jI i2 (h (h (h 454 38) 25) (-1)) ↔ jI i2 122 from by rw [ft_X16_25 hS g1, la_X16_25 hS g1]).mp x0, fun x0 => ⟨(show h (h (h 454 38) 25) (-2) = 105 from by rw [ft_X16_25 hS g1, ka_X16_25 hS g1]), (show jI i2 (h (h (h 454 38) 25) (-1)) ↔ jI i2 122 from by rw [ft_X16_25 hS g1, la_X16_25 hS g1]).mpr x0⟩⟩ (fun g3 => ?_)
    refine EQ_jg ⟨fun ⟨_, x0⟩ => (show jI a5 (h (h (h (h 454 38) 25) i2) (-1)) ↔ jI a5 256 from by rw [ft_X16_25 hS g1, rro_X16_25 hS g1 g3, rlo_X16_25 hS g1 g3]).mp x0, fun x0 => ⟨(show h (h (h (h 454 38) 25) i2) (-2) = 101 from by rw [ft_X16_25 hS g1, rro_X16_25 hS g1 g3, rko_X16_25 hS g1 g3]), (show jI a5 (h (h (h (h 454 38) 25) i2) (-1)) ↔ jI a5 256 from by rw [ft_X16_25 hS g1, rro_X16_25 hS g1 g3, rlo_X16_25 hS g1 g3]).mpr x0⟩⟩ (fun g4 => ?_)
    refine EQ_if Iff.rfl (fun c5 => ?_) (fun c5 => ?_)
    · refine EQ_jgd (show h 454 (-2) = 15 from by rw [k_454 hS]) ?_
      refine EQ_jgd (show h (h 454 38) (-2) = 17 from by rw [kd_X16 hS g1]) ?_
      refine EQ_jg ⟨fun ⟨_, x0⟩ => (show jI i3 (h (h (h 454 38) 25) (-1)) ↔ jI i3 122 from by rw [ft_X16_25 hS g1, la_X16_25 hS g1]).mp x0, fun x0 => ⟨(show h (h (h 454 38) 25) (-2) = 105 from by rw [ft_X16_25 hS g1, ka_X16_25 hS g1]), (show jI i3 (h (h (h 454 38) 25) (-1)) ↔ jI i3 122 from by rw [ft_X16_25 hS g1, la_X16_25 hS g1]).mpr x0⟩⟩ (fun g6 => ?_)
      refine EQ_jgd ⟨(show h (h (h (h 454 38) 25) i3) (-2) = 101 from by rw [ft_X16_25 hS g1, rro_X16_25 hS g1 g6, rko_X16_25 hS g1 g6]), ((show jI a5 (h (h (h (h 454 38) 25) i3) (-1)) ↔ jI a5 256 from by rw [ft_X16_25 hS g1, rro_X16_25 hS g1 g6, rlo_X16_25 hS g1 g6]).mpr g4)⟩ ?_
      exact (by rw [r_454_39 hS, ft_X16_25 hS g1, rro_X16_25 hS g1 g3, rro_X16_25 hS g1 g6]; exact eX14_together_j55_3 i1 i2 i3 i4 a5 a5 i1 (h (h 454 38 + 17 + i2) a5) (h (h 454 38 + 17 + i3) a5) hS)
    · exact (by rw [r_454_39 hS, ft_X16_25 hS g1, rro_X16_25 hS g1 g3]; exact eX14_together_j55_3 i1 i2 i3 i4 a5 a5 i1 (h (h 454 38 + 17 + i2) a5) 0 hS)
noncomputable def gX14_together_l3 (i1 : Int) (i2 : Int) (i3 : Int) (i4 : Int) (a5 : Int) (h : AH) : Option (AH) := jit (gX14_together_b3 i1 i2 i3 i4) (a5, h)
theorem eX14_together_l3 (i1 : Int) (i2 : Int) (i3 : Int) (i4 : Int) (a5 : Int) {h : AH} (hS : Sh S h) : EQ (fX14_together_l3 454 i1 i2 i3 i4 a5 h) (gX14_together_l3 i1 i2 i3 i4 a5 h) (fun r => Sh S r) := EQ_jit (I := (fun r => Sh S r.2)) (fun s hs => eX14_together_b3 i1 i2 i3 i4 hs) hS
noncomputable def gX14_together (a1 : Int) (a2 : Int) (a3 : Int) (a4 : Int) (h : AH) : Option (AH) := jb (gX14_together_l3 a1 a2 a3 a4 0 h) fun o1 => some o1
theorem eX14_together (a1 : Int) (a2 : Int) (a3 : Int) (a4 : Int) {h : AH} (hS : Sh S h) : EQ (fX14_together 454 a1 a2 a3 a4 h) (gX14_together a1 a2 a3 a4 h) (fun r => Sh S r) := by
  unfold fX14_together gX14_together
  refine EQ_jb (eX14_together_l3 a1 a2 a3 a4 0 hS) (fun o1 r1 => ?_)
  exact EQ_some r1
noncomputable def gX14_offer_j137 (a7 : Int) (h : AH) : Option (AH) := jb (gX14_accept a7 h) fun h20 => some h20
theorem eX14_offer_j137 (a7 : Int) {h : AH} (hS : Sh S h) : EQ (fX14_offer_j137 454 a7 h) (gX14_offer_j137 a7 h) (fun r => Sh S r) := by
  unfold fX14_offer_j137 gX14_offer_j137
  refine EQ_jgd (show h 454 (-2) = 15 from by rw [k_454 hS]) ?_
  refine EQ_jb (eX14_accept a7 hS) (fun h20 r1 => ?_)
  exact EQ_some r1
noncomputable def gX14_offer_j116 (a5 : Int) (a7 : Int) (h : AH) : Option (AH) := if a5 < 0 then (gX14_offer_j137 a7 h) else (jg (isX16 (h 454 38)) <| jg (jI a5 122) <| jb (gX14_addKid a7 (h (h 454 38 + 13) a5) h) fun h18 => gX14_offer_j137 a7 h18)
theorem eX14_offer_j116 (a5 : Int) (a7 : Int) {h : AH} (hS : Sh S h) : EQ (fX14_offer_j116 454 a5 a7 h) (gX14_offer_j116 a5 a7 h) (fun r => Sh S r) := by
  unfold fX14_offer_j116 gX14_offer_j116
  refine EQ_if Iff.rfl (fun c1 => ?_) (fun c1 => ?_)
  · exact (eX14_offer_j137 a7 hS)
  · refine EQ_jgd (show h 454 (-2) = 15 from by rw [k_454 hS]) ?_
    refine EQ_jg ⟨fun x0 => (ik_X16 hS).mp x0, fun x0 => (ik_X16 hS).mpr x0⟩ (fun g2 => ?_)
    refine EQ_jg ⟨fun ⟨_, x0⟩ => (show jI a5 (h (h (h 454 38) 22) (-1)) ↔ jI a5 122 from by rw [ft_X16_22 hS g2, la_X16_22 hS g2]).mp x0, fun x0 => ⟨(show h (h (h 454 38) 22) (-2) = 101 from by rw [ft_X16_22 hS g2, ka_X16_22 hS g2]), (show jI a5 (h (h (h 454 38) 22) (-1)) ↔ jI a5 122 from by rw [ft_X16_22 hS g2, la_X16_22 hS g2]).mpr x0⟩⟩ (fun g3 => ?_)
    refine EQ_jgd (show h 454 (-2) = 15 from by rw [k_454 hS]) ?_
    refine EQ_jb (by rw [ft_X16_22 hS g2]; exact eX14_addKid a7 (h (h 454 38 + 13) a5) hS) (fun h18 r4 => ?_)
    exact (eX14_offer_j137 a7 r4)
noncomputable def gX14_offer (a1 : Int) (a2 : Int) (a3 : Int) (a4 : Int) (a5 : Int) (h : AH) : Option (AH) := if h 454 40 ≤ 120 then (jg (isX16 (h 454 38)) <| jg (jI a1 13) <| jl (h (h 454 38 + 3) a1) fun x2 => jb (gX14_together x2 a3 a4 a5 h) fun h4 => jg (isX16 (h4 454 38)) <| jl (jst h4 454 17 (w32 (h4 (h4 454 38) 1 + h4 454 40))) fun h5 => jg (jI x2 36) <| jb2 (gX14_node 2 (h5 458 x2) 0 h5) fun v7 h8 => jg (jI v7 8800) <| jl (jst h8 463 v7 x2) fun h9 => jl (jst h9 469 v7 a2) fun h10 => jg (isX16 (h10 454 38)) <| jg (jI a3 122) <| jb (gX14_addKid v7 (h10 (h10 454 38 + 13) a3) h10) fun h12 => if a4 < 0 then (gX14_offer_j116 a5 v7 h12) else (jg (isX16 (h12 454 38)) <| jg (jI a4 122) <| jb (gX14_addKid v7 (h12 (h12 454 38 + 13) a4) h12) fun h15 => gX14_offer_j116 a5 v7 h15)) else (some h)
theorem eX14_offer (a1 : Int) (a2 : Int) (a3 : Int) (a4 : Int) (a5 : Int) {h : AH} (hS : Sh S h) : EQ (fX14_offer 454 a1 a2 a3 a4 a5 h) (gX14_offer a1 a2 a3 a4 a5 h) (fun r => Sh S r) := by
  unfold fX14_offer gX14_offer
  refine EQ_jgd (show h 454 (-2) = 15 from by rw [k_454 hS]) ?_
  refine EQ_if Iff.rfl (fun c1 => ?_) (fun c1 => ?_)
  · refine EQ_jgd (show h 454 (-2) = 15 from by rw [k_454 hS]) ?_
    refine EQ_jg ⟨fun x0 => (ik_X16 hS).mp x0, fun x0 => (ik_X16 hS).mpr x0⟩ (fun g2 => ?_)
    refine EQ_jg ⟨fun ⟨_, x0⟩ => (show jI a1 (h (h (h 454 38) 7) (-1)) ↔ jI a1 13 from by rw [ft_X16_7 hS g2, la_X16_7 hS g2]).mp x0, fun x0 => ⟨(show h (h (h 454 38) 7) (-2) = 101 from by rw [ft_X16_7 hS g2, ka_X16_7 hS g2]), (show jI a1 (h (h (h 454 38) 7) (-1)) ↔ jI a1 13 from by rw [ft_X16_7 hS g2, la_X16_7 hS g2]).mpr x0⟩⟩ (fun g3 => ?_)
    refine EQ_jl (by rw [ft_X16_7 hS g2]) (fun x2 ex2 => ?_)
    clear ex2
    refine EQ_jgd (show h 454 (-2) = 15 from by rw [k_454 hS]) ?_
    refine EQ_jb (eX14_together x2 a3 a4 a5 hS) (fun h4 r4 => ?_)
    refine EQ_jgd (show h4 454 (-2) = 15 from by rw [k_454 r4]) ?_
    refine EQ_jg ⟨fun x0 => (ik_X16 r4).mp x0, fun x0 => (ik_X16 r4).mpr x0⟩ (fun g5 => ?_)
    refine EQ_jgd (show h4 454 (-2) = 15 from by rw [k_454 r4]) ?_
    refine EQ_jgd ⟨(show h4 454 (-2) = 15 from by rw [k_454 r4]), (show (200 : Int) ≤ 454 from (by decide))⟩ ?_
    refine EQ_jl rfl (fun h5 eh5 => ?_)
    have s6 := Sh_of eh5 (Sh_sto r4 (a := 454) (i := 17) (by decide +kernel))
    clear eh5
    refine EQ_jgd (show h5 454 (-2) = 15 from by rw [k_454 s6]) ?_
    refine EQ_jg ⟨fun ⟨_, x0⟩ => (show jI x2 (h5 (h5 454 3) (-1)) ↔ jI x2 36 from by rw [r_454_3 s6, l_458 s6]).mp x0, fun x0 => ⟨(show h5 (h5 454 3) (-2) = 101 from by rw [r_454_3 s6, k_458 s6]), (show jI x2 (h5 (h5 454 3) (-1)) ↔ jI x2 36 from by rw [r_454_3 s6, l_458 s6]).mpr x0⟩⟩ (fun g7 => ?_)
    refine EQ_jgd (show h5 454 (-2) = 15 from by rw [k_454 s6]) ?_
    refine EQ_jb2 (by rw [r_454_3 s6]; exact eX14_node 2 (h5 458 x2) 0 s6) (fun v7 h8 r8 => ?_)
    replace r8 : Sh S h8 := r8
    refine EQ_jgd (show h8 454 (-2) = 15 from by rw [k_454 r8]) ?_
    refine EQ_jg ⟨fun ⟨_, _, x0⟩ => (show jI v7 (h8 (h8 454 9) (-1)) ↔ jI v7 8800 from by rw [r_454_9 r8, l_463 r8]).mp x0, fun x0 => ⟨(show h8 (h8 454 9) (-2) = 101 from by rw [r_454_9 r8, k_463 r8]), (show 200 ≤ h8 454 9 from by rw [r_454_9 r8]; exact (by decide)), (show jI v7 (h8 (h8 454 9) (-1)) ↔ jI v7 8800 from by rw [r_454_9 r8, l_463 r8]).mpr x0⟩⟩ (fun g9 => ?_)
    refine EQ_jl (by rw [r_454_9 r8]) (fun h9 eh9 => ?_)
    have s10 := Sh_of eh9 (Sh_sta r8 (by decide +kernel) (jI_nn g9) (fun e => absurd ((k_463 r8).symm.trans e) (by decide)))
    clear eh9
    refine EQ_jgd (show h9 454 (-2) = 15 from by rw [k_454 s10]) ?_
    refine EQ_jgd ⟨(show h9 (h9 454 15) (-2) = 101 from by rw [r_454_15 s10, k_469 s10]), (show 200 ≤ h9 454 15 from by rw [r_454_15 s10]; exact (by decide)), ((show jI v7 (h9 (h9 454 15) (-1)) ↔ jI v7 8800 from by rw [r_454_15 s10, l_469 s10]).mpr g9)⟩ ?_
    refine EQ_jl (by rw [r_454_15 s10]) (fun h10 eh10 => ?_)
    have s11 := Sh_of eh10 (Sh_sta s10 (by decide +kernel) (jI_nn g9) (fun e => absurd ((k_469 s10).symm.trans e) (by decide)))
    clear eh10
    refine EQ_jgd (show h10 454 (-2) = 15 from by rw [k_454 s11]) ?_
    refine EQ_jg ⟨fun x0 => (ik_X16 s11).mp x0, fun x0 => (ik_X16 s11).mpr x0⟩ (fun g12 => ?_)
    refine EQ_jg ⟨fun ⟨_, x0⟩ => (show jI a3 (h10 (h10 (h10 454 38) 22) (-1)) ↔ jI a3 122 from by rw [ft_X16_22 s11 g12, la_X16_22 s11 g12]).mp x0, fun x0 => ⟨(show h10 (h10 (h10 454 38) 22) (-2) = 101 from by rw [ft_X16_22 s11 g12, ka_X16_22 s11 g12]), (show jI a3 (h10 (h10 (h10 454 38) 22) (-1)) ↔ jI a3 122 from by rw [ft_X16_22 s11 g12, la_X16_22 s11 g12]).mpr x0⟩⟩ (fun g13 => ?_)
    refine EQ_jgd (show h10 454 (-2) = 15 from by rw [k_454 s11]) ?_
    refine EQ_jb (by rw [ft_X16_22 s11 g12]; exact eX14_addKid v7 (h10 (h10 454 38 + 13) a3) s11) (fun h12 r14 => ?_)
    refine EQ_if Iff.rfl (fun c15 => ?_) (fun c15 => ?_)
    · exact (eX14_offer_j116 a5 v7 r14)
    · refine EQ_jgd (show h12 454 (-2) = 15 from by rw [k_454 r14]) ?_
      refine EQ_jg ⟨fun x0 => (ik_X16 r14).mp x0, fun x0 => (ik_X16 r14).mpr x0⟩ (fun g16 => ?_)
      refine EQ_jg ⟨fun ⟨_, x0⟩ => (show jI a4 (h12 (h12 (h12 454 38) 22) (-1)) ↔ jI a4 122 from by rw [ft_X16_22 r14 g16, la_X16_22 r14 g16]).mp x0, fun x0 => ⟨(show h12 (h12 (h12 454 38) 22) (-2) = 101 from by rw [ft_X16_22 r14 g16, ka_X16_22 r14 g16]), (show jI a4 (h12 (h12 (h12 454 38) 22) (-1)) ↔ jI a4 122 from by rw [ft_X16_22 r14 g16, la_X16_22 r14 g16]).mpr x0⟩⟩ (fun g17 => ?_)
      refine EQ_jgd (show h12 454 (-2) = 15 from by rw [k_454 r14]) ?_
      refine EQ_jb (by rw [ft_X16_22 r14 g16]; exact eX14_addKid v7 (h12 (h12 454 38 + 13) a4) r14) (fun h15 r18 => ?_)
      exact (eX14_offer_j116 a5 v7 r18)
  · exact EQ_some hS
noncomputable def gX14_offerAll_j296_35 (a1 : Int) (a2 : Int) (a3 : Int) (a4 : Int) (a5 : Int) (a6 : Int) (h : AH) : Option ((Int × AH) ⊕ (AH)) := jl (w32 (a6 + 1)) fun x17 => some (.inl (x17, h))
theorem eX14_offerAll_j296_35 (a1 : Int) (a2 : Int) (a3 : Int) (a4 : Int) (a5 : Int) (a6 : Int) {h : AH} (hS : Sh S h) : EQ (fX14_offerAll_j296_35 454 a1 a2 a3 a4 a5 a6 h) (gX14_offerAll_j296_35 a1 a2 a3 a4 a5 a6 h) (Sum.elim (fun r => Sh S r.2) (fun r => Sh S r)) := by
  unfold fX14_offerAll_j296_35 gX14_offerAll_j296_35
  refine EQ_jl rfl (fun x17 ex17 => ?_)
  clear ex17
  exact EQ_some hS
noncomputable def gX14_offerAll_j290_112 (a1 : Int) (a2 : Int) (a3 : Int) (a4 : Int) (a5 : Int) (a6 : Int) (a7 : Int) (h : AH) : Option ((Int × AH) ⊕ (AH)) := jl (w32 (a7 + 1)) fun x29 => some (.inl (x29, h))
theorem eX14_offerAll_j290_112 (a1 : Int) (a2 : Int) (a3 : Int) (a4 : Int) (a5 : Int) (a6 : Int) (a7 : Int) {h : AH} (hS : Sh S h) : EQ (fX14_offerAll_j290_112 454 a1 a2 a3 a4 a5 a6 a7 h) (gX14_offerAll_j290_112 a1 a2 a3 a4 a5 a6 a7 h) (Sum.elim (fun r => Sh S r.2) (fun r => Sh S r)) := by
  unfold fX14_offerAll_j290_112 gX14_offerAll_j290_112
  refine EQ_jl rfl (fun x29 ex29 => ?_)
  clear ex29
  exact EQ_some hS
noncomputable def gX14_offerAll_j284_212 (a1 : Int) (a2 : Int) (a3 : Int) (a4 : Int) (a5 : Int) (a6 : Int) (a7 : Int) (a8 : Int) (h : AH) : Option ((Int × AH) ⊕ (AH)) := jl (w32 (a8 + 1)) fun x37 => some (.inl (x37, h))
theorem eX14_offerAll_j284_212 (a1 : Int) (a2 : Int) (a3 : Int) (a4 : Int) (a5 : Int) (a6 : Int) (a7 : Int) (a8 : Int) {h : AH} (hS : Sh S h) : EQ (fX14_offerAll_j284_212 454 a1 a2 a3 a4 a5 a6 a7 a8 h) (gX14_offerAll_j284_212 a1 a2 a3 a4 a5 a6 a7 a8 h) (Sum.elim (fun r => Sh S r.2) (fun r => Sh S r)) := by
  unfold fX14_offerAll_j284_212 gX14_offerAll_j284_212
  refine EQ_jl rfl (fun x37 ex37 => ?_)
  clear ex37
  exact EQ_some hS
noncomputable def gX14_offerAll_b212 (i1 : Int) (i2 : Int) (i3 : Int) (i4 : Int) (i5 : Int) (i6 : Int) (i7 : Int) (s : Int × AH) : Option ((Int × AH) ⊕ (AH)) := jt2 s fun a8 h => jg (isX16 (h 454 38)) <| if h (h 454 38) 20 ≤ a8 then (some (.inr h)) else (jb (gX14_isOf a8 i4 2 h) fun v32 => if v32 = 0 then (gX14_offerAll_j284_212 i1 i2 i3 i4 i5 i6 i7 a8 h) else (jg (jI i6 122) <| jg (jI i7 122) <| jg (jI a8 122) <| if w32 (w32 (h (h 454 38 + 14) i6 + h (h 454 38 + 14) i7) + h (h 454 38 + 14) a8) = i3 then (jb (gX14_offer i1 i2 i6 i7 a8 h) fun h36 => gX14_offerAll_j284_212 i1 i2 i3 i4 i5 i6 i7 a8 h36) else (gX14_offerAll_j284_212 i1 i2 i3 i4 i5 i6 i7 a8 h)))
theorem eX14_offerAll_b212 (i1 : Int) (i2 : Int) (i3 : Int) (i4 : Int) (i5 : Int) (i6 : Int) (i7 : Int) {s : Int × AH} (hS : (fun r => Sh S r.2) s) : EQ (fX14_offerAll_b212 454 i1 i2 i3 i4 i5 i6 i7 s) (gX14_offerAll_b212 i1 i2 i3 i4 i5 i6 i7 s) (Sum.elim (fun r => Sh S r.2) (fun r => Sh S r)) := by
  unfold fX14_offerAll_b212 gX14_offerAll_b212
  obtain ⟨a8, h⟩ := s
  refine EQ_jt2 ?_
  replace hS : Sh S h := hS
  refine EQ_jgd (show h 454 (-2) = 15 from by rw [k_454 hS]) ?_
  refine EQ_jg ⟨fun x0 => (ik_X16 hS).mp x0, fun x0 => (ik_X16 hS).mpr x0⟩ (fun g1 => ?_)
  refine EQ_if Iff.rfl (fun c2 => ?_) (fun c2 => ?_)
  · exact EQ_some hS
  · refine EQ_jgd (show h 454 (-2) = 15 from by rw [k_454 hS]) ?_
    refine EQ_jb (eX14_isOf a8 i4 2 hS) (fun v32 r3 => ?_)
    refine EQ_if Iff.rfl (fun c4 => ?_) (fun c4 => ?_)
    · exact (eX14_offerAll_j284_212 i1 i2 i3 i4 i5 i6 i7 a8 hS)
    · refine EQ_jgd (show h 454 (-2) = 15 from by rw [k_454 hS]) ?_
      refine EQ_jgd (show h (h 454 38) (-2) = 17 from by rw [kd_X16 hS g1]) ?_
      refine EQ_jg ⟨fun ⟨_, x0⟩ => (show jI i6 (h (h (h 454 38) 23) (-1)) ↔ jI i6 122 from by rw [ft_X16_23 hS g1, la_X16_23 hS g1]).mp x0, fun x0 => ⟨(show h (h (h 454 38) 23) (-2) = 101 from by rw [ft_X16_23 hS g1, ka_X16_23 hS g1]), (show jI i6 (h (h (h 454 38) 23) (-1)) ↔ jI i6 122 from by rw [ft_X16_23 hS g1, la_X16_23 hS g1]).mpr x0⟩⟩ (fun g5 => ?_)
      refine EQ_jgd (show h 454 (-2) = 15 from by rw [k_454 hS]) ?_
      refine EQ_jgd (show h (h 454 38) (-2) = 17 from by rw [kd_X16 hS g1]) ?_
      refine EQ_jg ⟨fun ⟨_, x0⟩ => (show jI i7 (h (h (h 454 38) 23) (-1)) ↔ jI i7 122 from by rw [ft_X16_23 hS g1, la_X16_23 hS g1]).mp x0, fun x0 => ⟨(show h (h (h 454 38) 23) (-2) = 101 from by rw [ft_X16_23 hS g1, ka_X16_23 hS g1]), (show jI i7 (h (h (h 454 38) 23) (-1)) ↔ jI i7 122 from by rw [ft_X16_23 hS g1, la_X16_23 hS g1]).mpr x0⟩⟩ (fun g6 => ?_)
      refine EQ_jgd (show h 454 (-2) = 15 from by rw [k_454 hS]) ?_
      refine EQ_jgd (show h (h 454 38) (-2) = 17 from by rw [kd_X16 hS g1]) ?_
      refine EQ_jg ⟨fun ⟨_, x0⟩ => (show jI a8 (h (h (h 454 38) 23) (-1)) ↔ jI a8 122 from by rw [ft_X16_23 hS g1, la_X16_23 hS g1]).mp x0, fun x0 => ⟨(show h (h (h 454 38) 23) (-2) = 101 from by rw [ft_X16_23 hS g1, ka_X16_23 hS g1]), (show jI a8 (h (h (h 454 38) 23) (-1)) ↔ jI a8 122 from by rw [ft_X16_23 hS g1, la_X16_23 hS g1]).mpr x0⟩⟩ (fun g7 => ?_)
      refine EQ_if (show w32 (w32 (h (h (h 454 38) 23) i6 + h (h (h 454 38) 23) i7) + h (h (h 454 38) 23) a8) = i3 ↔ w32 (w32 (h (h 454 38 + 14) i6 + h (h 454 38 + 14) i7) + h (h 454 38 + 14) a8) = i3 from by rw [ft_X16_23 hS g1]) (fun c8 => ?_) (fun c8 => ?_)
      · refine EQ_jgd (show h 454 (-2) = 15 from by rw [k_454 hS]) ?_
        refine EQ_jb (eX14_offer i1 i2 i6 i7 a8 hS) (fun h36 r9 => ?_)
        exact (eX14_offerAll_j284_212 i1 i2 i3 i4 i5 i6 i7 a8 r9)
      · exact (eX14_offerAll_j284_212 i1 i2 i3 i4 i5 i6 i7 a8 hS)
noncomputable def gX14_offerAll_l212 (i1 : Int) (i2 : Int) (i3 : Int) (i4 : Int) (i5 : Int) (i6 : Int) (i7 : Int) (a8 : Int) (h : AH) : Option (AH) := jit (gX14_offerAll_b212 i1 i2 i3 i4 i5 i6 i7) (a8, h)
theorem eX14_offerAll_l212 (i1 : Int) (i2 : Int) (i3 : Int) (i4 : Int) (i5 : Int) (i6 : Int) (i7 : Int) (a8 : Int) {h : AH} (hS : Sh S h) : EQ (fX14_offerAll_l212 454 i1 i2 i3 i4 i5 i6 i7 a8 h) (gX14_offerAll_l212 i1 i2 i3 i4 i5 i6 i7 a8 h) (fun r => Sh S r) := EQ_jit (I := (fun r => Sh S r.2)) (fun s hs => eX14_offerAll_b212 i1 i2 i3 i4 i5 i6 i7 hs) hS
noncomputable def gX14_offerAll_b112 (i1 : Int) (i2 : Int) (i3 : Int) (i4 : Int) (i5 : Int) (i6 : Int) (s : Int × AH) : Option ((Int × AH) ⊕ (AH)) := jt2 s fun a7 h => jg (isX16 (h 454 38)) <| if h (h 454 38) 20 ≤ a7 then (some (.inr h)) else (jb (gX14_isOf a7 i4 1 h) fun v20 => if v20 = 0 then (gX14_offerAll_j290_112 i1 i2 i3 i4 i5 i6 a7 h) else (jg (jI i6 122) <| jg (jI a7 122) <| if w32 (h (h 454 38 + 14) i6 + h (h 454 38 + 14) a7) ≤ i3 then (if i5 = 2 then (if w32 (h (h 454 38 + 14) i6 + h (h 454 38 + 14) a7) = i3 then (jb (gX14_offer i1 i2 i6 a7 (-1) h) fun h26 => gX14_offerAll_j290_112 i1 i2 i3 i4 i5 i6 a7 h26) else (gX14_offerAll_j290_112 i1 i2 i3 i4 i5 i6 a7 h)) else (jb (gX14_offerAll_l212 i1 i2 i3 i4 i5 i6 a7 0 h) fun o27 => gX14_offerAll_j290_112 i1 i2 i3 i4 i5 i6 a7 o27)) else (gX14_offerAll_j290_112 i1 i2 i3 i4 i5 i6 a7 h)))
theorem eX14_offerAll_b112 (i1 : Int) (i2 : Int) (i3 : Int) (i4 : Int) (i5 : Int) (i6 : Int) {s : Int × AH} (hS : (fun r => Sh S r.2) s) : EQ (fX14_offerAll_b112 454 i1 i2 i3 i4 i5 i6 s) (gX14_offerAll_b112 i1 i2 i3 i4 i5 i6 s) (Sum.elim (fun r => Sh S r.2) (fun r => Sh S r)) := by
  unfold fX14_offerAll_b112 gX14_offerAll_b112
  obtain ⟨a7, h⟩ := s
  refine EQ_jt2 ?_
  replace hS : Sh S h := hS
  refine EQ_jgd (show h 454 (-2) = 15 from by rw [k_454 hS]) ?_
  refine EQ_jg ⟨fun x0 => (ik_X16 hS).mp x0, fun x0 => (ik_X16 hS).mpr x0⟩ (fun g1 => ?_)
  refine EQ_if Iff.rfl (fun c2 => ?_) (fun c2 => ?_)
  · exact EQ_some hS
  · refine EQ_jgd (show h 454 (-2) = 15 from by rw [k_454 hS]) ?_
    refine EQ_jb (eX14_isOf a7 i4 1 hS) (fun v20 r3 => ?_)
    refine EQ_if Iff.rfl (fun c4 => ?_) (fun c4 => ?_)
    · exact (eX14_offerAll_j290_112 i1 i2 i3 i4 i5 i6 a7 hS)
    · refine EQ_jgd (show h 454 (-2) = 15 from by rw [k_454 hS]) ?_
      refine EQ_jgd (show h (h 454 38) (-2) = 17 from by rw [kd_X16 hS g1]) ?_
      refine EQ_jg ⟨fun ⟨_, x0⟩ => (show jI i6 (h (h (h 454 38) 23) (-1)) ↔ jI i6 122 from by rw [ft_X16_23 hS g1, la_X16_23 hS g1]).mp x0, fun x0 => ⟨(show h (h (h 454 38) 23) (-2) = 101 from by rw [ft_X16_23 hS g1, ka_X16_23 hS g1]), (show jI i6 (h (h (h 454 38) 23) (-1)) ↔ jI i6 122 from by rw [ft_X16_23 hS g1, la_X16_23 hS g1]).mpr x0⟩⟩ (fun g5 => ?_)
      refine EQ_jgd (show h 454 (-2) = 15 from by rw [k_454 hS]) ?_
      refine EQ_jgd (show h (h 454 38) (-2) = 17 from by rw [kd_X16 hS g1]) ?_
      refine EQ_jg ⟨fun ⟨_, x0⟩ => (show jI a7 (h (h (h 454 38) 23) (-1)) ↔ jI a7 122 from by rw [ft_X16_23 hS g1, la_X16_23 hS g1]).mp x0, fun x0 => ⟨(show h (h (h 454 38) 23) (-2) = 101 from by rw [ft_X16_23 hS g1, ka_X16_23 hS g1]), (show jI a7 (h (h (h 454 38) 23) (-1)) ↔ jI a7 122 from by rw [ft_X16_23 hS g1, la_X16_23 hS g1]).mpr x0⟩⟩ (fun g6 => ?_)
      refine EQ_if (show w32 (h (h (h 454 38) 23) i6 + h (h (h 454 38) 23) a7) ≤ i3 ↔ w32 (h (h 454 38 + 14) i6 + h (h 454 38 + 14) a7) ≤ i3 from by rw [ft_X16_23 hS g1]) (fun c7 => ?_) (fun c7 => ?_)
      · refine EQ_if Iff.rfl (fun c8 => ?_) (fun c8 => ?_)
        · refine EQ_jgd (show h 454 (-2) = 15 from by rw [k_454 hS]) ?_
          refine EQ_jgd (show h (h 454 38) (-2) = 17 from by rw [kd_X16 hS g1]) ?_
          refine EQ_jgd ⟨(show h (h (h 454 38) 23) (-2) = 101 from by rw [ft_X16_23 hS g1, ka_X16_23 hS g1]), ((show jI i6 (h (h (h 454 38) 23) (-1)) ↔ jI i6 122 from by rw [ft_X16_23 hS g1, la_X16_23 hS g1]).mpr g5)⟩ ?_
          refine EQ_jgd (show h 454 (-2) = 15 from by rw [k_454 hS]) ?_
          refine EQ_jgd (show h (h 454 38) (-2) = 17 from by rw [kd_X16 hS g1]) ?_
          refine EQ_jgd ⟨(show h (h (h 454 38) 23) (-2) = 101 from by rw [ft_X16_23 hS g1, ka_X16_23 hS g1]), ((show jI a7 (h (h (h 454 38) 23) (-1)) ↔ jI a7 122 from by rw [ft_X16_23 hS g1, la_X16_23 hS g1]).mpr g6)⟩ ?_
          refine EQ_if (show w32 (h (h (h 454 38) 23) i6 + h (h (h 454 38) 23) a7) = i3 ↔ w32 (h (h 454 38 + 14) i6 + h (h 454 38 + 14) a7) = i3 from by rw [ft_X16_23 hS g1]) (fun c9 => ?_) (fun c9 => ?_)
          · refine EQ_jgd (show h 454 (-2) = 15 from by rw [k_454 hS]) ?_
            refine EQ_jb (eX14_offer i1 i2 i6 a7 (-1) hS) (fun h26 r10 => ?_)
            exact (eX14_offerAll_j290_112 i1 i2 i3 i4 i5 i6 a7 r10)
          · exact (eX14_offerAll_j290_112 i1 i2 i3 i4 i5 i6 a7 hS)
        · refine EQ_jb (eX14_offerAll_l212 i1 i2 i3 i4 i5 i6 a7 0 hS) (fun o27 r11 => ?_)
          exact (eX14_offerAll_j290_112 i1 i2 i3 i4 i5 i6 a7 r11)
      · exact (eX14_offerAll_j290_112 i1 i2 i3 i4 i5 i6 a7 hS)
noncomputable def gX14_offerAll_l112 (i1 : Int) (i2 : Int) (i3 : Int) (i4 : Int) (i5 : Int) (i6 : Int) (a7 : Int) (h : AH) : Option (AH) := jit (gX14_offerAll_b112 i1 i2 i3 i4 i5 i6) (a7, h)
theorem eX14_offerAll_l112 (i1 : Int) (i2 : Int) (i3 : Int) (i4 : Int) (i5 : Int) (i6 : Int) (a7 : Int) {h : AH} (hS : Sh S h) : EQ (fX14_offerAll_l112 454 i1 i2 i3 i4 i5 i6 a7 h) (gX14_offerAll_l112 i1 i2 i3 i4 i5 i6 a7 h) (fun r => Sh S r) := EQ_jit (I := (fun r => Sh S r.2)) (fun s hs => eX14_offerAll_b112 i1 i2 i3 i4 i5 i6 hs) hS
noncomputable def gX14_offerAll_b35 (i1 : Int) (i2 : Int) (i3 : Int) (i4 : Int) (i5 : Int) (s : Int × AH) : Option ((Int × AH) ⊕ (AH)) := jt2 s fun a6 h => jg (isX16 (h 454 38)) <| if h (h 454 38) 20 ≤ a6 then (some (.inr h)) else (jb (gX14_isOf a6 i4 0 h) fun v8 => if v8 = 0 then (gX14_offerAll_j296_35 i1 i2 i3 i4 i5 a6 h) else (jg (jI a6 122) <| if h (h 454 38 + 14) a6 ≤ i3 then (if i5 = 1 then (if h (h 454 38 + 14) a6 = i3 then (jb (gX14_offer i1 i2 a6 (-1) (-1) h) fun h14 => gX14_offerAll_j296_35 i1 i2 i3 i4 i5 a6 h14) else (gX14_offerAll_j296_35 i1 i2 i3 i4 i5 a6 h)) else (jb (gX14_offerAll_l112 i1 i2 i3 i4 i5 a6 0 h) fun o15 => gX14_offerAll_j296_35 i1 i2 i3 i4 i5 a6 o15)) else (gX14_offerAll_j296_35 i1 i2 i3 i4 i5 a6 h)))
theorem eX14_offerAll_b35 (i1 : Int) (i2 : Int) (i3 : Int) (i4 : Int) (i5 : Int) {s : Int × AH} (hS : (fun r => Sh S r.2) s) : EQ (fX14_offerAll_b35 454 i1 i2 i3 i4 i5 s) (gX14_offerAll_b35 i1 i2 i3 i4 i5 s) (Sum.elim (fun r => Sh S r.2) (fun r => Sh S r)) := by
  unfold fX14_offerAll_b35 gX14_offerAll_b35
  obtain ⟨a6, h⟩ := s
  refine EQ_jt2 ?_
  replace hS : Sh S h := hS
  refine EQ_jgd (show h 454 (-2) = 15 from by rw [k_454 hS]) ?_
  refine EQ_jg ⟨fun x0 => (ik_X16 hS).mp x0, fun x0 => (ik_X16 hS).mpr x0⟩ (fun g1 => ?_)
  refine EQ_if Iff.rfl (fun c2 => ?_) (fun c2 => ?_)
  · exact EQ_some hS
  · refine EQ_jgd (show h 454 (-2) = 15 from by rw [k_454 hS]) ?_
    refine EQ_jb (eX14_isOf a6 i4 0 hS) (fun v8 r3 => ?_)
    refine EQ_if Iff.rfl (fun c4 => ?_) (fun c4 => ?_)
    · exact (eX14_offerAll_j296_35 i1 i2 i3 i4 i5 a6 hS)
    · refine EQ_jgd (show h 454 (-2) = 15 from by rw [k_454 hS]) ?_
      refine EQ_jgd (show h (h 454 38) (-2) = 17 from by rw [kd_X16 hS g1]) ?_
      refine EQ_jg ⟨fun ⟨_, x0⟩ => (show jI a6 (h (h (h 454 38) 23) (-1)) ↔ jI a6 122 from by rw [ft_X16_23 hS g1, la_X16_23 hS g1]).mp x0, fun x0 => ⟨(show h (h (h 454 38) 23) (-2) = 101 from by rw [ft_X16_23 hS g1, ka_X16_23 hS g1]), (show jI a6 (h (h (h 454 38) 23) (-1)) ↔ jI a6 122 from by rw [ft_X16_23 hS g1, la_X16_23 hS g1]).mpr x0⟩⟩ (fun g5 => ?_)
      refine EQ_if (show h (h (h 454 38) 23) a6 ≤ i3 ↔ h (h 454 38 + 14) a6 ≤ i3 from by rw [ft_X16_23 hS g1]) (fun c6 => ?_) (fun c6 => ?_)
      · refine EQ_if Iff.rfl (fun c7 => ?_) (fun c7 => ?_)
        · refine EQ_jgd (show h 454 (-2) = 15 from by rw [k_454 hS]) ?_
          refine EQ_jgd (show h (h 454 38) (-2) = 17 from by rw [kd_X16 hS g1]) ?_
          refine EQ_jgd ⟨(show h (h (h 454 38) 23) (-2) = 101 from by rw [ft_X16_23 hS g1, ka_X16_23 hS g1]), ((show jI a6 (h (h (h 454 38) 23) (-1)) ↔ jI a6 122 from by rw [ft_X16_23 hS g1, la_X16_23 hS g1]).mpr g5)⟩ ?_
          refine EQ_if (show h (h (h 454 38) 23) a6 = i3 ↔ h (h 454 38 + 14) a6 = i3 from by rw [ft_X16_23 hS g1]) (fun c8 => ?_) (fun c8 => ?_)
          · refine EQ_jgd (show h 454 (-2) = 15 from by rw [k_454 hS]) ?_
            refine EQ_jb (eX14_offer i1 i2 a6 (-1) (-1) hS) (fun h14 r9 => ?_)
            exact (eX14_offerAll_j296_35 i1 i2 i3 i4 i5 a6 r9)
          · exact (eX14_offerAll_j296_35 i1 i2 i3 i4 i5 a6 hS)
        · refine EQ_jb (eX14_offerAll_l112 i1 i2 i3 i4 i5 a6 0 hS) (fun o15 r10 => ?_)
          exact (eX14_offerAll_j296_35 i1 i2 i3 i4 i5 a6 r10)
      · exact (eX14_offerAll_j296_35 i1 i2 i3 i4 i5 a6 hS)
noncomputable def gX14_offerAll_l35 (i1 : Int) (i2 : Int) (i3 : Int) (i4 : Int) (i5 : Int) (a6 : Int) (h : AH) : Option (AH) := jit (gX14_offerAll_b35 i1 i2 i3 i4 i5) (a6, h)
theorem eX14_offerAll_l35 (i1 : Int) (i2 : Int) (i3 : Int) (i4 : Int) (i5 : Int) (a6 : Int) {h : AH} (hS : Sh S h) : EQ (fX14_offerAll_l35 454 i1 i2 i3 i4 i5 a6 h) (gX14_offerAll_l35 i1 i2 i3 i4 i5 a6 h) (fun r => Sh S r) := EQ_jit (I := (fun r => Sh S r.2)) (fun s hs => eX14_offerAll_b35 i1 i2 i3 i4 i5 hs) hS
noncomputable def gX14_offerAll (a1 : Int) (a2 : Int) (h : AH) : Option (AH) := jg (isX16 (h 454 38)) <| jg (jI a1 13) <| jl (w32 (a2 - h (h 454 38 + 4) a1)) fun x1 => jl (h (h 454 38 + 3) a1) fun x2 => jg (jI x2 36) <| jl (h 456 x2) fun x3 => jb (gX14_offerAll_l35 a1 a2 x1 x2 x3 0 h) fun o4 => some o4
theorem eX14_offerAll (a1 : Int) (a2 : Int) {h : AH} (hS : Sh S h) : EQ (fX14_offerAll 454 a1 a2 h) (gX14_offerAll a1 a2 h) (fun r => Sh S r) := by
  unfold fX14_offerAll gX14_offerAll
  refine EQ_jgd (show h 454 (-2) = 15 from by rw [k_454 hS]) ?_
  refine EQ_jg ⟨fun x0 => (ik_X16 hS).mp x0, fun x0 => (ik_X16 hS).mpr x0⟩ (fun g1 => ?_)
  refine EQ_jg ⟨fun ⟨_, x0⟩ => (show jI a1 (h (h (h 454 38) 8) (-1)) ↔ jI a1 13 from by rw [ft_X16_8 hS g1, la_X16_8 hS g1]).mp x0, fun x0 => ⟨(show h (h (h 454 38) 8) (-2) = 101 from by rw [ft_X16_8 hS g1, ka_X16_8 hS g1]), (show jI a1 (h (h (h 454 38) 8) (-1)) ↔ jI a1 13 from by rw [ft_X16_8 hS g1, la_X16_8 hS g1]).mpr x0⟩⟩ (fun g2 => ?_)
  refine EQ_jl (by rw [ft_X16_8 hS g1]) (fun x1 ex1 => ?_)
  clear ex1
  refine EQ_jgd (show h 454 (-2) = 15 from by rw [k_454 hS]) ?_
  refine EQ_jgd (show h (h 454 38) (-2) = 17 from by rw [kd_X16 hS g1]) ?_
  refine EQ_jgd ⟨(show h (h (h 454 38) 7) (-2) = 101 from by rw [ft_X16_7 hS g1, ka_X16_7 hS g1]), ((show jI a1 (h (h (h 454 38) 7) (-1)) ↔ jI a1 13 from by rw [ft_X16_7 hS g1, la_X16_7 hS g1]).mpr g2)⟩ ?_
  refine EQ_jl (by rw [ft_X16_7 hS g1]) (fun x2 ex2 => ?_)
  clear ex2
  refine EQ_jgd (show h 454 (-2) = 15 from by rw [k_454 hS]) ?_
  refine EQ_jg ⟨fun ⟨_, x0⟩ => (show jI x2 (h (h 454 1) (-1)) ↔ jI x2 36 from by rw [r_454_1 hS, l_456 hS]).mp x0, fun x0 => ⟨(show h (h 454 1) (-2) = 101 from by rw [r_454_1 hS, k_456 hS]), (show jI x2 (h (h 454 1) (-1)) ↔ jI x2 36 from by rw [r_454_1 hS, l_456 hS]).mpr x0⟩⟩ (fun g3 => ?_)
  refine EQ_jl (by rw [r_454_1 hS]) (fun x3 ex3 => ?_)
  clear ex3
  refine EQ_jb (eX14_offerAll_l35 a1 a2 x1 x2 x3 0 hS) (fun o4 r4 => ?_)
  exact EQ_some r4
noncomputable def gX14_findMore_j217_98 (a1 : Int) (a2 : Int) (h : AH) : Option ((Int × AH) ⊕ (AH)) := jl (w32 (a2 + 1)) fun x28 => some (.inl (x28, h))
theorem eX14_findMore_j217_98 (a1 : Int) (a2 : Int) {h : AH} (hS : Sh S h) : EQ (fX14_findMore_j217_98 454 a1 a2 h) (gX14_findMore_j217_98 a1 a2 h) (Sum.elim (fun r => Sh S r.2) (fun r => Sh S r)) := by
  unfold fX14_findMore_j217_98 gX14_findMore_j217_98
  refine EQ_jl rfl (fun x28 ex28 => ?_)
  clear ex28
  exact EQ_some hS
noncomputable def gX14_findMore_j186_98 (a1 : Int) (a2 : Int) (h : AH) : Option ((Int × AH) ⊕ (AH)) := jg (isX16 (h 454 38)) <| jg (jI a2 13) <| if h (h 454 38 + 3) a2 < 0 then (gX14_findMore_j217_98 a1 a2 h) else (if a1 ≤ h (h 454 38 + 4) a2 then (gX14_findMore_j217_98 a1 a2 h) else (jb (gX14_offerAll a2 a1 h) fun h27 => gX14_findMore_j217_98 a1 a2 h27))
theorem eX14_findMore_j186_98 (a1 : Int) (a2 : Int) {h : AH} (hS : Sh S h) : EQ (fX14_findMore_j186_98 454 a1 a2 h) (gX14_findMore_j186_98 a1 a2 h) (Sum.elim (fun r => Sh S r.2) (fun r => Sh S r)) := by
  unfold fX14_findMore_j186_98 gX14_findMore_j186_98
  refine EQ_jgd (show h 454 (-2) = 15 from by rw [k_454 hS]) ?_
  refine EQ_jg ⟨fun x0 => (ik_X16 hS).mp x0, fun x0 => (ik_X16 hS).mpr x0⟩ (fun g1 => ?_)
  refine EQ_jg ⟨fun ⟨_, x0⟩ => (show jI a2 (h (h (h 454 38) 7) (-1)) ↔ jI a2 13 from by rw [ft_X16_7 hS g1, la_X16_7 hS g1]).mp x0, fun x0 => ⟨(show h (h (h 454 38) 7) (-2) = 101 from by rw [ft_X16_7 hS g1, ka_X16_7 hS g1]), (show jI a2 (h (h (h 454 38) 7) (-1)) ↔ jI a2 13 from by rw [ft_X16_7 hS g1, la_X16_7 hS g1]).mpr x0⟩⟩ (fun g2 => ?_)
  refine EQ_if (show h (h (h 454 38) 7) a2 < 0 ↔ h (h 454 38 + 3) a2 < 0 from by rw [ft_X16_7 hS g1]) (fun c3 => ?_) (fun c3 => ?_)
  · exact (eX14_findMore_j217_98 a1 a2 hS)
  · refine EQ_jgd (show h 454 (-2) = 15 from by rw [k_454 hS]) ?_
    refine EQ_jgd (show h (h 454 38) (-2) = 17 from by rw [kd_X16 hS g1]) ?_
    refine EQ_jgd ⟨(show h (h (h 454 38) 8) (-2) = 101 from by rw [ft_X16_8 hS g1, ka_X16_8 hS g1]), ((show jI a2 (h (h (h 454 38) 8) (-1)) ↔ jI a2 13 from by rw [ft_X16_8 hS g1, la_X16_8 hS g1]).mpr g2)⟩ ?_
    refine EQ_if (show a1 ≤ h (h (h 454 38) 8) a2 ↔ a1 ≤ h (h 454 38 + 4) a2 from by rw [ft_X16_8 hS g1]) (fun c4 => ?_) (fun c4 => ?_)
    · exact (eX14_findMore_j217_98 a1 a2 hS)
    · refine EQ_jgd (show h 454 (-2) = 15 from by rw [k_454 hS]) ?_
      refine EQ_jb (eX14_offerAll a2 a1 hS) (fun h27 r5 => ?_)
      exact (eX14_findMore_j217_98 a1 a2 r5)
noncomputable def gX14_findMore_b98 (i1 : Int) (s : Int × AH) : Option ((Int × AH) ⊕ (AH)) := jt2 s fun a2 h => jg (isX16 (h 454 38)) <| if h (h 454 38) 5 ≤ a2 then (some (.inr h)) else (jg (jI a2 13) <| if h (h 454 38 + 2) a2 < 0 then (gX14_findMore_j186_98 i1 a2 h) else (if h (h 454 38 + 4) a2 = i1 then (jl (jst h 454 17 (w32 (h (h 454 38) 1 + h 454 40))) fun h15 => jg (isX16 (h15 454 38)) <| jb2 (gX14_copyNode (h15 (h15 454 38 + 2) a2) h15) fun v17 h18 => jg (jI v17 8800) <| jl (jst h18 469 v17 i1) fun h19 => jb (gX14_function v17 (-1) 0 h19) fun h21 => jb (gX14_accept v17 h21) fun h23 => gX14_findMore_j217_98 i1 a2 h23) else (gX14_findMore_j186_98 i1 a2 h)))
theorem eX14_findMore_b98 (i1 : Int) {s : Int × AH} (hS : (fun r => Sh S r.2) s) : EQ (fX14_findMore_b98 454 i1 s) (gX14_findMore_b98 i1 s) (Sum.elim (fun r => Sh S r.2) (fun r => Sh S r)) := by
  unfold fX14_findMore_b98 gX14_findMore_b98
  obtain ⟨a2, h⟩ := s
  refine EQ_jt2 ?_
  replace hS : Sh S h := hS
  refine EQ_jgd (show h 454 (-2) = 15 from by rw [k_454 hS]) ?_
  refine EQ_jg ⟨fun x0 => (ik_X16 hS).mp x0, fun x0 => (ik_X16 hS).mpr x0⟩ (fun g1 => ?_)
  refine EQ_if Iff.rfl (fun c2 => ?_) (fun c2 => ?_)
  · exact EQ_some hS
  · refine EQ_jgd (show h 454 (-2) = 15 from by rw [k_454 hS]) ?_
    refine EQ_jgd (show h (h 454 38) (-2) = 17 from by rw [kd_X16 hS g1]) ?_
    refine EQ_jg ⟨fun ⟨_, x0⟩ => (show jI a2 (h (h (h 454 38) 6) (-1)) ↔ jI a2 13 from by rw [ft_X16_6 hS g1, la_X16_6 hS g1]).mp x0, fun x0 => ⟨(show h (h (h 454 38) 6) (-2) = 101 from by rw [ft_X16_6 hS g1, ka_X16_6 hS g1]), (show jI a2 (h (h (h 454 38) 6) (-1)) ↔ jI a2 13 from by rw [ft_X16_6 hS g1, la_X16_6 hS g1]).mpr x0⟩⟩ (fun g3 => ?_)
    refine EQ_if (show h (h (h 454 38) 6) a2 < 0 ↔ h (h 454 38 + 2) a2 < 0 from by rw [ft_X16_6 hS g1]) (fun c4 => ?_) (fun c4 => ?_)
    · exact (eX14_findMore_j186_98 i1 a2 hS)
    · refine EQ_jgd (show h 454 (-2) = 15 from by rw [k_454 hS]) ?_
      refine EQ_jgd (show h (h 454 38) (-2) = 17 from by rw [kd_X16 hS g1]) ?_
      refine EQ_jgd ⟨(show h (h (h 454 38) 8) (-2) = 101 from by rw [ft_X16_8 hS g1, ka_X16_8 hS g1]), ((show jI a2 (h (h (h 454 38) 8) (-1)) ↔ jI a2 13 from by rw [ft_X16_8 hS g1, la_X16_8 hS g1]).mpr g3)⟩ ?_
      refine EQ_if (show h (h (h 454 38) 8) a2 = i1 ↔ h (h 454 38 + 4) a2 = i1 from by rw [ft_X16_8 hS g1]) (fun c5 => ?_) (fun c5 => ?_)
      · refine EQ_jgd (show h 454 (-2) = 15 from by rw [k_454 hS]) ?_
        refine EQ_jgd (show h (h 454 38) (-2) = 17 from by rw [kd_X16 hS g1]) ?_
        refine EQ_jgd (show h 454 (-2) = 15 from by rw [k_454 hS]) ?_
        refine EQ_jgd ⟨(show h 454 (-2) = 15 from by rw [k_454 hS]), (show (200 : Int) ≤ 454 from (by decide))⟩ ?_
        refine EQ_jl rfl (fun h15 eh15 => ?_)
        have s6 := Sh_of eh15 (Sh_sto hS (a := 454) (i := 17) (by decide +kernel))
        clear eh15
        refine EQ_jgd (show h15 454 (-2) = 15 from by rw [k_454 s6]) ?_
        refine EQ_jg ⟨fun x0 => (ik_X16 s6).mp x0, fun x0 => (ik_X16 s6).mpr x0⟩ (fun g7 => ?_)
        refine EQ_jgd ⟨(show h15 (h15 (h15 454 38) 6) (-2) = 101 from by rw [ft_X16_6 s6 g7, ka_X16_6 s6 g7]), ((show jI a2 (h15 (h15 (h15 454 38) 6) (-1)) ↔ jI a2 13 from by rw [ft_X16_6 s6 g7, la_X16_6 s6 g7]).mpr g3)⟩ ?_
        refine EQ_jgd (show h15 454 (-2) = 15 from by rw [k_454 s6]) ?_
        refine EQ_jb2 (by rw [ft_X16_6 s6 g7]; exact eX14_copyNode (h15 (h15 454 38 + 2) a2) s6) (fun v17 h18 r8 => ?_)
        replace r8 : Sh S h18 := r8
        refine EQ_jgd (show h18 454 (-2) = 15 from by rw [k_454 r8]) ?_
        refine EQ_jg ⟨fun ⟨_, _, x0⟩ => (show jI v17 (h18 (h18 454 15) (-1)) ↔ jI v17 8800 from by rw [r_454_15 r8, l_469 r8]).mp x0, fun x0 => ⟨(show h18 (h18 454 15) (-2) = 101 from by rw [r_454_15 r8, k_469 r8]), (show 200 ≤ h18 454 15 from by rw [r_454_15 r8]; exact (by decide)), (show jI v17 (h18 (h18 454 15) (-1)) ↔ jI v17 8800 from by rw [r_454_15 r8, l_469 r8]).mpr x0⟩⟩ (fun g9 => ?_)
        refine EQ_jl (by rw [r_454_15 r8]) (fun h19 eh19 => ?_)
        have s10 := Sh_of eh19 (Sh_sta r8 (by decide +kernel) (jI_nn g9) (fun e => absurd ((k_469 r8).symm.trans e) (by decide)))
        clear eh19
        refine EQ_jgd (show h19 454 (-2) = 15 from by rw [k_454 s10]) ?_
        refine EQ_jb (eX14_function v17 (-1) 0 s10) (fun h21 r11 => ?_)
        refine EQ_jgd (show h21 454 (-2) = 15 from by rw [k_454 r11]) ?_
        refine EQ_jb (eX14_accept v17 r11) (fun h23 r12 => ?_)
        exact (eX14_findMore_j217_98 i1 a2 r12)
      · exact (eX14_findMore_j186_98 i1 a2 hS)
noncomputable def gX14_findMore_l98 (i1 : Int) (a2 : Int) (h : AH) : Option (AH) := jit (gX14_findMore_b98 i1) (a2, h)
theorem eX14_findMore_l98 (i1 : Int) (a2 : Int) {h : AH} (hS : Sh S h) : EQ (fX14_findMore_l98 454 i1 a2 h) (gX14_findMore_l98 i1 a2 h) (fun r => Sh S r) := EQ_jit (I := (fun r => Sh S r.2)) (fun s hs => eX14_findMore_b98 i1 hs) hS
noncomputable def gX14_findMore_j96 (a1 : Int) (h : AH) : Option (AH) := jb (gX14_findMore_l98 a1 0 h) fun o5 => jg (isX16 (o5 454 38) ∧ 200 ≤ o5 454 38) <| jl (jst o5 (o5 454 38) 20 (o5 454 40)) fun h7 => jg (isX16 (h7 454 38) ∧ 200 ≤ h7 454 38) <| jl (jst h7 (h7 454 38) 26 a1) fun h8 => jg (isX16 (h8 454 38)) <| if h8 (h8 454 38) 20 ≤ 120 then (some h8) else (if h8 (h8 454 38) 27 = 100 then (jl (jst h8 (h8 454 38) 27 a1) fun h11 => some h11) else (some h8))
theorem eX14_findMore_j96 (a1 : Int) {h : AH} (hS : Sh S h) : EQ (fX14_findMore_j96 454 a1 h) (gX14_findMore_j96 a1 h) (fun r => Sh S r) := by
  unfold fX14_findMore_j96 gX14_findMore_j96
  refine EQ_jb (eX14_findMore_l98 a1 0 hS) (fun o5 r1 => ?_)
  refine EQ_jgd (show o5 454 (-2) = 15 from by rw [k_454 r1]) ?_
  refine EQ_jgd (show o5 454 (-2) = 15 from by rw [k_454 r1]) ?_
  refine EQ_jg ⟨fun ⟨x0, x1⟩ => ⟨(ik_X16 r1).mp x0, x1⟩, fun ⟨x0, x1⟩ => ⟨(ik_X16 r1).mpr x0, x1⟩⟩ (fun g2 => ?_)
  refine EQ_jl rfl (fun h7 eh7 => ?_)
  have s3 := Sh_of eh7 (Sh_sto_X16_20 r1 g2.1)
  clear eh7
  refine EQ_jgd (show h7 454 (-2) = 15 from by rw [k_454 s3]) ?_
  refine EQ_jg ⟨fun ⟨x0, x1⟩ => ⟨(ik_X16 s3).mp x0, x1⟩, fun ⟨x0, x1⟩ => ⟨(ik_X16 s3).mpr x0, x1⟩⟩ (fun g4 => ?_)
  refine EQ_jl rfl (fun h8 eh8 => ?_)
  have s5 := Sh_of eh8 (Sh_sto_X16_26 s3 g4.1)
  clear eh8
  refine EQ_jgd (show h8 454 (-2) = 15 from by rw [k_454 s5]) ?_
  refine EQ_jg ⟨fun x0 => (ik_X16 s5).mp x0, fun x0 => (ik_X16 s5).mpr x0⟩ (fun g6 => ?_)
  refine EQ_if Iff.rfl (fun c7 => ?_) (fun c7 => ?_)
  · exact EQ_some s5
  · refine EQ_jgd (show h8 454 (-2) = 15 from by rw [k_454 s5]) ?_
    refine EQ_jgd (show h8 (h8 454 38) (-2) = 17 from by rw [kd_X16 s5 g6]) ?_
    refine EQ_if Iff.rfl (fun c8 => ?_) (fun c8 => ?_)
    · refine EQ_jgd (show h8 454 (-2) = 15 from by rw [k_454 s5]) ?_
      refine EQ_jgd ⟨(show h8 (h8 454 38) (-2) = 17 from by rw [kd_X16 s5 g6]), (show 200 ≤ h8 454 38 from ge_X16 g6)⟩ ?_
      refine EQ_jl rfl (fun h11 eh11 => ?_)
      have s9 := Sh_of eh11 (Sh_sto_X16_27 s5 g6)
      clear eh11
      exact EQ_some s9
    · exact EQ_some s5
noncomputable def gX14_findMore_b23 (i1 : Int) (s : Int × AH) : Option ((Int × AH) ⊕ (AH)) := jt2 s fun a2 h => jg (isX16 (h 454 38)) <| if h (h 454 38) 3 ≤ a2 then (some (.inr h)) else (if i1 = 1 then (jl (jst h 454 17 (w32 (h (h 454 38) 1 + h 454 40))) fun h31 => jg (isX16 (h31 454 38)) <| jg (jI a2 3) <| jb2 (gX14_node 1 (h31 (h31 454 38 + 1) a2) a2 h31) fun v33 h34 => jg (jI v33 8800) <| jl (jst h34 469 v33 1) fun h35 => jb (gX14_function v33 (-1) 0 h35) fun h37 => jb (gX14_accept v33 h37) fun h39 => jl (w32 (a2 + 1)) fun x40 => some (.inl (x40, h39))) else (some (.inr h)))
theorem eX14_findMore_b23 (i1 : Int) {s : Int × AH} (hS : (fun r => Sh S r.2) s) : EQ (fX14_findMore_b23 454 i1 s) (gX14_findMore_b23 i1 s) (Sum.elim (fun r => Sh S r.2) (fun r => Sh S r)) := by
  unfold fX14_findMore_b23 gX14_findMore_b23
  obtain ⟨a2, h⟩ := s
  refine EQ_jt2 ?_
  replace hS : Sh S h := hS
  refine EQ_jgd (show h 454 (-2) = 15 from by rw [k_454 hS]) ?_
  refine EQ_jg ⟨fun x0 => (ik_X16 hS).mp x0, fun x0 => (ik_X16 hS).mpr x0⟩ (fun g1 => ?_)
  refine EQ_if Iff.rfl (fun c2 => ?_) (fun c2 => ?_)
  · exact EQ_some hS
  · refine EQ_if Iff.rfl (fun c3 => ?_) (fun c3 => ?_)
    · refine EQ_jgd (show h 454 (-2) = 15 from by rw [k_454 hS]) ?_
      refine EQ_jgd (show h (h 454 38) (-2) = 17 from by rw [kd_X16 hS g1]) ?_
      refine EQ_jgd (show h 454 (-2) = 15 from by rw [k_454 hS]) ?_
      refine EQ_jgd ⟨(show h 454 (-2) = 15 from by rw [k_454 hS]), (show (200 : Int) ≤ 454 from (by decide))⟩ ?_
      refine EQ_jl rfl (fun h31 eh31 => ?_)
      have s4 := Sh_of eh31 (Sh_sto hS (a := 454) (i := 17) (by decide +kernel))
      clear eh31
      refine EQ_jgd (show h31 454 (-2) = 15 from by rw [k_454 s4]) ?_
      refine EQ_jg ⟨fun x0 => (ik_X16 s4).mp x0, fun x0 => (ik_X16 s4).mpr x0⟩ (fun g5 => ?_)
      refine EQ_jg ⟨fun ⟨_, x0⟩ => (show jI a2 (h31 (h31 (h31 454 38) 2) (-1)) ↔ jI a2 3 from by rw [ft_X16_2 s4 g5, la_X16_2 s4 g5]).mp x0, fun x0 => ⟨(show h31 (h31 (h31 454 38) 2) (-2) = 101 from by rw [ft_X16_2 s4 g5, ka_X16_2 s4 g5]), (show jI a2 (h31 (h31 (h31 454 38) 2) (-1)) ↔ jI a2 3 from by rw [ft_X16_2 s4 g5, la_X16_2 s4 g5]).mpr x0⟩⟩ (fun g6 => ?_)
      refine EQ_jgd (show h31 454 (-2) = 15 from by rw [k_454 s4]) ?_
      refine EQ_jb2 (by rw [ft_X16_2 s4 g5]; exact eX14_node 1 (h31 (h31 454 38 + 1) a2) a2 s4) (fun v33 h34 r7 => ?_)
      replace r7 : Sh S h34 := r7
      refine EQ_jgd (show h34 454 (-2) = 15 from by rw [k_454 r7]) ?_
      refine EQ_jg ⟨fun ⟨_, _, x0⟩ => (show jI v33 (h34 (h34 454 15) (-1)) ↔ jI v33 8800 from by rw [r_454_15 r7, l_469 r7]).mp x0, fun x0 => ⟨(show h34 (h34 454 15) (-2) = 101 from by rw [r_454_15 r7, k_469 r7]), (show 200 ≤ h34 454 15 from by rw [r_454_15 r7]; exact (by decide)), (show jI v33 (h34 (h34 454 15) (-1)) ↔ jI v33 8800 from by rw [r_454_15 r7, l_469 r7]).mpr x0⟩⟩ (fun g8 => ?_)
      refine EQ_jl (by rw [r_454_15 r7]) (fun h35 eh35 => ?_)
      have s9 := Sh_of eh35 (Sh_sta r7 (by decide +kernel) (jI_nn g8) (fun e => absurd ((k_469 r7).symm.trans e) (by decide)))
      clear eh35
      refine EQ_jgd (show h35 454 (-2) = 15 from by rw [k_454 s9]) ?_
      refine EQ_jb (eX14_function v33 (-1) 0 s9) (fun h37 r10 => ?_)
      refine EQ_jgd (show h37 454 (-2) = 15 from by rw [k_454 r10]) ?_
      refine EQ_jb (eX14_accept v33 r10) (fun h39 r11 => ?_)
      refine EQ_jl rfl (fun x40 ex40 => ?_)
      clear ex40
      exact EQ_some r11
    · exact EQ_some hS
noncomputable def gX14_findMore_l23 (i1 : Int) (a2 : Int) (h : AH) : Option (AH) := jit (gX14_findMore_b23 i1) (a2, h)
theorem eX14_findMore_l23 (i1 : Int) (a2 : Int) {h : AH} (hS : Sh S h) : EQ (fX14_findMore_l23 454 i1 a2 h) (gX14_findMore_l23 i1 a2 h) (fun r => Sh S r) := EQ_jit (I := (fun r => Sh S r.2)) (fun s hs => eX14_findMore_b23 i1 hs) hS
noncomputable def gX14_findMore (h : AH) : Option (AH) := jg (isX16 (h 454 38)) <| jl (w32 (h (h 454 38) 26 + 1)) fun x1 => jl (jst h 454 40 (h (h 454 38) 20)) fun h2 => jb (gX14_findMore_l23 x1 0 h2) fun o3 => gX14_findMore_j96 x1 o3
theorem eX14_findMore {h : AH} (hS : Sh S h) : EQ (fX14_findMore 454 h) (gX14_findMore h) (fun r => Sh S r) := by
  unfold fX14_findMore gX14_findMore
  refine EQ_jgd (show h 454 (-2) = 15 from by rw [k_454 hS]) ?_
  refine EQ_jg ⟨fun x0 => (ik_X16 hS).mp x0, fun x0 => (ik_X16 hS).mpr x0⟩ (fun g1 => ?_)
  refine EQ_jl rfl (fun x1 ex1 => ?_)
  clear ex1
  refine EQ_jgd (show h 454 (-2) = 15 from by rw [k_454 hS]) ?_
  refine EQ_jgd (show h (h 454 38) (-2) = 17 from by rw [kd_X16 hS g1]) ?_
  refine EQ_jgd ⟨(show h 454 (-2) = 15 from by rw [k_454 hS]), (show (200 : Int) ≤ 454 from (by decide))⟩ ?_
  refine EQ_jl rfl (fun h2 eh2 => ?_)
  have s2 := Sh_of eh2 (Sh_sto hS (a := 454) (i := 40) (by decide +kernel))
  clear eh2
  refine EQ_jb (eX14_findMore_l23 x1 0 s2) (fun o3 r3 => ?_)
  exact (eX14_findMore_j96 x1 r3)
noncomputable def gX14_reaches_j30 (a1 : Int) (h : AH) : Option (Int × AH) := jg (isX16 (h 454 38)) <| if h (h 454 38) 27 ≤ a1 then (some (0, h)) else (some (1, h))
theorem eX14_reaches_j30 (a1 : Int) {h : AH} (hS : Sh S h) : EQ (fX14_reaches_j30 454 a1 h) (gX14_reaches_j30 a1 h) (fun r => Sh S r.2) := by
  unfold fX14_reaches_j30 gX14_reaches_j30
  refine EQ_jgd (show h 454 (-2) = 15 from by rw [k_454 hS]) ?_
  refine EQ_jg ⟨fun x0 => (ik_X16 hS).mp x0, fun x0 => (ik_X16 hS).mpr x0⟩ (fun g1 => ?_)
  refine EQ_if Iff.rfl (fun c2 => ?_) (fun c2 => ?_)
  · exact EQ_some hS
  · exact EQ_some hS
noncomputable def gX14_reaches_b0 (i1 : Int) (h : AH) : Option ((AH) ⊕ (AH)) := jg (isX16 (h 454 38)) <| if i1 ≤ h (h 454 38) 26 then (some (.inr h)) else (if h (h 454 38) 27 = 100 then (jb (gX14_findMore h) fun h7 => some (.inl h7)) else (some (.inr h)))
theorem eX14_reaches_b0 (i1 : Int) {h : AH} (hS : Sh S h) : EQ (fX14_reaches_b0 454 i1 h) (gX14_reaches_b0 i1 h) (Sum.elim (fun r => Sh S r) (fun r => Sh S r)) := by
  unfold fX14_reaches_b0 gX14_reaches_b0
  refine EQ_jgd (show h 454 (-2) = 15 from by rw [k_454 hS]) ?_
  refine EQ_jg ⟨fun x0 => (ik_X16 hS).mp x0, fun x0 => (ik_X16 hS).mpr x0⟩ (fun g1 => ?_)
  refine EQ_if Iff.rfl (fun c2 => ?_) (fun c2 => ?_)
  · exact EQ_some hS
  · refine EQ_jgd (show h 454 (-2) = 15 from by rw [k_454 hS]) ?_
    refine EQ_jgd (show h (h 454 38) (-2) = 17 from by rw [kd_X16 hS g1]) ?_
    refine EQ_if Iff.rfl (fun c3 => ?_) (fun c3 => ?_)
    · refine EQ_jgd (show h 454 (-2) = 15 from by rw [k_454 hS]) ?_
      refine EQ_jb (eX14_findMore hS) (fun h7 r4 => ?_)
      exact EQ_some r4
    · exact EQ_some hS
noncomputable def gX14_reaches_l0 (i1 : Int) (h : AH) : Option (AH) := jit (gX14_reaches_b0 i1) h
theorem eX14_reaches_l0 (i1 : Int) {h : AH} (hS : Sh S h) : EQ (fX14_reaches_l0 454 i1 h) (gX14_reaches_l0 i1 h) (fun r => Sh S r) := EQ_jit (I := (fun r => Sh S r)) (fun s hs => eX14_reaches_b0 i1 hs) hS
noncomputable def gX14_reaches (a1 : Int) (h : AH) : Option (Int × AH) := jb (gX14_reaches_l0 a1 h) fun o1 => gX14_reaches_j30 a1 o1
theorem eX14_reaches (a1 : Int) {h : AH} (hS : Sh S h) : EQ (fX14_reaches 454 a1 h) (gX14_reaches a1 h) (fun r => Sh S r.2) := by
  unfold fX14_reaches gX14_reaches
  refine EQ_jb (eX14_reaches_l0 a1 hS) (fun o1 r1 => ?_)
  exact (eX14_reaches_j30 a1 r1)
noncomputable def gX14_refusal (a1 : Int) (h : AH) : Option (Int × AH) := jb2 (gX14_isDown h) fun v2 h3 => if v2 = 0 then (jb (gX14_in a1 1 12) fun v6 => if v6 = 0 then (some ((-1), h3)) else (if h3 454 38 = 0 then (some ((-2), h3)) else (jb2 (gX14_reaches a1 h3) fun v10 h11 => if v10 = 0 then (some ((-3), h11)) else (some (0, h11))))) else (some ((-5), h3))
theorem eX14_refusal (a1 : Int) {h : AH} (hS : Sh S h) : EQ (fX14_refusal 454 a1 h) (gX14_refusal a1 h) (fun r => Sh S r.2) := by
  unfold fX14_refusal gX14_refusal
  refine EQ_jgd (show h 454 (-2) = 15 from by rw [k_454 hS]) ?_
  refine EQ_jb2 (eX14_isDown hS) (fun v2 h3 r1 => ?_)
  replace r1 : Sh S h3 := r1
  refine EQ_if Iff.rfl (fun c2 => ?_) (fun c2 => ?_)
  · refine EQ_jb (eX14_in a1 1 12) (fun v6 r3 => ?_)
    refine EQ_if Iff.rfl (fun c4 => ?_) (fun c4 => ?_)
    · exact EQ_some r1
    · refine EQ_jgd (show h3 454 (-2) = 15 from by rw [k_454 r1]) ?_
      refine EQ_if Iff.rfl (fun c5 => ?_) (fun c5 => ?_)
      · exact EQ_some r1
      · refine EQ_jgd (show h3 454 (-2) = 15 from by rw [k_454 r1]) ?_
        refine EQ_jb2 (eX14_reaches a1 r1) (fun v10 h11 r6 => ?_)
        replace r6 : Sh S h11 := r6
        refine EQ_if Iff.rfl (fun c7 => ?_) (fun c7 => ?_)
        · exact EQ_some r6
        · exact EQ_some r6
  · exact EQ_some r1
noncomputable def gX14_upTo_b2 (i1 : Int) (h : AH) (a2 : Int) : Option ((Int) ⊕ (Int)) := jg (isX16 (h 454 38)) <| if h (h 454 38) 20 ≤ a2 then (some (.inr a2)) else (jg (jI a2 122) <| if i1 < h (h 454 38 + 14) a2 then (some (.inr a2)) else (jl (w32 (a2 + 1)) fun x5 => some (.inl x5)))
theorem eX14_upTo_b2 (i1 : Int) (a2 : Int) {h : AH} (hS : Sh S h) : EQ (fX14_upTo_b2 454 i1 h a2) (gX14_upTo_b2 i1 h a2) (Sum.elim (fun _ => True) (fun _ => True)) := by
  unfold fX14_upTo_b2 gX14_upTo_b2
  refine EQ_jgd (show h 454 (-2) = 15 from by rw [k_454 hS]) ?_
  refine EQ_jg ⟨fun x0 => (ik_X16 hS).mp x0, fun x0 => (ik_X16 hS).mpr x0⟩ (fun g1 => ?_)
  refine EQ_if Iff.rfl (fun c2 => ?_) (fun c2 => ?_)
  · exact EQ_some trivial
  · refine EQ_jgd (show h 454 (-2) = 15 from by rw [k_454 hS]) ?_
    refine EQ_jgd (show h (h 454 38) (-2) = 17 from by rw [kd_X16 hS g1]) ?_
    refine EQ_jg ⟨fun ⟨_, x0⟩ => (show jI a2 (h (h (h 454 38) 23) (-1)) ↔ jI a2 122 from by rw [ft_X16_23 hS g1, la_X16_23 hS g1]).mp x0, fun x0 => ⟨(show h (h (h 454 38) 23) (-2) = 101 from by rw [ft_X16_23 hS g1, ka_X16_23 hS g1]), (show jI a2 (h (h (h 454 38) 23) (-1)) ↔ jI a2 122 from by rw [ft_X16_23 hS g1, la_X16_23 hS g1]).mpr x0⟩⟩ (fun g3 => ?_)
    refine EQ_if (show i1 < h (h (h 454 38) 23) a2 ↔ i1 < h (h 454 38 + 14) a2 from by rw [ft_X16_23 hS g1]) (fun c4 => ?_) (fun c4 => ?_)
    · exact EQ_some trivial
    · refine EQ_jl rfl (fun x5 ex5 => ?_)
      clear ex5
      exact EQ_some trivial
noncomputable def gX14_upTo_l2 (i1 : Int) (a2 : Int) (h : AH) : Option (Int) := jit (gX14_upTo_b2 i1 h) a2
theorem eX14_upTo_l2 (i1 : Int) (a2 : Int) {h : AH} (hS : Sh S h) : EQ (fX14_upTo_l2 454 i1 a2 h) (gX14_upTo_l2 i1 a2 h) (fun _ => True) := EQ_jit (I := (fun _ => True)) (fun s _ => eX14_upTo_b2 i1 s hS) trivial
noncomputable def gX14_upTo (a1 : Int) (h : AH) : Option (Int) := jb (gX14_upTo_l2 a1 0 h) fun o1 => some o1
theorem eX14_upTo (a1 : Int) {h : AH} (hS : Sh S h) : EQ (fX14_upTo 454 a1 h) (gX14_upTo a1 h) (fun _ => True) := by
  unfold fX14_upTo gX14_upTo
  refine EQ_jb (eX14_upTo_l2 a1 0 hS) (fun o1 r1 => ?_)
  exact EQ_some trivial
noncomputable def gX14_pointOf_b16 (i1 : Int) (h : AH) (s : Int × Int) : Option ((Int × Int) ⊕ (Int)) := jt2 s fun a2 a3 => jg (isX16 (h 454 38)) <| if h (h 454 38) 3 ≤ a3 then (some (.inr a2)) else (jg (jI a3 3) <| jb (gX14_base (h (h 454 38 + 1) a3)) fun v6 => jg (jI (w32 (w32 (3 * i1) + a3)) 36) <| jl (w32 (w32 (a2 * v6) + h (h 454 38 + 5) (w32 (w32 (3 * i1) + a3)))) fun x7 => jl (w32 (a3 + 1)) fun x8 => some (.inl (x7, x8)))
theorem eX14_pointOf_b16 (i1 : Int) (s : Int × Int) {h : AH} (hS : Sh S h) : EQ (fX14_pointOf_b16 454 i1 h s) (gX14_pointOf_b16 i1 h s) (Sum.elim (fun _ => True) (fun _ => True)) := by
  unfold fX14_pointOf_b16 gX14_pointOf_b16
  obtain ⟨a2, a3⟩ := s
  refine EQ_jt2 ?_
  refine EQ_jgd (show h 454 (-2) = 15 from by rw [k_454 hS]) ?_
  refine EQ_jg ⟨fun x0 => (ik_X16 hS).mp x0, fun x0 => (ik_X16 hS).mpr x0⟩ (fun g1 => ?_)
  refine EQ_if Iff.rfl (fun c2 => ?_) (fun c2 => ?_)
  · exact EQ_some trivial
  · refine EQ_jgd (show h 454 (-2) = 15 from by rw [k_454 hS]) ?_
    refine EQ_jgd (show h (h 454 38) (-2) = 17 from by rw [kd_X16 hS g1]) ?_
    refine EQ_jg ⟨fun ⟨_, x0⟩ => (show jI a3 (h (h (h 454 38) 2) (-1)) ↔ jI a3 3 from by rw [ft_X16_2 hS g1, la_X16_2 hS g1]).mp x0, fun x0 => ⟨(show h (h (h 454 38) 2) (-2) = 101 from by rw [ft_X16_2 hS g1, ka_X16_2 hS g1]), (show jI a3 (h (h (h 454 38) 2) (-1)) ↔ jI a3 3 from by rw [ft_X16_2 hS g1, la_X16_2 hS g1]).mpr x0⟩⟩ (fun g3 => ?_)
    refine EQ_jb (by rw [ft_X16_2 hS g1]; exact eX14_base (h (h 454 38 + 1) a3)) (fun v6 r4 => ?_)
    refine EQ_jgd (show h 454 (-2) = 15 from by rw [k_454 hS]) ?_
    refine EQ_jgd (show h (h 454 38) (-2) = 17 from by rw [kd_X16 hS g1]) ?_
    refine EQ_jg ⟨fun ⟨_, x0⟩ => (show jI (w32 (w32 (3 * i1) + a3)) (h (h (h 454 38) 10) (-1)) ↔ jI (w32 (w32 (3 * i1) + a3)) 36 from by rw [ft_X16_10 hS g1, la_X16_10 hS g1]).mp x0, fun x0 => ⟨(show h (h (h 454 38) 10) (-2) = 101 from by rw [ft_X16_10 hS g1, ka_X16_10 hS g1]), (show jI (w32 (w32 (3 * i1) + a3)) (h (h (h 454 38) 10) (-1)) ↔ jI (w32 (w32 (3 * i1) + a3)) 36 from by rw [ft_X16_10 hS g1, la_X16_10 hS g1]).mpr x0⟩⟩ (fun g5 => ?_)
    refine EQ_jl (by rw [ft_X16_10 hS g1]) (fun x7 ex7 => ?_)
    clear ex7
    refine EQ_jl rfl (fun x8 ex8 => ?_)
    clear ex8
    exact EQ_some trivial
noncomputable def gX14_pointOf_l16 (i1 : Int) (a2 : Int) (a3 : Int) (h : AH) : Option (Int) := jit (gX14_pointOf_b16 i1 h) (a2, a3)
theorem eX14_pointOf_l16 (i1 : Int) (a2 : Int) (a3 : Int) {h : AH} (hS : Sh S h) : EQ (fX14_pointOf_l16 454 i1 a2 a3 h) (gX14_pointOf_l16 i1 a2 a3 h) (fun _ => True) := EQ_jit (I := (fun _ => True)) (fun s _ => eX14_pointOf_b16 i1 s hS) trivial
noncomputable def gX14_pointOf (a1 : Int) (h : AH) : Option (Int) := jg (isX16 (h 454 38)) <| if h (h 454 38) 17 = 0 then (some a1) else (jb (gX14_pointOf_l16 a1 0 0 h) fun o2 => some o2)
theorem eX14_pointOf (a1 : Int) {h : AH} (hS : Sh S h) : EQ (fX14_pointOf 454 a1 h) (gX14_pointOf a1 h) (fun _ => True) := by
  unfold fX14_pointOf gX14_pointOf
  refine EQ_jgd (show h 454 (-2) = 15 from by rw [k_454 hS]) ?_
  refine EQ_jg ⟨fun x0 => (ik_X16 hS).mp x0, fun x0 => (ik_X16 hS).mpr x0⟩ (fun g1 => ?_)
  refine EQ_if Iff.rfl (fun c2 => ?_) (fun c2 => ?_)
  · exact EQ_some trivial
  · refine EQ_jb (eX14_pointOf_l16 a1 0 0 hS) (fun o2 r3 => ?_)
    exact EQ_some trivial
noncomputable def gX14_meets_2_b15 (i2 : Int) (h : AH) (a3 : Int) : Option ((Int) ⊕ ((Unit) ⊕ (Unit))) := jg (isX16 (h 454 38)) <| if h (h 454 38) 9 ≤ a3 then (some (.inr (.inr ()))) else (jb (gX14_pointOf a3 h) fun v13 => jg (h i2 (-2) = 101 ∧ jI v13 (h i2 (-1))) <| jg (jI a3 12) <| if h i2 v13 = h (h 454 38 + 6) a3 then (jl (w32 (a3 + 1)) fun x15 => some (.inl x15)) else (some (.inr (.inl ()))))
theorem eX14_meets_2_b15 (i2 : Int) (a3 : Int) {h : AH} (hS : Sh S h) : EQ (fX14_meets_2_b15 454 i2 h a3) (gX14_meets_2_b15 i2 h a3) (Sum.elim (fun _ => True) (Sum.elim (fun _ => True) (fun _ => True))) := by
  unfold fX14_meets_2_b15 gX14_meets_2_b15
  refine EQ_jgd (show h 454 (-2) = 15 from by rw [k_454 hS]) ?_
  refine EQ_jg ⟨fun x0 => (ik_X16 hS).mp x0, fun x0 => (ik_X16 hS).mpr x0⟩ (fun g1 => ?_)
  refine EQ_if Iff.rfl (fun c2 => ?_) (fun c2 => ?_)
  · exact EQ_some trivial
  · refine EQ_jgd (show h 454 (-2) = 15 from by rw [k_454 hS]) ?_
    refine EQ_jb (eX14_pointOf a3 hS) (fun v13 r3 => ?_)
    refine EQ_jg Iff.rfl (fun g4 => ?_)
    refine EQ_jgd (show h 454 (-2) = 15 from by rw [k_454 hS]) ?_
    refine EQ_jgd (show h (h 454 38) (-2) = 17 from by rw [kd_X16 hS g1]) ?_
    refine EQ_jg ⟨fun ⟨_, x0⟩ => (show jI a3 (h (h (h 454 38) 11) (-1)) ↔ jI a3 12 from by rw [ft_X16_11 hS g1, la_X16_11 hS g1]).mp x0, fun x0 => ⟨(show h (h (h 454 38) 11) (-2) = 101 from by rw [ft_X16_11 hS g1, ka_X16_11 hS g1]), (show jI a3 (h (h (h 454 38) 11) (-1)) ↔ jI a3 12 from by rw [ft_X16_11 hS g1, la_X16_11 hS g1]).mpr x0⟩⟩ (fun g5 => ?_)
    refine EQ_if (show h i2 v13 = h (h (h 454 38) 11) a3 ↔ h i2 v13 = h (h 454 38 + 6) a3 from by rw [ft_X16_11 hS g1]) (fun c6 => ?_) (fun c6 => ?_)
    · refine EQ_jl rfl (fun x15 ex15 => ?_)
      clear ex15
      exact EQ_some trivial
    · exact EQ_some trivial
noncomputable def gX14_meets_2_l15 (i2 : Int) (a3 : Int) (h : AH) : Option ((Unit) ⊕ (Unit)) := jit (gX14_meets_2_b15 i2 h) a3
theorem eX14_meets_2_l15 (i2 : Int) (a3 : Int) {h : AH} (hS : Sh S h) : EQ (fX14_meets_2_l15 454 i2 a3 h) (gX14_meets_2_l15 i2 a3 h) (Sum.elim (fun _ => True) (fun _ => True)) := EQ_jit (I := (fun _ => True)) (fun s _ => eX14_meets_2_b15 i2 s hS) trivial
noncomputable def gX14_meets_2_b102 (i2 : Int) (i3 : Int) (i4 : Int) (i5 : Int) (s : Int × AH) : Option ((Int × AH) ⊕ ((AH) ⊕ (AH))) := jt2 s fun a6 h => if i5 ≤ a6 then (some (.inr (.inr h))) else (jg (isX16 (h 454 38)) <| jb (gX14_valueAt (h 454 38 + 8) (w32 (2 * i3)) i4 a6 0 h) fun v27 => jb (gX14_valueAt (h 454 38 + 8) (w32 (2 * i3)) i4 a6 1 h) fun v29 => jg (jI i3 4) <| jb2 (gX14_answer (h (h 454 38 + 9) i3) v27 v29 0 i2 h) fun v31 h32 => jg (isX16 (h32 454 38)) <| jb2 (gX14_answer (h32 (h32 454 38 + 10) i3) v27 v29 0 i2 h32) fun v34 h35 => if v31 = v34 then (jl (w32 (a6 + 1)) fun x37 => some (.inl (x37, h35))) else (some (.inr (.inl h35))))
theorem eX14_meets_2_b102 (i2 : Int) (i3 : Int) (i4 : Int) (i5 : Int) {s : Int × AH} (hS : (fun r => Sh S r.2) s) : EQ (fX14_meets_2_b102 454 i2 i3 i4 i5 s) (gX14_meets_2_b102 i2 i3 i4 i5 s) (Sum.elim (fun r => Sh S r.2) (Sum.elim (fun r => Sh S r) (fun r => Sh S r))) := by
  unfold fX14_meets_2_b102 gX14_meets_2_b102
  obtain ⟨a6, h⟩ := s
  refine EQ_jt2 ?_
  replace hS : Sh S h := hS
  refine EQ_if Iff.rfl (fun c1 => ?_) (fun c1 => ?_)
  · exact EQ_some hS
  · refine EQ_jgd (show h 454 (-2) = 15 from by rw [k_454 hS]) ?_
    refine EQ_jg ⟨fun x0 => (ik_X16 hS).mp x0, fun x0 => (ik_X16 hS).mpr x0⟩ (fun g2 => ?_)
    refine EQ_jb (by rw [ft_X16_14 hS g2]; exact eX14_valueAt (h 454 38 + 8) (w32 (2 * i3)) i4 a6 0 hS) (fun v27 r3 => ?_)
    refine EQ_jgd (show h 454 (-2) = 15 from by rw [k_454 hS]) ?_
    refine EQ_jgd (show h (h 454 38) (-2) = 17 from by rw [kd_X16 hS g2]) ?_
    refine EQ_jb (by rw [ft_X16_14 hS g2]; exact eX14_valueAt (h 454 38 + 8) (w32 (2 * i3)) i4 a6 1 hS) (fun v29 r4 => ?_)
    refine EQ_jgd (show h 454 (-2) = 15 from by rw [k_454 hS]) ?_
    refine EQ_jgd (show h (h 454 38) (-2) = 17 from by rw [kd_X16 hS g2]) ?_
    refine EQ_jg ⟨fun ⟨_, x0⟩ => (show jI i3 (h (h (h 454 38) 15) (-1)) ↔ jI i3 4 from by rw [ft_X16_15 hS g2, la_X16_15 hS g2]).mp x0, fun x0 => ⟨(show h (h (h 454 38) 15) (-2) = 101 from by rw [ft_X16_15 hS g2, ka_X16_15 hS g2]), (show jI i3 (h (h (h 454 38) 15) (-1)) ↔ jI i3 4 from by rw [ft_X16_15 hS g2, la_X16_15 hS g2]).mpr x0⟩⟩ (fun g5 => ?_)
    refine EQ_jgd (show h 454 (-2) = 15 from by rw [k_454 hS]) ?_
    refine EQ_jb2 (by rw [ft_X16_15 hS g2]; exact eX14_answer (h (h 454 38 + 9) i3) v27 v29 0 i2 hS) (fun v31 h32 r6 => ?_)
    replace r6 : Sh S h32 := r6
    refine EQ_jgd (show h32 454 (-2) = 15 from by rw [k_454 r6]) ?_
    refine EQ_jg ⟨fun x0 => (ik_X16 r6).mp x0, fun x0 => (ik_X16 r6).mpr x0⟩ (fun g7 => ?_)
    refine EQ_jgd ⟨(show h32 (h32 (h32 454 38) 16) (-2) = 101 from by rw [ft_X16_16 r6 g7, ka_X16_16 r6 g7]), ((show jI i3 (h32 (h32 (h32 454 38) 16) (-1)) ↔ jI i3 4 from by rw [ft_X16_16 r6 g7, la_X16_16 r6 g7]).mpr g5)⟩ ?_
    refine EQ_jgd (show h32 454 (-2) = 15 from by rw [k_454 r6]) ?_
    refine EQ_jb2 (by rw [ft_X16_16 r6 g7]; exact eX14_answer (h32 (h32 454 38 + 10) i3) v27 v29 0 i2 r6) (fun v34 h35 r8 => ?_)
    replace r8 : Sh S h35 := r8
    refine EQ_if Iff.rfl (fun c9 => ?_) (fun c9 => ?_)
    · refine EQ_jl rfl (fun x37 ex37 => ?_)
      clear ex37
      exact EQ_some r8
    · exact EQ_some r8
