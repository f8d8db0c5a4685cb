set_option maxRecDepth 100000
variable {S : Nat → Nat}
noncomputable def gJ6_checkLength (a0 : Int) (a1 : Int) (h : AH) : Option (AH) := if a0 ≤ a1 then (some h) else none
theorem eJ6_checkLength (a0 : Int) (a1 : Int) {h : AH} (hS : Sh S h) : EQ (fJ6_checkLength a0 a1 h) (gJ6_checkLength a0 a1 h) (fun r => Sh S r) := by
  unfold fJ6_checkLength gJ6_checkLength
  refine EQ_if Iff.rfl (fun c1 => ?_) (fun c1 => ?_)
  · exact EQ_some hS
  · exact EQ_none
theorem wJ6_checkLength (a0 : Int) (a1 : Int) {h : AH} (hS : Sh S h) : EQ (fJ6_checkLength a0 a1 h) (fJ6_checkLength a0 a1 h) (fun r => Sh S r) := EQ_self (eJ6_checkLength a0 a1 hS)
noncomputable def gJ6_copyOfRangeByte (a0 : Int) (a1 : Int) (a2 : Int) (h : AH) : Option (Int × AH) := jb (fJ6_checkLength a1 a2 h) fun h2 => jl (w32 (a2 - a1)) fun x3 => jg (jroom h2 x3) <| jl (jnew h2 103 x3) fun h4 => jl (h2 0 0) fun x5 => jg (101 ≤ h4 a0 (-2) ∧ h4 a0 (-2) ≤ 107) <| jg (jcpG h4 103 a0 a1 x5 0 (min (w32 (h4 a0 (-1) - a1)) x3)) <| jl (jcpy h4 a0 a1 x5 0 (min (w32 (h4 a0 (-1) - a1)) x3)) fun h6 => some (x5, h6)
theorem eJ6_copyOfRangeByte (a0 : Int) (a1 : Int) (a2 : Int) {h : AH} (hS : Sh S h) : EQ (fJ6_copyOfRangeByte a0 a1 a2 h) (gJ6_copyOfRangeByte a0 a1 a2 h) (fun r => Sh S r.2) := by
  unfold fJ6_copyOfRangeByte gJ6_copyOfRangeByte
  refine EQ_jb (wJ6_checkLength a1 a2 hS) (fun h2 r1 => ?_)
  refine EQ_jl rfl (fun x3 ex3 => ?_)
  clear ex3
  refine EQ_jg Iff.rfl (fun g2 => ?_)
  refine EQ_jl rfl (fun h4 eh4 => ?_)
  have s3 := Sh_of eh4 (Sh_new r1 (by decide))
  clear eh4
  refine EQ_jl rfl (fun x5 ex5 => ?_)
  clear ex5
  refine EQ_jg Iff.rfl (fun g4 => ?_)
  refine EQ_jg Iff.rfl (fun g5 => ?_)
  refine EQ_jl rfl (fun h6 eh6 => ?_)
  have s6 := Sh_of eh6 (Sh_cpyk (by decide) s3 g5)
  clear eh6
  exact EQ_some s6
theorem wJ6_copyOfRangeByte (a0 : Int) (a1 : Int) (a2 : Int) {h : AH} (hS : Sh S h) : EQ (fJ6_copyOfRangeByte a0 a1 a2 h) (fJ6_copyOfRangeByte a0 a1 a2 h) (fun r => Sh S r.2) := EQ_self (eJ6_copyOfRangeByte a0 a1 a2 hS)
noncomputable def gJ6_copyOfRange_j10 (a0 : Int) (a1 : Int) (a2 : Int) (h : AH) : Option (Int × AH) := jb2 (fJ6_copyOfRangeByte a0 a1 a2 h) fun v4 h5 => some (v4, h5)
theorem eJ6_copyOfRange_j10 (a0 : Int) (a1 : Int) (a2 : Int) {h : AH} (hS : Sh S h) : EQ (fJ6_copyOfRange_j10 a0 a1 a2 h) (gJ6_copyOfRange_j10 a0 a1 a2 h) (fun r => Sh S r.2) := by
  unfold fJ6_copyOfRange_j10 gJ6_copyOfRange_j10
  refine EQ_jb2 (wJ6_copyOfRangeByte a0 a1 a2 hS) (fun v4 h5 r1 => ?_)
  replace r1 : Sh S h5 := r1
  exact EQ_some r1
theorem wJ6_copyOfRange_j10 (a0 : Int) (a1 : Int) (a2 : Int) {h : AH} (hS : Sh S h) : EQ (fJ6_copyOfRange_j10 a0 a1 a2 h) (fJ6_copyOfRange_j10 a0 a1 a2 h) (fun r => Sh S r.2) := EQ_self (eJ6_copyOfRange_j10 a0 a1 a2 hS)
noncomputable def gJ6_copyOfRange (a0 : Int) (a1 : Int) (a2 : Int) (h : AH) : Option (Int × AH) := if a1 = 0 then (jg (101 ≤ h a0 (-2) ∧ h a0 (-2) ≤ 107) <| if a2 = h a0 (-1) then none else (fJ6_copyOfRange_j10 a0 a1 a2 h)) else (fJ6_copyOfRange_j10 a0 a1 a2 h)
theorem eJ6_copyOfRange (a0 : Int) (a1 : Int) (a2 : Int) {h : AH} (hS : Sh S h) : EQ (fJ6_copyOfRange a0 a1 a2 h) (gJ6_copyOfRange a0 a1 a2 h) (fun r => Sh S r.2) := by
  unfold fJ6_copyOfRange gJ6_copyOfRange
  refine EQ_if Iff.rfl (fun c1 => ?_) (fun c1 => ?_)
  · refine EQ_jg Iff.rfl (fun g2 => ?_)
    refine EQ_if Iff.rfl (fun c3 => ?_) (fun c3 => ?_)
    · exact EQ_none
    · exact (wJ6_copyOfRange_j10 a0 a1 a2 hS)
  · exact (wJ6_copyOfRange_j10 a0 a1 a2 hS)
theorem wJ6_copyOfRange (a0 : Int) (a1 : Int) (a2 : Int) {h : AH} (hS : Sh S h) : EQ (fJ6_copyOfRange a0 a1 a2 h) (fJ6_copyOfRange a0 a1 a2 h) (fun r => Sh S r.2) := EQ_self (eJ6_copyOfRange a0 a1 a2 hS)
noncomputable def gJ0_init_4_j69 (a0 : Int) (a1 : Int) (a2 : Int) (a3 : Int) (a4 : Int) (h : AH) : Option (AH) := jl (jshl a2 8) fun x13 => none
theorem eJ0_init_4_j69 (a0 : Int) (a1 : Int) (a2 : Int) (a3 : Int) (a4 : Int) {h : AH} (hS : Sh S h) : EQ (fJ0_init_4_j69 a0 a1 a2 a3 a4 h) (gJ0_init_4_j69 a0 a1 a2 a3 a4 h) (fun r => Sh S r) := by
  unfold fJ0_init_4_j69 gJ0_init_4_j69
  refine EQ_jl rfl (fun x13 ex13 => ?_)
  clear ex13
  exact EQ_none
theorem wJ0_init_4_j69 (a0 : Int) (a1 : Int) (a2 : Int) (a3 : Int) (a4 : Int) {h : AH} (hS : Sh S h) : EQ (fJ0_init_4_j69 a0 a1 a2 a3 a4 h) (fJ0_init_4_j69 a0 a1 a2 a3 a4 h) (fun r => Sh S r) := EQ_self (eJ0_init_4_j69 a0 a1 a2 a3 a4 hS)
noncomputable def gJ0_init_4 (a0 : Int) (a1 : Int) (a2 : Int) (a3 : Int) (a4 : Int) (h : AH) : Option (AH) := jg (¬ a0 = 0) <| jg (101 ≤ h a1 (-2) ∧ h a1 (-2) ≤ 107) <| jb (fJ0_checkBoundsOffCount a3 a4 (h a1 (-1)) h) fun v2 => if a4 = 0 then (jg (h a0 (-2) = 1 ∧ 200 ≤ a0) <| jl (jst h a0 0 (h 10 0)) fun h4 => jg (h4 a0 (-2) = 1 ∧ jBy (h4 10 1)) <| jl (jst h4 a0 1 (h4 10 1)) fun h5 => some h5) else (if (1 : Int) = 0 then (fJ0_init_4_j69 a0 a1 a2 a3 a4 h) else (if ji2b a2 = 0 then (jb2 (fJ6_copyOfRange a1 a3 (w32 (a3 + a4)) h) fun v9 h10 => jg (h10 a0 (-2) = 1 ∧ 200 ≤ a0) <| jl (jst h10 a0 0 v9) fun h11 => jg (h11 a0 (-2) = 1) <| jl (jst h11 a0 1 0) fun h12 => some h12) else (fJ0_init_4_j69 a0 a1 a2 a3 a4 h)))
theorem eJ0_init_4 (a0 : Int) (a1 : Int) (a2 : Int) (a3 : Int) (a4 : Int) {h : AH} (hS : Sh S h) : EQ (fJ0_init_4 a0 a1 a2 a3 a4 h) (gJ0_init_4 a0 a1 a2 a3 a4 h) (fun r => Sh S r) := by
  unfold fJ0_init_4 gJ0_init_4
  refine EQ_jg Iff.rfl (fun g1 => ?_)
  refine EQ_jg Iff.rfl (fun g2 => ?_)
  refine EQ_jb (EQ_refl) (fun v2 r3 => ?_)
  refine EQ_if Iff.rfl (fun c4 => ?_) (fun c4 => ?_)
  · refine EQ_jgd (show h 10 (-2) = 1 from by rw [k_10 hS]) ?_
    refine EQ_jgd (show h 10 (-2) = 1 from by rw [k_10 hS]) ?_
    refine EQ_jg Iff.rfl (fun g5 => ?_)
    refine EQ_jl rfl (fun h4 eh4 => ?_)
    have s6 := Sh_of eh4 (Sh_str hS (g5.1) (g5.2) (by decide))
    clear eh4
    refine EQ_jgd (show h4 10 (-2) = 1 from by rw [k_10 s6]) ?_
    refine EQ_jgd (show h4 10 (-2) = 1 from by rw [k_10 s6]) ?_
    refine EQ_jg ⟨fun ⟨x0, _, x1⟩ => ⟨x0, x1⟩, fun ⟨x0, x1⟩ => ⟨x0, (g5.2), x1⟩⟩ (fun g7 => ?_)
    refine EQ_jl rfl (fun h5 eh5 => ?_)
    have s8 := Sh_of eh5 (Sh_str s6 (g7.1) (g5.2) (by decide))
    clear eh5
    exact EQ_some s8
  · refine EQ_if Iff.rfl (fun c9 => ?_) (fun c9 => ?_)
    · exact (wJ0_init_4_j69 a0 a1 a2 a3 a4 hS)
    · refine EQ_if Iff.rfl (fun c10 => ?_) (fun c10 => ?_)
      · refine EQ_jb2 (wJ6_copyOfRange a1 a3 (w32 (a3 + a4)) hS) (fun v9 h10 r11 => ?_)
        replace r11 : Sh S h10 := r11
        refine EQ_jg Iff.rfl (fun g12 => ?_)
        refine EQ_jl rfl (fun h11 eh11 => ?_)
        have s13 := Sh_of eh11 (Sh_str r11 (g12.1) (g12.2) (by decide))
        clear eh11
        refine EQ_jg ⟨fun ⟨x0, _, _⟩ => x0, fun x0 => ⟨x0, (g12.2), (show jBy 0 from by unfold jBy; decide)⟩⟩ (fun g14 => ?_)
        refine EQ_jl rfl (fun h12 eh12 => ?_)
        have s15 := Sh_of eh12 (Sh_str s13 g14 (g12.2) (by decide))
        clear eh12
        exact EQ_some s15
      · exact (wJ0_init_4_j69 a0 a1 a2 a3 a4 hS)
theorem wJ0_init_4 (a0 : Int) (a1 : Int) (a2 : Int) (a3 : Int) (a4 : Int) {h : AH} (hS : Sh S h) : EQ (fJ0_init_4 a0 a1 a2 a3 a4 h) (fJ0_init_4 a0 a1 a2 a3 a4 h) (fun r => Sh S r) := EQ_self (eJ0_init_4 a0 a1 a2 a3 a4 hS)
noncomputable def gJ6_fill_b5 (i0 : Int) (i1 : Int) (i3 : Int) (s : Int × AH) : Option ((Int × AH) ⊕ (AH)) := jt2 s fun a2 h => if i3 ≤ a2 then (some (.inr h)) else (jg (h i0 (-2) = 103 ∧ 200 ≤ i0 ∧ jI a2 (h i0 (-1))) <| jl (jst h i0 a2 (ji2b i1)) fun h5 => jl (w32 (a2 + 1)) fun x6 => some (.inl (x6, h5)))
theorem eJ6_fill_b5 (i0 : Int) (i1 : Int) (i3 : Int) {s : Int × AH} (hS : (fun r => Sh S r.2) s) : EQ (fJ6_fill_b5 i0 i1 i3 s) (gJ6_fill_b5 i0 i1 i3 s) (Sum.elim (fun r => Sh S r.2) (fun r => Sh S r)) := by
  unfold fJ6_fill_b5 gJ6_fill_b5
  obtain ⟨a2, h⟩ := s
  refine EQ_jt2 ?_
  replace hS : Sh S h := hS
  refine EQ_if Iff.rfl (fun c1 => ?_) (fun c1 => ?_)
  · exact EQ_some hS
  · refine EQ_jg Iff.rfl (fun g2 => ?_)
    refine EQ_jl rfl (fun h5 eh5 => ?_)
    have s3 := Sh_of eh5 (Sh_stk hS (Or.inr (Or.inr (Or.inl (g2.1)))) (g2.2.1) (jI_nn (g2.2.2)) (fun _ => jBy_b _))
    clear eh5
    refine EQ_jl rfl (fun x6 ex6 => ?_)
    clear ex6
    exact EQ_some s3
noncomputable def gJ6_fill_l5 (i0 : Int) (i1 : Int) (i3 : Int) (a2 : Int) (h : AH) : Option (AH) := jit (gJ6_fill_b5 i0 i1 i3) (a2, h)
theorem eJ6_fill_l5 (i0 : Int) (i1 : Int) (i3 : Int) (a2 : Int) {h : AH} (hS : Sh S h) : EQ (fJ6_fill_l5 i0 i1 i3 a2 h) (gJ6_fill_l5 i0 i1 i3 a2 h) (fun r => Sh S r) := EQ_jit (I := (fun r => Sh S r.2)) (fun s hs => eJ6_fill_b5 i0 i1 i3 hs) hS
theorem wJ6_fill_l5 (i0 : Int) (i1 : Int) (i3 : Int) (a2 : Int) {h : AH} (hS : Sh S h) : EQ (fJ6_fill_l5 i0 i1 i3 a2 h) (fJ6_fill_l5 i0 i1 i3 a2 h) (fun r => Sh S r) := EQ_self (eJ6_fill_l5 i0 i1 i3 a2 hS)
noncomputable def gJ6_fill (a0 : Int) (a1 : Int) (h : AH) : Option (AH) := jg (101 ≤ h a0 (-2) ∧ h a0 (-2) ≤ 107) <| jl (h a0 (-1)) fun x1 => jb (fJ6_fill_l5 a0 a1 x1 0 h) fun o2 => some o2
theorem eJ6_fill (a0 : Int) (a1 : Int) {h : AH} (hS : Sh S h) : EQ (fJ6_fill a0 a1 h) (gJ6_fill a0 a1 h) (fun r => Sh S r) := by
  unfold fJ6_fill gJ6_fill
  refine EQ_jg Iff.rfl (fun g1 => ?_)
  refine EQ_jl rfl (fun x1 ex1 => ?_)
  clear ex1
  refine EQ_jb (wJ6_fill_l5 a0 a1 x1 0 hS) (fun o2 r2 => ?_)
  exact EQ_some r2
theorem wJ6_fill (a0 : Int) (a1 : Int) {h : AH} (hS : Sh S h) : EQ (fJ6_fill a0 a1 h) (fJ6_fill a0 a1 h) (fun r => Sh S r) := EQ_self (eJ6_fill a0 a1 hS)
noncomputable def gJ6_fill_2_b6 (i0 : Int) (i1 : Int) (i4 : Int) (s : Int × AH) : Option ((Int × AH) ⊕ (AH)) := jt2 s fun a3 h => if i4 ≤ a3 then (some (.inr h)) else (jg (h i0 (-2) = 102 ∧ 200 ≤ i0 ∧ jI a3 (h i0 (-1))) <| jl (jst h i0 a3 i1) fun h5 => jl (w32 (a3 + 1)) fun x6 => some (.inl (x6, h5)))
theorem eJ6_fill_2_b6 (i0 : Int) (i1 : Int) (i4 : Int) {s : Int × AH} (hS : (fun r => Sh S r.2) s) : EQ (fJ6_fill_2_b6 i0 i1 i4 s) (gJ6_fill_2_b6 i0 i1 i4 s) (Sum.elim (fun r => Sh S r.2) (fun r => Sh S r)) := by
  unfold fJ6_fill_2_b6 gJ6_fill_2_b6
  obtain ⟨a3, h⟩ := s
  refine EQ_jt2 ?_
  replace hS : Sh S h := hS
  refine EQ_if Iff.rfl (fun c1 => ?_) (fun c1 => ?_)
  · exact EQ_some hS
  · refine EQ_jg Iff.rfl (fun g2 => ?_)
    refine EQ_jl rfl (fun h5 eh5 => ?_)
    have s3 := Sh_of eh5 (Sh_stk hS (Or.inr (Or.inl (g2.1))) (g2.2.1) (jI_nn (g2.2.2)) (fun e => absurd (((g2.1)).symm.trans e) (by decide)))
    clear eh5
    refine EQ_jl rfl (fun x6 ex6 => ?_)
    clear ex6
    exact EQ_some s3
noncomputable def gJ6_fill_2_l6 (i0 : Int) (i1 : Int) (i4 : Int) (a3 : Int) (h : AH) : Option (AH) := jit (gJ6_fill_2_b6 i0 i1 i4) (a3, h)
theorem eJ6_fill_2_l6 (i0 : Int) (i1 : Int) (i4 : Int) (a3 : Int) {h : AH} (hS : Sh S h) : EQ (fJ6_fill_2_l6 i0 i1 i4 a3 h) (gJ6_fill_2_l6 i0 i1 i4 a3 h) (fun r => Sh S r) := EQ_jit (I := (fun r => Sh S r.2)) (fun s hs => eJ6_fill_2_b6 i0 i1 i4 hs) hS
theorem wJ6_fill_2_l6 (i0 : Int) (i1 : Int) (i4 : Int) (a3 : Int) {h : AH} (hS : Sh S h) : EQ (fJ6_fill_2_l6 i0 i1 i4 a3 h) (fJ6_fill_2_l6 i0 i1 i4 a3 h) (fun r => Sh S r) := EQ_self (eJ6_fill_2_l6 i0 i1 i4 a3 hS)
noncomputable def gJ6_fill_2 (a0 : Int) (a1 : Int) (h : AH) : Option (AH) := jg (101 ≤ h a0 (-2) ∧ h a0 (-2) ≤ 107) <| jl (h a0 (-1)) fun x1 => jb (fJ6_fill_2_l6 a0 a1 x1 0 h) fun o2 => some o2
theorem eJ6_fill_2 (a0 : Int) (a1 : Int) {h : AH} (hS : Sh S h) : EQ (fJ6_fill_2 a0 a1 h) (gJ6_fill_2 a0 a1 h) (fun r => Sh S r) := by
  unfold fJ6_fill_2 gJ6_fill_2
  refine EQ_jg Iff.rfl (fun g1 => ?_)
  refine EQ_jl rfl (fun x1 ex1 => ?_)
  clear ex1
  refine EQ_jb (wJ6_fill_2_l6 a0 a1 x1 0 hS) (fun o2 r2 => ?_)
  exact EQ_some r2
theorem wJ6_fill_2 (a0 : Int) (a1 : Int) {h : AH} (hS : Sh S h) : EQ (fJ6_fill_2 a0 a1 h) (fJ6_fill_2 a0 a1 h) (fun r => Sh S r) := EQ_self (eJ6_fill_2 a0 a1 hS)
noncomputable def gJ6_fill_3_b5 (i0 : Int) (i1 : Int) (i3 : Int) (s : Int × AH) : Option ((Int × AH) ⊕ (AH)) := jt2 s fun a2 h => if i3 ≤ a2 then (some (.inr h)) else (jg (h i0 (-2) = 101 ∧ 200 ≤ i0 ∧ jI a2 (h i0 (-1))) <| jl (jst h i0 a2 i1) fun h5 => jl (w32 (a2 + 1)) fun x6 => some (.inl (x6, h5)))
theorem eJ6_fill_3_b5 (i0 : Int) (i1 : Int) (i3 : Int) {s : Int × AH} (hS : (fun r => Sh S r.2) s) : EQ (fJ6_fill_3_b5 i0 i1 i3 s) (gJ6_fill_3_b5 i0 i1 i3 s) (Sum.elim (fun r => Sh S r.2) (fun r => Sh S r)) := by
  unfold fJ6_fill_3_b5 gJ6_fill_3_b5
  obtain ⟨a2, h⟩ := s
  refine EQ_jt2 ?_
  replace hS : Sh S h := hS
  refine EQ_if Iff.rfl (fun c1 => ?_) (fun c1 => ?_)
  · exact EQ_some hS
  · refine EQ_jg Iff.rfl (fun g2 => ?_)
    refine EQ_jl rfl (fun h5 eh5 => ?_)
    have s3 := Sh_of eh5 (Sh_stk hS (Or.inl (g2.1)) (g2.2.1) (jI_nn (g2.2.2)) (fun e => absurd (((g2.1)).symm.trans e) (by decide)))
    clear eh5
    refine EQ_jl rfl (fun x6 ex6 => ?_)
    clear ex6
    exact EQ_some s3
noncomputable def gJ6_fill_3_l5 (i0 : Int) (i1 : Int) (i3 : Int) (a2 : Int) (h : AH) : Option (AH) := jit (gJ6_fill_3_b5 i0 i1 i3) (a2, h)
theorem eJ6_fill_3_l5 (i0 : Int) (i1 : Int) (i3 : Int) (a2 : Int) {h : AH} (hS : Sh S h) : EQ (fJ6_fill_3_l5 i0 i1 i3 a2 h) (gJ6_fill_3_l5 i0 i1 i3 a2 h) (fun r => Sh S r) := EQ_jit (I := (fun r => Sh S r.2)) (fun s hs => eJ6_fill_3_b5 i0 i1 i3 hs) hS
theorem wJ6_fill_3_l5 (i0 : Int) (i1 : Int) (i3 : Int) (a2 : Int) {h : AH} (hS : Sh S h) : EQ (fJ6_fill_3_l5 i0 i1 i3 a2 h) (fJ6_fill_3_l5 i0 i1 i3 a2 h) (fun r => Sh S r) := EQ_self (eJ6_fill_3_l5 i0 i1 i3 a2 hS)
noncomputable def gJ6_fill_3 (a0 : Int) (a1 : Int) (h : AH) : Option (AH) := jg (101 ≤ h a0 (-2) ∧ h a0 (-2) ≤ 107) <| jl (h a0 (-1)) fun x1 => jb (fJ6_fill_3_l5 a0 a1 x1 0 h) fun o2 => some o2
theorem eJ6_fill_3 (a0 : Int) (a1 : Int) {h : AH} (hS : Sh S h) : EQ (fJ6_fill_3 a0 a1 h) (gJ6_fill_3 a0 a1 h) (fun r => Sh S r) := by
  unfold fJ6_fill_3 gJ6_fill_3
  refine EQ_jg Iff.rfl (fun g1 => ?_)
  refine EQ_jl rfl (fun x1 ex1 => ?_)
  clear ex1
  refine EQ_jb (wJ6_fill_3_l5 a0 a1 x1 0 hS) (fun o2 r2 => ?_)
  exact EQ_some r2
theorem wJ6_fill_3 (a0 : Int) (a1 : Int) {h : AH} (hS : Sh S h) : EQ (fJ6_fill_3 a0 a1 h) (fJ6_fill_3 a0 a1 h) (fun r => Sh S r) := EQ_self (eJ6_fill_3 a0 a1 hS)
noncomputable def gJ6_fill_4_b5 (i0 : Int) (i1 : Int) (i3 : Int) (s : Int × AH) : Option ((Int × AH) ⊕ (AH)) := jt2 s fun a2 h => if i3 ≤ a2 then (some (.inr h)) else (jg (h i0 (-2) = 104 ∧ 200 ≤ i0 ∧ jI a2 (h i0 (-1))) <| jl (jst h i0 a2 (ji2z i1)) fun h5 => jl (w32 (a2 + 1)) fun x6 => some (.inl (x6, h5)))
theorem eJ6_fill_4_b5 (i0 : Int) (i1 : Int) (i3 : Int) {s : Int × AH} (hS : (fun r => Sh S r.2) s) : EQ (fJ6_fill_4_b5 i0 i1 i3 s) (gJ6_fill_4_b5 i0 i1 i3 s) (Sum.elim (fun r => Sh S r.2) (fun r => Sh S r)) := by
  unfold fJ6_fill_4_b5 gJ6_fill_4_b5
  obtain ⟨a2, h⟩ := s
  refine EQ_jt2 ?_
  replace hS : Sh S h := hS
  refine EQ_if Iff.rfl (fun c1 => ?_) (fun c1 => ?_)
  · exact EQ_some hS
  · refine EQ_jg Iff.rfl (fun g2 => ?_)
    refine EQ_jl rfl (fun h5 eh5 => ?_)
    have s3 := Sh_of eh5 (Sh_stk hS (Or.inr (Or.inr (Or.inr (g2.1)))) (g2.2.1) (jI_nn (g2.2.2)) (fun e => absurd (((g2.1)).symm.trans e) (by decide)))
    clear eh5
    refine EQ_jl rfl (fun x6 ex6 => ?_)
    clear ex6
    exact EQ_some s3
noncomputable def gJ6_fill_4_l5 (i0 : Int) (i1 : Int) (i3 : Int) (a2 : Int) (h : AH) : Option (AH) := jit (gJ6_fill_4_b5 i0 i1 i3) (a2, h)
theorem eJ6_fill_4_l5 (i0 : Int) (i1 : Int) (i3 : Int) (a2 : Int) {h : AH} (hS : Sh S h) : EQ (fJ6_fill_4_l5 i0 i1 i3 a2 h) (gJ6_fill_4_l5 i0 i1 i3 a2 h) (fun r => Sh S r) := EQ_jit (I := (fun r => Sh S r.2)) (fun s hs => eJ6_fill_4_b5 i0 i1 i3 hs) hS
theorem wJ6_fill_4_l5 (i0 : Int) (i1 : Int) (i3 : Int) (a2 : Int) {h : AH} (hS : Sh S h) : EQ (fJ6_fill_4_l5 i0 i1 i3 a2 h) (fJ6_fill_4_l5 i0 i1 i3 a2 h) (fun r => Sh S r) := EQ_self (eJ6_fill_4_l5 i0 i1 i3 a2 hS)
noncomputable def gJ6_fill_4 (a0 : Int) (a1 : Int) (h : AH) : Option (AH) := jg (101 ≤ h a0 (-2) ∧ h a0 (-2) ≤ 107) <| jl (h a0 (-1)) fun x1 => jb (fJ6_fill_4_l5 a0 a1 x1 0 h) fun o2 => some o2
theorem eJ6_fill_4 (a0 : Int) (a1 : Int) {h : AH} (hS : Sh S h) : EQ (fJ6_fill_4 a0 a1 h) (gJ6_fill_4 a0 a1 h) (fun r => Sh S r) := by
  unfold fJ6_fill_4 gJ6_fill_4
  refine EQ_jg Iff.rfl (fun g1 => ?_)
  refine EQ_jl rfl (fun x1 ex1 => ?_)
  clear ex1
  refine EQ_jb (wJ6_fill_4_l5 a0 a1 x1 0 hS) (fun o2 r2 => ?_)
  exact EQ_some r2
theorem wJ6_fill_4 (a0 : Int) (a1 : Int) {h : AH} (hS : Sh S h) : EQ (fJ6_fill_4 a0 a1 h) (fJ6_fill_4 a0 a1 h) (fun r => Sh S r) := EQ_self (eJ6_fill_4 a0 a1 hS)
noncomputable def gX1_feedFour_b3 (i1 : Int) (s : Int × AH) : Option ((Int × AH) ⊕ (AH)) := jt2 s fun a2 h => if a2 < 0 then (some (.inr h)) else (jl (jst h 200 55 (w32 (h 200 55 + 1))) fun h4 => jg (jI (h 200 55) 2000) <| jl (jst h4 440 (h 200 55) (ji2b (ji2b (jshr i1 a2)))) fun h5 => jl (w32 (a2 + (-8))) fun x6 => some (.inl (x6, h5)))
theorem eX1_feedFour_b3 (i1 : Int) {s : Int × AH} (hS : (fun r => Sh S r.2) s) : EQ (fX1_feedFour_b3 200 i1 s) (gX1_feedFour_b3 i1 s) (Sum.elim (fun r => Sh S r.2) (fun r => Sh S r)) := by
  unfold fX1_feedFour_b3 gX1_feedFour_b3
  obtain ⟨a2, h⟩ := s
  refine EQ_jt2 ?_
  replace hS : Sh S h := hS
  refine EQ_if Iff.rfl (fun c1 => ?_) (fun c1 => ?_)
  · exact EQ_some hS
  · refine EQ_jgd (show h 200 (-2) = 2 from by rw [k_200 hS]) ?_
    refine EQ_jgd (show h 200 (-2) = 2 from by rw [k_200 hS]) ?_
    refine EQ_jgd ⟨(show h 200 (-2) = 2 from by rw [k_200 hS]), (show (200 : Int) ≤ 200 from (by decide))⟩ ?_
    refine EQ_jl rfl (fun h4 eh4 => ?_)
    have s2 := Sh_of eh4 (Sh_sto hS (a := 200) (i := 55) (by decide +kernel))
    clear eh4
    refine EQ_jg ⟨fun ⟨_, _, x0⟩ => (show jI (h 200 55) (h4 (h 200 54) (-1)) ↔ jI (h 200 55) 2000 from by rw [r_200_54 hS, l_440 s2]).mp x0, fun x0 => ⟨(show h4 (h 200 54) (-2) = 103 from by rw [r_200_54 hS, k_440 s2]), (show 200 ≤ h 200 54 from by rw [r_200_54 hS]; exact (by decide)), (show jI (h 200 55) (h4 (h 200 54) (-1)) ↔ jI (h 200 55) 2000 from by rw [r_200_54 hS, l_440 s2]).mpr x0⟩⟩ (fun g3 => ?_)
    refine EQ_jl (by rw [r_200_54 hS]) (fun h5 eh5 => ?_)
    have s4 := Sh_of eh5 (Sh_sta s2 (by decide +kernel) (jI_nn g3) (fun _ => jBy_b _))
    clear eh5
    refine EQ_jl rfl (fun x6 ex6 => ?_)
    clear ex6
    exact EQ_some s4
noncomputable def gX1_feedFour_l3 (i1 : Int) (a2 : Int) (h : AH) : Option (AH) := jit (gX1_feedFour_b3 i1) (a2, h)
theorem eX1_feedFour_l3 (i1 : Int) (a2 : Int) {h : AH} (hS : Sh S h) : EQ (fX1_feedFour_l3 200 i1 a2 h) (gX1_feedFour_l3 i1 a2 h) (fun r => Sh S r) := EQ_jit (I := (fun r => Sh S r.2)) (fun s hs => eX1_feedFour_b3 i1 hs) hS
noncomputable def gX1_feedFour (a1 : Int) (h : AH) : Option (AH) := jb (gX1_feedFour_l3 a1 24 h) fun o1 => some o1
theorem eX1_feedFour (a1 : Int) {h : AH} (hS : Sh S h) : EQ (fX1_feedFour 200 a1 h) (gX1_feedFour a1 h) (fun r => Sh S r) := by
  unfold fX1_feedFour gX1_feedFour
  refine EQ_jb (eX1_feedFour_l3 a1 24 hS) (fun o1 r1 => ?_)
  exact EQ_some r1
noncomputable def gX1_isIn (a0 : Int) (a2 : Int) (a4 : Int) : Option (Int) := if jcmp a0 a2 < 0 then (some 0) else (if 0 < jcmp a0 a4 then (some 0) else (some 1))
theorem eX1_isIn (a0 : Int) (a2 : Int) (a4 : Int) : EQ (fX1_isIn a0 a2 a4) (gX1_isIn a0 a2 a4) (fun _ => True) := by
  unfold fX1_isIn gX1_isIn
  refine EQ_if Iff.rfl (fun c1 => ?_) (fun c1 => ?_)
  · exact EQ_some trivial
  · refine EQ_if Iff.rfl (fun c2 => ?_) (fun c2 => ?_)
    · exact EQ_some trivial
    · exact EQ_some trivial
noncomputable def gX1_isOctet (a0 : Int) (a1 : Int) : Option (Int) := jb (gX1_isIn a0 1 200) fun v2 => if v2 = 0 then (some 0) else (jb (gX1_isIn a1 0 127) fun v5 => if v5 = 0 then (some 0) else (some 1))
theorem eX1_isOctet (a0 : Int) (a1 : Int) : EQ (fX1_isOctet a0 a1) (gX1_isOctet a0 a1) (fun _ => True) := by
  unfold fX1_isOctet gX1_isOctet
  refine EQ_jb (eX1_isIn a0 1 200) (fun v2 r1 => ?_)
  refine EQ_if Iff.rfl (fun c2 => ?_) (fun c2 => ?_)
  · exact EQ_some trivial
  · refine EQ_jb (eX1_isIn a1 0 127) (fun v5 r3 => ?_)
    refine EQ_if Iff.rfl (fun c4 => ?_) (fun c4 => ?_)
    · exact EQ_some trivial
    · exact EQ_some trivial
noncomputable def gX5_clear (h : AH) : Option (AH) := jl (jst h 307 0 0) fun h1 => jl (jst h1 307 7 0) fun h2 => jl (jst h2 307 8 13) fun h3 => jl (jst h3 307 17 0) fun h4 => some h4
theorem eX5_clear {h : AH} (hS : Sh S h) : EQ (fX5_clear 307 h) (gX5_clear h) (fun r => Sh S r) := by
  unfold fX5_clear gX5_clear
  refine EQ_jgd ⟨(show h 307 (-2) = 6 from by rw [k_307 hS]), (show (200 : Int) ≤ 307 from (by decide))⟩ ?_
  refine EQ_jl rfl (fun h1 eh1 => ?_)
  have s1 := Sh_of eh1 (Sh_sto hS (a := 307) (i := 0) (by decide +kernel))
  clear eh1
  refine EQ_jgd ⟨(show h1 307 (-2) = 6 from by rw [k_307 s1]), (show (200 : Int) ≤ 307 from (by decide))⟩ ?_
  refine EQ_jl rfl (fun h2 eh2 => ?_)
  have s2 := Sh_of eh2 (Sh_sto s1 (a := 307) (i := 7) (by decide +kernel))
  clear eh2
  refine EQ_jgd ⟨(show h2 307 (-2) = 6 from by rw [k_307 s2]), (show (200 : Int) ≤ 307 from (by decide))⟩ ?_
  refine EQ_jl rfl (fun h3 eh3 => ?_)
  have s3 := Sh_of eh3 (Sh_sto s2 (a := 307) (i := 8) (by decide +kernel))
  clear eh3
  refine EQ_jgd ⟨(show h3 307 (-2) = 6 from by rw [k_307 s3]), (show (200 : Int) ≤ 307 from (by decide))⟩ ?_
  refine EQ_jl rfl (fun h4 eh4 => ?_)
  have s4 := Sh_of eh4 (Sh_sto s3 (a := 307) (i := 17) (by decide +kernel))
  clear eh4
  exact EQ_some s4
noncomputable def gX1_told_j43 (a1 : Int) (h : AH) : Option (Int) := if a1 < 0 ∨ 11 < a1 then (some (h (h 200 16) 18)) else (if a1 = 0 then (some (h 200 7)) else (if a1 = 1 then (some (h 200 37)) else (if a1 = 2 then (some (h 408 0)) else (if a1 = 3 then (some (h 424 0)) else (if a1 = 4 then (some (h 434 6)) else (if a1 = 5 then (some (h 434 5)) else (if a1 = 6 then (some (h 434 4)) else (if a1 = 7 then (some (h 200 55)) else (if a1 = 8 then (some (h (h 200 16) 1)) else (if a1 = 9 then (some (h (h 200 16) 3)) else (if a1 = 10 then (some (h (h 200 16) 8)) else (some (h (h 200 16) 11)))))))))))))
theorem eX1_told_j43 (a1 : Int) {h : AH} (hS : Sh S h) : EQ (fX1_told_j43 200 a1 h) (gX1_told_j43 a1 h) (fun _ => True) := by
  unfold fX1_told_j43 gX1_told_j43
  refine EQ_if Iff.rfl (fun c1 => ?_) (fun c1 => ?_)
  · refine EQ_jgd (show h 200 (-2) = 2 from by rw [k_200 hS]) ?_
    refine EQ_jgd (show h (h 200 16) (-2) = 5 from by rw [kd_X4 hS (dy_200_16 hS)]) ?_
    exact EQ_some trivial
  · refine EQ_if Iff.rfl (fun c2 => ?_) (fun c2 => ?_)
    · refine EQ_jgd (show h 200 (-2) = 2 from by rw [k_200 hS]) ?_
      exact EQ_some trivial
    · refine EQ_if Iff.rfl (fun c3 => ?_) (fun c3 => ?_)
      · refine EQ_jgd (show h 200 (-2) = 2 from by rw [k_200 hS]) ?_
        exact EQ_some trivial
      · refine EQ_if Iff.rfl (fun c4 => ?_) (fun c4 => ?_)
        · refine EQ_jgd (show h 200 (-2) = 2 from by rw [k_200 hS]) ?_
          refine EQ_jgd (show h (h 200 49) (-2) = 10 from by rw [r_200_49 hS, k_408 hS]) ?_
          exact EQ_some' (by rw [r_200_49 hS]) trivial
        · refine EQ_if Iff.rfl (fun c5 => ?_) (fun c5 => ?_)
          · refine EQ_jgd (show h 200 (-2) = 2 from by rw [k_200 hS]) ?_
            refine EQ_jgd (show h (h 200 50) (-2) = 11 from by rw [r_200_50 hS, k_424 hS]) ?_
            exact EQ_some' (by rw [r_200_50 hS]) trivial
          · refine EQ_if Iff.rfl (fun c6 => ?_) (fun c6 => ?_)
            · refine EQ_jgd (show h 200 (-2) = 2 from by rw [k_200 hS]) ?_
              refine EQ_jgd (show h (h 200 52) (-2) = 13 from by rw [r_200_52 hS, k_434 hS]) ?_
              exact EQ_some' (by rw [r_200_52 hS]) trivial
            · refine EQ_if Iff.rfl (fun c7 => ?_) (fun c7 => ?_)
              · refine EQ_jgd (show h 200 (-2) = 2 from by rw [k_200 hS]) ?_
                refine EQ_jgd (show h (h 200 52) (-2) = 13 from by rw [r_200_52 hS, k_434 hS]) ?_
                exact EQ_some' (by rw [r_200_52 hS]) trivial
              · refine EQ_if Iff.rfl (fun c8 => ?_) (fun c8 => ?_)
                · refine EQ_jgd (show h 200 (-2) = 2 from by rw [k_200 hS]) ?_
                  refine EQ_jgd (show h (h 200 52) (-2) = 13 from by rw [r_200_52 hS, k_434 hS]) ?_
                  exact EQ_some' (by rw [r_200_52 hS]) trivial
                · refine EQ_if Iff.rfl (fun c9 => ?_) (fun c9 => ?_)
                  · refine EQ_jgd (show h 200 (-2) = 2 from by rw [k_200 hS]) ?_
                    exact EQ_some trivial
                  · refine EQ_if Iff.rfl (fun c10 => ?_) (fun c10 => ?_)
                    · refine EQ_jgd (show h 200 (-2) = 2 from by rw [k_200 hS]) ?_
                      refine EQ_jgd (show h (h 200 16) (-2) = 5 from by rw [kd_X4 hS (dy_200_16 hS)]) ?_
                      exact EQ_some trivial
                    · refine EQ_if Iff.rfl (fun c11 => ?_) (fun c11 => ?_)
                      · refine EQ_jgd (show h 200 (-2) = 2 from by rw [k_200 hS]) ?_
                        refine EQ_jgd (show h (h 200 16) (-2) = 5 from by rw [kd_X4 hS (dy_200_16 hS)]) ?_
                        exact EQ_some trivial
                      · refine EQ_if Iff.rfl (fun c12 => ?_) (fun c12 => ?_)
                        · refine EQ_jgd (show h 200 (-2) = 2 from by rw [k_200 hS]) ?_
                          refine EQ_jgd (show h (h 200 16) (-2) = 5 from by rw [kd_X4 hS (dy_200_16 hS)]) ?_
                          exact EQ_some trivial
                        · refine EQ_jgd (show h 200 (-2) = 2 from by rw [k_200 hS]) ?_
                          refine EQ_jgd (show h (h 200 16) (-2) = 5 from by rw [kd_X4 hS (dy_200_16 hS)]) ?_
                          exact EQ_some trivial
noncomputable def gX1_told (a1 : Int) (h : AH) : Option (Int) := if h 200 53 = 0 then (jb (gX1_isIn a1 0 12) fun v3 => if v3 = 0 then (some (-1)) else (if a1 ≤ 7 then (gX1_told_j43 a1 h) else (if h (h 200 16) 19 = 0 then (some (-2)) else (gX1_told_j43 a1 h)))) else (some (-5))
theorem eX1_told (a1 : Int) {h : AH} (hS : Sh S h) : EQ (fX1_told 200 a1 h) (gX1_told a1 h) (fun _ => True) := by
  unfold fX1_told gX1_told
  refine EQ_jgd (show h 200 (-2) = 2 from by rw [k_200 hS]) ?_
  refine EQ_if Iff.rfl (fun c1 => ?_) (fun c1 => ?_)
  · refine EQ_jb (eX1_isIn a1 0 12) (fun v3 r2 => ?_)
    refine EQ_if Iff.rfl (fun c3 => ?_) (fun c3 => ?_)
    · exact EQ_some trivial
    · refine EQ_if Iff.rfl (fun c4 => ?_) (fun c4 => ?_)
      · exact (eX1_told_j43 a1 hS)
      · refine EQ_jgd (show h 200 (-2) = 2 from by rw [k_200 hS]) ?_
        refine EQ_jgd (show h (h 200 16) (-2) = 5 from by rw [kd_X4 hS (dy_200_16 hS)]) ?_
        refine EQ_if Iff.rfl (fun c5 => ?_) (fun c5 => ?_)
        · exact EQ_some trivial
        · exact (eX1_told_j43 a1 hS)
  · exact EQ_some trivial
noncomputable def gX1_place (h : AH) : Option (Int) := some (h 200 56)
theorem eX1_place {h : AH} (hS : Sh S h) : EQ (fX1_place 200 h) (gX1_place h) (fun _ => True) := by
  unfold fX1_place gX1_place
  refine EQ_jgd (show h 200 (-2) = 2 from by rw [k_200 hS]) ?_
  exact EQ_some trivial
noncomputable def gX4_clear (a0 : Int) (h : AH) : Option (AH) := jl (jst h a0 1 0) fun h1 => jl (jst h1 a0 3 0) fun h2 => jl (jst h2 a0 8 0) fun h3 => jl (jst h3 a0 11 0) fun h4 => jl (jst h4 (a0 + 12) 0 0) fun h5 => jl (jst h5 a0 19 0) fun h6 => some h6
theorem eX4_clear (a0 : Int) (hT_a0 : isX4 a0) {h : AH} (hS : Sh S h) : EQ (fX4_clear a0 h) (gX4_clear a0 h) (fun r => Sh S r) := by
  unfold fX4_clear gX4_clear
  refine EQ_jgd ⟨(show h a0 (-2) = 5 from by rw [kd_X4 hS hT_a0]), (show 200 ≤ a0 from ge_X4 hT_a0)⟩ ?_
  refine EQ_jl rfl (fun h1 eh1 => ?_)
  have s1 := Sh_of eh1 (Sh_sto_X4_1 hS hT_a0)
  clear eh1
  refine EQ_jgd ⟨(show h1 a0 (-2) = 5 from by rw [kd_X4 s1 hT_a0]), (show 200 ≤ a0 from ge_X4 hT_a0)⟩ ?_
  refine EQ_jl rfl (fun h2 eh2 => ?_)
  have s2 := Sh_of eh2 (Sh_sto_X4_3 s1 hT_a0)
  clear eh2
  refine EQ_jgd ⟨(show h2 a0 (-2) = 5 from by rw [kd_X4 s2 hT_a0]), (show 200 ≤ a0 from ge_X4 hT_a0)⟩ ?_
  refine EQ_jl rfl (fun h3 eh3 => ?_)
  have s3 := Sh_of eh3 (Sh_sto_X4_8 s2 hT_a0)
  clear eh3
  refine EQ_jgd ⟨(show h3 a0 (-2) = 5 from by rw [kd_X4 s3 hT_a0]), (show 200 ≤ a0 from ge_X4 hT_a0)⟩ ?_
  refine EQ_jl rfl (fun h4 eh4 => ?_)
  have s4 := Sh_of eh4 (Sh_sto_X4_11 s3 hT_a0)
  clear eh4
  refine EQ_jgd (show h4 a0 (-2) = 5 from by rw [kd_X4 s4 hT_a0]) ?_
  refine EQ_jgd ⟨(show h4 (h4 a0 16) (-2) = 4 from by rw [ft_X4_16 s4 hT_a0, kd_X3 s4 (sub_X4_16 hT_a0)]), (show 200 ≤ h4 a0 16 from by rw [ft_X4_16 s4 hT_a0]; exact ge_X3 (sub_X4_16 hT_a0))⟩ ?_
  refine EQ_jl (by rw [ft_X4_16 s4 hT_a0]) (fun h5 eh5 => ?_)
  have s5 := Sh_of eh5 (Sh_sto_X3_0 s4 (sub_X4_16 hT_a0))
  clear eh5
  refine EQ_jgd ⟨(show h5 a0 (-2) = 5 from by rw [kd_X4 s5 hT_a0]), (show 200 ≤ a0 from ge_X4 hT_a0), (show jZ 0 from by unfold jZ; decide)⟩ ?_
  refine EQ_jl rfl (fun h6 eh6 => ?_)
  have s6 := Sh_of eh6 (Sh_sto_X4_19 s5 hT_a0)
  clear eh6
  exact EQ_some s6
noncomputable def gX1_takeTape (h : AH) : Option (Int × AH) := jl (h 200 55) fun x1 => jl (jst h 200 55 0) fun h2 => some (x1, h2)
theorem eX1_takeTape {h : AH} (hS : Sh S h) : EQ (fX1_takeTape 200 h) (gX1_takeTape h) (fun r => Sh S r.2) := by
  unfold fX1_takeTape gX1_takeTape
  refine EQ_jgd (show h 200 (-2) = 2 from by rw [k_200 hS]) ?_
  refine EQ_jl rfl (fun x1 ex1 => ?_)
  clear ex1
  refine EQ_jgd ⟨(show h 200 (-2) = 2 from by rw [k_200 hS]), (show (200 : Int) ≤ 200 from (by decide))⟩ ?_
  refine EQ_jl rfl (fun h2 eh2 => ?_)
  have s1 := Sh_of eh2 (Sh_sto hS (a := 200) (i := 55) (by decide +kernel))
  clear eh2
  exact EQ_some s1
noncomputable def gX13_byteAt (a1 : Int) (h : AH) : Option (Int) := if h 441 1 ≤ a1 then (some (-1)) else (jg (h (h 441 0) (-2) = 103 ∧ jI a1 (h (h 441 0) (-1))) <| some (jand (h (h 441 0) a1) 255))
theorem eX13_byteAt (a1 : Int) {h : AH} (hS : Sh S h) : EQ (fX13_byteAt 441 a1 h) (gX13_byteAt a1 h) (fun _ => True) := by
  unfold fX13_byteAt gX13_byteAt
  refine EQ_jgd (show h 441 (-2) = 14 from by rw [k_441 hS]) ?_
  refine EQ_if Iff.rfl (fun c1 => ?_) (fun c1 => ?_)
  · exact EQ_some trivial
  · refine EQ_jgd (show h 441 (-2) = 14 from by rw [k_441 hS]) ?_
    refine EQ_jg Iff.rfl (fun g2 => ?_)
    exact EQ_some trivial
noncomputable def gX13_isLetter (a1 : Int) : Option (Int) := if a1 < 97 then (some 0) else (if 122 < a1 then (some 0) else (some 1))
theorem eX13_isLetter (a1 : Int) : EQ (fX13_isLetter 441 a1) (gX13_isLetter a1) (fun _ => True) := by
  unfold fX13_isLetter gX13_isLetter
  refine EQ_if Iff.rfl (fun c1 => ?_) (fun c1 => ?_)
  · exact EQ_some trivial
  · refine EQ_if Iff.rfl (fun c2 => ?_) (fun c2 => ?_)
    · exact EQ_some trivial
    · exact EQ_some trivial
noncomputable def gX13_isDigit (a1 : Int) : Option (Int) := if a1 < 48 then (some 0) else (if 57 < a1 then (some 0) else (some 1))
theorem eX13_isDigit (a1 : Int) : EQ (fX13_isDigit 441 a1) (gX13_isDigit a1) (fun _ => True) := by
  unfold fX13_isDigit gX13_isDigit
  refine EQ_if Iff.rfl (fun c1 => ?_) (fun c1 => ?_)
  · exact EQ_some trivial
  · refine EQ_if Iff.rfl (fun c2 => ?_) (fun c2 => ?_)
    · exact EQ_some trivial
    · exact EQ_some trivial
noncomputable def gX13_next_j394 (a1 : Int) (h : AH) : Option (AH) := jl (jst h 441 4 a1) fun h47 => some h47
theorem eX13_next_j394 (a1 : Int) {h : AH} (hS : Sh S h) : EQ (fX13_next_j394 441 a1 h) (gX13_next_j394 a1 h) (fun r => Sh S r) := by
  unfold fX13_next_j394 gX13_next_j394
  refine EQ_jgd ⟨(show h 441 (-2) = 14 from by rw [k_441 hS]), (show (200 : Int) ≤ 441 from (by decide))⟩ ?_
  refine EQ_jl rfl (fun h47 eh47 => ?_)
  have s1 := Sh_of eh47 (Sh_sto hS (a := 441) (i := 4) (by decide +kernel))
  clear eh47
  exact EQ_some s1
noncomputable def gX13_next_j299 (a1 : Int) (t1 : Int) (h : AH) : Option (AH) := jg (jCh t1) <| jl (jst h 441 2 t1) fun h45 => jl (w32 (a1 + 1)) fun x46 => gX13_next_j394 x46 h45
theorem eX13_next_j299 (a1 : Int) (t1 : Int) {h : AH} (hS : Sh S h) : EQ (fX13_next_j299 441 a1 441 t1 h) (gX13_next_j299 a1 t1 h) (fun r => Sh S r) := by
  unfold fX13_next_j299 gX13_next_j299
  refine EQ_jg ⟨fun ⟨_, _, x0⟩ => x0, fun x0 => ⟨(show h 441 (-2) = 14 from by rw [k_441 hS]), (show (200 : Int) ≤ 441 from (by decide)), x0⟩⟩ (fun g1 => ?_)
  refine EQ_jl rfl (fun h45 eh45 => ?_)
  have s2 := Sh_of eh45 (Sh_sto hS (a := 441) (i := 2) (by decide +kernel))
  clear eh45
  refine EQ_jl rfl (fun x46 ex46 => ?_)
  clear ex46
  exact (eX13_next_j394 x46 s2)
noncomputable def gX13_next_j284 (a1 : Int) (t0 : Int) (h : AH) : Option (AH) := if t0 = 0 then (gX13_next_j299 a1 120 h) else (gX13_next_j299 a1 119 h)
theorem eX13_next_j284 (a1 : Int) (t0 : Int) {h : AH} (hS : Sh S h) : EQ (fX13_next_j284 441 a1 t0 h) (gX13_next_j284 a1 t0 h) (fun r => Sh S r) := by
  unfold fX13_next_j284 gX13_next_j284
  refine EQ_if Iff.rfl (fun c1 => ?_) (fun c1 => ?_)
  · exact (eX13_next_j299 a1 120 hS)
  · exact (eX13_next_j299 a1 119 hS)
noncomputable def gX13_next_j388 (a1 : Int) (t1 : Int) (h : AH) : Option (AH) := jg (jCh t1) <| jl (jst h 441 2 t1) fun h55 => jl (w32 (a1 + 1)) fun x56 => gX13_next_j394 x56 h55
theorem eX13_next_j388 (a1 : Int) (t1 : Int) {h : AH} (hS : Sh S h) : EQ (fX13_next_j388 441 a1 441 t1 h) (gX13_next_j388 a1 t1 h) (fun r => Sh S r) := by
  unfold fX13_next_j388 gX13_next_j388
  refine EQ_jg ⟨fun ⟨_, _, x0⟩ => x0, fun x0 => ⟨(show h 441 (-2) = 14 from by rw [k_441 hS]), (show (200 : Int) ≤ 441 from (by decide)), x0⟩⟩ (fun g1 => ?_)
  refine EQ_jl rfl (fun h55 eh55 => ?_)
  have s2 := Sh_of eh55 (Sh_sto hS (a := 441) (i := 2) (by decide +kernel))
  clear eh55
  refine EQ_jl rfl (fun x56 ex56 => ?_)
  clear ex56
  exact (eX13_next_j394 x56 s2)
noncomputable def gX13_next_j338 (a1 : Int) (a2 : Int) (h : AH) : Option (AH) := if a2 = 40 then (gX13_next_j388 a1 (ji2c a2) h) else (if a2 = 41 then (gX13_next_j388 a1 (ji2c a2) h) else (if a2 = 44 then (gX13_next_j388 a1 (ji2c a2) h) else (if a2 = 59 then (gX13_next_j388 a1 (ji2c a2) h) else (if a2 = 58 then (gX13_next_j388 a1 (ji2c a2) h) else (if a2 = 61 then (gX13_next_j388 a1 (ji2c a2) h) else (if a2 = 63 then (gX13_next_j388 a1 (ji2c a2) h) else (gX13_next_j388 a1 120 h)))))))
theorem eX13_next_j338 (a1 : Int) (a2 : Int) {h : AH} (hS : Sh S h) : EQ (fX13_next_j338 441 a1 a2 h) (gX13_next_j338 a1 a2 h) (fun r => Sh S r) := by
  unfold fX13_next_j338 gX13_next_j338
  refine EQ_if Iff.rfl (fun c1 => ?_) (fun c1 => ?_)
  · exact (eX13_next_j388 a1 (ji2c a2) hS)
  · refine EQ_if Iff.rfl (fun c2 => ?_) (fun c2 => ?_)
    · exact (eX13_next_j388 a1 (ji2c a2) hS)
    · refine EQ_if Iff.rfl (fun c3 => ?_) (fun c3 => ?_)
      · exact (eX13_next_j388 a1 (ji2c a2) hS)
      · refine EQ_if Iff.rfl (fun c4 => ?_) (fun c4 => ?_)
        · exact (eX13_next_j388 a1 (ji2c a2) hS)
        · refine EQ_if Iff.rfl (fun c5 => ?_) (fun c5 => ?_)
          · exact (eX13_next_j388 a1 (ji2c a2) hS)
          · refine EQ_if Iff.rfl (fun c6 => ?_) (fun c6 => ?_)
            · exact (eX13_next_j388 a1 (ji2c a2) hS)
            · refine EQ_if Iff.rfl (fun c7 => ?_) (fun c7 => ?_)
              · exact (eX13_next_j388 a1 (ji2c a2) hS)
              · exact (eX13_next_j388 a1 120 hS)
noncomputable def gX13_next_j192 (a1 : Int) (t1 : Int) (h : AH) : Option (AH) := jg (jCh t1) <| jl (jst h 441 2 t1) fun h57 => gX13_next_j394 a1 h57
theorem eX13_next_j192 (a1 : Int) (t1 : Int) {h : AH} (hS : Sh S h) : EQ (fX13_next_j192 441 a1 441 t1 h) (gX13_next_j192 a1 t1 h) (fun r => Sh S r) := by
  unfold fX13_next_j192 gX13_next_j192
  refine EQ_jg ⟨fun ⟨_, _, x0⟩ => x0, fun x0 => ⟨(show h 441 (-2) = 14 from by rw [k_441 hS]), (show (200 : Int) ≤ 441 from (by decide)), x0⟩⟩ (fun g1 => ?_)
  refine EQ_jl rfl (fun h57 eh57 => ?_)
  have s2 := Sh_of eh57 (Sh_sto hS (a := 441) (i := 2) (by decide +kernel))
  clear eh57
  exact (eX13_next_j394 a1 s2)
noncomputable def gX13_next_j103 (a1 : Int) (t1 : Int) (h : AH) : Option (AH) := jg (jCh t1) <| jl (jst h 441 2 t1) fun h58 => gX13_next_j394 a1 h58
theorem eX13_next_j103 (a1 : Int) (t1 : Int) {h : AH} (hS : Sh S h) : EQ (fX13_next_j103 441 a1 441 t1 h) (gX13_next_j103 a1 t1 h) (fun r => Sh S r) := by
  unfold fX13_next_j103 gX13_next_j103
  refine EQ_jg ⟨fun ⟨_, _, x0⟩ => x0, fun x0 => ⟨(show h 441 (-2) = 14 from by rw [k_441 hS]), (show (200 : Int) ≤ 441 from (by decide)), x0⟩⟩ (fun g1 => ?_)
  refine EQ_jl rfl (fun h58 eh58 => ?_)
  have s2 := Sh_of eh58 (Sh_sto hS (a := 441) (i := 2) (by decide +kernel))
  clear eh58
  exact (eX13_next_j394 a1 s2)
noncomputable def gX13_next_j25_5 (a1 : Int) (h : AH) : Option ((Int) ⊕ (Int)) := jl (w32 (a1 + 1)) fun x65 => some (.inl x65)
theorem eX13_next_j25_5 (a1 : Int) {h : AH} (hS : Sh S h) : EQ (fX13_next_j25_5 441 a1 h) (gX13_next_j25_5 a1 h) (Sum.elim (fun _ => True) (fun _ => True)) := by
  unfold fX13_next_j25_5 gX13_next_j25_5
  refine EQ_jl rfl (fun x65 ex65 => ?_)
  clear ex65
  exact EQ_some trivial
noncomputable def gX13_next_b5 (h : AH) (a1 : Int) : Option ((Int) ⊕ (Int)) := jb (gX13_byteAt a1 h) fun v60 => if v60 = 32 then (gX13_next_j25_5 a1 h) else (jb (gX13_byteAt a1 h) fun v63 => if v63 = 10 then (gX13_next_j25_5 a1 h) else (some (.inr a1)))
theorem eX13_next_b5 (a1 : Int) {h : AH} (hS : Sh S h) : EQ (fX13_next_b5 441 h a1) (gX13_next_b5 h a1) (Sum.elim (fun _ => True) (fun _ => True)) := by
  unfold fX13_next_b5 gX13_next_b5
  refine EQ_jgd (show h 441 (-2) = 14 from by rw [k_441 hS]) ?_
  refine EQ_jb (eX13_byteAt a1 hS) (fun v60 r1 => ?_)
  refine EQ_if Iff.rfl (fun c2 => ?_) (fun c2 => ?_)
  · exact (eX13_next_j25_5 a1 hS)
  · refine EQ_jgd (show h 441 (-2) = 14 from by rw [k_441 hS]) ?_
    refine EQ_jb (eX13_byteAt a1 hS) (fun v63 r3 => ?_)
    refine EQ_if Iff.rfl (fun c4 => ?_) (fun c4 => ?_)
    · exact (eX13_next_j25_5 a1 hS)
    · exact EQ_some trivial
noncomputable def gX13_next_l5 (a1 : Int) (h : AH) : Option (Int) := jit (gX13_next_b5 h) a1
theorem eX13_next_l5 (a1 : Int) {h : AH} (hS : Sh S h) : EQ (fX13_next_l5 441 a1 h) (gX13_next_l5 a1 h) (fun _ => True) := EQ_jit (I := (fun _ => True)) (fun s _ => eX13_next_b5 s hS) trivial
noncomputable def gX13_next_j257_214 (a1 : Int) (a3 : Int) (h : AH) : Option ((Int × Int × AH) ⊕ (Int × Int × AH)) := jl (w32 (a1 + 1)) fun x76 => some (.inl (x76, a3, h))
theorem eX13_next_j257_214 (a1 : Int) (a3 : Int) {h : AH} (hS : Sh S h) : EQ (fX13_next_j257_214 441 a1 a3 h) (gX13_next_j257_214 a1 a3 h) (Sum.elim (fun r => Sh S r.2.2) (fun r => Sh S r.2.2)) := by
  unfold fX13_next_j257_214 gX13_next_j257_214
  refine EQ_jl rfl (fun x76 ex76 => ?_)
  clear ex76
  exact EQ_some hS
noncomputable def gX13_next_b214 (s : Int × Int × AH) : Option ((Int × Int × AH) ⊕ (Int × Int × AH)) := jt3 s fun a1 a3 h => jb (gX13_byteAt a1 h) fun v67 => jb (gX13_isLetter v67) fun v69 => if v69 = 0 then (some (.inr (a1, a3, h))) else (jl (w32 (a3 + 1)) fun x71 => if 6 < x71 then (gX13_next_j257_214 a1 x71 h) else (jb (gX13_byteAt a1 h) fun v74 => jl (jst h 441 5 (w32 (w32 (w32 (w32 (h 441 5 * 27) + v74) - 97) + 1))) fun h75 => gX13_next_j257_214 a1 x71 h75))
theorem eX13_next_b214 {s : Int × Int × AH} (hS : (fun r => Sh S r.2.2) s) : EQ (fX13_next_b214 441 s) (gX13_next_b214 s) (Sum.elim (fun r => Sh S r.2.2) (fun r => Sh S r.2.2)) := by
  unfold fX13_next_b214 gX13_next_b214
  obtain ⟨a1, a3, h⟩ := s
  refine EQ_jt3 ?_
  replace hS : Sh S h := hS
  refine EQ_jgd (show h 441 (-2) = 14 from by rw [k_441 hS]) ?_
  refine EQ_jb (eX13_byteAt a1 hS) (fun v67 r1 => ?_)
  refine EQ_jgd (show h 441 (-2) = 14 from by rw [k_441 hS]) ?_
  refine EQ_jb (eX13_isLetter v67) (fun v69 r2 => ?_)
  refine EQ_if Iff.rfl (fun c3 => ?_) (fun c3 => ?_)
  · exact EQ_some hS
  · refine EQ_jl rfl (fun x71 ex71 => ?_)
    clear ex71
    refine EQ_if Iff.rfl (fun c4 => ?_) (fun c4 => ?_)
    · exact (eX13_next_j257_214 a1 x71 hS)
    · refine EQ_jgd (show h 441 (-2) = 14 from by rw [k_441 hS]) ?_
      refine EQ_jgd (show h 441 (-2) = 14 from by rw [k_441 hS]) ?_
      refine EQ_jb (eX13_byteAt a1 hS) (fun v74 r5 => ?_)
      refine EQ_jgd ⟨(show h 441 (-2) = 14 from by rw [k_441 hS]), (show (200 : Int) ≤ 441 from (by decide))⟩ ?_
      refine EQ_jl rfl (fun h75 eh75 => ?_)
      have s6 := Sh_of eh75 (Sh_sto hS (a := 441) (i := 5) (by decide +kernel))
      clear eh75
      exact (eX13_next_j257_214 a1 x71 s6)
noncomputable def gX13_next_l214 (a1 : Int) (a3 : Int) (h : AH) : Option (Int × Int × AH) := jit gX13_next_b214 (a1, a3, h)
theorem eX13_next_l214 (a1 : Int) (a3 : Int) {h : AH} (hS : Sh S h) : EQ (fX13_next_l214 441 a1 a3 h) (gX13_next_l214 a1 a3 h) (fun r => Sh S r.2.2) := EQ_jit (I := (fun r => Sh S r.2.2)) (fun s hs => eX13_next_b214 hs) hS
noncomputable def gX13_next_b122 (s : Int × AH) : Option ((Int × AH) ⊕ (Int × AH)) := jt2 s fun a1 h => jb (gX13_byteAt a1 h) fun v78 => jb (gX13_isDigit v78) fun v80 => if v80 = 0 then (some (.inr (a1, h))) else (jb (gX13_byteAt a1 h) fun v83 => jl (jst h 441 5 (min 100 (w32 (w32 (w32 (h 441 5 * 10) + v83) - 48)))) fun h84 => jl (w32 (a1 + 1)) fun x85 => some (.inl (x85, h84)))
theorem eX13_next_b122 {s : Int × AH} (hS : (fun r => Sh S r.2) s) : EQ (fX13_next_b122 441 s) (gX13_next_b122 s) (Sum.elim (fun r => Sh S r.2) (fun r => Sh S r.2)) := by
  unfold fX13_next_b122 gX13_next_b122
  obtain ⟨a1, h⟩ := s
  refine EQ_jt2 ?_
  replace hS : Sh S h := hS
  refine EQ_jgd (show h 441 (-2) = 14 from by rw [k_441 hS]) ?_
  refine EQ_jb (eX13_byteAt a1 hS) (fun v78 r1 => ?_)
  refine EQ_jgd (show h 441 (-2) = 14 from by rw [k_441 hS]) ?_
  refine EQ_jb (eX13_isDigit v78) (fun v80 r2 => ?_)
  refine EQ_if Iff.rfl (fun c3 => ?_) (fun c3 => ?_)
  · exact EQ_some hS
  · refine EQ_jgd (show h 441 (-2) = 14 from by rw [k_441 hS]) ?_
    refine EQ_jgd (show h 441 (-2) = 14 from by rw [k_441 hS]) ?_
    refine EQ_jb (eX13_byteAt a1 hS) (fun v83 r4 => ?_)
    refine EQ_jgd ⟨(show h 441 (-2) = 14 from by rw [k_441 hS]), (show (200 : Int) ≤ 441 from (by decide))⟩ ?_
    refine EQ_jl rfl (fun h84 eh84 => ?_)
    have s5 := Sh_of eh84 (Sh_sto hS (a := 441) (i := 5) (by decide +kernel))
    clear eh84
    refine EQ_jl rfl (fun x85 ex85 => ?_)
    clear ex85
    exact EQ_some s5
noncomputable def gX13_next_l122 (a1 : Int) (h : AH) : Option (Int × AH) := jit gX13_next_b122 (a1, h)
theorem eX13_next_l122 (a1 : Int) {h : AH} (hS : Sh S h) : EQ (fX13_next_l122 441 a1 h) (gX13_next_l122 a1 h) (fun r => Sh S r.2) := EQ_jit (I := (fun r => Sh S r.2)) (fun s hs => eX13_next_b122 hs) hS
noncomputable def gX13_next_b66 (h : AH) (a1 : Int) : Option ((Int) ⊕ (Int)) := jb (gX13_byteAt a1 h) fun v87 => jb (gX13_isLetter v87) fun v89 => if v89 = 0 then (some (.inr a1)) else (jl (w32 (a1 + 1)) fun x91 => some (.inl x91))
theorem eX13_next_b66 (a1 : Int) {h : AH} (hS : Sh S h) : EQ (fX13_next_b66 441 h a1) (gX13_next_b66 h a1) (Sum.elim (fun _ => True) (fun _ => True)) := by
  unfold fX13_next_b66 gX13_next_b66
  refine EQ_jgd (show h 441 (-2) = 14 from by rw [k_441 hS]) ?_
  refine EQ_jb (eX13_byteAt a1 hS) (fun v87 r1 => ?_)
  refine EQ_jgd (show h 441 (-2) = 14 from by rw [k_441 hS]) ?_
  refine EQ_jb (eX13_isLetter v87) (fun v89 r2 => ?_)
  refine EQ_if Iff.rfl (fun c3 => ?_) (fun c3 => ?_)
  · exact EQ_some trivial
  · refine EQ_jl rfl (fun x91 ex91 => ?_)
    clear ex91
    exact EQ_some trivial
noncomputable def gX13_next_l66 (a1 : Int) (h : AH) : Option (Int) := jit (gX13_next_b66 h) a1
theorem eX13_next_l66 (a1 : Int) {h : AH} (hS : Sh S h) : EQ (fX13_next_l66 441 a1 h) (gX13_next_l66 a1 h) (fun _ => True) := EQ_jit (I := (fun _ => True)) (fun s _ => eX13_next_b66 s hS) trivial
noncomputable def gX13_next (h : AH) : Option (AH) := jl (h 441 4) fun x1 => jb (gX13_next_l5 x1 h) fun o2 => jl (jst h 441 3 o2) fun h4 => jb (gX13_byteAt o2 h4) fun v6 => if 0 ≤ v6 then (jb (gX13_isLetter v6) fun v9 => if v9 = 0 then (jb (gX13_isDigit v6) fun v12 => if v12 = 0 then (if v6 = 34 then (jl (jst h4 441 5 0) fun h15 => jl (w32 (o2 + 1)) fun x16 => jb (gX13_next_l214 x16 0 h15) fun o17 => jt3 o17 fun y19 y20 h21 => if 6 < y20 then (gX13_next_j284 y19 0 h21) else (jb (gX13_byteAt y19 h21) fun v24 => if v24 = 34 then (gX13_next_j284 y19 1 h21) else (gX13_next_j284 y19 0 h21))) else (if v6 = 45 then (jb (gX13_byteAt (w32 (o2 + 1)) h4) fun v28 => if v28 = 62 then (jl (jst h4 441 2 62) fun h30 => jl (w32 (o2 + 2)) fun x31 => gX13_next_j394 x31 h30) else (gX13_next_j338 o2 v6 h4)) else (gX13_next_j338 o2 v6 h4))) else (jl (jst h4 441 5 0) fun h32 => jb (gX13_next_l122 o2 h32) fun o33 => jt2 o33 fun y35 h36 => if 2 < w32 (y35 - h36 441 3) then (gX13_next_j192 y35 120 h36) else (if 16 ≤ h36 441 5 then (gX13_next_j192 y35 120 h36) else (gX13_next_j192 y35 48 h36)))) else (jb (gX13_next_l66 o2 h4) fun o39 => if 8 < w32 (o39 - h4 441 3) then (gX13_next_j103 o39 120 h4) else (gX13_next_j103 o39 110 h4))) else (jl (jst h4 441 2 36) fun h42 => jl (jst h42 441 4 o2) fun h43 => some h43)
theorem eX13_next {h : AH} (hS : Sh S h) : EQ (fX13_next 441 h) (gX13_next h) (fun r => Sh S r) := by
  unfold fX13_next gX13_next
  refine EQ_jgd (show h 441 (-2) = 14 from by rw [k_441 hS]) ?_
  refine EQ_jl rfl (fun x1 ex1 => ?_)
  clear ex1
  refine EQ_jb (eX13_next_l5 x1 hS) (fun o2 r1 => ?_)
  refine EQ_jgd ⟨(show h 441 (-2) = 14 from by rw [k_441 hS]), (show (200 : Int) ≤ 441 from (by decide))⟩ ?_
  refine EQ_jl rfl (fun h4 eh4 => ?_)
  have s2 := Sh_of eh4 (Sh_sto hS (a := 441) (i := 3) (by decide +kernel))
  clear eh4
  refine EQ_jgd (show h4 441 (-2) = 14 from by rw [k_441 s2]) ?_
  refine EQ_jb (eX13_byteAt o2 s2) (fun v6 r3 => ?_)
  refine EQ_if Iff.rfl (fun c4 => ?_) (fun c4 => ?_)
  · refine EQ_jgd (show h4 441 (-2) = 14 from by rw [k_441 s2]) ?_
    refine EQ_jb (eX13_isLetter v6) (fun v9 r5 => ?_)
    refine EQ_if Iff.rfl (fun c6 => ?_) (fun c6 => ?_)
    · refine EQ_jgd (show h4 441 (-2) = 14 from by rw [k_441 s2]) ?_
      refine EQ_jb (eX13_isDigit v6) (fun v12 r7 => ?_)
      refine EQ_if Iff.rfl (fun c8 => ?_) (fun c8 => ?_)
      · refine EQ_if Iff.rfl (fun c9 => ?_) (fun c9 => ?_)
        · refine EQ_jgd ⟨(show h4 441 (-2) = 14 from by rw [k_441 s2]), (show (200 : Int) ≤ 441 from (by decide))⟩ ?_
          refine EQ_jl rfl (fun h15 eh15 => ?_)
          have s10 := Sh_of eh15 (Sh_sto s2 (a := 441) (i := 5) (by decide +kernel))
          clear eh15
          refine EQ_jl rfl (fun x16 ex16 => ?_)
          clear ex16
          refine EQ_jb (eX13_next_l214 x16 0 s10) (fun o17 r11 => ?_)
          obtain ⟨y19, y20, h21⟩ := o17
          refine EQ_jt3 ?_
          replace r11 : Sh S h21 := r11
          refine EQ_if Iff.rfl (fun c12 => ?_) (fun c12 => ?_)
          · exact (eX13_next_j284 y19 0 r11)
          · refine EQ_jgd (show h21 441 (-2) = 14 from by rw [k_441 r11]) ?_
            refine EQ_jb (eX13_byteAt y19 r11) (fun v24 r13 => ?_)
            refine EQ_if Iff.rfl (fun c14 => ?_) (fun c14 => ?_)
            · exact (eX13_next_j284 y19 1 r11)
            · exact (eX13_next_j284 y19 0 r11)
        · refine EQ_if Iff.rfl (fun c15 => ?_) (fun c15 => ?_)
          · refine EQ_jgd (show h4 441 (-2) = 14 from by rw [k_441 s2]) ?_
            refine EQ_jb (eX13_byteAt (w32 (o2 + 1)) s2) (fun v28 r16 => ?_)
            refine EQ_if Iff.rfl (fun c17 => ?_) (fun c17 => ?_)
            · refine EQ_jgd ⟨(show h4 441 (-2) = 14 from by rw [k_441 s2]), (show (200 : Int) ≤ 441 from (by decide)), (show jCh 62 from by unfold jCh; decide)⟩ ?_
              refine EQ_jl rfl (fun h30 eh30 => ?_)
              have s18 := Sh_of eh30 (Sh_sto s2 (a := 441) (i := 2) (by decide +kernel))
              clear eh30
              refine EQ_jl rfl (fun x31 ex31 => ?_)
              clear ex31
              exact (eX13_next_j394 x31 s18)
            · exact (eX13_next_j338 o2 v6 s2)
          · exact (eX13_next_j338 o2 v6 s2)
      · refine EQ_jgd ⟨(show h4 441 (-2) = 14 from by rw [k_441 s2]), (show (200 : Int) ≤ 441 from (by decide))⟩ ?_
        refine EQ_jl rfl (fun h32 eh32 => ?_)
        have s19 := Sh_of eh32 (Sh_sto s2 (a := 441) (i := 5) (by decide +kernel))
        clear eh32
        refine EQ_jb (eX13_next_l122 o2 s19) (fun o33 r20 => ?_)
        obtain ⟨y35, h36⟩ := o33
        refine EQ_jt2 ?_
        replace r20 : Sh S h36 := r20
        refine EQ_jgd (show h36 441 (-2) = 14 from by rw [k_441 r20]) ?_
        refine EQ_if Iff.rfl (fun c21 => ?_) (fun c21 => ?_)
        · exact (eX13_next_j192 y35 120 r20)
        · refine EQ_jgd (show h36 441 (-2) = 14 from by rw [k_441 r20]) ?_
          refine EQ_if Iff.rfl (fun c22 => ?_) (fun c22 => ?_)
          · exact (eX13_next_j192 y35 120 r20)
          · exact (eX13_next_j192 y35 48 r20)
    · refine EQ_jb (eX13_next_l66 o2 s2) (fun o39 r23 => ?_)
      refine EQ_jgd (show h4 441 (-2) = 14 from by rw [k_441 s2]) ?_
      refine EQ_if Iff.rfl (fun c24 => ?_) (fun c24 => ?_)
      · exact (eX13_next_j103 o39 120 s2)
      · exact (eX13_next_j103 o39 110 s2)
  · refine EQ_jgd ⟨(show h4 441 (-2) = 14 from by rw [k_441 s2]), (show (200 : Int) ≤ 441 from (by decide)), (show jCh 36 from by unfold jCh; decide)⟩ ?_
    refine EQ_jl rfl (fun h42 eh42 => ?_)
    have s25 := Sh_of eh42 (Sh_sto s2 (a := 441) (i := 2) (by decide +kernel))
    clear eh42
    refine EQ_jgd ⟨(show h42 441 (-2) = 14 from by rw [k_441 s25]), (show (200 : Int) ≤ 441 from (by decide))⟩ ?_
    refine EQ_jl rfl (fun h43 eh43 => ?_)
    have s26 := Sh_of eh43 (Sh_sto s25 (a := 441) (i := 4) (by decide +kernel))
    clear eh43
    exact EQ_some s26
noncomputable def gX13_begin (a1 : Int) (a2 : Int) (a3 : Int) (h : AH) : Option (AH) := jl (jst h 441 0 a1) fun h1 => jl (jst h1 441 1 a2) fun h2 => jl (jst h2 441 4 0) fun h3 => jl (jst h3 441 6 0) fun h4 => jl (jst h4 441 8 0) fun h5 => jl (jst h5 441 13 0) fun h6 => jl (jst h6 441 14 0) fun h7 => jl (jst h7 441 15 0) fun h8 => jl (jst h8 441 16 0) fun h9 => jl (jst h9 441 17 a3) fun h10 => jb (gX13_next h10) fun h12 => some h12
theorem eX13_begin (a1 : Int) (a2 : Int) (a3 : Int) (hT_a3 : isX3 a3) {h : AH} (hS : Sh S h) : EQ (fX13_begin 441 a1 a2 a3 h) (gX13_begin a1 a2 a3 h) (fun r => Sh S r) := by
  unfold fX13_begin gX13_begin
  refine EQ_jgd ⟨(show h 441 (-2) = 14 from by rw [k_441 hS]), (show (200 : Int) ≤ 441 from (by decide))⟩ ?_
  refine EQ_jl rfl (fun h1 eh1 => ?_)
  have s1 := Sh_of eh1 (Sh_sto hS (a := 441) (i := 0) (by decide +kernel))
  clear eh1
  refine EQ_jgd ⟨(show h1 441 (-2) = 14 from by rw [k_441 s1]), (show (200 : Int) ≤ 441 from (by decide))⟩ ?_
  refine EQ_jl rfl (fun h2 eh2 => ?_)
  have s2 := Sh_of eh2 (Sh_sto s1 (a := 441) (i := 1) (by decide +kernel))
  clear eh2
  refine EQ_jgd ⟨(show h2 441 (-2) = 14 from by rw [k_441 s2]), (show (200 : Int) ≤ 441 from (by decide))⟩ ?_
  refine EQ_jl rfl (fun h3 eh3 => ?_)
  have s3 := Sh_of eh3 (Sh_sto s2 (a := 441) (i := 4) (by decide +kernel))
  clear eh3
  refine EQ_jgd ⟨(show h3 441 (-2) = 14 from by rw [k_441 s3]), (show (200 : Int) ≤ 441 from (by decide)), (show jZ 0 from by unfold jZ; decide)⟩ ?_
  refine EQ_jl rfl (fun h4 eh4 => ?_)
  have s4 := Sh_of eh4 (Sh_sto s3 (a := 441) (i := 6) (by decide +kernel))
  clear eh4
  refine EQ_jgd ⟨(show h4 441 (-2) = 14 from by rw [k_441 s4]), (show (200 : Int) ≤ 441 from (by decide))⟩ ?_
  refine EQ_jl rfl (fun h5 eh5 => ?_)
  have s5 := Sh_of eh5 (Sh_sto s4 (a := 441) (i := 8) (by decide +kernel))
  clear eh5
  refine EQ_jgd ⟨(show h5 441 (-2) = 14 from by rw [k_441 s5]), (show (200 : Int) ≤ 441 from (by decide))⟩ ?_
  refine EQ_jl rfl (fun h6 eh6 => ?_)
  have s6 := Sh_of eh6 (Sh_sto s5 (a := 441) (i := 13) (by decide +kernel))
  clear eh6
  refine EQ_jgd ⟨(show h6 441 (-2) = 14 from by rw [k_441 s6]), (show (200 : Int) ≤ 441 from (by decide)), (show jZ 0 from by unfold jZ; decide)⟩ ?_
  refine EQ_jl rfl (fun h7 eh7 => ?_)
  have s7 := Sh_of eh7 (Sh_sto s6 (a := 441) (i := 14) (by decide +kernel))
  clear eh7
  refine EQ_jgd ⟨(show h7 441 (-2) = 14 from by rw [k_441 s7]), (show (200 : Int) ≤ 441 from (by decide)), (show jZ 0 from by unfold jZ; decide)⟩ ?_
  refine EQ_jl rfl (fun h8 eh8 => ?_)
  have s8 := Sh_of eh8 (Sh_sto s7 (a := 441) (i := 15) (by decide +kernel))
  clear eh8
  refine EQ_jgd ⟨(show h8 441 (-2) = 14 from by rw [k_441 s8]), (show (200 : Int) ≤ 441 from (by decide))⟩ ?_
  refine EQ_jl rfl (fun h9 eh9 => ?_)
  have s9 := Sh_of eh9 (Sh_sto s8 (a := 441) (i := 16) (by decide +kernel))
  clear eh9
  refine EQ_jgd ⟨(show h9 441 (-2) = 14 from by rw [k_441 s9]), (show (200 : Int) ≤ 441 from (by decide))⟩ ?_
  refine EQ_jl rfl (fun h10 eh10 => ?_)
  have s10 := Sh_of eh10 (Sh_sto s9 (a := 441) (i := 17) (by decide +kernel))
  clear eh10
  refine EQ_jgd (show h10 441 (-2) = 14 from by rw [k_441 s10]) ?_
  refine EQ_jb (eX13_next s10) (fun h12 r11 => ?_)
  exact EQ_some r11
noncomputable def gX1_isName_j54_20 (a0 : Int) (a1 : Int) (a3 : Int) (a5 : Int) (t0 : Int) (h : AH) : Option ((Int × Int) ⊕ (Int)) := jl (w32 (a5 + 1)) fun x13 => some (.inl (t0, x13))
theorem eX1_isName_j54_20 (a0 : Int) (a1 : Int) (a3 : Int) (a5 : Int) (t0 : Int) {h : AH} (hS : Sh S h) : EQ (fX1_isName_j54_20 a0 a1 a3 a5 t0 h) (gX1_isName_j54_20 a0 a1 a3 a5 t0 h) (Sum.elim (fun _ => True) (fun _ => True)) := by
  unfold fX1_isName_j54_20 gX1_isName_j54_20
  refine EQ_jl rfl (fun x13 ex13 => ?_)
  clear ex13
  exact EQ_some trivial
noncomputable def gX1_isName_b20 (i0 : Int) (i1 : Int) (i3 : Int) (h : AH) (s : Int × Int) : Option ((Int × Int) ⊕ (Int)) := jt2 s fun a4 a5 => if a4 = 0 then (some (.inr a4)) else (jg (h i3 (-2) = 1) <| jb (fJ0_length i3 h) fun v8 => if v8 ≤ a5 then (some (.inr a4)) else (jg (h i0 (-2) = 103 ∧ jI (w32 (i1 + a5)) (h i0 (-1))) <| jb (fJ0_charAt i3 a5 h) fun v11 => if h i0 (w32 (i1 + a5)) = v11 then (gX1_isName_j54_20 i0 i1 i3 a5 1 h) else (gX1_isName_j54_20 i0 i1 i3 a5 0 h)))
theorem eX1_isName_b20 (i0 : Int) (i1 : Int) (i3 : Int) (s : Int × Int) {h : AH} (hS : Sh S h) : EQ (fX1_isName_b20 i0 i1 i3 h s) (gX1_isName_b20 i0 i1 i3 h s) (Sum.elim (fun _ => True) (fun _ => True)) := by
  unfold fX1_isName_b20 gX1_isName_b20
  obtain ⟨a4, a5⟩ := s
  refine EQ_jt2 ?_
  refine EQ_if Iff.rfl (fun c1 => ?_) (fun c1 => ?_)
  · exact EQ_some trivial
  · refine EQ_jg Iff.rfl (fun g2 => ?_)
    refine EQ_jb (EQ_refl) (fun v8 r3 => ?_)
    refine EQ_if Iff.rfl (fun c4 => ?_) (fun c4 => ?_)
    · exact EQ_some trivial
    · refine EQ_jg Iff.rfl (fun g5 => ?_)
      refine EQ_jgd g2 ?_
      refine EQ_jb (EQ_refl) (fun v11 r6 => ?_)
      refine EQ_if Iff.rfl (fun c7 => ?_) (fun c7 => ?_)
      · exact (eX1_isName_j54_20 i0 i1 i3 a5 1 hS)
      · exact (eX1_isName_j54_20 i0 i1 i3 a5 0 hS)
noncomputable def gX1_isName_l20 (i0 : Int) (i1 : Int) (i3 : Int) (a4 : Int) (a5 : Int) (h : AH) : Option (Int) := jit (gX1_isName_b20 i0 i1 i3 h) (a4, a5)
theorem eX1_isName_l20 (i0 : Int) (i1 : Int) (i3 : Int) (a4 : Int) (a5 : Int) {h : AH} (hS : Sh S h) : EQ (fX1_isName_l20 i0 i1 i3 a4 a5 h) (gX1_isName_l20 i0 i1 i3 a4 a5 h) (fun _ => True) := EQ_jit (I := (fun _ => True)) (fun s _ => eX1_isName_b20 i0 i1 i3 s hS) trivial
noncomputable def gX1_isName_j15 (a0 : Int) (a1 : Int) (a3 : Int) (t0 : Int) (h : AH) : Option (Int) := jb (gX1_isName_l20 a0 a1 a3 t0 0 h) fun o4 => jg (jZ o4) <| some o4
theorem eX1_isName_j15 (a0 : Int) (a1 : Int) (a3 : Int) (t0 : Int) {h : AH} (hS : Sh S h) : EQ (fX1_isName_j15 a0 a1 a3 t0 h) (gX1_isName_j15 a0 a1 a3 t0 h) (fun _ => True) := by
  unfold fX1_isName_j15 gX1_isName_j15
  refine EQ_jb (eX1_isName_l20 a0 a1 a3 t0 0 hS) (fun o4 r1 => ?_)
  refine EQ_jg Iff.rfl (fun g2 => ?_)
  exact EQ_some trivial
noncomputable def gX1_isName (a0 : Int) (a1 : Int) (a2 : Int) (a3 : Int) (h : AH) : Option (Int) := jg (h a3 (-2) = 1) <| jb (fJ0_length a3 h) fun v2 => if w32 (a2 - a1) = v2 then (gX1_isName_j15 a0 a1 a3 1 h) else (gX1_isName_j15 a0 a1 a3 0 h)
theorem eX1_isName (a0 : Int) (a1 : Int) (a2 : Int) (a3 : Int) {h : AH} (hS : Sh S h) : EQ (fX1_isName a0 a1 a2 a3 h) (gX1_isName a0 a1 a2 a3 h) (fun _ => True) := by
  unfold fX1_isName gX1_isName
  refine EQ_jg Iff.rfl (fun g1 => ?_)
  refine EQ_jb (EQ_refl) (fun v2 r2 => ?_)
  refine EQ_if Iff.rfl (fun c3 => ?_) (fun c3 => ?_)
  · exact (eX1_isName_j15 a0 a1 a3 1 hS)
  · exact (eX1_isName_j15 a0 a1 a3 0 hS)
noncomputable def gX13_is (a1 : Int) (h : AH) : Option (Int) := if h 441 2 = 110 then (jb (gX1_isName (h 441 0) (h 441 3) (h 441 4) a1 h) fun v3 => if v3 = 0 then (some 0) else (some 1)) else (some 0)
theorem eX13_is (a1 : Int) {h : AH} (hS : Sh S h) : EQ (fX13_is 441 a1 h) (gX13_is a1 h) (fun _ => True) := by
  unfold fX13_is gX13_is
  refine EQ_jgd (show h 441 (-2) = 14 from by rw [k_441 hS]) ?_
  refine EQ_if Iff.rfl (fun c1 => ?_) (fun c1 => ?_)
  · refine EQ_jgd (show h 441 (-2) = 14 from by rw [k_441 hS]) ?_
    refine EQ_jgd (show h 441 (-2) = 14 from by rw [k_441 hS]) ?_
    refine EQ_jgd (show h 441 (-2) = 14 from by rw [k_441 hS]) ?_
    refine EQ_jb (eX1_isName (h 441 0) (h 441 3) (h 441 4) a1 hS) (fun v3 r2 => ?_)
    refine EQ_if Iff.rfl (fun c3 => ?_) (fun c3 => ?_)
    · exact EQ_some trivial
    · exact EQ_some trivial
  · exact EQ_some trivial
noncomputable def gX13_no_j15 (h : AH) : Option (AH) := jl (jst h 441 6 1) fun h3 => some h3
theorem eX13_no_j15 {h : AH} (hS : Sh S h) : EQ (fX13_no_j15 441 h) (gX13_no_j15 h) (fun r => Sh S r) := by
  unfold fX13_no_j15 gX13_no_j15
  refine EQ_jgd ⟨(show h 441 (-2) = 14 from by rw [k_441 hS]), (show (200 : Int) ≤ 441 from (by decide)), (show jZ 1 from by unfold jZ; decide)⟩ ?_
  refine EQ_jl rfl (fun h3 eh3 => ?_)
  have s1 := Sh_of eh3 (Sh_sto hS (a := 441) (i := 6) (by decide +kernel))
  clear eh3
  exact EQ_some s1
noncomputable def gX13_no (h : AH) : Option (AH) := if h 441 6 = 0 then (jl (jst h 441 7 (h 441 3)) fun h2 => gX13_no_j15 h2) else (gX13_no_j15 h)
theorem eX13_no {h : AH} (hS : Sh S h) : EQ (fX13_no 441 h) (gX13_no h) (fun r => Sh S r) := by
  unfold fX13_no gX13_no
  refine EQ_jgd (show h 441 (-2) = 14 from by rw [k_441 hS]) ?_
  refine EQ_if Iff.rfl (fun c1 => ?_) (fun c1 => ?_)
  · refine EQ_jgd (show h 441 (-2) = 14 from by rw [k_441 hS]) ?_
    refine EQ_jgd ⟨(show h 441 (-2) = 14 from by rw [k_441 hS]), (show (200 : Int) ≤ 441 from (by decide))⟩ ?_
    refine EQ_jl rfl (fun h2 eh2 => ?_)
    have s2 := Sh_of eh2 (Sh_sto hS (a := 441) (i := 7) (by decide +kernel))
    clear eh2
    exact (eX13_no_j15 s2)
  · exact (eX13_no_j15 hS)
noncomputable def gX13_word (a1 : Int) (h : AH) : Option (AH) := if h 441 6 = 0 then (jb (gX13_is a1 h) fun v3 => if v3 = 0 then (jb (gX13_no h) fun h6 => some h6) else (jb (gX13_next h) fun h8 => some h8)) else (some h)
theorem eX13_word (a1 : Int) {h : AH} (hS : Sh S h) : EQ (fX13_word 441 a1 h) (gX13_word a1 h) (fun r => Sh S r) := by
  unfold fX13_word gX13_word
  refine EQ_jgd (show h 441 (-2) = 14 from by rw [k_441 hS]) ?_
  refine EQ_if Iff.rfl (fun c1 => ?_) (fun c1 => ?_)
  · refine EQ_jgd (show h 441 (-2) = 14 from by rw [k_441 hS]) ?_
    refine EQ_jb (eX13_is a1 hS) (fun v3 r2 => ?_)
    refine EQ_if Iff.rfl (fun c3 => ?_) (fun c3 => ?_)
    · refine EQ_jgd (show h 441 (-2) = 14 from by rw [k_441 hS]) ?_
      refine EQ_jb (eX13_no hS) (fun h6 r4 => ?_)
      exact EQ_some r4
    · refine EQ_jgd (show h 441 (-2) = 14 from by rw [k_441 hS]) ?_
      refine EQ_jb (eX13_next hS) (fun h8 r5 => ?_)
      exact EQ_some r5
  · exact EQ_some hS
noncomputable def gX13_isKind (h : AH) : Option (Int) := jb (gX13_is 32 h) fun v2 => if v2 = 0 then (jb (gX13_is 34 h) fun v5 => if v5 = 0 then (jb (gX13_is 36 h) fun v8 => if v8 = 0 then (some 0) else (some 1)) else (some 1)) else (some 1)
theorem eX13_isKind {h : AH} (hS : Sh S h) : EQ (fX13_isKind 441 h) (gX13_isKind h) (fun _ => True) := by
  unfold fX13_isKind gX13_isKind
  refine EQ_jgd (show h 32 (-2) = 1 from by rw [k_32 hS]) ?_
  refine EQ_jgd (show h 441 (-2) = 14 from by rw [k_441 hS]) ?_
  refine EQ_jb (eX13_is 32 hS) (fun v2 r1 => ?_)
  refine EQ_if Iff.rfl (fun c2 => ?_) (fun c2 => ?_)
  · refine EQ_jgd (show h 34 (-2) = 1 from by rw [k_34 hS]) ?_
    refine EQ_jgd (show h 441 (-2) = 14 from by rw [k_441 hS]) ?_
    refine EQ_jb (eX13_is 34 hS) (fun v5 r3 => ?_)
    refine EQ_if Iff.rfl (fun c4 => ?_) (fun c4 => ?_)
    · refine EQ_jgd (show h 36 (-2) = 1 from by rw [k_36 hS]) ?_
      refine EQ_jgd (show h 441 (-2) = 14 from by rw [k_441 hS]) ?_
      refine EQ_jb (eX13_is 36 hS) (fun v8 r5 => ?_)
      refine EQ_if Iff.rfl (fun c6 => ?_) (fun c6 => ?_)
      · exact EQ_some trivial
      · exact EQ_some trivial
    · exact EQ_some trivial
  · exact EQ_some trivial
noncomputable def gX13_kind_j49 (t0 : Int) (h : AH) : Option (Int × AH) := jb (gX13_next h) fun h14 => some (t0, h14)
theorem eX13_kind_j49 (t0 : Int) {h : AH} (hS : Sh S h) : EQ (fX13_kind_j49 441 t0 h) (gX13_kind_j49 t0 h) (fun r => Sh S r.2) := by
  unfold fX13_kind_j49 gX13_kind_j49
  refine EQ_jgd (show h 441 (-2) = 14 from by rw [k_441 hS]) ?_
  refine EQ_jb (eX13_next hS) (fun h14 r1 => ?_)
  exact EQ_some r1
noncomputable def gX13_kind (h : AH) : Option (Int × AH) := if h 441 6 = 0 then (jb (gX13_isKind h) fun v3 => if v3 = 0 then (jb (gX13_no h) fun h6 => some (0, h6)) else (jb (gX13_is 32 h) fun v8 => if v8 = 0 then (jb (gX13_is 34 h) fun v11 => if v11 = 0 then (gX13_kind_j49 2 h) else (gX13_kind_j49 1 h)) else (gX13_kind_j49 0 h))) else (some (0, h))
theorem eX13_kind {h : AH} (hS : Sh S h) : EQ (fX13_kind 441 h) (gX13_kind h) (fun r => Sh S r.2) := by
  unfold fX13_kind gX13_kind
  refine EQ_jgd (show h 441 (-2) = 14 from by rw [k_441 hS]) ?_
  refine EQ_if Iff.rfl (fun c1 => ?_) (fun c1 => ?_)
  · refine EQ_jgd (show h 441 (-2) = 14 from by rw [k_441 hS]) ?_
    refine EQ_jb (eX13_isKind hS) (fun v3 r2 => ?_)
    refine EQ_if Iff.rfl (fun c3 => ?_) (fun c3 => ?_)
    · refine EQ_jgd (show h 441 (-2) = 14 from by rw [k_441 hS]) ?_
      refine EQ_jb (eX13_no hS) (fun h6 r4 => ?_)
      exact EQ_some r4
    · refine EQ_jgd (show h 32 (-2) = 1 from by rw [k_32 hS]) ?_
      refine EQ_jgd (show h 441 (-2) = 14 from by rw [k_441 hS]) ?_
      refine EQ_jb (eX13_is 32 hS) (fun v8 r5 => ?_)
      refine EQ_if Iff.rfl (fun c6 => ?_) (fun c6 => ?_)
      · refine EQ_jgd (show h 34 (-2) = 1 from by rw [k_34 hS]) ?_
        refine EQ_jgd (show h 441 (-2) = 14 from by rw [k_441 hS]) ?_
        refine EQ_jb (eX13_is 34 hS) (fun v11 r7 => ?_)
        refine EQ_if Iff.rfl (fun c8 => ?_) (fun c8 => ?_)
        · exact (eX13_kind_j49 2 hS)
        · exact (eX13_kind_j49 1 hS)
      · exact (eX13_kind_j49 0 hS)
  · exact EQ_some hS
noncomputable def gX13_want (a1 : Int) (h : AH) : Option (AH) := if h 441 6 = 0 then (if h 441 2 = a1 then (jb (gX13_next h) fun h4 => some h4) else (jb (gX13_no h) fun h6 => some h6)) else (some h)
theorem eX13_want (a1 : Int) {h : AH} (hS : Sh S h) : EQ (fX13_want 441 a1 h) (gX13_want a1 h) (fun r => Sh S r) := by
  unfold fX13_want gX13_want
  refine EQ_jgd (show h 441 (-2) = 14 from by rw [k_441 hS]) ?_
  refine EQ_if Iff.rfl (fun c1 => ?_) (fun c1 => ?_)
  · refine EQ_jgd (show h 441 (-2) = 14 from by rw [k_441 hS]) ?_
    refine EQ_if Iff.rfl (fun c2 => ?_) (fun c2 => ?_)
    · refine EQ_jgd (show h 441 (-2) = 14 from by rw [k_441 hS]) ?_
      refine EQ_jb (eX13_next hS) (fun h4 r3 => ?_)
      exact EQ_some r3
    · refine EQ_jgd (show h 441 (-2) = 14 from by rw [k_441 hS]) ?_
      refine EQ_jb (eX13_no hS) (fun h6 r4 => ?_)
      exact EQ_some r4
  · exact EQ_some hS
noncomputable def gX13_isValue (h : AH) : Option (Int) := if h 441 2 = 48 then (some 1) else (if h 441 2 = 119 then (some 1) else (jb (gX13_is 22 h) fun v4 => if v4 = 0 then (jb (gX13_is 24 h) fun v7 => if v7 = 0 then (some 0) else (some 1)) else (some 1)))
theorem eX13_isValue {h : AH} (hS : Sh S h) : EQ (fX13_isValue 441 h) (gX13_isValue h) (fun _ => True) := by
  unfold fX13_isValue gX13_isValue
  refine EQ_jgd (show h 441 (-2) = 14 from by rw [k_441 hS]) ?_
  refine EQ_if Iff.rfl (fun c1 => ?_) (fun c1 => ?_)
  · exact EQ_some trivial
  · refine EQ_jgd (show h 441 (-2) = 14 from by rw [k_441 hS]) ?_
    refine EQ_if Iff.rfl (fun c2 => ?_) (fun c2 => ?_)
    · exact EQ_some trivial
    · refine EQ_jgd (show h 22 (-2) = 1 from by rw [k_22 hS]) ?_
      refine EQ_jgd (show h 441 (-2) = 14 from by rw [k_441 hS]) ?_
      refine EQ_jb (eX13_is 22 hS) (fun v4 r3 => ?_)
      refine EQ_if Iff.rfl (fun c4 => ?_) (fun c4 => ?_)
      · refine EQ_jgd (show h 24 (-2) = 1 from by rw [k_24 hS]) ?_
        refine EQ_jgd (show h 441 (-2) = 14 from by rw [k_441 hS]) ?_
        refine EQ_jb (eX13_is 24 hS) (fun v7 r5 => ?_)
        refine EQ_if Iff.rfl (fun c6 => ?_) (fun c6 => ?_)
        · exact EQ_some trivial
        · exact EQ_some trivial
      · exact EQ_some trivial
noncomputable def gX2_name (a1 : Int) (h : AH) : Option (Int) := jg (jI a1 26) <| some (h 203 a1)
theorem eX2_name (a1 : Int) {h : AH} (hS : Sh S h) : EQ (fX2_name 201 a1 h) (gX2_name a1 h) (fun _ => True) := by
  unfold fX2_name gX2_name
  refine EQ_jgd (show h 201 (-2) = 3 from by rw [k_201 hS]) ?_
  refine EQ_jg ⟨fun ⟨_, x0⟩ => (show jI a1 (h (h 201 1) (-1)) ↔ jI a1 26 from by rw [r_201_1 hS, l_203 hS]).mp x0, fun x0 => ⟨(show h (h 201 1) (-2) = 107 from by rw [r_201_1 hS, k_203 hS]), (show jI a1 (h (h 201 1) (-1)) ↔ jI a1 26 from by rw [r_201_1 hS, l_203 hS]).mpr x0⟩⟩ (fun g1 => ?_)
  exact EQ_some' (by rw [r_201_1 hS]) trivial
noncomputable def gX1_nameOf (a1 : Int) (h : AH) : Option (Int) := if 26 ≤ a1 then (jg (jI (w32 (a1 - 26)) 10) <| some (h 268 (w32 (a1 - 26)))) else (jb (gX2_name a1 h) fun v3 => some v3)
theorem eX1_nameOf (a1 : Int) {h : AH} (hS : Sh S h) : EQ (fX1_nameOf 200 a1 h) (gX1_nameOf a1 h) (fun _ => True) := by
  unfold fX1_nameOf gX1_nameOf
  refine EQ_if Iff.rfl (fun c1 => ?_) (fun c1 => ?_)
  · refine EQ_jgd (show h 200 (-2) = 2 from by rw [k_200 hS]) ?_
    refine EQ_jg ⟨fun ⟨_, x0⟩ => (show jI (w32 (a1 - 26)) (h (h 200 6) (-1)) ↔ jI (w32 (a1 - 26)) 10 from by rw [r_200_6 hS, l_268 hS]).mp x0, fun x0 => ⟨(show h (h 200 6) (-2) = 107 from by rw [r_200_6 hS, k_268 hS]), (show jI (w32 (a1 - 26)) (h (h 200 6) (-1)) ↔ jI (w32 (a1 - 26)) 10 from by rw [r_200_6 hS, l_268 hS]).mpr x0⟩⟩ (fun g2 => ?_)
    exact EQ_some' (by rw [r_200_6 hS]) trivial
  · refine EQ_jgd (show h 200 (-2) = 2 from by rw [k_200 hS]) ?_
    refine EQ_jgd (show h (h 200 0) (-2) = 3 from by rw [r_200_0 hS, k_201 hS]) ?_
    refine EQ_jb (by rw [r_200_0 hS]; exact eX2_name a1 hS) (fun v3 r3 => ?_)
    exact EQ_some trivial
noncomputable def gX1_actBy_b3 (i1 : Int) (i2 : Int) (i3 : Int) (h : AH) (a4 : Int) : Option ((Int) ⊕ ((Int) ⊕ (Unit))) := if w32 (26 + h 200 7) ≤ a4 then (some (.inr (.inr ()))) else (jb (gX1_nameOf a4 h) fun v7 => jb (gX1_isName i1 i2 i3 v7 h) fun v9 => if v9 = 0 then (jl (w32 (a4 + 1)) fun x11 => some (.inl x11)) else (some (.inr (.inl a4))))
theorem eX1_actBy_b3 (i1 : Int) (i2 : Int) (i3 : Int) (a4 : Int) {h : AH} (hS : Sh S h) : EQ (fX1_actBy_b3 200 i1 i2 i3 h a4) (gX1_actBy_b3 i1 i2 i3 h a4) (Sum.elim (fun _ => True) (Sum.elim (fun _ => True) (fun _ => True))) := by
  unfold fX1_actBy_b3 gX1_actBy_b3
  refine EQ_jgd (show h 200 (-2) = 2 from by rw [k_200 hS]) ?_
  refine EQ_if Iff.rfl (fun c1 => ?_) (fun c1 => ?_)
  · exact EQ_some trivial
  · refine EQ_jgd (show h 200 (-2) = 2 from by rw [k_200 hS]) ?_
    refine EQ_jb (eX1_nameOf a4 hS) (fun v7 r2 => ?_)
    refine EQ_jb (eX1_isName i1 i2 i3 v7 hS) (fun v9 r3 => ?_)
    refine EQ_if Iff.rfl (fun c4 => ?_) (fun c4 => ?_)
    · refine EQ_jl rfl (fun x11 ex11 => ?_)
      clear ex11
      exact EQ_some trivial
    · exact EQ_some trivial
noncomputable def gX1_actBy_l3 (i1 : Int) (i2 : Int) (i3 : Int) (a4 : Int) (h : AH) : Option ((Int) ⊕ (Unit)) := jit (gX1_actBy_b3 i1 i2 i3 h) a4
theorem eX1_actBy_l3 (i1 : Int) (i2 : Int) (i3 : Int) (a4 : Int) {h : AH} (hS : Sh S h) : EQ (fX1_actBy_l3 200 i1 i2 i3 a4 h) (gX1_actBy_l3 i1 i2 i3 a4 h) (Sum.elim (fun _ => True) (fun _ => True)) := EQ_jit (I := (fun _ => True)) (fun s _ => eX1_actBy_b3 i1 i2 i3 s hS) trivial
noncomputable def gX1_actBy (a1 : Int) (a2 : Int) (a3 : Int) (h : AH) : Option (Int) := jb (gX1_actBy_l3 a1 a2 a3 0 h) fun o1 => jm o1 (fun o3 => some o3) (fun o4 => some (-1))
theorem eX1_actBy (a1 : Int) (a2 : Int) (a3 : Int) {h : AH} (hS : Sh S h) : EQ (fX1_actBy 200 a1 a2 a3 h) (gX1_actBy a1 a2 a3 h) (fun _ => True) := by
  unfold fX1_actBy gX1_actBy
  refine EQ_jb (eX1_actBy_l3 a1 a2 a3 0 hS) (fun o1 r1 => ?_)
  refine EQ_jm r1 (fun o3 r2 => ?_) (fun o4 r3 => ?_)
  · exact EQ_some trivial
  · exact EQ_some trivial
noncomputable def gX13_err_j32 (a1 : Int) (a2 : Int) (h : AH) : Option (AH) := jl (jst h 441 8 a1) fun h5 => jl (jst h5 441 9 a2) fun h6 => some h6
theorem eX13_err_j32 (a1 : Int) (a2 : Int) {h : AH} (hS : Sh S h) : EQ (fX13_err_j32 441 a1 a2 h) (gX13_err_j32 a1 a2 h) (fun r => Sh S r) := by
  unfold fX13_err_j32 gX13_err_j32
  refine EQ_jgd ⟨(show h 441 (-2) = 14 from by rw [k_441 hS]), (show (200 : Int) ≤ 441 from (by decide))⟩ ?_
  refine EQ_jl rfl (fun h5 eh5 => ?_)
  have s1 := Sh_of eh5 (Sh_sto hS (a := 441) (i := 8) (by decide +kernel))
  clear eh5
  refine EQ_jgd ⟨(show h5 441 (-2) = 14 from by rw [k_441 s1]), (show (200 : Int) ≤ 441 from (by decide))⟩ ?_
  refine EQ_jl rfl (fun h6 eh6 => ?_)
  have s2 := Sh_of eh6 (Sh_sto s1 (a := 441) (i := 9) (by decide +kernel))
  clear eh6
  exact EQ_some s2
noncomputable def gX13_err (a1 : Int) (a2 : Int) (h : AH) : Option (AH) := if h 441 8 ≤ 0 then (gX13_err_j32 a1 a2 h) else (if h 441 9 < a2 then (some h) else (if a2 = h 441 9 then (if a1 < h 441 8 then (gX13_err_j32 a1 a2 h) else (some h)) else (gX13_err_j32 a1 a2 h)))
theorem eX13_err (a1 : Int) (a2 : Int) {h : AH} (hS : Sh S h) : EQ (fX13_err 441 a1 a2 h) (gX13_err a1 a2 h) (fun r => Sh S r) := by
  unfold fX13_err gX13_err
  refine EQ_jgd (show h 441 (-2) = 14 from by rw [k_441 hS]) ?_
  refine EQ_if Iff.rfl (fun c1 => ?_) (fun c1 => ?_)
  · exact (eX13_err_j32 a1 a2 hS)
  · refine EQ_jgd (show h 441 (-2) = 14 from by rw [k_441 hS]) ?_
    refine EQ_if Iff.rfl (fun c2 => ?_) (fun c2 => ?_)
    · exact EQ_some hS
    · refine EQ_jgd (show h 441 (-2) = 14 from by rw [k_441 hS]) ?_
      refine EQ_if Iff.rfl (fun c3 => ?_) (fun c3 => ?_)
      · refine EQ_jgd (show h 441 (-2) = 14 from by rw [k_441 hS]) ?_
        refine EQ_if Iff.rfl (fun c4 => ?_) (fun c4 => ?_)
        · exact (eX13_err_j32 a1 a2 hS)
        · exact EQ_some hS
      · exact (eX13_err_j32 a1 a2 hS)
noncomputable def gX13_value_j82 (t0 : Int) (h : AH) : Option (Int × AH) := jb (gX13_next h) fun h15 => some (t0, h15)
theorem eX13_value_j82 (t0 : Int) {h : AH} (hS : Sh S h) : EQ (fX13_value_j82 441 t0 h) (gX13_value_j82 t0 h) (fun r => Sh S r.2) := by
  unfold fX13_value_j82 gX13_value_j82
  refine EQ_jgd (show h 441 (-2) = 14 from by rw [k_441 hS]) ?_
  refine EQ_jb (eX13_next hS) (fun h15 r1 => ?_)
  exact EQ_some r1
noncomputable def gX13_value_j50 (t1 : Int) (h : AH) : Option (Int × AH) := jl (jst h 441 18 t1) fun h9 => if h9 441 18 = 1 then (jb (gX13_is 22 h9) fun v12 => if v12 = 0 then (gX13_value_j82 0 h9) else (gX13_value_j82 1 h9)) else (gX13_value_j82 (h9 441 5) h9)
theorem eX13_value_j50 (t1 : Int) {h : AH} (hS : Sh S h) : EQ (fX13_value_j50 441 441 t1 h) (gX13_value_j50 t1 h) (fun r => Sh S r.2) := by
  unfold fX13_value_j50 gX13_value_j50
  refine EQ_jgd ⟨(show h 441 (-2) = 14 from by rw [k_441 hS]), (show (200 : Int) ≤ 441 from (by decide))⟩ ?_
  refine EQ_jl rfl (fun h9 eh9 => ?_)
  have s1 := Sh_of eh9 (Sh_sto hS (a := 441) (i := 18) (by decide +kernel))
  clear eh9
  refine EQ_jgd (show h9 441 (-2) = 14 from by rw [k_441 s1]) ?_
  refine EQ_if Iff.rfl (fun c2 => ?_) (fun c2 => ?_)
  · refine EQ_jgd (show h9 22 (-2) = 1 from by rw [k_22 s1]) ?_
    refine EQ_jgd (show h9 441 (-2) = 14 from by rw [k_441 s1]) ?_
    refine EQ_jb (eX13_is 22 s1) (fun v12 r3 => ?_)
    refine EQ_if Iff.rfl (fun c4 => ?_) (fun c4 => ?_)
    · exact (eX13_value_j82 0 s1)
    · exact (eX13_value_j82 1 s1)
  · refine EQ_jgd (show h9 441 (-2) = 14 from by rw [k_441 s1]) ?_
    exact (eX13_value_j82 (h9 441 5) s1)
noncomputable def gX13_value (h : AH) : Option (Int × AH) := if h 441 6 = 0 then (jb (gX13_isValue h) fun v3 => if v3 = 0 then (jb (gX13_no h) fun h6 => some (0, h6)) else (if h 441 2 = 48 then (gX13_value_j50 0 h) else (if h 441 2 = 119 then (gX13_value_j50 2 h) else (gX13_value_j50 1 h)))) else (some (0, h))
theorem eX13_value {h : AH} (hS : Sh S h) : EQ (fX13_value 441 h) (gX13_value h) (fun r => Sh S r.2) := by
  unfold fX13_value gX13_value
  refine EQ_jgd (show h 441 (-2) = 14 from by rw [k_441 hS]) ?_
  refine EQ_if Iff.rfl (fun c1 => ?_) (fun c1 => ?_)
  · refine EQ_jgd (show h 441 (-2) = 14 from by rw [k_441 hS]) ?_
    refine EQ_jb (eX13_isValue hS) (fun v3 r2 => ?_)
    refine EQ_if Iff.rfl (fun c3 => ?_) (fun c3 => ?_)
    · refine EQ_jgd (show h 441 (-2) = 14 from by rw [k_441 hS]) ?_
      refine EQ_jb (eX13_no hS) (fun h6 r4 => ?_)
      exact EQ_some r4
    · refine EQ_jgd (show h 441 (-2) = 14 from by rw [k_441 hS]) ?_
      refine EQ_if Iff.rfl (fun c5 => ?_) (fun c5 => ?_)
      · exact (eX13_value_j50 0 hS)
      · refine EQ_jgd (show h 441 (-2) = 14 from by rw [k_441 hS]) ?_
        refine EQ_if Iff.rfl (fun c6 => ?_) (fun c6 => ?_)
        · exact (eX13_value_j50 2 hS)
        · exact (eX13_value_j50 1 hS)
  · exact EQ_some hS
noncomputable def gX2_operands (a1 : Int) (h : AH) : Option (Int) := jg (jI a1 26) <| some (h 204 a1)
theorem eX2_operands (a1 : Int) {h : AH} (hS : Sh S h) : EQ (fX2_operands 201 a1 h) (gX2_operands a1 h) (fun _ => True) := by
  unfold fX2_operands gX2_operands
  refine EQ_jgd (show h 201 (-2) = 3 from by rw [k_201 hS]) ?_
  refine EQ_jg ⟨fun ⟨_, x0⟩ => (show jI a1 (h (h 201 2) (-1)) ↔ jI a1 26 from by rw [r_201_2 hS, l_204 hS]).mp x0, fun x0 => ⟨(show h (h 201 2) (-2) = 101 from by rw [r_201_2 hS, k_204 hS]), (show jI a1 (h (h 201 2) (-1)) ↔ jI a1 26 from by rw [r_201_2 hS, l_204 hS]).mpr x0⟩⟩ (fun g1 => ?_)
  exact EQ_some' (by rw [r_201_2 hS]) trivial
noncomputable def gX1_operandsOf (a1 : Int) (h : AH) : Option (Int) := if 26 ≤ a1 then (jg (jI (w32 (a1 - 26)) 10) <| some (h 265 (w32 (a1 - 26)))) else (jb (gX2_operands a1 h) fun v3 => some v3)
theorem eX1_operandsOf (a1 : Int) {h : AH} (hS : Sh S h) : EQ (fX1_operandsOf 200 a1 h) (gX1_operandsOf a1 h) (fun _ => True) := by
  unfold fX1_operandsOf gX1_operandsOf
  refine EQ_if Iff.rfl (fun c1 => ?_) (fun c1 => ?_)
  · refine EQ_jgd (show h 200 (-2) = 2 from by rw [k_200 hS]) ?_
    refine EQ_jg ⟨fun ⟨_, x0⟩ => (show jI (w32 (a1 - 26)) (h (h 200 3) (-1)) ↔ jI (w32 (a1 - 26)) 10 from by rw [r_200_3 hS, l_265 hS]).mp x0, fun x0 => ⟨(show h (h 200 3) (-2) = 101 from by rw [r_200_3 hS, k_265 hS]), (show jI (w32 (a1 - 26)) (h (h 200 3) (-1)) ↔ jI (w32 (a1 - 26)) 10 from by rw [r_200_3 hS, l_265 hS]).mpr x0⟩⟩ (fun g2 => ?_)
    exact EQ_some' (by rw [r_200_3 hS]) trivial
  · refine EQ_jgd (show h 200 (-2) = 2 from by rw [k_200 hS]) ?_
    refine EQ_jgd (show h (h 200 0) (-2) = 3 from by rw [r_200_0 hS, k_201 hS]) ?_
    refine EQ_jb (by rw [r_200_0 hS]; exact eX2_operands a1 hS) (fun v3 r3 => ?_)
    exact EQ_some trivial
noncomputable def gX2_kind (a1 : Int) (a2 : Int) (h : AH) : Option (Int) := jg (jI (w32 (w32 (4 * a1) + a2)) 104) <| some (h 205 (w32 (w32 (4 * a1) + a2)))
theorem eX2_kind (a1 : Int) (a2 : Int) {h : AH} (hS : Sh S h) : EQ (fX2_kind 201 a1 a2 h) (gX2_kind a1 a2 h) (fun _ => True) := by
  unfold fX2_kind gX2_kind
  refine EQ_jgd (show h 201 (-2) = 3 from by rw [k_201 hS]) ?_
  refine EQ_jg ⟨fun ⟨_, x0⟩ => (show jI (w32 (w32 (4 * a1) + a2)) (h (h 201 3) (-1)) ↔ jI (w32 (w32 (4 * a1) + a2)) 104 from by rw [r_201_3 hS, l_205 hS]).mp x0, fun x0 => ⟨(show h (h 201 3) (-2) = 101 from by rw [r_201_3 hS, k_205 hS]), (show jI (w32 (w32 (4 * a1) + a2)) (h (h 201 3) (-1)) ↔ jI (w32 (w32 (4 * a1) + a2)) 104 from by rw [r_201_3 hS, l_205 hS]).mpr x0⟩⟩ (fun g1 => ?_)
  exact EQ_some' (by rw [r_201_3 hS]) trivial
noncomputable def gX1_kindOf (a1 : Int) (a2 : Int) (h : AH) : Option (Int) := if 26 ≤ a1 then (jl (w32 (a1 - 26)) fun x2 => jg (jI x2 10) <| if a2 = h 265 x2 then (jg (jI (w32 (w32 (3 * x2) + 2)) 30) <| some (h 266 (w32 (w32 (3 * x2) + 2)))) else (jg (jI (w32 (w32 (3 * x2) + a2)) 30) <| some (h 266 (w32 (w32 (3 * x2) + a2))))) else (jb (gX2_kind a1 a2 h) fun v5 => some v5)
theorem eX1_kindOf (a1 : Int) (a2 : Int) {h : AH} (hS : Sh S h) : EQ (fX1_kindOf 200 a1 a2 h) (gX1_kindOf a1 a2 h) (fun _ => True) := by
  unfold fX1_kindOf gX1_kindOf
  refine EQ_if Iff.rfl (fun c1 => ?_) (fun c1 => ?_)
  · refine EQ_jl rfl (fun x2 ex2 => ?_)
    clear ex2
    refine EQ_jgd (show h 200 (-2) = 2 from by rw [k_200 hS]) ?_
    refine EQ_jgd (show h 200 (-2) = 2 from by rw [k_200 hS]) ?_
    refine EQ_jg ⟨fun ⟨_, x0⟩ => (show jI x2 (h (h 200 3) (-1)) ↔ jI x2 10 from by rw [r_200_3 hS, l_265 hS]).mp x0, fun x0 => ⟨(show h (h 200 3) (-2) = 101 from by rw [r_200_3 hS, k_265 hS]), (show jI x2 (h (h 200 3) (-1)) ↔ jI x2 10 from by rw [r_200_3 hS, l_265 hS]).mpr x0⟩⟩ (fun g2 => ?_)
    refine EQ_if (show a2 = h (h 200 3) x2 ↔ a2 = h 265 x2 from by rw [r_200_3 hS]) (fun c3 => ?_) (fun c3 => ?_)
    · refine EQ_jg ⟨fun ⟨_, x0⟩ => (show jI (w32 (w32 (3 * x2) + 2)) (h (h 200 4) (-1)) ↔ jI (w32 (w32 (3 * x2) + 2)) 30 from by rw [r_200_4 hS, l_266 hS]).mp x0, fun x0 => ⟨(show h (h 200 4) (-2) = 101 from by rw [r_200_4 hS, k_266 hS]), (show jI (w32 (w32 (3 * x2) + 2)) (h (h 200 4) (-1)) ↔ jI (w32 (w32 (3 * x2) + 2)) 30 from by rw [r_200_4 hS, l_266 hS]).mpr x0⟩⟩ (fun g4 => ?_)
      exact EQ_some' (by rw [r_200_4 hS]) trivial
    · refine EQ_jg ⟨fun ⟨_, x0⟩ => (show jI (w32 (w32 (3 * x2) + a2)) (h (h 200 4) (-1)) ↔ jI (w32 (w32 (3 * x2) + a2)) 30 from by rw [r_200_4 hS, l_266 hS]).mp x0, fun x0 => ⟨(show h (h 200 4) (-2) = 101 from by rw [r_200_4 hS, k_266 hS]), (show jI (w32 (w32 (3 * x2) + a2)) (h (h 200 4) (-1)) ↔ jI (w32 (w32 (3 * x2) + a2)) 30 from by rw [r_200_4 hS, l_266 hS]).mpr x0⟩⟩ (fun g5 => ?_)
      exact EQ_some' (by rw [r_200_4 hS]) trivial
  · refine EQ_jgd (show h 200 (-2) = 2 from by rw [k_200 hS]) ?_
    refine EQ_jgd (show h (h 200 0) (-2) = 3 from by rw [r_200_0 hS, k_201 hS]) ?_
    refine EQ_jb (by rw [r_200_0 hS]; exact eX2_kind a1 a2 hS) (fun v5 r6 => ?_)
    exact EQ_some trivial
noncomputable def gX13_piece_j398 (a3 : Int) (a5 : Int) (t0 : Int) (t1 : Int) (t2 : Int) (h : AH) : Option (AH) := jg (h t0 (-2) = 101 ∧ 200 ≤ t0 ∧ jI t1 (h t0 (-1))) <| jl (jst h t0 t1 t2) fun h46 => jg (isX4 (h46 441 20)) <| jg (jI (h46 (h46 441 20) 3) 12) <| jl (jst h46 (h46 441 20 + 4) (h46 (h46 441 20) 3) a3) fun h47 => jg (isX4 (h47 441 20)) <| jg (jI (h47 (h47 441 20) 3) 12) <| jl (jst h47 (h47 441 20 + 5) (h47 (h47 441 20) 3) a5) fun h48 => jg (isX4 (h48 441 20)) <| jl (jst h48 (h48 441 20) 3 (w32 (h48 (h48 441 20) 3 + 1))) fun h49 => some h49
theorem eX13_piece_j398 (a3 : Int) (a5 : Int) (t0 : Int) (t1 : Int) (t2 : Int) {h : AH} (hS : Sh S h) : EQ (fX13_piece_j398 441 a3 a5 t0 t1 t2 h) (gX13_piece_j398 a3 a5 t0 t1 t2 h) (fun r => Sh S r) := by
  unfold fX13_piece_j398 gX13_piece_j398
  refine EQ_jg Iff.rfl (fun g1 => ?_)
  refine EQ_jl rfl (fun h46 eh46 => ?_)
  have s2 := Sh_of eh46 (Sh_stk hS (Or.inl (g1.1)) (g1.2.1) (jI_nn (g1.2.2)) (fun e => absurd (((g1.1)).symm.trans e) (by decide)))
  clear eh46
  refine EQ_jgd (show h46 441 (-2) = 14 from by rw [k_441 s2]) ?_
  refine EQ_jg ⟨fun x0 => (ik_X4 s2).mp x0, fun x0 => (ik_X4 s2).mpr x0⟩ (fun g3 => ?_)
  refine EQ_jgd (show h46 441 (-2) = 14 from by rw [k_441 s2]) ?_
  refine EQ_jgd (show h46 (h46 441 20) (-2) = 5 from by rw [kd_X4 s2 g3]) ?_
  refine EQ_jg ⟨fun ⟨_, _, x0⟩ => (show jI (h46 (h46 441 20) 3) (h46 (h46 (h46 441 20) 6) (-1)) ↔ jI (h46 (h46 441 20) 3) 12 from by rw [ft_X4_6 s2 g3, la_X4_6 s2 g3]).mp x0, fun x0 => ⟨(show h46 (h46 (h46 441 20) 6) (-2) = 101 from by rw [ft_X4_6 s2 g3, ka_X4_6 s2 g3]), (show 200 ≤ h46 (h46 441 20) 6 from by rw [ft_X4_6 s2 g3]; exact gea_X4_6 g3), (show jI (h46 (h46 441 20) 3) (h46 (h46 (h46 441 20) 6) (-1)) ↔ jI (h46 (h46 441 20) 3) 12 from by rw [ft_X4_6 s2 g3, la_X4_6 s2 g3]).mpr x0⟩⟩ (fun g4 => ?_)
  refine EQ_jl (by rw [ft_X4_6 s2 g3]) (fun h47 eh47 => ?_)
  have s5 := Sh_of eh47 (Sh_sta s2 (ara_X4_6 g3) (jI_nn g4) (fun e => absurd ((ka_X4_6 s2 g3).symm.trans e) (by decide)))
  clear eh47
  refine EQ_jgd (show h47 441 (-2) = 14 from by rw [k_441 s5]) ?_
  refine EQ_jg ⟨fun x0 => (ik_X4 s5).mp x0, fun x0 => (ik_X4 s5).mpr x0⟩ (fun g6 => ?_)
  refine EQ_jgd (show h47 441 (-2) = 14 from by rw [k_441 s5]) ?_
  refine EQ_jgd (show h47 (h47 441 20) (-2) = 5 from by rw [kd_X4 s5 g6]) ?_
  refine EQ_jg ⟨fun ⟨_, _, x0⟩ => (show jI (h47 (h47 441 20) 3) (h47 (h47 (h47 441 20) 7) (-1)) ↔ jI (h47 (h47 441 20) 3) 12 from by rw [ft_X4_7 s5 g6, la_X4_7 s5 g6]).mp x0, fun x0 => ⟨(show h47 (h47 (h47 441 20) 7) (-2) = 101 from by rw [ft_X4_7 s5 g6, ka_X4_7 s5 g6]), (show 200 ≤ h47 (h47 441 20) 7 from by rw [ft_X4_7 s5 g6]; exact gea_X4_7 g6), (show jI (h47 (h47 441 20) 3) (h47 (h47 (h47 441 20) 7) (-1)) ↔ jI (h47 (h47 441 20) 3) 12 from by rw [ft_X4_7 s5 g6, la_X4_7 s5 g6]).mpr x0⟩⟩ (fun g7 => ?_)
  refine EQ_jl (by rw [ft_X4_7 s5 g6]) (fun h48 eh48 => ?_)
  have s8 := Sh_of eh48 (Sh_sta s5 (ara_X4_7 g6) (jI_nn g7) (fun e => absurd ((ka_X4_7 s5 g6).symm.trans e) (by decide)))
  clear eh48
  refine EQ_jgd (show h48 441 (-2) = 14 from by rw [k_441 s8]) ?_
  refine EQ_jg ⟨fun x0 => (ik_X4 s8).mp x0, fun x0 => (ik_X4 s8).mpr x0⟩ (fun g9 => ?_)
  refine EQ_jgd ⟨(show h48 (h48 441 20) (-2) = 5 from by rw [kd_X4 s8 g9]), (show 200 ≤ h48 441 20 from ge_X4 g9)⟩ ?_
  refine EQ_jl rfl (fun h49 eh49 => ?_)
  have s10 := Sh_of eh49 (Sh_sto_X4_3 s8 g9)
  clear eh49
  exact EQ_some s10
noncomputable def gX13_piece_j346 (a2 : Int) (a3 : Int) (a4 : Int) (a5 : Int) (t0 : Int) (t1 : Int) (t2 : Int) (h : AH) : Option (AH) := jg (h t0 (-2) = 101 ∧ 200 ≤ t0 ∧ jI t1 (h t0 (-1))) <| jl (jst h t0 t1 t2) fun h39 => jg (isX4 (h39 441 20)) <| if a4 = 0 then (gX13_piece_j398 a3 a5 (h39 441 20 + 3) (h39 (h39 441 20) 3) (h39 441 18) h39) else (if a2 = (-1) then (gX13_piece_j398 a3 a5 (h39 441 20 + 3) (h39 (h39 441 20) 3) (-1) h39) else (jb (gX1_operandsOf a2 h39) fun v43 => jb (gX1_kindOf a2 v43 h39) fun v45 => gX13_piece_j398 a3 a5 (h39 441 20 + 3) (h39 (h39 441 20) 3) v45 h39))
theorem eX13_piece_j346 (a2 : Int) (a3 : Int) (a4 : Int) (a5 : Int) (t0 : Int) (t1 : Int) (t2 : Int) {h : AH} (hS : Sh S h) : EQ (fX13_piece_j346 441 a2 a3 a4 a5 t0 t1 t2 h) (gX13_piece_j346 a2 a3 a4 a5 t0 t1 t2 h) (fun r => Sh S r) := by
  unfold fX13_piece_j346 gX13_piece_j346
  refine EQ_jg Iff.rfl (fun g1 => ?_)
  refine EQ_jl rfl (fun h39 eh39 => ?_)
  have s2 := Sh_of eh39 (Sh_stk hS (Or.inl (g1.1)) (g1.2.1) (jI_nn (g1.2.2)) (fun e => absurd (((g1.1)).symm.trans e) (by decide)))
  clear eh39
  refine EQ_jgd (show h39 441 (-2) = 14 from by rw [k_441 s2]) ?_
  refine EQ_jg ⟨fun x0 => (ik_X4 s2).mp x0, fun x0 => (ik_X4 s2).mpr x0⟩ (fun g3 => ?_)
  refine EQ_jgd (show h39 441 (-2) = 14 from by rw [k_441 s2]) ?_
  refine EQ_jgd (show h39 (h39 441 20) (-2) = 5 from by rw [kd_X4 s2 g3]) ?_
  refine EQ_if Iff.rfl (fun c4 => ?_) (fun c4 => ?_)
  · refine EQ_jgd (show h39 441 (-2) = 14 from by rw [k_441 s2]) ?_
    exact (by rw [ft_X4_5 s2 g3]; exact eX13_piece_j398 a3 a5 (h39 441 20 + 3) (h39 (h39 441 20) 3) (h39 441 18) s2)
  · refine EQ_if Iff.rfl (fun c5 => ?_) (fun c5 => ?_)
    · exact (by rw [ft_X4_5 s2 g3]; exact eX13_piece_j398 a3 a5 (h39 441 20 + 3) (h39 (h39 441 20) 3) (-1) s2)
    · refine EQ_jgd (show h39 441 (-2) = 14 from by rw [k_441 s2]) ?_
      refine EQ_jgd (show h39 441 (-2) = 14 from by rw [k_441 s2]) ?_
      refine EQ_jgd (show h39 (h39 441 26) (-2) = 2 from by rw [r_441_26 s2, k_200 s2]) ?_
      refine EQ_jb (by rw [r_441_26 s2]; exact eX1_operandsOf a2 s2) (fun v43 r6 => ?_)
      refine EQ_jgd (show h39 (h39 441 26) (-2) = 2 from by rw [r_441_26 s2, k_200 s2]) ?_
      refine EQ_jb (by rw [r_441_26 s2]; exact eX1_kindOf a2 v43 s2) (fun v45 r7 => ?_)
      exact (by rw [ft_X4_5 s2 g3]; exact eX13_piece_j398 a3 a5 (h39 441 20 + 3) (h39 (h39 441 20) 3) v45 s2)
noncomputable def gX13_piece_j299 (a1 : Int) (a2 : Int) (a3 : Int) (a4 : Int) (a5 : Int) (h : AH) : Option (AH) := jg (isX4 (h 441 20)) <| if h (h 441 20) 3 = 12 then (jb (gX13_err 5 a1 h) fun h37 => some h37) else (if a4 = 0 then (gX13_piece_j346 a2 a3 a4 a5 (h 441 20 + 2) (h (h 441 20) 3) (-1) h) else (gX13_piece_j346 a2 a3 a4 a5 (h 441 20 + 2) (h (h 441 20) 3) (max 0 a2) h))
theorem eX13_piece_j299 (a1 : Int) (a2 : Int) (a3 : Int) (a4 : Int) (a5 : Int) {h : AH} (hS : Sh S h) : EQ (fX13_piece_j299 441 a1 a2 a3 a4 a5 h) (gX13_piece_j299 a1 a2 a3 a4 a5 h) (fun r => Sh S r) := by
  unfold fX13_piece_j299 gX13_piece_j299
  refine EQ_jgd (show h 441 (-2) = 14 from by rw [k_441 hS]) ?_
  refine EQ_jg ⟨fun x0 => (ik_X4 hS).mp x0, fun x0 => (ik_X4 hS).mpr x0⟩ (fun g1 => ?_)
  refine EQ_if Iff.rfl (fun c2 => ?_) (fun c2 => ?_)
  · refine EQ_jgd (show h 441 (-2) = 14 from by rw [k_441 hS]) ?_
    refine EQ_jb (eX13_err 5 a1 hS) (fun h37 r3 => ?_)
    exact EQ_some r3
  · refine EQ_jgd (show h 441 (-2) = 14 from by rw [k_441 hS]) ?_
    refine EQ_jgd (show h (h 441 20) (-2) = 5 from by rw [kd_X4 hS g1]) ?_
    refine EQ_jgd (show h 441 (-2) = 14 from by rw [k_441 hS]) ?_
    refine EQ_jgd (show h (h 441 20) (-2) = 5 from by rw [kd_X4 hS g1]) ?_
    refine EQ_if Iff.rfl (fun c4 => ?_) (fun c4 => ?_)
    · exact (by rw [ft_X4_4 hS g1]; exact eX13_piece_j346 a2 a3 a4 a5 (h 441 20 + 2) (h (h 441 20) 3) (-1) hS)
    · exact (by rw [ft_X4_4 hS g1]; exact eX13_piece_j346 a2 a3 a4 a5 (h 441 20 + 2) (h (h 441 20) 3) (max 0 a2) hS)
noncomputable def gX13_piece_j293_179 (a1 : Int) (a2 : Int) (a3 : Int) (a4 : Int) (a5 : Int) (a6 : Int) (h : AH) : Option ((Int × AH) ⊕ (AH)) := jl (w32 (a6 + 1)) fun x61 => some (.inl (x61, h))
theorem eX13_piece_j293_179 (a1 : Int) (a2 : Int) (a3 : Int) (a4 : Int) (a5 : Int) (a6 : Int) {h : AH} (hS : Sh S h) : EQ (fX13_piece_j293_179 441 a1 a2 a3 a4 a5 a6 h) (gX13_piece_j293_179 a1 a2 a3 a4 a5 a6 h) (Sum.elim (fun r => Sh S r.2) (fun r => Sh S r)) := by
  unfold fX13_piece_j293_179 gX13_piece_j293_179
  refine EQ_jl rfl (fun x61 ex61 => ?_)
  clear ex61
  exact EQ_some hS
noncomputable def gX13_piece_j280_179 (a1 : Int) (a2 : Int) (a3 : Int) (a4 : Int) (a5 : Int) (a6 : Int) (t0 : Int) (h : AH) : Option ((Int × AH) ⊕ (AH)) := if t0 = 0 then (gX13_piece_j293_179 a1 a2 a3 a4 a5 a6 h) else (jb (gX13_err 3 a1 h) fun h60 => gX13_piece_j293_179 a1 a2 a3 a4 a5 a6 h60)
theorem eX13_piece_j280_179 (a1 : Int) (a2 : Int) (a3 : Int) (a4 : Int) (a5 : Int) (a6 : Int) (t0 : Int) {h : AH} (hS : Sh S h) : EQ (fX13_piece_j280_179 441 a1 a2 a3 a4 a5 a6 t0 h) (gX13_piece_j280_179 a1 a2 a3 a4 a5 a6 t0 h) (Sum.elim (fun r => Sh S r.2) (fun r => Sh S r)) := by
  unfold fX13_piece_j280_179 gX13_piece_j280_179
  refine EQ_if Iff.rfl (fun c1 => ?_) (fun c1 => ?_)
  · exact (eX13_piece_j293_179 a1 a2 a3 a4 a5 a6 hS)
  · refine EQ_jgd (show h 441 (-2) = 14 from by rw [k_441 hS]) ?_
    refine EQ_jb (eX13_err 3 a1 hS) (fun h60 r2 => ?_)
    exact (eX13_piece_j293_179 a1 a2 a3 a4 a5 a6 r2)
noncomputable def gX13_piece_b179 (i1 : Int) (i2 : Int) (i3 : Int) (i4 : Int) (i5 : Int) (s : Int × AH) : Option ((Int × AH) ⊕ (AH)) := jt2 s fun a6 h => jg (isX4 (h 441 20)) <| if h (h 441 20) 3 ≤ a6 then (some (.inr h)) else (if 12 ≤ a6 then (some (.inr h)) else (if i4 = 0 then (jg (jI a6 12) <| if h (h 441 20 + 2) a6 = (-1) then (if h (h 441 20 + 3) a6 = h 441 18 then (if h (h 441 20 + 4) a6 = i3 then (gX13_piece_j280_179 i1 i2 i3 i4 i5 a6 1 h) else (gX13_piece_j280_179 i1 i2 i3 i4 i5 a6 0 h)) else (gX13_piece_j280_179 i1 i2 i3 i4 i5 a6 0 h)) else (gX13_piece_j280_179 i1 i2 i3 i4 i5 a6 0 h)) else (if i2 = (-1) then (gX13_piece_j280_179 i1 i2 i3 i4 i5 a6 0 h) else (jg (jI a6 12) <| if h (h 441 20 + 2) a6 = i2 then (gX13_piece_j280_179 i1 i2 i3 i4 i5 a6 1 h) else (gX13_piece_j280_179 i1 i2 i3 i4 i5 a6 0 h)))))
theorem eX13_piece_b179 (i1 : Int) (i2 : Int) (i3 : Int) (i4 : Int) (i5 : Int) {s : Int × AH} (hS : (fun r => Sh S r.2) s) : EQ (fX13_piece_b179 441 i1 i2 i3 i4 i5 s) (gX13_piece_b179 i1 i2 i3 i4 i5 s) (Sum.elim (fun r => Sh S r.2) (fun r => Sh S r)) := by
  unfold fX13_piece_b179 gX13_piece_b179
  obtain ⟨a6, h⟩ := s
  refine EQ_jt2 ?_
  replace hS : Sh S h := hS
  refine EQ_jgd (show h 441 (-2) = 14 from by rw [k_441 hS]) ?_
  refine EQ_jg ⟨fun x0 => (ik_X4 hS).mp x0, fun x0 => (ik_X4 hS).mpr x0⟩ (fun g1 => ?_)
  refine EQ_if Iff.rfl (fun c2 => ?_) (fun c2 => ?_)
  · exact EQ_some hS
  · refine EQ_if Iff.rfl (fun c3 => ?_) (fun c3 => ?_)
    · exact EQ_some hS
    · refine EQ_if Iff.rfl (fun c4 => ?_) (fun c4 => ?_)
      · refine EQ_jgd (show h 441 (-2) = 14 from by rw [k_441 hS]) ?_
        refine EQ_jgd (show h (h 441 20) (-2) = 5 from by rw [kd_X4 hS g1]) ?_
        refine EQ_jg ⟨fun ⟨_, x0⟩ => (show jI a6 (h (h (h 441 20) 4) (-1)) ↔ jI a6 12 from by rw [ft_X4_4 hS g1, la_X4_4 hS g1]).mp x0, fun x0 => ⟨(show h (h (h 441 20) 4) (-2) = 101 from by rw [ft_X4_4 hS g1, ka_X4_4 hS g1]), (show jI a6 (h (h (h 441 20) 4) (-1)) ↔ jI a6 12 from by rw [ft_X4_4 hS g1, la_X4_4 hS g1]).mpr x0⟩⟩ (fun g5 => ?_)
        refine EQ_if (show h (h (h 441 20) 4) a6 = (-1) ↔ h (h 441 20 + 2) a6 = (-1) from by rw [ft_X4_4 hS g1]) (fun c6 => ?_) (fun c6 => ?_)
        · refine EQ_jgd (show h 441 (-2) = 14 from by rw [k_441 hS]) ?_
          refine EQ_jgd (show h (h 441 20) (-2) = 5 from by rw [kd_X4 hS g1]) ?_
          refine EQ_jgd ⟨(show h (h (h 441 20) 5) (-2) = 101 from by rw [ft_X4_5 hS g1, ka_X4_5 hS g1]), ((show jI a6 (h (h (h 441 20) 5) (-1)) ↔ jI a6 12 from by rw [ft_X4_5 hS g1, la_X4_5 hS g1]).mpr g5)⟩ ?_
          refine EQ_jgd (show h 441 (-2) = 14 from by rw [k_441 hS]) ?_
          refine EQ_if (show h (h (h 441 20) 5) a6 = h 441 18 ↔ h (h 441 20 + 3) a6 = h 441 18 from by rw [ft_X4_5 hS g1]) (fun c7 => ?_) (fun c7 => ?_)
          · refine EQ_jgd (show h 441 (-2) = 14 from by rw [k_441 hS]) ?_
            refine EQ_jgd (show h (h 441 20) (-2) = 5 from by rw [kd_X4 hS g1]) ?_
            refine EQ_jgd ⟨(show h (h (h 441 20) 6) (-2) = 101 from by rw [ft_X4_6 hS g1, ka_X4_6 hS g1]), ((show jI a6 (h (h (h 441 20) 6) (-1)) ↔ jI a6 12 from by rw [ft_X4_6 hS g1, la_X4_6 hS g1]).mpr g5)⟩ ?_
            refine EQ_if (show h (h (h 441 20) 6) a6 = i3 ↔ h (h 441 20 + 4) a6 = i3 from by rw [ft_X4_6 hS g1]) (fun c8 => ?_) (fun c8 => ?_)
            · exact (eX13_piece_j280_179 i1 i2 i3 i4 i5 a6 1 hS)
            · exact (eX13_piece_j280_179 i1 i2 i3 i4 i5 a6 0 hS)
          · exact (eX13_piece_j280_179 i1 i2 i3 i4 i5 a6 0 hS)
        · exact (eX13_piece_j280_179 i1 i2 i3 i4 i5 a6 0 hS)
      · refine EQ_if Iff.rfl (fun c9 => ?_) (fun c9 => ?_)
        · exact (eX13_piece_j280_179 i1 i2 i3 i4 i5 a6 0 hS)
        · refine EQ_jgd (show h 441 (-2) = 14 from by rw [k_441 hS]) ?_
          refine EQ_jgd (show h (h 441 20) (-2) = 5 from by rw [kd_X4 hS g1]) ?_
          refine EQ_jg ⟨fun ⟨_, x0⟩ => (show jI a6 (h (h (h 441 20) 4) (-1)) ↔ jI a6 12 from by rw [ft_X4_4 hS g1, la_X4_4 hS g1]).mp x0, fun x0 => ⟨(show h (h (h 441 20) 4) (-2) = 101 from by rw [ft_X4_4 hS g1, ka_X4_4 hS g1]), (show jI a6 (h (h (h 441 20) 4) (-1)) ↔ jI a6 12 from by rw [ft_X4_4 hS g1, la_X4_4 hS g1]).mpr x0⟩⟩ (fun g10 => ?_)
          refine EQ_if (show h (h (h 441 20) 4) a6 = i2 ↔ h (h 441 20 + 2) a6 = i2 from by rw [ft_X4_4 hS g1]) (fun c11 => ?_) (fun c11 => ?_)
          · exact (eX13_piece_j280_179 i1 i2 i3 i4 i5 a6 1 hS)
          · exact (eX13_piece_j280_179 i1 i2 i3 i4 i5 a6 0 hS)
noncomputable def gX13_piece_l179 (i1 : Int) (i2 : Int) (i3 : Int) (i4 : Int) (i5 : Int) (a6 : Int) (h : AH) : Option (AH) := jit (gX13_piece_b179 i1 i2 i3 i4 i5) (a6, h)
theorem eX13_piece_l179 (i1 : Int) (i2 : Int) (i3 : Int) (i4 : Int) (i5 : Int) (a6 : Int) {h : AH} (hS : Sh S h) : EQ (fX13_piece_l179 441 i1 i2 i3 i4 i5 a6 h) (gX13_piece_l179 i1 i2 i3 i4 i5 a6 h) (fun r => Sh S r) := EQ_jit (I := (fun r => Sh S r.2)) (fun s hs => eX13_piece_b179 i1 i2 i3 i4 i5 hs) hS
noncomputable def gX13_piece_j168 (a1 : Int) (a2 : Int) (a3 : Int) (a4 : Int) (a5 : Int) (h : AH) : Option (AH) := if h 441 6 = 0 then (jb (gX13_piece_l179 a1 a2 a3 a4 a5 0 h) fun o33 => gX13_piece_j299 a1 a2 a3 a4 a5 o33) else (some h)
theorem eX13_piece_j168 (a1 : Int) (a2 : Int) (a3 : Int) (a4 : Int) (a5 : Int) {h : AH} (hS : Sh S h) : EQ (fX13_piece_j168 441 a1 a2 a3 a4 a5 h) (gX13_piece_j168 a1 a2 a3 a4 a5 h) (fun r => Sh S r) := by
  unfold fX13_piece_j168 gX13_piece_j168
  refine EQ_jgd (show h 441 (-2) = 14 from by rw [k_441 hS]) ?_
  refine EQ_if Iff.rfl (fun c1 => ?_) (fun c1 => ?_)
  · refine EQ_jb (eX13_piece_l179 a1 a2 a3 a4 a5 0 hS) (fun o33 r2 => ?_)
    exact (eX13_piece_j299 a1 a2 a3 a4 a5 r2)
  · exact EQ_some hS
noncomputable def gX13_piece_j151 (a1 : Int) (a2 : Int) (a3 : Int) (a4 : Int) (h : AH) : Option (AH) := jl (h 441 5) fun x28 => if h 441 6 = 0 then (jb (gX13_next h) fun h31 => gX13_piece_j168 a1 a2 a3 a4 x28 h31) else (gX13_piece_j168 a1 a2 a3 a4 x28 h)
theorem eX13_piece_j151 (a1 : Int) (a2 : Int) (a3 : Int) (a4 : Int) {h : AH} (hS : Sh S h) : EQ (fX13_piece_j151 441 a1 a2 a3 a4 h) (gX13_piece_j151 a1 a2 a3 a4 h) (fun r => Sh S r) := by
  unfold fX13_piece_j151 gX13_piece_j151
  refine EQ_jgd (show h 441 (-2) = 14 from by rw [k_441 hS]) ?_
  refine EQ_jl rfl (fun x28 ex28 => ?_)
  clear ex28
  refine EQ_jgd (show h 441 (-2) = 14 from by rw [k_441 hS]) ?_
  refine EQ_if Iff.rfl (fun c1 => ?_) (fun c1 => ?_)
  · refine EQ_jgd (show h 441 (-2) = 14 from by rw [k_441 hS]) ?_
    refine EQ_jb (eX13_next hS) (fun h31 r2 => ?_)
    exact (eX13_piece_j168 a1 a2 a3 a4 x28 r2)
  · exact (eX13_piece_j168 a1 a2 a3 a4 x28 hS)
noncomputable def gX13_piece_j147 (a1 : Int) (a2 : Int) (a3 : Int) (a4 : Int) (h : AH) : Option (AH) := jb (gX13_no h) fun h27 => gX13_piece_j151 a1 a2 a3 a4 h27
theorem eX13_piece_j147 (a1 : Int) (a2 : Int) (a3 : Int) (a4 : Int) {h : AH} (hS : Sh S h) : EQ (fX13_piece_j147 441 a1 a2 a3 a4 h) (gX13_piece_j147 a1 a2 a3 a4 h) (fun r => Sh S r) := by
  unfold fX13_piece_j147 gX13_piece_j147
  refine EQ_jgd (show h 441 (-2) = 14 from by rw [k_441 hS]) ?_
  refine EQ_jb (eX13_no hS) (fun h27 r1 => ?_)
  exact (eX13_piece_j151 a1 a2 a3 a4 r1)
noncomputable def gX13_piece_j98 (a1 : Int) (a2 : Int) (a3 : Int) (a4 : Int) (h : AH) : Option (AH) := if h 441 6 = 0 then (if h 441 2 = 58 then (jb (gX13_next h) fun h22 => if h22 441 2 = 48 then (if h22 441 5 < 1 then (gX13_piece_j147 a1 a2 a3 a4 h22) else (if h22 441 5 ≤ 9 then (gX13_piece_j151 a1 a2 a3 a4 h22) else (gX13_piece_j147 a1 a2 a3 a4 h22))) else (gX13_piece_j147 a1 a2 a3 a4 h22)) else (gX13_piece_j168 a1 a2 a3 a4 1 h)) else (gX13_piece_j168 a1 a2 a3 a4 1 h)
theorem eX13_piece_j98 (a1 : Int) (a2 : Int) (a3 : Int) (a4 : Int) {h : AH} (hS : Sh S h) : EQ (fX13_piece_j98 441 a1 a2 a3 a4 h) (gX13_piece_j98 a1 a2 a3 a4 h) (fun r => Sh S r) := by
  unfold fX13_piece_j98 gX13_piece_j98
  refine EQ_jgd (show h 441 (-2) = 14 from by rw [k_441 hS]) ?_
  refine EQ_if Iff.rfl (fun c1 => ?_) (fun c1 => ?_)
  · refine EQ_jgd (show h 441 (-2) = 14 from by rw [k_441 hS]) ?_
    refine EQ_if Iff.rfl (fun c2 => ?_) (fun c2 => ?_)
    · refine EQ_jgd (show h 441 (-2) = 14 from by rw [k_441 hS]) ?_
      refine EQ_jb (eX13_next hS) (fun h22 r3 => ?_)
      refine EQ_jgd (show h22 441 (-2) = 14 from by rw [k_441 r3]) ?_
      refine EQ_if Iff.rfl (fun c4 => ?_) (fun c4 => ?_)
      · refine EQ_jgd (show h22 441 (-2) = 14 from by rw [k_441 r3]) ?_
        refine EQ_if Iff.rfl (fun c5 => ?_) (fun c5 => ?_)
        · exact (eX13_piece_j147 a1 a2 a3 a4 r3)
        · refine EQ_jgd (show h22 441 (-2) = 14 from by rw [k_441 r3]) ?_
          refine EQ_if Iff.rfl (fun c6 => ?_) (fun c6 => ?_)
          · exact (eX13_piece_j151 a1 a2 a3 a4 r3)
          · exact (eX13_piece_j147 a1 a2 a3 a4 r3)
      · exact (eX13_piece_j147 a1 a2 a3 a4 r3)
    · exact (eX13_piece_j168 a1 a2 a3 a4 1 hS)
  · exact (eX13_piece_j168 a1 a2 a3 a4 1 hS)
noncomputable def gX13_piece_j86 (a1 : Int) (a2 : Int) (a3 : Int) (a4 : Int) (h : AH) : Option (AH) := jb (gX13_next h) fun h63 => gX13_piece_j98 a1 a2 a3 a4 h63
theorem eX13_piece_j86 (a1 : Int) (a2 : Int) (a3 : Int) (a4 : Int) {h : AH} (hS : Sh S h) : EQ (fX13_piece_j86 441 a1 a2 a3 a4 h) (gX13_piece_j86 a1 a2 a3 a4 h) (fun r => Sh S r) := by
  unfold fX13_piece_j86 gX13_piece_j86
  refine EQ_jgd (show h 441 (-2) = 14 from by rw [k_441 hS]) ?_
  refine EQ_jb (eX13_next hS) (fun h63 r1 => ?_)
  exact (eX13_piece_j98 a1 a2 a3 a4 r1)
noncomputable def gX13_piece_j50 (a1 : Int) (a2 : Int) (a3 : Int) (a4 : Int) (h : AH) : Option (AH) := if a4 = 0 then (jb2 (gX13_value h) fun v12 h13 => gX13_piece_j98 a1 a2 v12 a4 h13) else (jb (gX1_actBy (h 441 0) (h 441 3) (h 441 4) h) fun v15 => if v15 = (-1) then (jb (gX13_err 2 a1 h) fun h18 => gX13_piece_j86 a1 v15 a3 a4 h18) else (gX13_piece_j86 a1 v15 a3 a4 h))
theorem eX13_piece_j50 (a1 : Int) (a2 : Int) (a3 : Int) (a4 : Int) {h : AH} (hS : Sh S h) : EQ (fX13_piece_j50 441 a1 a2 a3 a4 h) (gX13_piece_j50 a1 a2 a3 a4 h) (fun r => Sh S r) := by
  unfold fX13_piece_j50 gX13_piece_j50
  refine EQ_if Iff.rfl (fun c1 => ?_) (fun c1 => ?_)
  · refine EQ_jgd (show h 441 (-2) = 14 from by rw [k_441 hS]) ?_
    refine EQ_jb2 (eX13_value hS) (fun v12 h13 r2 => ?_)
    replace r2 : Sh S h13 := r2
    exact (eX13_piece_j98 a1 a2 v12 a4 r2)
  · refine EQ_jgd (show h 441 (-2) = 14 from by rw [k_441 hS]) ?_
    refine EQ_jgd (show h 441 (-2) = 14 from by rw [k_441 hS]) ?_
    refine EQ_jgd (show h 441 (-2) = 14 from by rw [k_441 hS]) ?_
    refine EQ_jgd (show h 441 (-2) = 14 from by rw [k_441 hS]) ?_
    refine EQ_jgd (show h (h 441 26) (-2) = 2 from by rw [r_441_26 hS, k_200 hS]) ?_
    refine EQ_jb (by rw [r_441_26 hS]; exact eX1_actBy (h 441 0) (h 441 3) (h 441 4) hS) (fun v15 r3 => ?_)
    refine EQ_if Iff.rfl (fun c4 => ?_) (fun c4 => ?_)
    · refine EQ_jgd (show h 441 (-2) = 14 from by rw [k_441 hS]) ?_
      refine EQ_jb (eX13_err 2 a1 hS) (fun h18 r5 => ?_)
      exact (eX13_piece_j86 a1 v15 a3 a4 r5)
    · exact (eX13_piece_j86 a1 v15 a3 a4 hS)
noncomputable def gX13_piece_j29 (a1 : Int) (a2 : Int) (a3 : Int) (t0 : Int) (h : AH) : Option (AH) := if t0 = 0 then (gX13_piece_j50 a1 a2 a3 t0 h) else (if h 441 2 = 110 then (gX13_piece_j50 a1 a2 a3 t0 h) else (jb (gX13_no h) fun h9 => some h9))
theorem eX13_piece_j29 (a1 : Int) (a2 : Int) (a3 : Int) (t0 : Int) {h : AH} (hS : Sh S h) : EQ (fX13_piece_j29 441 a1 a2 a3 t0 h) (gX13_piece_j29 a1 a2 a3 t0 h) (fun r => Sh S r) := by
  unfold fX13_piece_j29 gX13_piece_j29
  refine EQ_if Iff.rfl (fun c1 => ?_) (fun c1 => ?_)
  · exact (eX13_piece_j50 a1 a2 a3 t0 hS)
  · refine EQ_jgd (show h 441 (-2) = 14 from by rw [k_441 hS]) ?_
    refine EQ_if Iff.rfl (fun c2 => ?_) (fun c2 => ?_)
    · exact (eX13_piece_j50 a1 a2 a3 t0 hS)
    · refine EQ_jgd (show h 441 (-2) = 14 from by rw [k_441 hS]) ?_
      refine EQ_jb (eX13_no hS) (fun h9 r3 => ?_)
      exact EQ_some r3
noncomputable def gX13_piece (h : AH) : Option (AH) := if h 441 6 = 0 then (jl (h 441 3) fun x2 => jb (gX13_isValue h) fun v4 => if v4 = 0 then (gX13_piece_j29 x2 (-1) 0 1 h) else (gX13_piece_j29 x2 (-1) 0 0 h)) else (some h)
theorem eX13_piece {h : AH} (hS : Sh S h) : EQ (fX13_piece 441 h) (gX13_piece h) (fun r => Sh S r) := by
  unfold fX13_piece gX13_piece
  refine EQ_jgd (show h 441 (-2) = 14 from by rw [k_441 hS]) ?_
  refine EQ_if Iff.rfl (fun c1 => ?_) (fun c1 => ?_)
  · refine EQ_jgd (show h 441 (-2) = 14 from by rw [k_441 hS]) ?_
    refine EQ_jl rfl (fun x2 ex2 => ?_)
    clear ex2
    refine EQ_jgd (show h 441 (-2) = 14 from by rw [k_441 hS]) ?_
    refine EQ_jb (eX13_isValue hS) (fun v4 r2 => ?_)
    refine EQ_if Iff.rfl (fun c3 => ?_) (fun c3 => ?_)
    · exact (eX13_piece_j29 x2 (-1) 0 1 hS)
    · exact (eX13_piece_j29 x2 (-1) 0 0 hS)
  · exact EQ_some hS
noncomputable def gX13_isEnd (h : AH) : Option (Int) := if h 441 2 = 36 then (some 1) else (some 0)
theorem eX13_isEnd {h : AH} (hS : Sh S h) : EQ (fX13_isEnd 441 h) (gX13_isEnd h) (fun _ => True) := by
  unfold fX13_isEnd gX13_isEnd
  refine EQ_jgd (show h 441 (-2) = 14 from by rw [k_441 hS]) ?_
  refine EQ_if Iff.rfl (fun c1 => ?_) (fun c1 => ?_)
  · exact EQ_some trivial
  · exact EQ_some trivial
noncomputable def gX13_row_j218 (a2 : Int) (a5 : Int) (h : AH) : Option (AH) := jb (gX13_want 59 h) fun h34 => if h34 441 6 = 0 then (if a2 = 0 then (some h34) else (jg (isX4 (h34 441 20)) <| jl (jst h34 (h34 441 20) 8 (w32 (h34 (h34 441 20) 8 + 1))) fun h37 => jg (jI (h34 (h34 441 20) 8) 12) <| jl (jst h37 (h34 441 20 + 7) (h34 (h34 441 20) 8) a5) fun h38 => some h38)) else (some h34)
theorem eX13_row_j218 (a2 : Int) (a5 : Int) {h : AH} (hS : Sh S h) : EQ (fX13_row_j218 441 a2 a5 h) (gX13_row_j218 a2 a5 h) (fun r => Sh S r) := by
  unfold fX13_row_j218 gX13_row_j218
  refine EQ_jgd (show h 441 (-2) = 14 from by rw [k_441 hS]) ?_
  refine EQ_jb (eX13_want 59 hS) (fun h34 r1 => ?_)
  refine EQ_jgd (show h34 441 (-2) = 14 from by rw [k_441 r1]) ?_
  refine EQ_if Iff.rfl (fun c2 => ?_) (fun c2 => ?_)
  · refine EQ_if Iff.rfl (fun c3 => ?_) (fun c3 => ?_)
    · exact EQ_some r1
    · refine EQ_jgd (show h34 441 (-2) = 14 from by rw [k_441 r1]) ?_
      refine EQ_jg ⟨fun x0 => (ik_X4 r1).mp x0, fun x0 => (ik_X4 r1).mpr x0⟩ (fun g4 => ?_)
      refine EQ_jgd (show h34 441 (-2) = 14 from by rw [k_441 r1]) ?_
      refine EQ_jgd (show h34 (h34 441 20) (-2) = 5 from by rw [kd_X4 r1 g4]) ?_
      refine EQ_jgd ⟨(show h34 (h34 441 20) (-2) = 5 from by rw [kd_X4 r1 g4]), (show 200 ≤ h34 441 20 from ge_X4 g4)⟩ ?_
      refine EQ_jl rfl (fun h37 eh37 => ?_)
      have s5 := Sh_of eh37 (Sh_sto_X4_8 r1 g4)
      clear eh37
      refine EQ_jg ⟨fun ⟨_, _, x0⟩ => (show jI (h34 (h34 441 20) 8) (h37 (h34 (h34 441 20) 10) (-1)) ↔ jI (h34 (h34 441 20) 8) 12 from by rw [ft_X4_10 r1 g4, la_X4_10 s5 g4]).mp x0, fun x0 => ⟨(show h37 (h34 (h34 441 20) 10) (-2) = 101 from by rw [ft_X4_10 r1 g4, ka_X4_10 s5 g4]), (show 200 ≤ h34 (h34 441 20) 10 from by rw [ft_X4_10 r1 g4]; exact gea_X4_10 g4), (show jI (h34 (h34 441 20) 8) (h37 (h34 (h34 441 20) 10) (-1)) ↔ jI (h34 (h34 441 20) 8) 12 from by rw [ft_X4_10 r1 g4, la_X4_10 s5 g4]).mpr x0⟩⟩ (fun g6 => ?_)
      refine EQ_jl (by rw [ft_X4_10 r1 g4]) (fun h38 eh38 => ?_)
      have s7 := Sh_of eh38 (Sh_sta s5 (ara_X4_10 g4) (jI_nn g6) (fun e => absurd ((ka_X4_10 s5 g4).symm.trans e) (by decide)))
      clear eh38
      exact EQ_some s7
  · exact EQ_some r1
noncomputable def gX13_row_j145 (a2 : Int) (h : AH) : Option (AH) := jb (gX13_want 61 h) fun h18 => if h18 441 6 = 0 then (jl (h18 441 3) fun x20 => jb (gX13_is 26 h18) fun v22 => if v22 = 0 then (jb2 (gX13_value h18) fun v25 h26 => if h26 441 6 = 0 then (jg (isX4 (h26 441 20)) <| if h26 441 18 = h26 (h26 441 20) 2 then (gX13_row_j218 a2 v25 h26) else (jb (gX13_err 3 x20 h26) fun h30 => gX13_row_j218 a2 v25 h30)) else (gX13_row_j218 a2 v25 h26)) else (jb (gX13_next h18) fun h32 => gX13_row_j218 a2 (-1) h32)) else (some h18)
theorem eX13_row_j145 (a2 : Int) {h : AH} (hS : Sh S h) : EQ (fX13_row_j145 441 a2 h) (gX13_row_j145 a2 h) (fun r => Sh S r) := by
  unfold fX13_row_j145 gX13_row_j145
  refine EQ_jgd (show h 441 (-2) = 14 from by rw [k_441 hS]) ?_
  refine EQ_jb (eX13_want 61 hS) (fun h18 r1 => ?_)
  refine EQ_jgd (show h18 441 (-2) = 14 from by rw [k_441 r1]) ?_
  refine EQ_if Iff.rfl (fun c2 => ?_) (fun c2 => ?_)
  · refine EQ_jgd (show h18 441 (-2) = 14 from by rw [k_441 r1]) ?_
    refine EQ_jl rfl (fun x20 ex20 => ?_)
    clear ex20
    refine EQ_jgd (show h18 26 (-2) = 1 from by rw [k_26 r1]) ?_
    refine EQ_jgd (show h18 441 (-2) = 14 from by rw [k_441 r1]) ?_
    refine EQ_jb (eX13_is 26 r1) (fun v22 r3 => ?_)
    refine EQ_if Iff.rfl (fun c4 => ?_) (fun c4 => ?_)
    · refine EQ_jgd (show h18 441 (-2) = 14 from by rw [k_441 r1]) ?_
      refine EQ_jb2 (eX13_value r1) (fun v25 h26 r5 => ?_)
      replace r5 : Sh S h26 := r5
      refine EQ_jgd (show h26 441 (-2) = 14 from by rw [k_441 r5]) ?_
      refine EQ_if Iff.rfl (fun c6 => ?_) (fun c6 => ?_)
      · refine EQ_jgd (show h26 441 (-2) = 14 from by rw [k_441 r5]) ?_
        refine EQ_jgd (show h26 441 (-2) = 14 from by rw [k_441 r5]) ?_
        refine EQ_jg ⟨fun x0 => (ik_X4 r5).mp x0, fun x0 => (ik_X4 r5).mpr x0⟩ (fun g7 => ?_)
        refine EQ_if Iff.rfl (fun c8 => ?_) (fun c8 => ?_)
        · exact (eX13_row_j218 a2 v25 r5)
        · refine EQ_jgd (show h26 441 (-2) = 14 from by rw [k_441 r5]) ?_
          refine EQ_jb (eX13_err 3 x20 r5) (fun h30 r9 => ?_)
          exact (eX13_row_j218 a2 v25 r9)
      · exact (eX13_row_j218 a2 v25 r5)
    · refine EQ_jgd (show h18 441 (-2) = 14 from by rw [k_441 r1]) ?_
      refine EQ_jb (eX13_next r1) (fun h32 r10 => ?_)
      exact (eX13_row_j218 a2 (-1) r10)
  · exact EQ_some r1
noncomputable def gX13_row_j118_39 (a1 : Int) (a2 : Int) (a3 : Int) (h : AH) : Option ((Int × AH) ⊕ ((AH) ⊕ (Int × AH))) := jl (w32 (a3 + 1)) fun x48 => jb (gX13_isValue h) fun v50 => if v50 = 0 then (some (.inr (.inr (x48, h)))) else (some (.inl (x48, h)))
theorem eX13_row_j118_39 (a1 : Int) (a2 : Int) (a3 : Int) {h : AH} (hS : Sh S h) : EQ (fX13_row_j118_39 441 a1 a2 a3 h) (gX13_row_j118_39 a1 a2 a3 h) (Sum.elim (fun r => Sh S r.2) (Sum.elim (fun r => Sh S r) (fun r => Sh S r.2))) := by
  unfold fX13_row_j118_39 gX13_row_j118_39
  refine EQ_jl rfl (fun x48 ex48 => ?_)
  clear ex48
  refine EQ_jgd (show h 441 (-2) = 14 from by rw [k_441 hS]) ?_
  refine EQ_jb (eX13_isValue hS) (fun v50 r1 => ?_)
  refine EQ_if Iff.rfl (fun c2 => ?_) (fun c2 => ?_)
  · exact EQ_some hS
  · exact EQ_some hS
noncomputable def gX13_row_j93_39 (a1 : Int) (a2 : Int) (a3 : Int) (a5 : Int) (h : AH) : Option ((Int × AH) ⊕ ((AH) ⊕ (Int × AH))) := if a2 = 0 then (gX13_row_j118_39 a1 a2 a3 h) else (jg (isX4 (h 441 20)) <| jg (jI (w32 (w32 (3 * h (h 441 20) 8) + a3)) 36) <| jl (jst h (h 441 20 + 6) (w32 (w32 (3 * h (h 441 20) 8) + a3)) a5) fun h53 => gX13_row_j118_39 a1 a2 a3 h53)
theorem eX13_row_j93_39 (a1 : Int) (a2 : Int) (a3 : Int) (a5 : Int) {h : AH} (hS : Sh S h) : EQ (fX13_row_j93_39 441 a1 a2 a3 a5 h) (gX13_row_j93_39 a1 a2 a3 a5 h) (Sum.elim (fun r => Sh S r.2) (Sum.elim (fun r => Sh S r) (fun r => Sh S r.2))) := by
  unfold fX13_row_j93_39 gX13_row_j93_39
  refine EQ_if Iff.rfl (fun c1 => ?_) (fun c1 => ?_)
  · exact (eX13_row_j118_39 a1 a2 a3 hS)
  · refine EQ_jgd (show h 441 (-2) = 14 from by rw [k_441 hS]) ?_
    refine EQ_jg ⟨fun x0 => (ik_X4 hS).mp x0, fun x0 => (ik_X4 hS).mpr x0⟩ (fun g2 => ?_)
    refine EQ_jgd (show h 441 (-2) = 14 from by rw [k_441 hS]) ?_
    refine EQ_jgd (show h (h 441 20) (-2) = 5 from by rw [kd_X4 hS g2]) ?_
    refine EQ_jg ⟨fun ⟨_, _, x0⟩ => (show jI (w32 (w32 (3 * h (h 441 20) 8) + a3)) (h (h (h 441 20) 9) (-1)) ↔ jI (w32 (w32 (3 * h (h 441 20) 8) + a3)) 36 from by rw [ft_X4_9 hS g2, la_X4_9 hS g2]).mp x0, fun x0 => ⟨(show h (h (h 441 20) 9) (-2) = 101 from by rw [ft_X4_9 hS g2, ka_X4_9 hS g2]), (show 200 ≤ h (h 441 20) 9 from by rw [ft_X4_9 hS g2]; exact gea_X4_9 g2), (show jI (w32 (w32 (3 * h (h 441 20) 8) + a3)) (h (h (h 441 20) 9) (-1)) ↔ jI (w32 (w32 (3 * h (h 441 20) 8) + a3)) 36 from by rw [ft_X4_9 hS g2, la_X4_9 hS g2]).mpr x0⟩⟩ (fun g3 => ?_)
    refine EQ_jl (by rw [ft_X4_9 hS g2]) (fun h53 eh53 => ?_)
    have s4 := Sh_of eh53 (Sh_sta hS (ara_X4_9 g2) (jI_nn g3) (fun e => absurd ((ka_X4_9 hS g2).symm.trans e) (by decide)))
    clear eh53
    exact (eX13_row_j118_39 a1 a2 a3 s4)
noncomputable def gX13_row_b39 (i1 : Int) (i2 : Int) (s : Int × AH) : Option ((Int × AH) ⊕ ((AH) ⊕ (Int × AH))) := jt2 s fun a3 h => jl (h 441 3) fun x39 => jb2 (gX13_value h) fun v41 h42 => if h42 441 6 = 0 then (jg (isX4 (h42 441 20)) <| if h42 (h42 441 20) 1 ≤ a3 then (gX13_row_j118_39 i1 i2 a3 h42) else (jg (jI a3 3) <| if h42 441 18 = h42 (h42 441 20 + 1) a3 then (gX13_row_j93_39 i1 i2 a3 v41 h42) else (jb (gX13_err 3 x39 h42) fun h47 => gX13_row_j93_39 i1 i2 a3 v41 h47))) else (some (.inr (.inl h42)))
theorem eX13_row_b39 (i1 : Int) (i2 : Int) {s : Int × AH} (hS : (fun r => Sh S r.2) s) : EQ (fX13_row_b39 441 i1 i2 s) (gX13_row_b39 i1 i2 s) (Sum.elim (fun r => Sh S r.2) (Sum.elim (fun r => Sh S r) (fun r => Sh S r.2))) := by
  unfold fX13_row_b39 gX13_row_b39
  obtain ⟨a3, h⟩ := s
  refine EQ_jt2 ?_
  replace hS : Sh S h := hS
  refine EQ_jgd (show h 441 (-2) = 14 from by rw [k_441 hS]) ?_
  refine EQ_jl rfl (fun x39 ex39 => ?_)
  clear ex39
  refine EQ_jgd (show h 441 (-2) = 14 from by rw [k_441 hS]) ?_
  refine EQ_jb2 (eX13_value hS) (fun v41 h42 r1 => ?_)
  replace r1 : Sh S h42 := r1
  refine EQ_jgd (show h42 441 (-2) = 14 from by rw [k_441 r1]) ?_
  refine EQ_if Iff.rfl (fun c2 => ?_) (fun c2 => ?_)
  · refine EQ_jgd (show h42 441 (-2) = 14 from by rw [k_441 r1]) ?_
    refine EQ_jg ⟨fun x0 => (ik_X4 r1).mp x0, fun x0 => (ik_X4 r1).mpr x0⟩ (fun g3 => ?_)
    refine EQ_if Iff.rfl (fun c4 => ?_) (fun c4 => ?_)
    · exact (eX13_row_j118_39 i1 i2 a3 r1)
    · refine EQ_jgd (show h42 441 (-2) = 14 from by rw [k_441 r1]) ?_
      refine EQ_jgd (show h42 441 (-2) = 14 from by rw [k_441 r1]) ?_
      refine EQ_jgd (show h42 (h42 441 20) (-2) = 5 from by rw [kd_X4 r1 g3]) ?_
      refine EQ_jg ⟨fun ⟨_, x0⟩ => (show jI a3 (h42 (h42 (h42 441 20) 0) (-1)) ↔ jI a3 3 from by rw [ft_X4_0 r1 g3, la_X4_0 r1 g3]).mp x0, fun x0 => ⟨(show h42 (h42 (h42 441 20) 0) (-2) = 101 from by rw [ft_X4_0 r1 g3, ka_X4_0 r1 g3]), (show jI a3 (h42 (h42 (h42 441 20) 0) (-1)) ↔ jI a3 3 from by rw [ft_X4_0 r1 g3, la_X4_0 r1 g3]).mpr x0⟩⟩ (fun g5 => ?_)
      refine EQ_if (show h42 441 18 = h42 (h42 (h42 441 20) 0) a3 ↔ h42 441 18 = h42 (h42 441 20 + 1) a3 from by rw [ft_X4_0 r1 g3]) (fun c6 => ?_) (fun c6 => ?_)
      · exact (eX13_row_j93_39 i1 i2 a3 v41 r1)
      · refine EQ_jgd (show h42 441 (-2) = 14 from by rw [k_441 r1]) ?_
        refine EQ_jb (eX13_err 3 x39 r1) (fun h47 r7 => ?_)
        exact (eX13_row_j93_39 i1 i2 a3 v41 r7)
  · exact EQ_some r1
noncomputable def gX13_row_l39 (i1 : Int) (i2 : Int) (a3 : Int) (h : AH) : Option ((AH) ⊕ (Int × AH)) := jit (gX13_row_b39 i1 i2) (a3, h)
theorem eX13_row_l39 (i1 : Int) (i2 : Int) (a3 : Int) {h : AH} (hS : Sh S h) : EQ (fX13_row_l39 441 i1 i2 a3 h) (gX13_row_l39 i1 i2 a3 h) (Sum.elim (fun r => Sh S r) (fun r => Sh S r.2)) := EQ_jit (I := (fun r => Sh S r.2)) (fun s hs => eX13_row_b39 i1 i2 hs) hS
noncomputable def gX13_row_j33 (a1 : Int) (a2 : Int) (h : AH) : Option (AH) := jb (gX13_next h) fun h7 => jb (gX13_row_l39 a1 a2 0 h7) fun o8 => jm o8 (fun o10 => some o10) (fun o11 => jt2 o11 fun y12 h13 => jg (isX4 (h13 441 20)) <| if y12 = h13 (h13 441 20) 1 then (gX13_row_j145 a2 h13) else (jb (gX13_err 4 a1 h13) fun h16 => gX13_row_j145 a2 h16))
theorem eX13_row_j33 (a1 : Int) (a2 : Int) {h : AH} (hS : Sh S h) : EQ (fX13_row_j33 441 a1 a2 h) (gX13_row_j33 a1 a2 h) (fun r => Sh S r) := by
  unfold fX13_row_j33 gX13_row_j33
  refine EQ_jgd (show h 441 (-2) = 14 from by rw [k_441 hS]) ?_
  refine EQ_jb (eX13_next hS) (fun h7 r1 => ?_)
  refine EQ_jb (eX13_row_l39 a1 a2 0 r1) (fun o8 r2 => ?_)
  refine EQ_jm r2 (fun o10 r3 => ?_) (fun o11 r4 => ?_)
  · exact EQ_some r3
  · obtain ⟨y12, h13⟩ := o11
    refine EQ_jt2 ?_
    replace r4 : Sh S h13 := r4
    refine EQ_jgd (show h13 441 (-2) = 14 from by rw [k_441 r4]) ?_
    refine EQ_jg ⟨fun x0 => (ik_X4 r4).mp x0, fun x0 => (ik_X4 r4).mpr x0⟩ (fun g5 => ?_)
    refine EQ_if Iff.rfl (fun c6 => ?_) (fun c6 => ?_)
    · exact (eX13_row_j145 a2 r4)
    · refine EQ_jgd (show h13 441 (-2) = 14 from by rw [k_441 r4]) ?_
      refine EQ_jb (eX13_err 4 a1 r4) (fun h16 r7 => ?_)
      exact (eX13_row_j145 a2 r7)
noncomputable def gX13_row_j22 (a1 : Int) (t0 : Int) (h : AH) : Option (AH) := if t0 = 0 then (jb (gX13_err 5 a1 h) fun h5 => gX13_row_j33 a1 t0 h5) else (gX13_row_j33 a1 t0 h)
theorem eX13_row_j22 (a1 : Int) (t0 : Int) {h : AH} (hS : Sh S h) : EQ (fX13_row_j22 441 a1 t0 h) (gX13_row_j22 a1 t0 h) (fun r => Sh S r) := by
  unfold fX13_row_j22 gX13_row_j22
  refine EQ_if Iff.rfl (fun c1 => ?_) (fun c1 => ?_)
  · refine EQ_jgd (show h 441 (-2) = 14 from by rw [k_441 hS]) ?_
    refine EQ_jb (eX13_err 5 a1 hS) (fun h5 r2 => ?_)
    exact (eX13_row_j33 a1 t0 r2)
  · exact (eX13_row_j33 a1 t0 hS)
noncomputable def gX13_row (h : AH) : Option (AH) := jl (h 441 3) fun x1 => jg (isX4 (h 441 20)) <| if 12 ≤ h (h 441 20) 8 then (gX13_row_j22 x1 0 h) else (gX13_row_j22 x1 1 h)
theorem eX13_row {h : AH} (hS : Sh S h) : EQ (fX13_row 441 h) (gX13_row h) (fun r => Sh S r) := by
  unfold fX13_row gX13_row
  refine EQ_jgd (show h 441 (-2) = 14 from by rw [k_441 hS]) ?_
  refine EQ_jl rfl (fun x1 ex1 => ?_)
  clear ex1
  refine EQ_jgd (show h 441 (-2) = 14 from by rw [k_441 hS]) ?_
  refine EQ_jg ⟨fun x0 => (ik_X4 hS).mp x0, fun x0 => (ik_X4 hS).mpr x0⟩ (fun g1 => ?_)
  refine EQ_if Iff.rfl (fun c2 => ?_) (fun c2 => ?_)
  · exact (eX13_row_j22 x1 0 hS)
  · exact (eX13_row_j22 x1 1 hS)
noncomputable def gX4_valuesOf (a0 : Int) : Option (Int) := if a0 = 0 then (some 16) else (some 2)
theorem eX4_valuesOf (a0 : Int) : EQ (fX4_valuesOf a0) (gX4_valuesOf a0) (fun _ => True) := by
  unfold fX4_valuesOf gX4_valuesOf
  refine EQ_if Iff.rfl (fun c1 => ?_) (fun c1 => ?_)
  · exact EQ_some trivial
  · exact EQ_some trivial
noncomputable def gX4_allPoints_j38_4 (a0 : Int) (a2 : Int) (t0 : Int) (t1 : Int) (h : AH) : Option ((Int × Int) ⊕ (Int)) := jl (w32 (t0 * t1)) fun x7 => jl (w32 (a2 + 1)) fun x8 => some (.inl (x7, x8))
theorem eX4_allPoints_j38_4 (a0 : Int) (a2 : Int) (t0 : Int) (t1 : Int) (hT_a0 : isX4 a0) {h : AH} (hS : Sh S h) : EQ (fX4_allPoints_j38_4 a0 a2 t0 t1 h) (gX4_allPoints_j38_4 a0 a2 t0 t1 h) (Sum.elim (fun _ => True) (fun _ => True)) := by
  unfold fX4_allPoints_j38_4 gX4_allPoints_j38_4
  refine EQ_jl rfl (fun x7 ex7 => ?_)
  clear ex7
  refine EQ_jl rfl (fun x8 ex8 => ?_)
  clear ex8
  exact EQ_some trivial
noncomputable def gX4_allPoints_b4 (i0 : Int) (h : AH) (s : Int × Int) : Option ((Int × Int) ⊕ (Int)) := jt2 s fun a1 a2 => if h i0 1 ≤ a2 then (some (.inr a1)) else (jg (jI a2 3) <| if h (i0 + 1) a2 = 2 then (gX4_allPoints_j38_4 i0 a2 a1 1000 h) else (jb (gX4_valuesOf (h (i0 + 1) a2)) fun v6 => gX4_allPoints_j38_4 i0 a2 a1 v6 h))
theorem eX4_allPoints_b4 (i0 : Int) (hT_i0 : isX4 i0) (s : Int × Int) {h : AH} (hS : Sh S h) : EQ (fX4_allPoints_b4 i0 h s) (gX4_allPoints_b4 i0 h s) (Sum.elim (fun _ => True) (fun _ => True)) := by
  unfold fX4_allPoints_b4 gX4_allPoints_b4
  obtain ⟨a1, a2⟩ := s
  refine EQ_jt2 ?_
  refine EQ_jgd (show h i0 (-2) = 5 from by rw [kd_X4 hS hT_i0]) ?_
  refine EQ_if Iff.rfl (fun c1 => ?_) (fun c1 => ?_)
  · exact EQ_some trivial
  · refine EQ_jgd (show h i0 (-2) = 5 from by rw [kd_X4 hS hT_i0]) ?_
    refine EQ_jg ⟨fun ⟨_, x0⟩ => (show jI a2 (h (h i0 0) (-1)) ↔ jI a2 3 from by rw [ft_X4_0 hS hT_i0, la_X4_0 hS hT_i0]).mp x0, fun x0 => ⟨(show h (h i0 0) (-2) = 101 from by rw [ft_X4_0 hS hT_i0, ka_X4_0 hS hT_i0]), (show jI a2 (h (h i0 0) (-1)) ↔ jI a2 3 from by rw [ft_X4_0 hS hT_i0, la_X4_0 hS hT_i0]).mpr x0⟩⟩ (fun g2 => ?_)
    refine EQ_if (show h (h i0 0) a2 = 2 ↔ h (i0 + 1) a2 = 2 from by rw [ft_X4_0 hS hT_i0]) (fun c3 => ?_) (fun c3 => ?_)
    · exact (eX4_allPoints_j38_4 i0 a2 a1 1000 hT_i0 hS)
    · refine EQ_jgd (show h i0 (-2) = 5 from by rw [kd_X4 hS hT_i0]) ?_
      refine EQ_jgd ⟨(show h (h i0 0) (-2) = 101 from by rw [ft_X4_0 hS hT_i0, ka_X4_0 hS hT_i0]), ((show jI a2 (h (h i0 0) (-1)) ↔ jI a2 3 from by rw [ft_X4_0 hS hT_i0, la_X4_0 hS hT_i0]).mpr g2)⟩ ?_
      refine EQ_jb (by rw [ft_X4_0 hS hT_i0]; exact eX4_valuesOf (h (i0 + 1) a2)) (fun v6 r4 => ?_)
      exact (eX4_allPoints_j38_4 i0 a2 a1 v6 hT_i0 hS)
noncomputable def gX4_allPoints_l4 (i0 : Int) (a1 : Int) (a2 : Int) (h : AH) : Option (Int) := jit (gX4_allPoints_b4 i0 h) (a1, a2)
theorem eX4_allPoints_l4 (i0 : Int) (a1 : Int) (a2 : Int) (hT_i0 : isX4 i0) {h : AH} (hS : Sh S h) : EQ (fX4_allPoints_l4 i0 a1 a2 h) (gX4_allPoints_l4 i0 a1 a2 h) (fun _ => True) := EQ_jit (I := (fun _ => True)) (fun s _ => eX4_allPoints_b4 i0 hT_i0 s hS) trivial
noncomputable def gX4_allPoints (a0 : Int) (h : AH) : Option (Int) := jb (gX4_allPoints_l4 a0 1 0 h) fun o1 => some o1
theorem eX4_allPoints (a0 : Int) (hT_a0 : isX4 a0) {h : AH} (hS : Sh S h) : EQ (fX4_allPoints a0 h) (gX4_allPoints a0 h) (fun _ => True) := by
  unfold fX4_allPoints gX4_allPoints
  refine EQ_jb (eX4_allPoints_l4 a0 1 0 hT_a0 hS) (fun o1 r1 => ?_)
  exact EQ_some trivial
noncomputable def gX13_isParameter_j113_69 (a1 : Int) (a2 : Int) (a3 : Int) (a5 : Int) (t0 : Int) (h : AH) : Option ((Int × Int) ⊕ (Int)) := jl (w32 (a5 + 1)) fun x10 => some (.inl (t0, x10))
theorem eX13_isParameter_j113_69 (a1 : Int) (a2 : Int) (a3 : Int) (a5 : Int) (t0 : Int) {h : AH} (hS : Sh S h) : EQ (fX13_isParameter_j113_69 441 a1 a2 a3 a5 t0 h) (gX13_isParameter_j113_69 a1 a2 a3 a5 t0 h) (Sum.elim (fun _ => True) (fun _ => True)) := by
  unfold fX13_isParameter_j113_69 gX13_isParameter_j113_69
  refine EQ_jl rfl (fun x10 ex10 => ?_)
  clear ex10
  exact EQ_some trivial
noncomputable def gX13_isParameter_b69 (i1 : Int) (i2 : Int) (i3 : Int) (h : AH) (s : Int × Int) : Option ((Int × Int) ⊕ (Int)) := jt2 s fun a4 a5 => if a4 = 0 then (some (.inr a4)) else (if w32 (i3 - i2) ≤ a5 then (some (.inr a4)) else (jg (h (h 441 0) (-2) = 103 ∧ jI (w32 (i2 + a5)) (h (h 441 0) (-1))) <| jg (jI i1 3) <| jg (jI (w32 (h 442 i1 + a5)) (h (h 441 0) (-1))) <| if h (h 441 0) (w32 (i2 + a5)) = h (h 441 0) (w32 (h 442 i1 + a5)) then (gX13_isParameter_j113_69 i1 i2 i3 a5 1 h) else (gX13_isParameter_j113_69 i1 i2 i3 a5 0 h)))
theorem eX13_isParameter_b69 (i1 : Int) (i2 : Int) (i3 : Int) (s : Int × Int) {h : AH} (hS : Sh S h) : EQ (fX13_isParameter_b69 441 i1 i2 i3 h s) (gX13_isParameter_b69 i1 i2 i3 h s) (Sum.elim (fun _ => True) (fun _ => True)) := by
  unfold fX13_isParameter_b69 gX13_isParameter_b69
  obtain ⟨a4, a5⟩ := s
  refine EQ_jt2 ?_
  refine EQ_if Iff.rfl (fun c1 => ?_) (fun c1 => ?_)
  · exact EQ_some trivial
  · refine EQ_if Iff.rfl (fun c2 => ?_) (fun c2 => ?_)
    · exact EQ_some trivial
    · refine EQ_jgd (show h 441 (-2) = 14 from by rw [k_441 hS]) ?_
      refine EQ_jg Iff.rfl (fun g3 => ?_)
      refine EQ_jgd (show h 441 (-2) = 14 from by rw [k_441 hS]) ?_
      refine EQ_jgd (show h 441 (-2) = 14 from by rw [k_441 hS]) ?_
      refine EQ_jg ⟨fun ⟨_, x0⟩ => (show jI i1 (h (h 441 10) (-1)) ↔ jI i1 3 from by rw [r_441_10 hS, l_442 hS]).mp x0, fun x0 => ⟨(show h (h 441 10) (-2) = 101 from by rw [r_441_10 hS, k_442 hS]), (show jI i1 (h (h 441 10) (-1)) ↔ jI i1 3 from by rw [r_441_10 hS, l_442 hS]).mpr x0⟩⟩ (fun g4 => ?_)
      refine EQ_jg ⟨fun ⟨_, x0⟩ => (show jI (w32 (h (h 441 10) i1 + a5)) (h (h 441 0) (-1)) ↔ jI (w32 (h 442 i1 + a5)) (h (h 441 0) (-1)) from by rw [r_441_10 hS]).mp x0, fun x0 => ⟨(g3.1), (show jI (w32 (h (h 441 10) i1 + a5)) (h (h 441 0) (-1)) ↔ jI (w32 (h 442 i1 + a5)) (h (h 441 0) (-1)) from by rw [r_441_10 hS]).mpr x0⟩⟩ (fun g5 => ?_)
      refine EQ_if (show h (h 441 0) (w32 (i2 + a5)) = h (h 441 0) (w32 (h (h 441 10) i1 + a5)) ↔ h (h 441 0) (w32 (i2 + a5)) = h (h 441 0) (w32 (h 442 i1 + a5)) from by rw [r_441_10 hS]) (fun c6 => ?_) (fun c6 => ?_)
      · exact (eX13_isParameter_j113_69 i1 i2 i3 a5 1 hS)
      · exact (eX13_isParameter_j113_69 i1 i2 i3 a5 0 hS)
noncomputable def gX13_isParameter_l69 (i1 : Int) (i2 : Int) (i3 : Int) (a4 : Int) (a5 : Int) (h : AH) : Option (Int) := jit (gX13_isParameter_b69 i1 i2 i3 h) (a4, a5)
theorem eX13_isParameter_l69 (i1 : Int) (i2 : Int) (i3 : Int) (a4 : Int) (a5 : Int) {h : AH} (hS : Sh S h) : EQ (fX13_isParameter_l69 441 i1 i2 i3 a4 a5 h) (gX13_isParameter_l69 i1 i2 i3 a4 a5 h) (fun _ => True) := EQ_jit (I := (fun _ => True)) (fun s _ => eX13_isParameter_b69 i1 i2 i3 s hS) trivial
noncomputable def gX13_isParameter_j64 (a1 : Int) (a2 : Int) (a3 : Int) (t0 : Int) (h : AH) : Option (Int) := jb (gX13_isParameter_l69 a1 a2 a3 t0 0 h) fun o5 => jg (jZ o5) <| some o5
theorem eX13_isParameter_j64 (a1 : Int) (a2 : Int) (a3 : Int) (t0 : Int) {h : AH} (hS : Sh S h) : EQ (fX13_isParameter_j64 441 a1 a2 a3 t0 h) (gX13_isParameter_j64 a1 a2 a3 t0 h) (fun _ => True) := by
  unfold fX13_isParameter_j64 gX13_isParameter_j64
  refine EQ_jb (eX13_isParameter_l69 a1 a2 a3 t0 0 hS) (fun o5 r1 => ?_)
  refine EQ_jg Iff.rfl (fun g2 => ?_)
  exact EQ_some trivial
noncomputable def gX13_isParameter (a1 : Int) (a2 : Int) (a3 : Int) (h : AH) : Option (Int) := jg (jI a1 3) <| if 0 ≤ h 442 a1 then (if w32 (a3 - a2) = w32 (h 443 a1 - h 442 a1) then (gX13_isParameter_j64 a1 a2 a3 1 h) else (gX13_isParameter_j64 a1 a2 a3 0 h)) else (if w32 (a3 - a2) = 1 then (jg (h (h 441 0) (-2) = 103 ∧ jI a2 (h (h 441 0) (-1))) <| if h (h 441 0) a2 = w32 (96 - h 442 a1) then (some 1) else (some 0)) else (some 0))
theorem eX13_isParameter (a1 : Int) (a2 : Int) (a3 : Int) {h : AH} (hS : Sh S h) : EQ (fX13_isParameter 441 a1 a2 a3 h) (gX13_isParameter a1 a2 a3 h) (fun _ => True) := by
  unfold fX13_isParameter gX13_isParameter
  refine EQ_jgd (show h 441 (-2) = 14 from by rw [k_441 hS]) ?_
  refine EQ_jg ⟨fun ⟨_, x0⟩ => (show jI a1 (h (h 441 10) (-1)) ↔ jI a1 3 from by rw [r_441_10 hS, l_442 hS]).mp x0, fun x0 => ⟨(show h (h 441 10) (-2) = 101 from by rw [r_441_10 hS, k_442 hS]), (show jI a1 (h (h 441 10) (-1)) ↔ jI a1 3 from by rw [r_441_10 hS, l_442 hS]).mpr x0⟩⟩ (fun g1 => ?_)
  refine EQ_if (show 0 ≤ h (h 441 10) a1 ↔ 0 ≤ h 442 a1 from by rw [r_441_10 hS]) (fun c2 => ?_) (fun c2 => ?_)
  · refine EQ_jgd (show h 441 (-2) = 14 from by rw [k_441 hS]) ?_
    refine EQ_jgd ⟨(show h (h 441 11) (-2) = 101 from by rw [r_441_11 hS, k_443 hS]), ((show jI a1 (h (h 441 11) (-1)) ↔ jI a1 3 from by rw [r_441_11 hS, l_443 hS]).mpr g1)⟩ ?_
    refine EQ_jgd (show h 441 (-2) = 14 from by rw [k_441 hS]) ?_
    refine EQ_jgd ⟨(show h (h 441 10) (-2) = 101 from by rw [r_441_10 hS, k_442 hS]), ((show jI a1 (h (h 441 10) (-1)) ↔ jI a1 3 from by rw [r_441_10 hS, l_442 hS]).mpr g1)⟩ ?_
    refine EQ_if (show w32 (a3 - a2) = w32 (h (h 441 11) a1 - h (h 441 10) a1) ↔ w32 (a3 - a2) = w32 (h 443 a1 - h 442 a1) from by rw [r_441_11 hS, r_441_10 hS]) (fun c3 => ?_) (fun c3 => ?_)
    · exact (eX13_isParameter_j64 a1 a2 a3 1 hS)
    · exact (eX13_isParameter_j64 a1 a2 a3 0 hS)
  · refine EQ_if Iff.rfl (fun c4 => ?_) (fun c4 => ?_)
    · refine EQ_jgd (show h 441 (-2) = 14 from by rw [k_441 hS]) ?_
      refine EQ_jg Iff.rfl (fun g5 => ?_)
      refine EQ_jgd (show h 441 (-2) = 14 from by rw [k_441 hS]) ?_
      refine EQ_jgd ⟨(show h (h 441 10) (-2) = 101 from by rw [r_441_10 hS, k_442 hS]), ((show jI a1 (h (h 441 10) (-1)) ↔ jI a1 3 from by rw [r_441_10 hS, l_442 hS]).mpr g1)⟩ ?_
      refine EQ_if (show h (h 441 0) a2 = w32 (96 - h (h 441 10) a1) ↔ h (h 441 0) a2 = w32 (96 - h 442 a1) from by rw [r_441_10 hS]) (fun c6 => ?_) (fun c6 => ?_)
      · exact EQ_some trivial
      · exact EQ_some trivial
    · exact EQ_some trivial
noncomputable def gX3_add (a0 : Int) (a1 : Int) (a2 : Int) (a3 : Int) (a4 : Int) (h : AH) : Option (Int × AH) := jg (jI (h a0 0) (h (a0 + 1) (-1))) <| jl (jst h (a0 + 1) (h a0 0) a1) fun h1 => jg (jI (h1 a0 0) (h1 (a0 + 2) (-1))) <| jl (jst h1 (a0 + 2) (h1 a0 0) a2) fun h2 => jg (jI (h2 a0 0) (h2 (a0 + 3) (-1))) <| jl (jst h2 (a0 + 3) (h2 a0 0) a3) fun h3 => jg (jI (h3 a0 0) (h3 (a0 + 4) (-1))) <| jl (jst h3 (a0 + 4) (h3 a0 0) a4) fun h4 => jg (jI (w32 (3 * h4 a0 0)) (h4 (a0 + 5) (-1))) <| jl (jst h4 (a0 + 5) (w32 (3 * h4 a0 0)) (-1)) fun h5 => jg (jI (w32 (w32 (3 * h5 a0 0) + 1)) (h5 (a0 + 5) (-1))) <| jl (jst h5 (a0 + 5) (w32 (w32 (3 * h5 a0 0) + 1)) (-1)) fun h6 => jg (jI (w32 (w32 (3 * h6 a0 0) + 2)) (h6 (a0 + 5) (-1))) <| jl (jst h6 (a0 + 5) (w32 (w32 (3 * h6 a0 0) + 2)) (-1)) fun h7 => jl (jst h7 a0 0 (w32 (h7 a0 0 + 1))) fun h8 => some (h7 a0 0, h8)
theorem eX3_add (a0 : Int) (a1 : Int) (a2 : Int) (a3 : Int) (a4 : Int) (hT_a0 : isX3 a0) {h : AH} (hS : Sh S h) : EQ (fX3_add a0 a1 a2 a3 a4 h) (gX3_add a0 a1 a2 a3 a4 h) (fun r => Sh S r.2) := by
  unfold fX3_add gX3_add
  refine EQ_jgd (show h a0 (-2) = 4 from by rw [kd_X3 hS hT_a0]) ?_
  refine EQ_jgd (show h a0 (-2) = 4 from by rw [kd_X3 hS hT_a0]) ?_
  refine EQ_jg ⟨fun ⟨_, _, x0⟩ => (show jI (h a0 0) (h (h a0 1) (-1)) ↔ jI (h a0 0) (h (a0 + 1) (-1)) from by rw [ft_X3_1 hS hT_a0]).mp x0, fun x0 => ⟨(show h (h a0 1) (-2) = 101 from by rw [ft_X3_1 hS hT_a0, ka_X3_1 hS hT_a0]), (show 200 ≤ h a0 1 from by rw [ft_X3_1 hS hT_a0]; exact gea_X3_1 hT_a0), (show jI (h a0 0) (h (h a0 1) (-1)) ↔ jI (h a0 0) (h (a0 + 1) (-1)) from by rw [ft_X3_1 hS hT_a0]).mpr x0⟩⟩ (fun g1 => ?_)
  refine EQ_jl (by rw [ft_X3_1 hS hT_a0]) (fun h1 eh1 => ?_)
  have s2 := Sh_of eh1 (Sh_sta hS (ara_X3_1 hT_a0) (jI_nn g1) (fun e => absurd ((ka_X3_1 hS hT_a0).symm.trans e) (by decide)))
  clear eh1
  refine EQ_jgd (show h1 a0 (-2) = 4 from by rw [kd_X3 s2 hT_a0]) ?_
  refine EQ_jgd (show h1 a0 (-2) = 4 from by rw [kd_X3 s2 hT_a0]) ?_
  refine EQ_jg ⟨fun ⟨_, _, x0⟩ => (show jI (h1 a0 0) (h1 (h1 a0 2) (-1)) ↔ jI (h1 a0 0) (h1 (a0 + 2) (-1)) from by rw [ft_X3_2 s2 hT_a0]).mp x0, fun x0 => ⟨(show h1 (h1 a0 2) (-2) = 101 from by rw [ft_X3_2 s2 hT_a0, ka_X3_2 s2 hT_a0]), (show 200 ≤ h1 a0 2 from by rw [ft_X3_2 s2 hT_a0]; exact gea_X3_2 hT_a0), (show jI (h1 a0 0) (h1 (h1 a0 2) (-1)) ↔ jI (h1 a0 0) (h1 (a0 + 2) (-1)) from by rw [ft_X3_2 s2 hT_a0]).mpr x0⟩⟩ (fun g3 => ?_)
  refine EQ_jl (by rw [ft_X3_2 s2 hT_a0]) (fun h2 eh2 => ?_)
  have s4 := Sh_of eh2 (Sh_sta s2 (ara_X3_2 hT_a0) (jI_nn g3) (fun e => absurd ((ka_X3_2 s2 hT_a0).symm.trans e) (by decide)))
  clear eh2
  refine EQ_jgd (show h2 a0 (-2) = 4 from by rw [kd_X3 s4 hT_a0]) ?_
  refine EQ_jgd (show h2 a0 (-2) = 4 from by rw [kd_X3 s4 hT_a0]) ?_
  refine EQ_jg ⟨fun ⟨_, _, x0⟩ => (show jI (h2 a0 0) (h2 (h2 a0 3) (-1)) ↔ jI (h2 a0 0) (h2 (a0 + 3) (-1)) from by rw [ft_X3_3 s4 hT_a0]).mp x0, fun x0 => ⟨(show h2 (h2 a0 3) (-2) = 101 from by rw [ft_X3_3 s4 hT_a0, ka_X3_3 s4 hT_a0]), (show 200 ≤ h2 a0 3 from by rw [ft_X3_3 s4 hT_a0]; exact gea_X3_3 hT_a0), (show jI (h2 a0 0) (h2 (h2 a0 3) (-1)) ↔ jI (h2 a0 0) (h2 (a0 + 3) (-1)) from by rw [ft_X3_3 s4 hT_a0]).mpr x0⟩⟩ (fun g5 => ?_)
  refine EQ_jl (by rw [ft_X3_3 s4 hT_a0]) (fun h3 eh3 => ?_)
  have s6 := Sh_of eh3 (Sh_sta s4 (ara_X3_3 hT_a0) (jI_nn g5) (fun e => absurd ((ka_X3_3 s4 hT_a0).symm.trans e) (by decide)))
  clear eh3
  refine EQ_jgd (show h3 a0 (-2) = 4 from by rw [kd_X3 s6 hT_a0]) ?_
  refine EQ_jgd (show h3 a0 (-2) = 4 from by rw [kd_X3 s6 hT_a0]) ?_
  refine EQ_jg ⟨fun ⟨_, _, x0⟩ => (show jI (h3 a0 0) (h3 (h3 a0 5) (-1)) ↔ jI (h3 a0 0) (h3 (a0 + 4) (-1)) from by rw [ft_X3_5 s6 hT_a0]).mp x0, fun x0 => ⟨(show h3 (h3 a0 5) (-2) = 101 from by rw [ft_X3_5 s6 hT_a0, ka_X3_5 s6 hT_a0]), (show 200 ≤ h3 a0 5 from by rw [ft_X3_5 s6 hT_a0]; exact gea_X3_5 hT_a0), (show jI (h3 a0 0) (h3 (h3 a0 5) (-1)) ↔ jI (h3 a0 0) (h3 (a0 + 4) (-1)) from by rw [ft_X3_5 s6 hT_a0]).mpr x0⟩⟩ (fun g7 => ?_)
  refine EQ_jl (by rw [ft_X3_5 s6 hT_a0]) (fun h4 eh4 => ?_)
  have s8 := Sh_of eh4 (Sh_sta s6 (ara_X3_5 hT_a0) (jI_nn g7) (fun e => absurd ((ka_X3_5 s6 hT_a0).symm.trans e) (by decide)))
  clear eh4
  refine EQ_jgd (show h4 a0 (-2) = 4 from by rw [kd_X3 s8 hT_a0]) ?_
  refine EQ_jgd (show h4 a0 (-2) = 4 from by rw [kd_X3 s8 hT_a0]) ?_
  refine EQ_jg ⟨fun ⟨_, _, x0⟩ => (show jI (w32 (3 * h4 a0 0)) (h4 (h4 a0 4) (-1)) ↔ jI (w32 (3 * h4 a0 0)) (h4 (a0 + 5) (-1)) from by rw [ft_X3_4 s8 hT_a0]).mp x0, fun x0 => ⟨(show h4 (h4 a0 4) (-2) = 101 from by rw [ft_X3_4 s8 hT_a0, ka_X3_4 s8 hT_a0]), (show 200 ≤ h4 a0 4 from by rw [ft_X3_4 s8 hT_a0]; exact gea_X3_4 hT_a0), (show jI (w32 (3 * h4 a0 0)) (h4 (h4 a0 4) (-1)) ↔ jI (w32 (3 * h4 a0 0)) (h4 (a0 + 5) (-1)) from by rw [ft_X3_4 s8 hT_a0]).mpr x0⟩⟩ (fun g9 => ?_)
  refine EQ_jl (by rw [ft_X3_4 s8 hT_a0]) (fun h5 eh5 => ?_)
  have s10 := Sh_of eh5 (Sh_sta s8 (ara_X3_4 hT_a0) (jI_nn g9) (fun e => absurd ((ka_X3_4 s8 hT_a0).symm.trans e) (by decide)))
  clear eh5
  refine EQ_jgd (show h5 a0 (-2) = 4 from by rw [kd_X3 s10 hT_a0]) ?_
  refine EQ_jgd (show h5 a0 (-2) = 4 from by rw [kd_X3 s10 hT_a0]) ?_
  refine EQ_jg ⟨fun ⟨_, _, x0⟩ => (show jI (w32 (w32 (3 * h5 a0 0) + 1)) (h5 (h5 a0 4) (-1)) ↔ jI (w32 (w32 (3 * h5 a0 0) + 1)) (h5 (a0 + 5) (-1)) from by rw [ft_X3_4 s10 hT_a0]).mp x0, fun x0 => ⟨(show h5 (h5 a0 4) (-2) = 101 from by rw [ft_X3_4 s10 hT_a0, ka_X3_4 s10 hT_a0]), (show 200 ≤ h5 a0 4 from by rw [ft_X3_4 s10 hT_a0]; exact gea_X3_4 hT_a0), (show jI (w32 (w32 (3 * h5 a0 0) + 1)) (h5 (h5 a0 4) (-1)) ↔ jI (w32 (w32 (3 * h5 a0 0) + 1)) (h5 (a0 + 5) (-1)) from by rw [ft_X3_4 s10 hT_a0]).mpr x0⟩⟩ (fun g11 => ?_)
  refine EQ_jl (by rw [ft_X3_4 s10 hT_a0]) (fun h6 eh6 => ?_)
  have s12 := Sh_of eh6 (Sh_sta s10 (ara_X3_4 hT_a0) (jI_nn g11) (fun e => absurd ((ka_X3_4 s10 hT_a0).symm.trans e) (by decide)))
  clear eh6
  refine EQ_jgd (show h6 a0 (-2) = 4 from by rw [kd_X3 s12 hT_a0]) ?_
  refine EQ_jgd (show h6 a0 (-2) = 4 from by rw [kd_X3 s12 hT_a0]) ?_
  refine EQ_jg ⟨fun ⟨_, _, x0⟩ => (show jI (w32 (w32 (3 * h6 a0 0) + 2)) (h6 (h6 a0 4) (-1)) ↔ jI (w32 (w32 (3 * h6 a0 0) + 2)) (h6 (a0 + 5) (-1)) from by rw [ft_X3_4 s12 hT_a0]).mp x0, fun x0 => ⟨(show h6 (h6 a0 4) (-2) = 101 from by rw [ft_X3_4 s12 hT_a0, ka_X3_4 s12 hT_a0]), (show 200 ≤ h6 a0 4 from by rw [ft_X3_4 s12 hT_a0]; exact gea_X3_4 hT_a0), (show jI (w32 (w32 (3 * h6 a0 0) + 2)) (h6 (h6 a0 4) (-1)) ↔ jI (w32 (w32 (3 * h6 a0 0) + 2)) (h6 (a0 + 5) (-1)) from by rw [ft_X3_4 s12 hT_a0]).mpr x0⟩⟩ (fun g13 => ?_)
  refine EQ_jl (by rw [ft_X3_4 s12 hT_a0]) (fun h7 eh7 => ?_)
  have s14 := Sh_of eh7 (Sh_sta s12 (ara_X3_4 hT_a0) (jI_nn g13) (fun e => absurd ((ka_X3_4 s12 hT_a0).symm.trans e) (by decide)))
  clear eh7
  refine EQ_jgd (show h7 a0 (-2) = 4 from by rw [kd_X3 s14 hT_a0]) ?_
  refine EQ_jgd ⟨(show h7 a0 (-2) = 4 from by rw [kd_X3 s14 hT_a0]), (show 200 ≤ a0 from ge_X3 hT_a0)⟩ ?_
  refine EQ_jl rfl (fun h8 eh8 => ?_)
  have s15 := Sh_of eh8 (Sh_sto_X3_0 s14 hT_a0)
  clear eh8
  exact EQ_some s15
noncomputable def gX13_leaf (a1 : Int) (a2 : Int) (a3 : Int) (a4 : Int) (h : AH) : Option (Int × AH) := jg (isX3 (h 441 17)) <| jb2 (gX3_add (h 441 17) a1 a2 a3 a4 h) fun v2 h3 => jg (jI v2 2200) <| jl (jst h3 445 v2 0) fun h4 => some (v2, h4)
theorem eX13_leaf (a1 : Int) (a2 : Int) (a3 : Int) (a4 : Int) {h : AH} (hS : Sh S h) : EQ (fX13_leaf 441 a1 a2 a3 a4 h) (gX13_leaf a1 a2 a3 a4 h) (fun r => Sh S r.2) := by
  unfold fX13_leaf gX13_leaf
  refine EQ_jgd (show h 441 (-2) = 14 from by rw [k_441 hS]) ?_
  refine EQ_jg ⟨fun x0 => (ik_X3 hS).mp x0, fun x0 => (ik_X3 hS).mpr x0⟩ (fun g1 => ?_)
  refine EQ_jb2 (eX3_add (h 441 17) a1 a2 a3 a4 g1 hS) (fun v2 h3 r2 => ?_)
  replace r2 : Sh S h3 := r2
  refine EQ_jgd (show h3 441 (-2) = 14 from by rw [k_441 r2]) ?_
  refine EQ_jg ⟨fun ⟨_, _, x0⟩ => (show jI v2 (h3 (h3 441 19) (-1)) ↔ jI v2 2200 from by rw [r_441_19 r2, l_445 r2]).mp x0, fun x0 => ⟨(show h3 (h3 441 19) (-2) = 101 from by rw [r_441_19 r2, k_445 r2]), (show 200 ≤ h3 441 19 from by rw [r_441_19 r2]; exact (by decide)), (show jI v2 (h3 (h3 441 19) (-1)) ↔ jI v2 2200 from by rw [r_441_19 r2, l_445 r2]).mpr x0⟩⟩ (fun g3 => ?_)
  refine EQ_jl (by rw [r_441_19 r2]) (fun h4 eh4 => ?_)
  have s4 := Sh_of eh4 (Sh_sta r2 (by decide +kernel) (jI_nn g3) (fun e => absurd ((k_445 r2).symm.trans e) (by decide)))
  clear eh4
  exact EQ_some s4
noncomputable def gX3_join (a0 : Int) (a1 : Int) (a2 : Int) (a3 : Int) (h : AH) : Option (AH) := if 3 ≤ a2 then (some h) else (jg (jI (w32 (w32 (3 * a1) + a2)) (h (a0 + 5) (-1))) <| jl (jst h (a0 + 5) (w32 (w32 (3 * a1) + a2)) a3) fun h2 => some h2)
theorem eX3_join (a0 : Int) (a1 : Int) (a2 : Int) (a3 : Int) (hT_a0 : isX3 a0) {h : AH} (hS : Sh S h) : EQ (fX3_join a0 a1 a2 a3 h) (gX3_join a0 a1 a2 a3 h) (fun r => Sh S r) := by
  unfold fX3_join gX3_join
  refine EQ_if Iff.rfl (fun c1 => ?_) (fun c1 => ?_)
  · exact EQ_some hS
  · refine EQ_jgd (show h a0 (-2) = 4 from by rw [kd_X3 hS hT_a0]) ?_
    refine EQ_jg ⟨fun ⟨_, _, x0⟩ => (show jI (w32 (w32 (3 * a1) + a2)) (h (h a0 4) (-1)) ↔ jI (w32 (w32 (3 * a1) + a2)) (h (a0 + 5) (-1)) from by rw [ft_X3_4 hS hT_a0]).mp x0, fun x0 => ⟨(show h (h a0 4) (-2) = 101 from by rw [ft_X3_4 hS hT_a0, ka_X3_4 hS hT_a0]), (show 200 ≤ h a0 4 from by rw [ft_X3_4 hS hT_a0]; exact gea_X3_4 hT_a0), (show jI (w32 (w32 (3 * a1) + a2)) (h (h a0 4) (-1)) ↔ jI (w32 (w32 (3 * a1) + a2)) (h (a0 + 5) (-1)) from by rw [ft_X3_4 hS hT_a0]).mpr x0⟩⟩ (fun g2 => ?_)
    refine EQ_jl (by rw [ft_X3_4 hS hT_a0]) (fun h2 eh2 => ?_)
    have s3 := Sh_of eh2 (Sh_sta hS (ara_X3_4 hT_a0) (jI_nn g2) (fun e => absurd ((ka_X3_4 hS hT_a0).symm.trans e) (by decide)))
    clear eh2
    exact EQ_some s3
noncomputable def gX13_parameter_b2 (i1 : Int) (i2 : Int) (h : AH) (a3 : Int) : Option ((Int) ⊕ ((Int) ⊕ (Unit))) := if h 441 13 ≤ a3 then (some (.inr (.inr ()))) else (jb (gX13_isParameter a3 i1 i2 h) fun v15 => if v15 = 0 then (jl (w32 (a3 + 1)) fun x17 => some (.inl x17)) else (some (.inr (.inl a3))))
theorem eX13_parameter_b2 (i1 : Int) (i2 : Int) (a3 : Int) {h : AH} (hS : Sh S h) : EQ (fX13_parameter_b2 441 i1 i2 h a3) (gX13_parameter_b2 i1 i2 h a3) (Sum.elim (fun _ => True) (Sum.elim (fun _ => True) (fun _ => True))) := by
  unfold fX13_parameter_b2 gX13_parameter_b2
  refine EQ_jgd (show h 441 (-2) = 14 from by rw [k_441 hS]) ?_
  refine EQ_if Iff.rfl (fun c1 => ?_) (fun c1 => ?_)
  · exact EQ_some trivial
  · refine EQ_jgd (show h 441 (-2) = 14 from by rw [k_441 hS]) ?_
    refine EQ_jb (eX13_isParameter a3 i1 i2 hS) (fun v15 r2 => ?_)
    refine EQ_if Iff.rfl (fun c3 => ?_) (fun c3 => ?_)
    · refine EQ_jl rfl (fun x17 ex17 => ?_)
      clear ex17
      exact EQ_some trivial
    · exact EQ_some trivial
noncomputable def gX13_parameter_l2 (i1 : Int) (i2 : Int) (a3 : Int) (h : AH) : Option ((Int) ⊕ (Unit)) := jit (gX13_parameter_b2 i1 i2 h) a3
theorem eX13_parameter_l2 (i1 : Int) (i2 : Int) (a3 : Int) {h : AH} (hS : Sh S h) : EQ (fX13_parameter_l2 441 i1 i2 a3 h) (gX13_parameter_l2 i1 i2 a3 h) (Sum.elim (fun _ => True) (fun _ => True)) := EQ_jit (I := (fun _ => True)) (fun s _ => eX13_parameter_b2 i1 i2 s hS) trivial
noncomputable def gX13_parameter (a1 : Int) (a2 : Int) (h : AH) : Option (Int × AH) := jb (gX13_parameter_l2 a1 a2 0 h) fun o1 => jm o1 (fun o3 => jg (jI o3 3) <| jb2 (gX13_leaf 0 o3 (h 444 o3) a1 h) fun v6 h7 => some (v6, h7)) (fun o4 => jb (gX13_err 2 a1 h) fun h9 => jb2 (gX13_leaf 1 0 (-1) a1 h9) fun v11 h12 => some (v11, h12))
theorem eX13_parameter (a1 : Int) (a2 : Int) {h : AH} (hS : Sh S h) : EQ (fX13_parameter 441 a1 a2 h) (gX13_parameter a1 a2 h) (fun r => Sh S r.2) := by
  unfold fX13_parameter gX13_parameter
  refine EQ_jb (eX13_parameter_l2 a1 a2 0 hS) (fun o1 r1 => ?_)
  refine EQ_jm r1 (fun o3 r2 => ?_) (fun o4 r3 => ?_)
  · refine EQ_jgd (show h 441 (-2) = 14 from by rw [k_441 hS]) ?_
    refine EQ_jg ⟨fun ⟨_, x0⟩ => (show jI o3 (h (h 441 12) (-1)) ↔ jI o3 3 from by rw [r_441_12 hS, l_444 hS]).mp x0, fun x0 => ⟨(show h (h 441 12) (-2) = 101 from by rw [r_441_12 hS, k_444 hS]), (show jI o3 (h (h 441 12) (-1)) ↔ jI o3 3 from by rw [r_441_12 hS, l_444 hS]).mpr x0⟩⟩ (fun g4 => ?_)
    refine EQ_jgd (show h 441 (-2) = 14 from by rw [k_441 hS]) ?_
    refine EQ_jb2 (by rw [r_441_12 hS]; exact eX13_leaf 0 o3 (h 444 o3) a1 hS) (fun v6 h7 r5 => ?_)
    replace r5 : Sh S h7 := r5
    exact EQ_some r5
  · refine EQ_jgd (show h 441 (-2) = 14 from by rw [k_441 hS]) ?_
    refine EQ_jb (eX13_err 2 a1 hS) (fun h9 r6 => ?_)
    refine EQ_jgd (show h9 441 (-2) = 14 from by rw [k_441 r6]) ?_
    refine EQ_jb2 (eX13_leaf 1 0 (-1) a1 r6) (fun v11 h12 r7 => ?_)
    replace r7 : Sh S h12 := r7
    exact EQ_some r7
noncomputable def gX13_term_j107 (F : Int → Int → Int → AH → Option (Int × AH)) (a1 : Int) (h : AH) : Option (Int × AH) := if h 441 2 = 110 then (jl (h 441 3) fun x23 => jl (h 441 4) fun x24 => jb (gX13_next h) fun h26 => if h26 441 2 = 40 then (jb2 (F x23 x24 a1 h26) fun v29 h30 => some (v29, h30)) else (jb2 (gX13_parameter x23 x24 h26) fun v32 h33 => some (v32, h33))) else (jb (gX13_no h) fun h35 => some (0, h35))
theorem eX13_term_j107 {F0 : Int → Int → Int → Int → AH → Option (Int × AH)} {F : Int → Int → Int → AH → Option (Int × AH)} (hF : ∀ (b_a1 : Int) (b_a2 : Int) (b_a3 : Int), ∀ {b_h : AH}, Sh S b_h → EQ (F0 441 b_a1 b_a2 b_a3 b_h) (F b_a1 b_a2 b_a3 b_h) (fun r => Sh S r.2)) (a1 : Int) {h : AH} (hS : Sh S h) : EQ (fX13_term_j107 F0 441 a1 h) (gX13_term_j107 F a1 h) (fun r => Sh S r.2) := by
  unfold fX13_term_j107 gX13_term_j107
  refine EQ_jgd (show h 441 (-2) = 14 from by rw [k_441 hS]) ?_
  refine EQ_if Iff.rfl (fun c1 => ?_) (fun c1 => ?_)
  · refine EQ_jgd (show h 441 (-2) = 14 from by rw [k_441 hS]) ?_
    refine EQ_jl rfl (fun x23 ex23 => ?_)
    clear ex23
    refine EQ_jgd (show h 441 (-2) = 14 from by rw [k_441 hS]) ?_
    refine EQ_jl rfl (fun x24 ex24 => ?_)
    clear ex24
    refine EQ_jgd (show h 441 (-2) = 14 from by rw [k_441 hS]) ?_
    refine EQ_jb (eX13_next hS) (fun h26 r2 => ?_)
    refine EQ_jgd (show h26 441 (-2) = 14 from by rw [k_441 r2]) ?_
    refine EQ_if Iff.rfl (fun c3 => ?_) (fun c3 => ?_)
    · refine EQ_jgd (show h26 441 (-2) = 14 from by rw [k_441 r2]) ?_
      refine EQ_jb2 (hF x23 x24 a1 r2) (fun v29 h30 r4 => ?_)
      replace r4 : Sh S h30 := r4
      exact EQ_some r4
    · refine EQ_jgd (show h26 441 (-2) = 14 from by rw [k_441 r2]) ?_
      refine EQ_jb2 (eX13_parameter x23 x24 r2) (fun v32 h33 r5 => ?_)
      replace r5 : Sh S h33 := r5
      exact EQ_some r5
  · refine EQ_jgd (show h 441 (-2) = 14 from by rw [k_441 hS]) ?_
    refine EQ_jb (eX13_no hS) (fun h35 r6 => ?_)
    exact EQ_some r6
noncomputable def gX13_term_j84 (F : Int → Int → Int → AH → Option (Int × AH)) (a2 : Int) (h : AH) : Option (Int × AH) := jl (jst h 441 16 (w32 (h 441 16 + 1))) fun h36 => jb2 (gX13_leaf 3 (min 2 (h 441 16)) 0 a2 h36) fun v38 h39 => some (v38, h39)
theorem eX13_term_j84 {F0 : Int → Int → Int → Int → AH → Option (Int × AH)} {F : Int → Int → Int → AH → Option (Int × AH)} (hF : ∀ (b_a1 : Int) (b_a2 : Int) (b_a3 : Int), ∀ {b_h : AH}, Sh S b_h → EQ (F0 441 b_a1 b_a2 b_a3 b_h) (F b_a1 b_a2 b_a3 b_h) (fun r => Sh S r.2)) (a2 : Int) {h : AH} (hS : Sh S h) : EQ (fX13_term_j84 F0 441 a2 h) (gX13_term_j84 F a2 h) (fun r => Sh S r.2) := by
  unfold fX13_term_j84 gX13_term_j84
  refine EQ_jgd (show h 441 (-2) = 14 from by rw [k_441 hS]) ?_
  refine EQ_jgd ⟨(show h 441 (-2) = 14 from by rw [k_441 hS]), (show (200 : Int) ≤ 441 from (by decide))⟩ ?_
  refine EQ_jl rfl (fun h36 eh36 => ?_)
  have s1 := Sh_of eh36 (Sh_sto hS (a := 441) (i := 16) (by decide +kernel))
  clear eh36
  refine EQ_jgd (show h36 441 (-2) = 14 from by rw [k_441 s1]) ?_
  refine EQ_jb2 (eX13_leaf 3 (min 2 (h 441 16)) 0 a2 s1) (fun v38 h39 r2 => ?_)
  replace r2 : Sh S h39 := r2
  exact EQ_some r2
noncomputable def gX13_term_ (F : Int → Int → Int → AH → Option (Int × AH)) (a1 : Int) (h : AH) : Option (Int × AH) := if h 441 6 = 0 then (if a1 ≤ 12 then (jl (h 441 3) fun x3 => jb (gX13_isValue h) fun v5 => if v5 = 0 then (if h 441 2 = 63 then (if h 441 14 = 0 then (gX13_term_j107 F a1 h) else (jb (gX13_next h) fun h10 => if h10 441 16 = 3 then (jb (gX13_err 5 x3 h10) fun h13 => gX13_term_j84 F x3 h13) else (gX13_term_j84 F x3 h10))) else (gX13_term_j107 F a1 h)) else (jb2 (gX13_value h) fun v15 h16 => jb2 (gX13_leaf 1 v15 (h16 441 18) x3 h16) fun v18 h19 => some (v18, h19))) else (jb (gX13_no h) fun h21 => some (0, h21))) else (some (0, h))
theorem eX13_term_ {F0 : Int → Int → Int → Int → AH → Option (Int × AH)} {F : Int → Int → Int → AH → Option (Int × AH)} (hF : ∀ (b_a1 : Int) (b_a2 : Int) (b_a3 : Int), ∀ {b_h : AH}, Sh S b_h → EQ (F0 441 b_a1 b_a2 b_a3 b_h) (F b_a1 b_a2 b_a3 b_h) (fun r => Sh S r.2)) (a1 : Int) {h : AH} (hS : Sh S h) : EQ (fX13_term_ F0 441 a1 h) (gX13_term_ F a1 h) (fun r => Sh S r.2) := by
  unfold fX13_term_ gX13_term_
  refine EQ_jgd (show h 441 (-2) = 14 from by rw [k_441 hS]) ?_
  refine EQ_if Iff.rfl (fun c1 => ?_) (fun c1 => ?_)
  · refine EQ_if Iff.rfl (fun c2 => ?_) (fun c2 => ?_)
    · refine EQ_jgd (show h 441 (-2) = 14 from by rw [k_441 hS]) ?_
      refine EQ_jl rfl (fun x3 ex3 => ?_)
      clear ex3
      refine EQ_jgd (show h 441 (-2) = 14 from by rw [k_441 hS]) ?_
      refine EQ_jb (eX13_isValue hS) (fun v5 r3 => ?_)
      refine EQ_if Iff.rfl (fun c4 => ?_) (fun c4 => ?_)
      · refine EQ_jgd (show h 441 (-2) = 14 from by rw [k_441 hS]) ?_
        refine EQ_if Iff.rfl (fun c5 => ?_) (fun c5 => ?_)
        · refine EQ_jgd (show h 441 (-2) = 14 from by rw [k_441 hS]) ?_
          refine EQ_if Iff.rfl (fun c6 => ?_) (fun c6 => ?_)
          · exact (eX13_term_j107 hF a1 hS)
          · refine EQ_jgd (show h 441 (-2) = 14 from by rw [k_441 hS]) ?_
            refine EQ_jb (eX13_next hS) (fun h10 r7 => ?_)
            refine EQ_jgd (show h10 441 (-2) = 14 from by rw [k_441 r7]) ?_
            refine EQ_if Iff.rfl (fun c8 => ?_) (fun c8 => ?_)
            · refine EQ_jgd (show h10 441 (-2) = 14 from by rw [k_441 r7]) ?_
              refine EQ_jb (eX13_err 5 x3 r7) (fun h13 r9 => ?_)
              exact (eX13_term_j84 hF x3 r9)
            · exact (eX13_term_j84 hF x3 r7)
        · exact (eX13_term_j107 hF a1 hS)
      · refine EQ_jgd (show h 441 (-2) = 14 from by rw [k_441 hS]) ?_
        refine EQ_jb2 (eX13_value hS) (fun v15 h16 r10 => ?_)
        replace r10 : Sh S h16 := r10
        refine EQ_jgd (show h16 441 (-2) = 14 from by rw [k_441 r10]) ?_
        refine EQ_jgd (show h16 441 (-2) = 14 from by rw [k_441 r10]) ?_
        refine EQ_jb2 (eX13_leaf 1 v15 (h16 441 18) x3 r10) (fun v18 h19 r11 => ?_)
        replace r11 : Sh S h19 := r11
        exact EQ_some r11
    · refine EQ_jgd (show h 441 (-2) = 14 from by rw [k_441 hS]) ?_
      refine EQ_jb (eX13_no hS) (fun h21 r12 => ?_)
      exact EQ_some r12
  · exact EQ_some hS
noncomputable def gX13_call_j347_231 (F : Int → Int → Int → AH → Option (Int × AH)) (a1 : Int) (a3 : Int) (a4 : Int) (a5 : Int) (a6 : Int) (a7 : Int) (a8 : Int) (a9 : Int) (a10 : Int) (a12 : Int) (h : AH) : Option ((Int × Int × AH) ⊕ ((AH) ⊕ (Int × Int × AH))) := jg (isX3 (h 441 17)) <| jb (gX3_join (h 441 17) a7 a9 a12 h) fun h59 => jl (w32 (a9 + 1)) fun x60 => if h59 441 2 = 44 then (some (.inl (x60, a10, h59))) else (some (.inr (.inr (x60, a10, h59))))
theorem eX13_call_j347_231 {F0 : Int → Int → Int → Int → AH → Option (Int × AH)} {F : Int → Int → Int → AH → Option (Int × AH)} (hF : ∀ (b_a1 : Int) (b_a2 : Int) (b_a3 : Int), ∀ {b_h : AH}, Sh S b_h → EQ (F0 441 b_a1 b_a2 b_a3 b_h) (F b_a1 b_a2 b_a3 b_h) (fun r => Sh S r.2)) (a1 : Int) (a3 : Int) (a4 : Int) (a5 : Int) (a6 : Int) (a7 : Int) (a8 : Int) (a9 : Int) (a10 : Int) (a12 : Int) {h : AH} (hS : Sh S h) : EQ (fX13_call_j347_231 F0 441 a1 a3 a4 a5 a6 a7 a8 a9 a10 a12 h) (gX13_call_j347_231 F a1 a3 a4 a5 a6 a7 a8 a9 a10 a12 h) (Sum.elim (fun r => Sh S r.2.2) (Sum.elim (fun r => Sh S r) (fun r => Sh S r.2.2))) := by
  unfold fX13_call_j347_231 gX13_call_j347_231
  refine EQ_jgd (show h 441 (-2) = 14 from by rw [k_441 hS]) ?_
  refine EQ_jg ⟨fun x0 => (ik_X3 hS).mp x0, fun x0 => (ik_X3 hS).mpr x0⟩ (fun g1 => ?_)
  refine EQ_jb (eX3_join (h 441 17) a7 a9 a12 g1 hS) (fun h59 r2 => ?_)
  refine EQ_jl rfl (fun x60 ex60 => ?_)
  clear ex60
  refine EQ_jgd (show h59 441 (-2) = 14 from by rw [k_441 r2]) ?_
  refine EQ_if Iff.rfl (fun c3 => ?_) (fun c3 => ?_)
  · exact EQ_some r2
  · exact EQ_some r2
noncomputable def gX13_call_j325_231 (F : Int → Int → Int → AH → Option (Int × AH)) (a1 : Int) (a3 : Int) (a4 : Int) (a5 : Int) (a6 : Int) (a7 : Int) (a8 : Int) (a9 : Int) (a10 : Int) (a11 : Int) (a12 : Int) (a13 : Int) (t0 : Int) (h : AH) : Option ((Int × Int × AH) ⊕ ((AH) ⊕ (Int × Int × AH))) := if a13 = (-1) then (gX13_call_j347_231 F a1 a3 a4 a5 a6 a7 a8 a9 a10 a12 h) else (if a13 = t0 then (gX13_call_j347_231 F a1 a3 a4 a5 a6 a7 a8 a9 a10 a12 h) else (jb (gX13_err 3 a11 h) fun h65 => gX13_call_j347_231 F a1 a3 a4 a5 a6 a7 a8 a9 a10 a12 h65))
theorem eX13_call_j325_231 {F0 : Int → Int → Int → Int → AH → Option (Int × AH)} {F : Int → Int → Int → AH → Option (Int × AH)} (hF : ∀ (b_a1 : Int) (b_a2 : Int) (b_a3 : Int), ∀ {b_h : AH}, Sh S b_h → EQ (F0 441 b_a1 b_a2 b_a3 b_h) (F b_a1 b_a2 b_a3 b_h) (fun r => Sh S r.2)) (a1 : Int) (a3 : Int) (a4 : Int) (a5 : Int) (a6 : Int) (a7 : Int) (a8 : Int) (a9 : Int) (a10 : Int) (a11 : Int) (a12 : Int) (a13 : Int) (t0 : Int) {h : AH} (hS : Sh S h) : EQ (fX13_call_j325_231 F0 441 a1 a3 a4 a5 a6 a7 a8 a9 a10 a11 a12 a13 t0 h) (gX13_call_j325_231 F a1 a3 a4 a5 a6 a7 a8 a9 a10 a11 a12 a13 t0 h) (Sum.elim (fun r => Sh S r.2.2) (Sum.elim (fun r => Sh S r) (fun r => Sh S r.2.2))) := by
  unfold fX13_call_j325_231 gX13_call_j325_231
  refine EQ_if Iff.rfl (fun c1 => ?_) (fun c1 => ?_)
  · exact (eX13_call_j347_231 hF a1 a3 a4 a5 a6 a7 a8 a9 a10 a12 hS)
  · refine EQ_if Iff.rfl (fun c2 => ?_) (fun c2 => ?_)
    · exact (eX13_call_j347_231 hF a1 a3 a4 a5 a6 a7 a8 a9 a10 a12 hS)
    · refine EQ_jgd (show h 441 (-2) = 14 from by rw [k_441 hS]) ?_
      refine EQ_jb (eX13_err 3 a11 hS) (fun h65 r3 => ?_)
      exact (eX13_call_j347_231 hF a1 a3 a4 a5 a6 a7 a8 a9 a10 a12 r3)
noncomputable def gX13_call_b231 (F : Int → Int → Int → AH → Option (Int × AH)) (i1 : Int) (i3 : Int) (i4 : Int) (i5 : Int) (i6 : Int) (i7 : Int) (i8 : Int) (s : Int × Int × AH) : Option ((Int × Int × AH) ⊕ ((AH) ⊕ (Int × Int × AH))) := jt3 s fun a9 a10 h => jb (gX13_next h) fun h45 => jl (h45 441 3) fun x46 => jb2 (gX13_term_ F (w32 (i3 + 1)) h45) fun v48 h49 => if h49 441 6 = 0 then (jg (jI v48 2200) <| jl (w32 (a10 + h49 445 v48)) fun x51 => if i6 = 0 then (gX13_call_j347_231 F i1 i3 i4 i5 i6 i7 i8 a9 x51 v48 h49) else (if i8 ≤ a9 then (gX13_call_j347_231 F i1 i3 i4 i5 i6 i7 i8 a9 x51 v48 h49) else (jg (isX3 (h49 441 17)) <| jg (jI v48 (h49 (h49 441 17 + 3) (-1))) <| jl (h49 (h49 441 17 + 3) v48) fun x54 => if i4 = 0 then (jb (gX1_kindOf i5 a9 h49) fun v57 => gX13_call_j325_231 F i1 i3 i4 i5 i6 i7 i8 a9 x51 x46 v48 x54 v57 h49) else (jg (isX4 (h49 441 20)) <| jg (jI a9 3) <| gX13_call_j325_231 F i1 i3 i4 i5 i6 i7 i8 a9 x51 x46 v48 x54 (h49 (h49 441 20 + 1) a9) h49)))) else (some (.inr (.inl h49)))
theorem eX13_call_b231 {F0 : Int → Int → Int → Int → AH → Option (Int × AH)} {F : Int → Int → Int → AH → Option (Int × AH)} (hF : ∀ (b_a1 : Int) (b_a2 : Int) (b_a3 : Int), ∀ {b_h : AH}, Sh S b_h → EQ (F0 441 b_a1 b_a2 b_a3 b_h) (F b_a1 b_a2 b_a3 b_h) (fun r => Sh S r.2)) (i1 : Int) (i3 : Int) (i4 : Int) (i5 : Int) (i6 : Int) (i7 : Int) (i8 : Int) {s : Int × Int × AH} (hS : (fun r => Sh S r.2.2) s) : EQ (fX13_call_b231 F0 441 i1 i3 i4 i5 i6 i7 i8 s) (gX13_call_b231 F i1 i3 i4 i5 i6 i7 i8 s) (Sum.elim (fun r => Sh S r.2.2) (Sum.elim (fun r => Sh S r) (fun r => Sh S r.2.2))) := by
  unfold fX13_call_b231 gX13_call_b231
  obtain ⟨a9, a10, h⟩ := s
  refine EQ_jt3 ?_
  replace hS : Sh S h := hS
  refine EQ_jgd (show h 441 (-2) = 14 from by rw [k_441 hS]) ?_
  refine EQ_jb (eX13_next hS) (fun h45 r1 => ?_)
  refine EQ_jgd (show h45 441 (-2) = 14 from by rw [k_441 r1]) ?_
  refine EQ_jl rfl (fun x46 ex46 => ?_)
  clear ex46
  refine EQ_jgd (show h45 441 (-2) = 14 from by rw [k_441 r1]) ?_
  refine EQ_jb2 (eX13_term_ hF (w32 (i3 + 1)) r1) (fun v48 h49 r2 => ?_)
  replace r2 : Sh S h49 := r2
  refine EQ_jgd (show h49 441 (-2) = 14 from by rw [k_441 r2]) ?_
  refine EQ_if Iff.rfl (fun c3 => ?_) (fun c3 => ?_)
  · refine EQ_jgd (show h49 441 (-2) = 14 from by rw [k_441 r2]) ?_
    refine EQ_jg ⟨fun ⟨_, x0⟩ => (show jI v48 (h49 (h49 441 19) (-1)) ↔ jI v48 2200 from by rw [r_441_19 r2, l_445 r2]).mp x0, fun x0 => ⟨(show h49 (h49 441 19) (-2) = 101 from by rw [r_441_19 r2, k_445 r2]), (show jI v48 (h49 (h49 441 19) (-1)) ↔ jI v48 2200 from by rw [r_441_19 r2, l_445 r2]).mpr x0⟩⟩ (fun g4 => ?_)
    refine EQ_jl (by rw [r_441_19 r2]) (fun x51 ex51 => ?_)
    clear ex51
    refine EQ_if Iff.rfl (fun c5 => ?_) (fun c5 => ?_)
    · exact (eX13_call_j347_231 hF i1 i3 i4 i5 i6 i7 i8 a9 x51 v48 r2)
    · refine EQ_if Iff.rfl (fun c6 => ?_) (fun c6 => ?_)
      · exact (eX13_call_j347_231 hF i1 i3 i4 i5 i6 i7 i8 a9 x51 v48 r2)
      · refine EQ_jgd (show h49 441 (-2) = 14 from by rw [k_441 r2]) ?_
        refine EQ_jg ⟨fun x0 => (ik_X3 r2).mp x0, fun x0 => (ik_X3 r2).mpr x0⟩ (fun g7 => ?_)
        refine EQ_jg ⟨fun ⟨_, x0⟩ => (show jI v48 (h49 (h49 (h49 441 17) 3) (-1)) ↔ jI v48 (h49 (h49 441 17 + 3) (-1)) from by rw [ft_X3_3 r2 g7]).mp x0, fun x0 => ⟨(show h49 (h49 (h49 441 17) 3) (-2) = 101 from by rw [ft_X3_3 r2 g7, ka_X3_3 r2 g7]), (show jI v48 (h49 (h49 (h49 441 17) 3) (-1)) ↔ jI v48 (h49 (h49 441 17 + 3) (-1)) from by rw [ft_X3_3 r2 g7]).mpr x0⟩⟩ (fun g8 => ?_)
        refine EQ_jl (by rw [ft_X3_3 r2 g7]) (fun x54 ex54 => ?_)
        clear ex54
        refine EQ_if Iff.rfl (fun c9 => ?_) (fun c9 => ?_)
        · refine EQ_jgd (show h49 441 (-2) = 14 from by rw [k_441 r2]) ?_
          refine EQ_jgd (show h49 (h49 441 26) (-2) = 2 from by rw [r_441_26 r2, k_200 r2]) ?_
          refine EQ_jb (by rw [r_441_26 r2]; exact eX1_kindOf i5 a9 r2) (fun v57 r10 => ?_)
          exact (eX13_call_j325_231 hF i1 i3 i4 i5 i6 i7 i8 a9 x51 x46 v48 x54 v57 r2)
        · refine EQ_jgd (show h49 441 (-2) = 14 from by rw [k_441 r2]) ?_
          refine EQ_jg ⟨fun x0 => (ik_X4 r2).mp x0, fun x0 => (ik_X4 r2).mpr x0⟩ (fun g11 => ?_)
          refine EQ_jg ⟨fun ⟨_, x0⟩ => (show jI a9 (h49 (h49 (h49 441 20) 0) (-1)) ↔ jI a9 3 from by rw [ft_X4_0 r2 g11, la_X4_0 r2 g11]).mp x0, fun x0 => ⟨(show h49 (h49 (h49 441 20) 0) (-2) = 101 from by rw [ft_X4_0 r2 g11, ka_X4_0 r2 g11]), (show jI a9 (h49 (h49 (h49 441 20) 0) (-1)) ↔ jI a9 3 from by rw [ft_X4_0 r2 g11, la_X4_0 r2 g11]).mpr x0⟩⟩ (fun g12 => ?_)
          exact (by rw [ft_X4_0 r2 g11]; exact eX13_call_j325_231 hF i1 i3 i4 i5 i6 i7 i8 a9 x51 x46 v48 x54 (h49 (h49 441 20 + 1) a9) r2)
  · exact EQ_some r2
noncomputable def gX13_call_l231 (F : Int → Int → Int → AH → Option (Int × AH)) (i1 : Int) (i3 : Int) (i4 : Int) (i5 : Int) (i6 : Int) (i7 : Int) (i8 : Int) (a9 : Int) (a10 : Int) (h : AH) : Option ((AH) ⊕ (Int × Int × AH)) := jit (gX13_call_b231 F i1 i3 i4 i5 i6 i7 i8) (a9, a10, h)
theorem eX13_call_l231 {F0 : Int → Int → Int → Int → AH → Option (Int × AH)} {F : Int → Int → Int → AH → Option (Int × AH)} (hF : ∀ (b_a1 : Int) (b_a2 : Int) (b_a3 : Int), ∀ {b_h : AH}, Sh S b_h → EQ (F0 441 b_a1 b_a2 b_a3 b_h) (F b_a1 b_a2 b_a3 b_h) (fun r => Sh S r.2)) (i1 : Int) (i3 : Int) (i4 : Int) (i5 : Int) (i6 : Int) (i7 : Int) (i8 : Int) (a9 : Int) (a10 : Int) {h : AH} (hS : Sh S h) : EQ (fX13_call_l231 F0 441 i1 i3 i4 i5 i6 i7 i8 a9 a10 h) (gX13_call_l231 F i1 i3 i4 i5 i6 i7 i8 a9 a10 h) (Sum.elim (fun r => Sh S r) (fun r => Sh S r.2.2)) := EQ_jit (I := (fun r => Sh S r.2.2)) (fun s hs => eX13_call_b231 hF i1 i3 i4 i5 i6 i7 i8 hs) hS
noncomputable def gX13_call_j228 (F : Int → Int → Int → AH → Option (Int × AH)) (a1 : Int) (a3 : Int) (a4 : Int) (a5 : Int) (a6 : Int) (a7 : Int) (a8 : Int) (a9 : Int) (t0 : Int) (t1 : Int) (h : AH) : Option (Int × AH) := jl (w32 (t0 + t1)) fun x29 => jb (gX13_call_l231 F a1 a3 a4 a5 a6 a7 a8 a9 x29 h) fun o30 => jm o30 (fun o32 => some (a7, o32)) (fun o33 => jt3 o33 fun y34 y35 h36 => jb (gX13_want 41 h36) fun h38 => jg (jI a7 2200) <| jl (jst h38 445 a7 y35) fun h39 => if a6 = 0 then (some (a7, h39)) else (if y34 = a8 then (some (a7, h39)) else (jb (gX13_err 4 a1 h39) fun h43 => some (a7, h43))))
theorem eX13_call_j228 {F0 : Int → Int → Int → Int → AH → Option (Int × AH)} {F : Int → Int → Int → AH → Option (Int × AH)} (hF : ∀ (b_a1 : Int) (b_a2 : Int) (b_a3 : Int), ∀ {b_h : AH}, Sh S b_h → EQ (F0 441 b_a1 b_a2 b_a3 b_h) (F b_a1 b_a2 b_a3 b_h) (fun r => Sh S r.2)) (a1 : Int) (a3 : Int) (a4 : Int) (a5 : Int) (a6 : Int) (a7 : Int) (a8 : Int) (a9 : Int) (t0 : Int) (t1 : Int) {h : AH} (hS : Sh S h) : EQ (fX13_call_j228 F0 441 a1 a3 a4 a5 a6 a7 a8 a9 t0 t1 h) (gX13_call_j228 F a1 a3 a4 a5 a6 a7 a8 a9 t0 t1 h) (fun r => Sh S r.2) := by
  unfold fX13_call_j228 gX13_call_j228
  refine EQ_jl rfl (fun x29 ex29 => ?_)
  clear ex29
  refine EQ_jb (eX13_call_l231 hF a1 a3 a4 a5 a6 a7 a8 a9 x29 hS) (fun o30 r1 => ?_)
  refine EQ_jm r1 (fun o32 r2 => ?_) (fun o33 r3 => ?_)
  · exact EQ_some r2
  · obtain ⟨y34, y35, h36⟩ := o33
    refine EQ_jt3 ?_
    replace r3 : Sh S h36 := r3
    refine EQ_jgd (show h36 441 (-2) = 14 from by rw [k_441 r3]) ?_
    refine EQ_jb (eX13_want 41 r3) (fun h38 r4 => ?_)
    refine EQ_jgd (show h38 441 (-2) = 14 from by rw [k_441 r4]) ?_
    refine EQ_jg ⟨fun ⟨_, _, x0⟩ => (show jI a7 (h38 (h38 441 19) (-1)) ↔ jI a7 2200 from by rw [r_441_19 r4, l_445 r4]).mp x0, fun x0 => ⟨(show h38 (h38 441 19) (-2) = 101 from by rw [r_441_19 r4, k_445 r4]), (show 200 ≤ h38 441 19 from by rw [r_441_19 r4]; exact (by decide)), (show jI a7 (h38 (h38 441 19) (-1)) ↔ jI a7 2200 from by rw [r_441_19 r4, l_445 r4]).mpr x0⟩⟩ (fun g5 => ?_)
    refine EQ_jl (by rw [r_441_19 r4]) (fun h39 eh39 => ?_)
    have s6 := Sh_of eh39 (Sh_sta r4 (by decide +kernel) (jI_nn g5) (fun e => absurd ((k_445 r4).symm.trans e) (by decide)))
    clear eh39
    refine EQ_if Iff.rfl (fun c7 => ?_) (fun c7 => ?_)
    · exact EQ_some s6
    · refine EQ_if Iff.rfl (fun c8 => ?_) (fun c8 => ?_)
      · exact EQ_some s6
      · refine EQ_jgd (show h39 441 (-2) = 14 from by rw [k_441 s6]) ?_
        refine EQ_jb (eX13_err 4 a1 s6) (fun h43 r9 => ?_)
        exact EQ_some r9
noncomputable def gX13_call_j199 (F : Int → Int → Int → AH → Option (Int × AH)) (a1 : Int) (a3 : Int) (a4 : Int) (a5 : Int) (a6 : Int) (a7 : Int) (a8 : Int) (t0 : Int) (t1 : Int) (t2 : Int) (h : AH) : Option (Int × AH) := jg (h t0 (-2) = 101 ∧ 200 ≤ t0 ∧ jI t1 (h t0 (-1))) <| jl (jst h t0 t1 t2) fun h27 => if a5 < 26 then (gX13_call_j228 F a1 a3 a4 a5 a6 a7 a8 0 1 0 h27) else (jg (jI (w32 (a5 - 26)) 10) <| gX13_call_j228 F a1 a3 a4 a5 a6 a7 a8 0 1 (h27 267 (w32 (a5 - 26))) h27)
theorem eX13_call_j199 {F0 : Int → Int → Int → Int → AH → Option (Int × AH)} {F : Int → Int → Int → AH → Option (Int × AH)} (hF : ∀ (b_a1 : Int) (b_a2 : Int) (b_a3 : Int), ∀ {b_h : AH}, Sh S b_h → EQ (F0 441 b_a1 b_a2 b_a3 b_h) (F b_a1 b_a2 b_a3 b_h) (fun r => Sh S r.2)) (a1 : Int) (a3 : Int) (a4 : Int) (a5 : Int) (a6 : Int) (a7 : Int) (a8 : Int) (t0 : Int) (t1 : Int) (t2 : Int) {h : AH} (hS : Sh S h) : EQ (fX13_call_j199 F0 441 a1 a3 a4 a5 a6 a7 a8 t0 t1 t2 h) (gX13_call_j199 F a1 a3 a4 a5 a6 a7 a8 t0 t1 t2 h) (fun r => Sh S r.2) := by
  unfold fX13_call_j199 gX13_call_j199
  refine EQ_jg Iff.rfl (fun g1 => ?_)
  refine EQ_jl rfl (fun h27 eh27 => ?_)
  have s2 := Sh_of eh27 (Sh_stk hS (Or.inl (g1.1)) (g1.2.1) (jI_nn (g1.2.2)) (fun e => absurd (((g1.1)).symm.trans e) (by decide)))
  clear eh27
  refine EQ_if Iff.rfl (fun c3 => ?_) (fun c3 => ?_)
  · exact (eX13_call_j228 hF a1 a3 a4 a5 a6 a7 a8 0 1 0 s2)
  · refine EQ_jgd (show h27 441 (-2) = 14 from by rw [k_441 s2]) ?_
    refine EQ_jgd (show h27 (h27 441 26) (-2) = 2 from by rw [r_441_26 s2, k_200 s2]) ?_
    refine EQ_jg ⟨fun ⟨_, x0⟩ => (show jI (w32 (a5 - 26)) (h27 (h27 (h27 441 26) 5) (-1)) ↔ jI (w32 (a5 - 26)) 10 from by rw [r_441_26 s2, r_200_5 s2, l_267 s2]).mp x0, fun x0 => ⟨(show h27 (h27 (h27 441 26) 5) (-2) = 101 from by rw [r_441_26 s2, r_200_5 s2, k_267 s2]), (show jI (w32 (a5 - 26)) (h27 (h27 (h27 441 26) 5) (-1)) ↔ jI (w32 (a5 - 26)) 10 from by rw [r_441_26 s2, r_200_5 s2, l_267 s2]).mpr x0⟩⟩ (fun g4 => ?_)
    exact (by rw [r_441_26 s2, r_200_5 s2]; exact eX13_call_j228 hF a1 a3 a4 a5 a6 a7 a8 0 1 (h27 267 (w32 (a5 - 26))) s2)
noncomputable def gX13_call_j153 (F : Int → Int → Int → AH → Option (Int × AH)) (a1 : Int) (a3 : Int) (a4 : Int) (a5 : Int) (a6 : Int) (a7 : Int) (t0 : Int) (h : AH) : Option (Int × AH) := jg (isX3 (h 441 17)) <| if a4 = 0 then (if a6 = 0 then (gX13_call_j199 F a1 a3 a4 a5 a6 a7 t0 (h 441 17 + 3) a7 (-1) h) else (jb (gX1_kindOf a5 t0 h) fun v26 => gX13_call_j199 F a1 a3 a4 a5 a6 a7 t0 (h 441 17 + 3) a7 v26 h)) else (jg (isX4 (h 441 20)) <| gX13_call_j199 F a1 a3 a4 a5 a6 a7 t0 (h 441 17 + 3) a7 (h (h 441 20) 2) h)
theorem eX13_call_j153 {F0 : Int → Int → Int → Int → AH → Option (Int × AH)} {F : Int → Int → Int → AH → Option (Int × AH)} (hF : ∀ (b_a1 : Int) (b_a2 : Int) (b_a3 : Int), ∀ {b_h : AH}, Sh S b_h → EQ (F0 441 b_a1 b_a2 b_a3 b_h) (F b_a1 b_a2 b_a3 b_h) (fun r => Sh S r.2)) (a1 : Int) (a3 : Int) (a4 : Int) (a5 : Int) (a6 : Int) (a7 : Int) (t0 : Int) {h : AH} (hS : Sh S h) : EQ (fX13_call_j153 F0 441 a1 a3 a4 a5 a6 a7 t0 h) (gX13_call_j153 F a1 a3 a4 a5 a6 a7 t0 h) (fun r => Sh S r.2) := by
  unfold fX13_call_j153 gX13_call_j153
  refine EQ_jgd (show h 441 (-2) = 14 from by rw [k_441 hS]) ?_
  refine EQ_jg ⟨fun x0 => (ik_X3 hS).mp x0, fun x0 => (ik_X3 hS).mpr x0⟩ (fun g1 => ?_)
  refine EQ_if Iff.rfl (fun c2 => ?_) (fun c2 => ?_)
  · refine EQ_if Iff.rfl (fun c3 => ?_) (fun c3 => ?_)
    · exact (by rw [ft_X3_3 hS g1]; exact eX13_call_j199 hF a1 a3 a4 a5 a6 a7 t0 (h 441 17 + 3) a7 (-1) hS)
    · refine EQ_jgd (show h 441 (-2) = 14 from by rw [k_441 hS]) ?_
      refine EQ_jgd (show h (h 441 26) (-2) = 2 from by rw [r_441_26 hS, k_200 hS]) ?_
      refine EQ_jb (by rw [r_441_26 hS]; exact eX1_kindOf a5 t0 hS) (fun v26 r4 => ?_)
      exact (by rw [ft_X3_3 hS g1]; exact eX13_call_j199 hF a1 a3 a4 a5 a6 a7 t0 (h 441 17 + 3) a7 v26 hS)
  · refine EQ_jgd (show h 441 (-2) = 14 from by rw [k_441 hS]) ?_
    refine EQ_jg ⟨fun x0 => (ik_X4 hS).mp x0, fun x0 => (ik_X4 hS).mpr x0⟩ (fun g5 => ?_)
    exact (by rw [ft_X3_3 hS g1]; exact eX13_call_j199 hF a1 a3 a4 a5 a6 a7 t0 (h 441 17 + 3) a7 (h (h 441 20) 2) hS)
noncomputable def gX13_call_j113 (F : Int → Int → Int → AH → Option (Int × AH)) (a1 : Int) (a3 : Int) (a4 : Int) (a5 : Int) (a6 : Int) (t1 : Int) (t2 : Int) (h : AH) : Option (Int × AH) := jb2 (gX13_leaf t1 t2 (-1) a1 h) fun v17 h18 => if a4 = 0 then (if a6 = 0 then (gX13_call_j153 F a1 a3 a4 a5 a6 v17 0 h18) else (jb (gX1_operandsOf a5 h18) fun v22 => gX13_call_j153 F a1 a3 a4 a5 a6 v17 v22 h18)) else (jg (isX4 (h18 441 20)) <| gX13_call_j153 F a1 a3 a4 a5 a6 v17 (h18 (h18 441 20) 1) h18)
theorem eX13_call_j113 {F0 : Int → Int → Int → Int → AH → Option (Int × AH)} {F : Int → Int → Int → AH → Option (Int × AH)} (hF : ∀ (b_a1 : Int) (b_a2 : Int) (b_a3 : Int), ∀ {b_h : AH}, Sh S b_h → EQ (F0 441 b_a1 b_a2 b_a3 b_h) (F b_a1 b_a2 b_a3 b_h) (fun r => Sh S r.2)) (a1 : Int) (a3 : Int) (a4 : Int) (a5 : Int) (a6 : Int) (t1 : Int) (t2 : Int) {h : AH} (hS : Sh S h) : EQ (fX13_call_j113 F0 441 a1 a3 a4 a5 a6 441 t1 t2 h) (gX13_call_j113 F a1 a3 a4 a5 a6 t1 t2 h) (fun r => Sh S r.2) := by
  unfold fX13_call_j113 gX13_call_j113
  refine EQ_jgd (show h 441 (-2) = 14 from by rw [k_441 hS]) ?_
  refine EQ_jb2 (eX13_leaf t1 t2 (-1) a1 hS) (fun v17 h18 r1 => ?_)
  replace r1 : Sh S h18 := r1
  refine EQ_if Iff.rfl (fun c2 => ?_) (fun c2 => ?_)
  · refine EQ_if Iff.rfl (fun c3 => ?_) (fun c3 => ?_)
    · exact (eX13_call_j153 hF a1 a3 a4 a5 a6 v17 0 r1)
    · refine EQ_jgd (show h18 441 (-2) = 14 from by rw [k_441 r1]) ?_
      refine EQ_jgd (show h18 (h18 441 26) (-2) = 2 from by rw [r_441_26 r1, k_200 r1]) ?_
      refine EQ_jb (by rw [r_441_26 r1]; exact eX1_operandsOf a5 r1) (fun v22 r4 => ?_)
      exact (eX13_call_j153 hF a1 a3 a4 a5 a6 v17 v22 r1)
  · refine EQ_jgd (show h18 441 (-2) = 14 from by rw [k_441 r1]) ?_
    refine EQ_jg ⟨fun x0 => (ik_X4 r1).mp x0, fun x0 => (ik_X4 r1).mpr x0⟩ (fun g5 => ?_)
    exact (eX13_call_j153 hF a1 a3 a4 a5 a6 v17 (h18 (h18 441 20) 1) r1)
noncomputable def gX13_call_j98 (F : Int → Int → Int → AH → Option (Int × AH)) (a1 : Int) (a3 : Int) (a4 : Int) (a5 : Int) (a6 : Int) (t1 : Int) (h : AH) : Option (Int × AH) := if a4 = 0 then (gX13_call_j113 F a1 a3 a4 a5 a6 t1 (max 0 a5) h) else (gX13_call_j113 F a1 a3 a4 a5 a6 t1 0 h)
theorem eX13_call_j98 {F0 : Int → Int → Int → Int → AH → Option (Int × AH)} {F : Int → Int → Int → AH → Option (Int × AH)} (hF : ∀ (b_a1 : Int) (b_a2 : Int) (b_a3 : Int), ∀ {b_h : AH}, Sh S b_h → EQ (F0 441 b_a1 b_a2 b_a3 b_h) (F b_a1 b_a2 b_a3 b_h) (fun r => Sh S r.2)) (a1 : Int) (a3 : Int) (a4 : Int) (a5 : Int) (a6 : Int) (t1 : Int) {h : AH} (hS : Sh S h) : EQ (fX13_call_j98 F0 441 a1 a3 a4 a5 a6 441 t1 h) (gX13_call_j98 F a1 a3 a4 a5 a6 t1 h) (fun r => Sh S r.2) := by
  unfold fX13_call_j98 gX13_call_j98
  refine EQ_if Iff.rfl (fun c1 => ?_) (fun c1 => ?_)
  · exact (eX13_call_j113 hF a1 a3 a4 a5 a6 t1 (max 0 a5) hS)
  · exact (eX13_call_j113 hF a1 a3 a4 a5 a6 t1 0 hS)
noncomputable def gX13_call_j85 (F : Int → Int → Int → AH → Option (Int × AH)) (a1 : Int) (a3 : Int) (a4 : Int) (a5 : Int) (t0 : Int) (h : AH) : Option (Int × AH) := if a4 = 0 then (gX13_call_j98 F a1 a3 a4 a5 t0 2 h) else (gX13_call_j98 F a1 a3 a4 a5 t0 4 h)
theorem eX13_call_j85 {F0 : Int → Int → Int → Int → AH → Option (Int × AH)} {F : Int → Int → Int → AH → Option (Int × AH)} (hF : ∀ (b_a1 : Int) (b_a2 : Int) (b_a3 : Int), ∀ {b_h : AH}, Sh S b_h → EQ (F0 441 b_a1 b_a2 b_a3 b_h) (F b_a1 b_a2 b_a3 b_h) (fun r => Sh S r.2)) (a1 : Int) (a3 : Int) (a4 : Int) (a5 : Int) (t0 : Int) {h : AH} (hS : Sh S h) : EQ (fX13_call_j85 F0 441 a1 a3 a4 a5 t0 h) (gX13_call_j85 F a1 a3 a4 a5 t0 h) (fun r => Sh S r.2) := by
  unfold fX13_call_j85 gX13_call_j85
  refine EQ_if Iff.rfl (fun c1 => ?_) (fun c1 => ?_)
  · exact (eX13_call_j98 hF a1 a3 a4 a5 t0 2 hS)
  · exact (eX13_call_j98 hF a1 a3 a4 a5 t0 4 hS)
noncomputable def gX13_call_j69 (F : Int → Int → Int → AH → Option (Int × AH)) (a1 : Int) (a3 : Int) (a4 : Int) (a5 : Int) (h : AH) : Option (Int × AH) := if a4 = 0 then (if a5 = (-1) then (gX13_call_j85 F a1 a3 a4 a5 0 h) else (gX13_call_j85 F a1 a3 a4 a5 1 h)) else (gX13_call_j85 F a1 a3 a4 a5 1 h)
theorem eX13_call_j69 {F0 : Int → Int → Int → Int → AH → Option (Int × AH)} {F : Int → Int → Int → AH → Option (Int × AH)} (hF : ∀ (b_a1 : Int) (b_a2 : Int) (b_a3 : Int), ∀ {b_h : AH}, Sh S b_h → EQ (F0 441 b_a1 b_a2 b_a3 b_h) (F b_a1 b_a2 b_a3 b_h) (fun r => Sh S r.2)) (a1 : Int) (a3 : Int) (a4 : Int) (a5 : Int) {h : AH} (hS : Sh S h) : EQ (fX13_call_j69 F0 441 a1 a3 a4 a5 h) (gX13_call_j69 F a1 a3 a4 a5 h) (fun r => Sh S r.2) := by
  unfold fX13_call_j69 gX13_call_j69
  refine EQ_if Iff.rfl (fun c1 => ?_) (fun c1 => ?_)
  · refine EQ_if Iff.rfl (fun c2 => ?_) (fun c2 => ?_)
    · exact (eX13_call_j85 hF a1 a3 a4 a5 0 hS)
    · exact (eX13_call_j85 hF a1 a3 a4 a5 1 hS)
  · exact (eX13_call_j85 hF a1 a3 a4 a5 1 hS)
noncomputable def gX13_call_j50 (F : Int → Int → Int → AH → Option (Int × AH)) (a1 : Int) (a3 : Int) (a4 : Int) (t0 : Int) (h : AH) : Option (Int × AH) := if a4 = 0 then (if t0 = (-1) then (jb (gX13_err 2 a1 h) fun h11 => gX13_call_j69 F a1 a3 a4 t0 h11) else (gX13_call_j69 F a1 a3 a4 t0 h)) else (gX13_call_j69 F a1 a3 a4 t0 h)
theorem eX13_call_j50 {F0 : Int → Int → Int → Int → AH → Option (Int × AH)} {F : Int → Int → Int → AH → Option (Int × AH)} (hF : ∀ (b_a1 : Int) (b_a2 : Int) (b_a3 : Int), ∀ {b_h : AH}, Sh S b_h → EQ (F0 441 b_a1 b_a2 b_a3 b_h) (F b_a1 b_a2 b_a3 b_h) (fun r => Sh S r.2)) (a1 : Int) (a3 : Int) (a4 : Int) (t0 : Int) {h : AH} (hS : Sh S h) : EQ (fX13_call_j50 F0 441 a1 a3 a4 t0 h) (gX13_call_j50 F a1 a3 a4 t0 h) (fun r => Sh S r.2) := by
  unfold fX13_call_j50 gX13_call_j50
  refine EQ_if Iff.rfl (fun c1 => ?_) (fun c1 => ?_)
  · refine EQ_if Iff.rfl (fun c2 => ?_) (fun c2 => ?_)
    · refine EQ_jgd (show h 441 (-2) = 14 from by rw [k_441 hS]) ?_
      refine EQ_jb (eX13_err 2 a1 hS) (fun h11 r3 => ?_)
      exact (eX13_call_j69 hF a1 a3 a4 t0 r3)
    · exact (eX13_call_j69 hF a1 a3 a4 t0 hS)
  · exact (eX13_call_j69 hF a1 a3 a4 t0 hS)
noncomputable def gX13_call_j26 (F : Int → Int → Int → AH → Option (Int × AH)) (a1 : Int) (a2 : Int) (a3 : Int) (t0 : Int) (h : AH) : Option (Int × AH) := if t0 = 0 then (jb (gX1_actBy (h 441 0) a1 a2 h) fun v7 => gX13_call_j50 F a1 a3 t0 v7 h) else (gX13_call_j50 F a1 a3 t0 (-1) h)
theorem eX13_call_j26 {F0 : Int → Int → Int → Int → AH → Option (Int × AH)} {F : Int → Int → Int → AH → Option (Int × AH)} (hF : ∀ (b_a1 : Int) (b_a2 : Int) (b_a3 : Int), ∀ {b_h : AH}, Sh S b_h → EQ (F0 441 b_a1 b_a2 b_a3 b_h) (F b_a1 b_a2 b_a3 b_h) (fun r => Sh S r.2)) (a1 : Int) (a2 : Int) (a3 : Int) (t0 : Int) {h : AH} (hS : Sh S h) : EQ (fX13_call_j26 F0 441 a1 a2 a3 t0 h) (gX13_call_j26 F a1 a2 a3 t0 h) (fun r => Sh S r.2) := by
  unfold fX13_call_j26 gX13_call_j26
  refine EQ_if Iff.rfl (fun c1 => ?_) (fun c1 => ?_)
  · refine EQ_jgd (show h 441 (-2) = 14 from by rw [k_441 hS]) ?_
    refine EQ_jgd (show h 441 (-2) = 14 from by rw [k_441 hS]) ?_
    refine EQ_jgd (show h (h 441 26) (-2) = 2 from by rw [r_441_26 hS, k_200 hS]) ?_
    refine EQ_jb (by rw [r_441_26 hS]; exact eX1_actBy (h 441 0) a1 a2 hS) (fun v7 r2 => ?_)
    exact (eX13_call_j50 hF a1 a3 t0 v7 hS)
  · exact (eX13_call_j50 hF a1 a3 t0 (-1) hS)
noncomputable def gX13_call_ (F : Int → Int → Int → AH → Option (Int × AH)) (a1 : Int) (a2 : Int) (a3 : Int) (h : AH) : Option (Int × AH) := if h 441 15 = 0 then (gX13_call_j26 F a1 a2 a3 0 h) else (jb (gX1_isName (h 441 0) a1 a2 14 h) fun v3 => if v3 = 0 then (gX13_call_j26 F a1 a2 a3 0 h) else (gX13_call_j26 F a1 a2 a3 1 h))
theorem eX13_call_ {F0 : Int → Int → Int → Int → AH → Option (Int × AH)} {F : Int → Int → Int → AH → Option (Int × AH)} (hF : ∀ (b_a1 : Int) (b_a2 : Int) (b_a3 : Int), ∀ {b_h : AH}, Sh S b_h → EQ (F0 441 b_a1 b_a2 b_a3 b_h) (F b_a1 b_a2 b_a3 b_h) (fun r => Sh S r.2)) (a1 : Int) (a2 : Int) (a3 : Int) {h : AH} (hS : Sh S h) : EQ (fX13_call_ F0 441 a1 a2 a3 h) (gX13_call_ F a1 a2 a3 h) (fun r => Sh S r.2) := by
  unfold fX13_call_ gX13_call_
  refine EQ_jgd (show h 441 (-2) = 14 from by rw [k_441 hS]) ?_
  refine EQ_if Iff.rfl (fun c1 => ?_) (fun c1 => ?_)
  · exact (eX13_call_j26 hF a1 a2 a3 0 hS)
  · refine EQ_jgd (show h 441 (-2) = 14 from by rw [k_441 hS]) ?_
    refine EQ_jgd (show h 14 (-2) = 1 from by rw [k_14 hS]) ?_
    refine EQ_jb (eX1_isName (h 441 0) a1 a2 14 hS) (fun v3 r2 => ?_)
    refine EQ_if Iff.rfl (fun c3 => ?_) (fun c3 => ?_)
    · exact (eX13_call_j26 hF a1 a2 a3 0 hS)
    · exact (eX13_call_j26 hF a1 a2 a3 1 hS)
noncomputable def gX13_callD : Nat → Int → Int → Int → AH → Option (Int × AH)
  | 0 => fun _ _ _ _ => none
  | d + 1 => gX13_call_ (gX13_callD d)
theorem eX13_callD : ∀ (d : Nat) (a1 : Int) (a2 : Int) (a3 : Int) {h : AH} (hS : Sh S h) , EQ (fX13_callD d 441 a1 a2 a3 h) (gX13_callD d a1 a2 a3 h) (fun r => Sh S r.2) := by
  intro d
  induction d with
  | zero => intro a1 a2 a3 h hS; exact EQ_none
  | succ d ih => intro a1 a2 a3 h hS; exact eX13_call_ ih a1 a2 a3 hS
noncomputable def gX13_call : Int → Int → Int → AH → Option (Int × AH) := gX13_callD 40
theorem eX13_call (a1 : Int) (a2 : Int) (a3 : Int) {h : AH} (hS : Sh S h) : EQ (fX13_call 441 a1 a2 a3 h) (gX13_call a1 a2 a3 h) (fun r => Sh S r.2) := eX13_callD 40 a1 a2 a3 hS
noncomputable def gX13_term : Int → AH → Option (Int × AH) := gX13_term_ gX13_call
theorem eX13_term (a1 : Int) {h : AH} (hS : Sh S h) : EQ (fX13_term 441 a1 h) (gX13_term a1 h) (fun r => Sh S r.2) := eX13_term_ eX13_call a1 hS
noncomputable def gX13_told_j57 (a2 : Int) (a3 : Int) (h : AH) : Option (Int × AH) := jg (jI a3 2200) <| if h 445 a3 ≤ 40 then (some (a3, h)) else (jb (gX13_err 5 a2 h) fun h13 => some (a3, h13))
theorem eX13_told_j57 (a2 : Int) (a3 : Int) {h : AH} (hS : Sh S h) : EQ (fX13_told_j57 441 a2 a3 h) (gX13_told_j57 a2 a3 h) (fun r => Sh S r.2) := by
  unfold fX13_told_j57 gX13_told_j57
  refine EQ_jgd (show h 441 (-2) = 14 from by rw [k_441 hS]) ?_
  refine EQ_jg ⟨fun ⟨_, x0⟩ => (show jI a3 (h (h 441 19) (-1)) ↔ jI a3 2200 from by rw [r_441_19 hS, l_445 hS]).mp x0, fun x0 => ⟨(show h (h 441 19) (-2) = 101 from by rw [r_441_19 hS, k_445 hS]), (show jI a3 (h (h 441 19) (-1)) ↔ jI a3 2200 from by rw [r_441_19 hS, l_445 hS]).mpr x0⟩⟩ (fun g1 => ?_)
  refine EQ_if (show h (h 441 19) a3 ≤ 40 ↔ h 445 a3 ≤ 40 from by rw [r_441_19 hS]) (fun c2 => ?_) (fun c2 => ?_)
  · exact EQ_some hS
  · refine EQ_jgd (show h 441 (-2) = 14 from by rw [k_441 hS]) ?_
    refine EQ_jb (eX13_err 5 a2 hS) (fun h13 r3 => ?_)
    exact EQ_some r3
noncomputable def gX13_told (a1 : Int) (h : AH) : Option (Int × AH) := jl (h 441 3) fun x1 => jb2 (gX13_term 0 h) fun v3 h4 => if h4 441 6 = 0 then (if a1 = (-1) then (gX13_told_j57 x1 v3 h4) else (jg (isX3 (h4 441 17)) <| jg (jI v3 (h4 (h4 441 17 + 3) (-1))) <| if h4 (h4 441 17 + 3) v3 = (-1) then (gX13_told_j57 x1 v3 h4) else (if h4 (h4 441 17 + 3) v3 = a1 then (gX13_told_j57 x1 v3 h4) else (jb (gX13_err 3 x1 h4) fun h10 => gX13_told_j57 x1 v3 h10)))) else (some (v3, h4))
theorem eX13_told (a1 : Int) {h : AH} (hS : Sh S h) : EQ (fX13_told 441 a1 h) (gX13_told a1 h) (fun r => Sh S r.2) := by
  unfold fX13_told gX13_told
  refine EQ_jgd (show h 441 (-2) = 14 from by rw [k_441 hS]) ?_
  refine EQ_jl rfl (fun x1 ex1 => ?_)
  clear ex1
  refine EQ_jgd (show h 441 (-2) = 14 from by rw [k_441 hS]) ?_
  refine EQ_jb2 (eX13_term 0 hS) (fun v3 h4 r1 => ?_)
  replace r1 : Sh S h4 := r1
  refine EQ_jgd (show h4 441 (-2) = 14 from by rw [k_441 r1]) ?_
  refine EQ_if Iff.rfl (fun c2 => ?_) (fun c2 => ?_)
  · refine EQ_if Iff.rfl (fun c3 => ?_) (fun c3 => ?_)
    · exact (eX13_told_j57 x1 v3 r1)
    · refine EQ_jgd (show h4 441 (-2) = 14 from by rw [k_441 r1]) ?_
      refine EQ_jg ⟨fun x0 => (ik_X3 r1).mp x0, fun x0 => (ik_X3 r1).mpr x0⟩ (fun g4 => ?_)
      refine EQ_jg ⟨fun ⟨_, x0⟩ => (show jI v3 (h4 (h4 (h4 441 17) 3) (-1)) ↔ jI v3 (h4 (h4 441 17 + 3) (-1)) from by rw [ft_X3_3 r1 g4]).mp x0, fun x0 => ⟨(show h4 (h4 (h4 441 17) 3) (-2) = 101 from by rw [ft_X3_3 r1 g4, ka_X3_3 r1 g4]), (show jI v3 (h4 (h4 (h4 441 17) 3) (-1)) ↔ jI v3 (h4 (h4 441 17 + 3) (-1)) from by rw [ft_X3_3 r1 g4]).mpr x0⟩⟩ (fun g5 => ?_)
      refine EQ_if (show h4 (h4 (h4 441 17) 3) v3 = (-1) ↔ h4 (h4 441 17 + 3) v3 = (-1) from by rw [ft_X3_3 r1 g4]) (fun c6 => ?_) (fun c6 => ?_)
      · exact (eX13_told_j57 x1 v3 r1)
      · refine EQ_jgd (show h4 441 (-2) = 14 from by rw [k_441 r1]) ?_
        refine EQ_jgd (show h4 (h4 441 17) (-2) = 4 from by rw [kd_X3 r1 g4]) ?_
        refine EQ_jgd ⟨(show h4 (h4 (h4 441 17) 3) (-2) = 101 from by rw [ft_X3_3 r1 g4, ka_X3_3 r1 g4]), ((show jI v3 (h4 (h4 (h4 441 17) 3) (-1)) ↔ jI v3 (h4 (h4 441 17 + 3) (-1)) from by rw [ft_X3_3 r1 g4]).mpr g5)⟩ ?_
        refine EQ_if (show h4 (h4 (h4 441 17) 3) v3 = a1 ↔ h4 (h4 441 17 + 3) v3 = a1 from by rw [ft_X3_3 r1 g4]) (fun c7 => ?_) (fun c7 => ?_)
        · exact (eX13_told_j57 x1 v3 r1)
        · refine EQ_jgd (show h4 441 (-2) = 14 from by rw [k_441 r1]) ?_
          refine EQ_jb (eX13_err 3 x1 r1) (fun h10 r8 => ?_)
          exact (eX13_told_j57 x1 v3 r8)
  · exact EQ_some r1
noncomputable def gX13_law_j378 (a2 : Int) (a4 : Int) (a5 : Int) (t0 : Int) (h : AH) : Option (AH) := jl (jst h 441 15 0) fun h35 => jl (jst h35 441 13 0) fun h36 => jb (gX13_want 59 h36) fun h38 => if h38 441 6 = 0 then (if a2 = 0 then (some h38) else (jg (isX4 (h38 441 20)) <| jl (jst h38 (h38 441 20) 11 (w32 (h38 (h38 441 20) 11 + 1))) fun h41 => jl (h38 (h38 441 20) 11) fun x42 => jg (isX4 (h41 441 20)) <| jg (jI x42 4) <| jl (jst h41 (h41 441 20 + 8) x42 a5) fun h43 => jg (isX4 (h43 441 20)) <| jl (jst h43 (h43 441 20 + 9) x42 t0) fun h44 => jg (isX4 (h44 441 20)) <| jl (jst h44 (h44 441 20 + 10) x42 a4) fun h45 => jg (isX4 (h45 441 20)) <| jg (jI (w32 (2 * x42)) 8) <| jl (jst h45 (h45 441 20 + 11) (w32 (2 * x42)) (h45 444 0)) fun h46 => jg (isX4 (h46 441 20)) <| jg (jI (w32 (w32 (2 * x42) + 1)) 8) <| jl (jst h46 (h46 441 20 + 11) (w32 (w32 (2 * x42) + 1)) (h46 444 1)) fun h47 => some h47)) else (some h38)
theorem eX13_law_j378 (a2 : Int) (a4 : Int) (a5 : Int) (t0 : Int) {h : AH} (hS : Sh S h) : EQ (fX13_law_j378 441 a2 a4 a5 t0 h) (gX13_law_j378 a2 a4 a5 t0 h) (fun r => Sh S r) := by
  unfold fX13_law_j378 gX13_law_j378
  refine EQ_jgd ⟨(show h 441 (-2) = 14 from by rw [k_441 hS]), (show (200 : Int) ≤ 441 from (by decide)), (show jZ 0 from by unfold jZ; decide)⟩ ?_
  refine EQ_jl rfl (fun h35 eh35 => ?_)
  have s1 := Sh_of eh35 (Sh_sto hS (a := 441) (i := 15) (by decide +kernel))
  clear eh35
  refine EQ_jgd ⟨(show h35 441 (-2) = 14 from by rw [k_441 s1]), (show (200 : Int) ≤ 441 from (by decide))⟩ ?_
  refine EQ_jl rfl (fun h36 eh36 => ?_)
  have s2 := Sh_of eh36 (Sh_sto s1 (a := 441) (i := 13) (by decide +kernel))
  clear eh36
  refine EQ_jgd (show h36 441 (-2) = 14 from by rw [k_441 s2]) ?_
  refine EQ_jb (eX13_want 59 s2) (fun h38 r3 => ?_)
  refine EQ_jgd (show h38 441 (-2) = 14 from by rw [k_441 r3]) ?_
  refine EQ_if Iff.rfl (fun c4 => ?_) (fun c4 => ?_)
  · refine EQ_if Iff.rfl (fun c5 => ?_) (fun c5 => ?_)
    · exact EQ_some r3
    · refine EQ_jgd (show h38 441 (-2) = 14 from by rw [k_441 r3]) ?_
      refine EQ_jg ⟨fun x0 => (ik_X4 r3).mp x0, fun x0 => (ik_X4 r3).mpr x0⟩ (fun g6 => ?_)
      refine EQ_jgd ⟨(show h38 (h38 441 20) (-2) = 5 from by rw [kd_X4 r3 g6]), (show 200 ≤ h38 441 20 from ge_X4 g6)⟩ ?_
      refine EQ_jl rfl (fun h41 eh41 => ?_)
      have s7 := Sh_of eh41 (Sh_sto_X4_11 r3 g6)
      clear eh41
      refine EQ_jl rfl (fun x42 ex42 => ?_)
      clear ex42
      refine EQ_jgd (show h41 441 (-2) = 14 from by rw [k_441 s7]) ?_
      refine EQ_jg ⟨fun x0 => (ik_X4 s7).mp x0, fun x0 => (ik_X4 s7).mpr x0⟩ (fun g8 => ?_)
      refine EQ_jg ⟨fun ⟨_, _, x0⟩ => (show jI x42 (h41 (h41 (h41 441 20) 12) (-1)) ↔ jI x42 4 from by rw [ft_X4_12 s7 g8, la_X4_12 s7 g8]).mp x0, fun x0 => ⟨(show h41 (h41 (h41 441 20) 12) (-2) = 101 from by rw [ft_X4_12 s7 g8, ka_X4_12 s7 g8]), (show 200 ≤ h41 (h41 441 20) 12 from by rw [ft_X4_12 s7 g8]; exact gea_X4_12 g8), (show jI x42 (h41 (h41 (h41 441 20) 12) (-1)) ↔ jI x42 4 from by rw [ft_X4_12 s7 g8, la_X4_12 s7 g8]).mpr x0⟩⟩ (fun g9 => ?_)
      refine EQ_jl (by rw [ft_X4_12 s7 g8]) (fun h43 eh43 => ?_)
      have s10 := Sh_of eh43 (Sh_sta s7 (ara_X4_12 g8) (jI_nn g9) (fun e => absurd ((ka_X4_12 s7 g8).symm.trans e) (by decide)))
      clear eh43
      refine EQ_jgd (show h43 441 (-2) = 14 from by rw [k_441 s10]) ?_
      refine EQ_jg ⟨fun x0 => (ik_X4 s10).mp x0, fun x0 => (ik_X4 s10).mpr x0⟩ (fun g11 => ?_)
      refine EQ_jgd ⟨(show h43 (h43 (h43 441 20) 13) (-2) = 101 from by rw [ft_X4_13 s10 g11, ka_X4_13 s10 g11]), (show 200 ≤ h43 (h43 441 20) 13 from by rw [ft_X4_13 s10 g11]; exact gea_X4_13 g11), ((show jI x42 (h43 (h43 (h43 441 20) 13) (-1)) ↔ jI x42 4 from by rw [ft_X4_13 s10 g11, la_X4_13 s10 g11]).mpr g9)⟩ ?_
      refine EQ_jl (by rw [ft_X4_13 s10 g11]) (fun h44 eh44 => ?_)
      have s12 := Sh_of eh44 (Sh_sta s10 (ara_X4_13 g11) (jI_nn g9) (fun e => absurd ((ka_X4_13 s10 g11).symm.trans e) (by decide)))
      clear eh44
      refine EQ_jgd (show h44 441 (-2) = 14 from by rw [k_441 s12]) ?_
      refine EQ_jg ⟨fun x0 => (ik_X4 s12).mp x0, fun x0 => (ik_X4 s12).mpr x0⟩ (fun g13 => ?_)
      refine EQ_jgd ⟨(show h44 (h44 (h44 441 20) 14) (-2) = 101 from by rw [ft_X4_14 s12 g13, ka_X4_14 s12 g13]), (show 200 ≤ h44 (h44 441 20) 14 from by rw [ft_X4_14 s12 g13]; exact gea_X4_14 g13), ((show jI x42 (h44 (h44 (h44 441 20) 14) (-1)) ↔ jI x42 4 from by rw [ft_X4_14 s12 g13, la_X4_14 s12 g13]).mpr g9)⟩ ?_
      refine EQ_jl (by rw [ft_X4_14 s12 g13]) (fun h45 eh45 => ?_)
      have s14 := Sh_of eh45 (Sh_sta s12 (ara_X4_14 g13) (jI_nn g9) (fun e => absurd ((ka_X4_14 s12 g13).symm.trans e) (by decide)))
      clear eh45
      refine EQ_jgd (show h45 441 (-2) = 14 from by rw [k_441 s14]) ?_
      refine EQ_jg ⟨fun x0 => (ik_X4 s14).mp x0, fun x0 => (ik_X4 s14).mpr x0⟩ (fun g15 => ?_)
      refine EQ_jgd (show h45 441 (-2) = 14 from by rw [k_441 s14]) ?_
      refine EQ_jgd ⟨(show h45 (h45 441 12) (-2) = 101 from by rw [r_441_12 s14, k_444 s14]), (show jI 0 (h45 (h45 441 12) (-1)) from by rw [r_441_12 s14, l_444 s14]; unfold jI; decide)⟩ ?_
      refine EQ_jg ⟨fun ⟨_, _, x0⟩ => (show jI (w32 (2 * x42)) (h45 (h45 (h45 441 20) 15) (-1)) ↔ jI (w32 (2 * x42)) 8 from by rw [ft_X4_15 s14 g15, la_X4_15 s14 g15]).mp x0, fun x0 => ⟨(show h45 (h45 (h45 441 20) 15) (-2) = 101 from by rw [ft_X4_15 s14 g15, ka_X4_15 s14 g15]), (show 200 ≤ h45 (h45 441 20) 15 from by rw [ft_X4_15 s14 g15]; exact gea_X4_15 g15), (show jI (w32 (2 * x42)) (h45 (h45 (h45 441 20) 15) (-1)) ↔ jI (w32 (2 * x42)) 8 from by rw [ft_X4_15 s14 g15, la_X4_15 s14 g15]).mpr x0⟩⟩ (fun g16 => ?_)
      refine EQ_jl (by rw [ft_X4_15 s14 g15, r_441_12 s14]) (fun h46 eh46 => ?_)
      have s17 := Sh_of eh46 (Sh_sta s14 (ara_X4_15 g15) (jI_nn g16) (fun e => absurd ((ka_X4_15 s14 g15).symm.trans e) (by decide)))
      clear eh46
      refine EQ_jgd (show h46 441 (-2) = 14 from by rw [k_441 s17]) ?_
      refine EQ_jg ⟨fun x0 => (ik_X4 s17).mp x0, fun x0 => (ik_X4 s17).mpr x0⟩ (fun g18 => ?_)
      refine EQ_jgd (show h46 441 (-2) = 14 from by rw [k_441 s17]) ?_
      refine EQ_jgd ⟨(show h46 (h46 441 12) (-2) = 101 from by rw [r_441_12 s17, k_444 s17]), (show jI 1 (h46 (h46 441 12) (-1)) from by rw [r_441_12 s17, l_444 s17]; unfold jI; decide)⟩ ?_
      refine EQ_jg ⟨fun ⟨_, _, x0⟩ => (show jI (w32 (w32 (2 * x42) + 1)) (h46 (h46 (h46 441 20) 15) (-1)) ↔ jI (w32 (w32 (2 * x42) + 1)) 8 from by rw [ft_X4_15 s17 g18, la_X4_15 s17 g18]).mp x0, fun x0 => ⟨(show h46 (h46 (h46 441 20) 15) (-2) = 101 from by rw [ft_X4_15 s17 g18, ka_X4_15 s17 g18]), (show 200 ≤ h46 (h46 441 20) 15 from by rw [ft_X4_15 s17 g18]; exact gea_X4_15 g18), (show jI (w32 (w32 (2 * x42) + 1)) (h46 (h46 (h46 441 20) 15) (-1)) ↔ jI (w32 (w32 (2 * x42) + 1)) 8 from by rw [ft_X4_15 s17 g18, la_X4_15 s17 g18]).mpr x0⟩⟩ (fun g19 => ?_)
      refine EQ_jl (by rw [ft_X4_15 s17 g18, r_441_12 s17]) (fun h47 eh47 => ?_)
      have s20 := Sh_of eh47 (Sh_sta s17 (ara_X4_15 g18) (jI_nn g19) (fun e => absurd ((ka_X4_15 s17 g18).symm.trans e) (by decide)))
      clear eh47
      exact EQ_some s20
  · exact EQ_some r3
noncomputable def gX13_law_j323 (a2 : Int) (a4 : Int) (h : AH) : Option (AH) := jb (gX13_want 62 h) fun h23 => jl (jst h23 441 13 a4) fun h24 => jl (jst h24 441 15 1) fun h25 => jb2 (gX13_told (-1) h25) fun v27 h28 => jb (gX13_want 61 h28) fun h30 => if h30 441 6 = 0 then (jg (isX3 (h30 441 17)) <| jg (jI v27 (h30 (h30 441 17 + 3) (-1))) <| jb2 (gX13_told (h30 (h30 441 17 + 3) v27) h30) fun v33 h34 => gX13_law_j378 a2 a4 v27 v33 h34) else (gX13_law_j378 a2 a4 v27 0 h30)
theorem eX13_law_j323 (a2 : Int) (a4 : Int) {h : AH} (hS : Sh S h) : EQ (fX13_law_j323 441 a2 a4 h) (gX13_law_j323 a2 a4 h) (fun r => Sh S r) := by
  unfold fX13_law_j323 gX13_law_j323
  refine EQ_jgd (show h 441 (-2) = 14 from by rw [k_441 hS]) ?_
  refine EQ_jb (eX13_want 62 hS) (fun h23 r1 => ?_)
  refine EQ_jgd ⟨(show h23 441 (-2) = 14 from by rw [k_441 r1]), (show (200 : Int) ≤ 441 from (by decide))⟩ ?_
  refine EQ_jl rfl (fun h24 eh24 => ?_)
  have s2 := Sh_of eh24 (Sh_sto r1 (a := 441) (i := 13) (by decide +kernel))
  clear eh24
  refine EQ_jgd ⟨(show h24 441 (-2) = 14 from by rw [k_441 s2]), (show (200 : Int) ≤ 441 from (by decide)), (show jZ 1 from by unfold jZ; decide)⟩ ?_
  refine EQ_jl rfl (fun h25 eh25 => ?_)
  have s3 := Sh_of eh25 (Sh_sto s2 (a := 441) (i := 15) (by decide +kernel))
  clear eh25
  refine EQ_jgd (show h25 441 (-2) = 14 from by rw [k_441 s3]) ?_
  refine EQ_jb2 (eX13_told (-1) s3) (fun v27 h28 r4 => ?_)
  replace r4 : Sh S h28 := r4
  refine EQ_jgd (show h28 441 (-2) = 14 from by rw [k_441 r4]) ?_
  refine EQ_jb (eX13_want 61 r4) (fun h30 r5 => ?_)
  refine EQ_jgd (show h30 441 (-2) = 14 from by rw [k_441 r5]) ?_
  refine EQ_if Iff.rfl (fun c6 => ?_) (fun c6 => ?_)
  · refine EQ_jgd (show h30 441 (-2) = 14 from by rw [k_441 r5]) ?_
    refine EQ_jg ⟨fun x0 => (ik_X3 r5).mp x0, fun x0 => (ik_X3 r5).mpr x0⟩ (fun g7 => ?_)
    refine EQ_jg ⟨fun ⟨_, x0⟩ => (show jI v27 (h30 (h30 (h30 441 17) 3) (-1)) ↔ jI v27 (h30 (h30 441 17 + 3) (-1)) from by rw [ft_X3_3 r5 g7]).mp x0, fun x0 => ⟨(show h30 (h30 (h30 441 17) 3) (-2) = 101 from by rw [ft_X3_3 r5 g7, ka_X3_3 r5 g7]), (show jI v27 (h30 (h30 (h30 441 17) 3) (-1)) ↔ jI v27 (h30 (h30 441 17 + 3) (-1)) from by rw [ft_X3_3 r5 g7]).mpr x0⟩⟩ (fun g8 => ?_)
    refine EQ_jgd (show h30 441 (-2) = 14 from by rw [k_441 r5]) ?_
    refine EQ_jb2 (by rw [ft_X3_3 r5 g7]; exact eX13_told (h30 (h30 441 17 + 3) v27) r5) (fun v33 h34 r9 => ?_)
    replace r9 : Sh S h34 := r9
    exact (eX13_law_j378 a2 a4 v27 v33 r9)
  · exact (eX13_law_j378 a2 a4 v27 0 r5)
noncomputable def gX13_law_j314 (a2 : Int) (a4 : Int) (h : AH) : Option (AH) := if a4 = 0 then (jb (gX13_no h) fun h21 => gX13_law_j323 a2 a4 h21) else (gX13_law_j323 a2 a4 h)
theorem eX13_law_j314 (a2 : Int) (a4 : Int) {h : AH} (hS : Sh S h) : EQ (fX13_law_j314 441 a2 a4 h) (gX13_law_j314 a2 a4 h) (fun r => Sh S r) := by
  unfold fX13_law_j314 gX13_law_j314
  refine EQ_if Iff.rfl (fun c1 => ?_) (fun c1 => ?_)
  · refine EQ_jgd (show h 441 (-2) = 14 from by rw [k_441 hS]) ?_
    refine EQ_jb (eX13_no hS) (fun h21 r2 => ?_)
    exact (eX13_law_j323 a2 a4 r2)
  · exact (eX13_law_j323 a2 a4 hS)
noncomputable def gX13_law_j297_123 (a2 : Int) (a4 : Int) (h : AH) : Option ((Int × AH) ⊕ (Int × AH)) := jl (w32 (a4 + 1)) fun x81 => jb2 (gX13_kind h) fun v83 h84 => jg (jI a4 3) <| jl (jst h84 444 a4 v83) fun h85 => some (.inl (x81, h85))
theorem eX13_law_j297_123 (a2 : Int) (a4 : Int) {h : AH} (hS : Sh S h) : EQ (fX13_law_j297_123 441 a2 a4 h) (gX13_law_j297_123 a2 a4 h) (Sum.elim (fun r => Sh S r.2) (fun r => Sh S r.2)) := by
  unfold fX13_law_j297_123 gX13_law_j297_123
  refine EQ_jgd (show h 441 (-2) = 14 from by rw [k_441 hS]) ?_
  refine EQ_jl rfl (fun x81 ex81 => ?_)
  clear ex81
  refine EQ_jgd (show h 441 (-2) = 14 from by rw [k_441 hS]) ?_
  refine EQ_jb2 (eX13_kind hS) (fun v83 h84 r1 => ?_)
  replace r1 : Sh S h84 := r1
  refine EQ_jg ⟨fun ⟨_, _, x0⟩ => (show jI a4 (h84 (h 441 12) (-1)) ↔ jI a4 3 from by rw [r_441_12 hS, l_444 r1]).mp x0, fun x0 => ⟨(show h84 (h 441 12) (-2) = 101 from by rw [r_441_12 hS, k_444 r1]), (show 200 ≤ h 441 12 from by rw [r_441_12 hS]; exact (by decide)), (show jI a4 (h84 (h 441 12) (-1)) ↔ jI a4 3 from by rw [r_441_12 hS, l_444 r1]).mpr x0⟩⟩ (fun g2 => ?_)
  refine EQ_jl (by rw [r_441_12 hS]) (fun h85 eh85 => ?_)
  have s3 := Sh_of eh85 (Sh_sta r1 (by decide +kernel) (jI_nn g2) (fun e => absurd ((k_444 r1).symm.trans e) (by decide)))
  clear eh85
  exact EQ_some s3
noncomputable def gX13_law_j241_123 (a2 : Int) (a4 : Int) (a5 : Int) (h : AH) : Option ((Int × AH) ⊕ (Int × AH)) := jg (jI a4 3) <| jl (jst h 442 a4 (h 441 3)) fun h69 => jl (jst h69 443 a4 (h69 441 4)) fun h70 => jb (gX13_next h70) fun h72 => jb (gX13_want 58 h72) fun h74 => if h74 441 6 = 0 then (jb (gX13_is 36 h74) fun v77 => if v77 = 0 then (gX13_law_j297_123 a2 a4 h74) else (jb (gX13_err 6 a5 h74) fun h80 => gX13_law_j297_123 a2 a4 h80)) else (gX13_law_j297_123 a2 a4 h74)
theorem eX13_law_j241_123 (a2 : Int) (a4 : Int) (a5 : Int) {h : AH} (hS : Sh S h) : EQ (fX13_law_j241_123 441 a2 a4 a5 h) (gX13_law_j241_123 a2 a4 a5 h) (Sum.elim (fun r => Sh S r.2) (fun r => Sh S r.2)) := by
  unfold fX13_law_j241_123 gX13_law_j241_123
  refine EQ_jgd (show h 441 (-2) = 14 from by rw [k_441 hS]) ?_
  refine EQ_jgd (show h 441 (-2) = 14 from by rw [k_441 hS]) ?_
  refine EQ_jg ⟨fun ⟨_, _, x0⟩ => (show jI a4 (h (h 441 10) (-1)) ↔ jI a4 3 from by rw [r_441_10 hS, l_442 hS]).mp x0, fun x0 => ⟨(show h (h 441 10) (-2) = 101 from by rw [r_441_10 hS, k_442 hS]), (show 200 ≤ h 441 10 from by rw [r_441_10 hS]; exact (by decide)), (show jI a4 (h (h 441 10) (-1)) ↔ jI a4 3 from by rw [r_441_10 hS, l_442 hS]).mpr x0⟩⟩ (fun g1 => ?_)
  refine EQ_jl (by rw [r_441_10 hS]) (fun h69 eh69 => ?_)
  have s2 := Sh_of eh69 (Sh_sta hS (by decide +kernel) (jI_nn g1) (fun e => absurd ((k_442 hS).symm.trans e) (by decide)))
  clear eh69
  refine EQ_jgd (show h69 441 (-2) = 14 from by rw [k_441 s2]) ?_
  refine EQ_jgd (show h69 441 (-2) = 14 from by rw [k_441 s2]) ?_
  refine EQ_jgd ⟨(show h69 (h69 441 11) (-2) = 101 from by rw [r_441_11 s2, k_443 s2]), (show 200 ≤ h69 441 11 from by rw [r_441_11 s2]; exact (by decide)), ((show jI a4 (h69 (h69 441 11) (-1)) ↔ jI a4 3 from by rw [r_441_11 s2, l_443 s2]).mpr g1)⟩ ?_
  refine EQ_jl (by rw [r_441_11 s2]) (fun h70 eh70 => ?_)
  have s3 := Sh_of eh70 (Sh_sta s2 (by decide +kernel) (jI_nn g1) (fun e => absurd ((k_443 s2).symm.trans e) (by decide)))
  clear eh70
  refine EQ_jgd (show h70 441 (-2) = 14 from by rw [k_441 s3]) ?_
  refine EQ_jb (eX13_next s3) (fun h72 r4 => ?_)
  refine EQ_jgd (show h72 441 (-2) = 14 from by rw [k_441 r4]) ?_
  refine EQ_jb (eX13_want 58 r4) (fun h74 r5 => ?_)
  refine EQ_jgd (show h74 441 (-2) = 14 from by rw [k_441 r5]) ?_
  refine EQ_if Iff.rfl (fun c6 => ?_) (fun c6 => ?_)
  · refine EQ_jgd (show h74 36 (-2) = 1 from by rw [k_36 r5]) ?_
    refine EQ_jgd (show h74 441 (-2) = 14 from by rw [k_441 r5]) ?_
    refine EQ_jb (eX13_is 36 r5) (fun v77 r7 => ?_)
    refine EQ_if Iff.rfl (fun c8 => ?_) (fun c8 => ?_)
    · exact (eX13_law_j297_123 a2 a4 r5)
    · refine EQ_jgd (show h74 441 (-2) = 14 from by rw [k_441 r5]) ?_
      refine EQ_jb (eX13_err 6 a5 r5) (fun h80 r9 => ?_)
      exact (eX13_law_j297_123 a2 a4 r9)
  · exact (eX13_law_j297_123 a2 a4 r5)
noncomputable def gX13_law_b197 (i2 : Int) (i4 : Int) (i5 : Int) (h : AH) (s : Int × Int) : Option ((Int × Int) ⊕ (Int)) := jt2 s fun a6 a7 => if i4 ≤ a7 then (some (.inr a6)) else (jb (gX13_isParameter a7 (h 441 3) (h 441 4) h) fun v88 => jl (jor a6 v88) fun x89 => jl (w32 (a7 + 1)) fun x90 => some (.inl (x89, x90)))
theorem eX13_law_b197 (i2 : Int) (i4 : Int) (i5 : Int) (s : Int × Int) {h : AH} (hS : Sh S h) : EQ (fX13_law_b197 441 i2 i4 i5 h s) (gX13_law_b197 i2 i4 i5 h s) (Sum.elim (fun _ => True) (fun _ => True)) := by
  unfold fX13_law_b197 gX13_law_b197
  obtain ⟨a6, a7⟩ := s
  refine EQ_jt2 ?_
  refine EQ_if Iff.rfl (fun c1 => ?_) (fun c1 => ?_)
  · exact EQ_some trivial
  · refine EQ_jgd (show h 441 (-2) = 14 from by rw [k_441 hS]) ?_
    refine EQ_jgd (show h 441 (-2) = 14 from by rw [k_441 hS]) ?_
    refine EQ_jgd (show h 441 (-2) = 14 from by rw [k_441 hS]) ?_
    refine EQ_jb (eX13_isParameter a7 (h 441 3) (h 441 4) hS) (fun v88 r2 => ?_)
    refine EQ_jl rfl (fun x89 ex89 => ?_)
    clear ex89
    refine EQ_jl rfl (fun x90 ex90 => ?_)
    clear ex90
    exact EQ_some trivial
noncomputable def gX13_law_l197 (i2 : Int) (i4 : Int) (i5 : Int) (a6 : Int) (a7 : Int) (h : AH) : Option (Int) := jit (gX13_law_b197 i2 i4 i5 h) (a6, a7)
theorem eX13_law_l197 (i2 : Int) (i4 : Int) (i5 : Int) (a6 : Int) (a7 : Int) {h : AH} (hS : Sh S h) : EQ (fX13_law_l197 441 i2 i4 i5 a6 a7 h) (gX13_law_l197 i2 i4 i5 a6 a7 h) (fun _ => True) := EQ_jit (I := (fun _ => True)) (fun s _ => eX13_law_b197 i2 i4 i5 s hS) trivial
noncomputable def gX13_law_j192_123 (a2 : Int) (a4 : Int) (a5 : Int) (t0 : Int) (h : AH) : Option ((Int × AH) ⊕ (Int × AH)) := jb (gX13_law_l197 a2 a4 a5 t0 0 h) fun o64 => if o64 = 0 then (gX13_law_j241_123 a2 a4 a5 h) else (jb (gX13_err 2 a5 h) fun h68 => gX13_law_j241_123 a2 a4 a5 h68)
theorem eX13_law_j192_123 (a2 : Int) (a4 : Int) (a5 : Int) (t0 : Int) {h : AH} (hS : Sh S h) : EQ (fX13_law_j192_123 441 a2 a4 a5 t0 h) (gX13_law_j192_123 a2 a4 a5 t0 h) (Sum.elim (fun r => Sh S r.2) (fun r => Sh S r.2)) := by
  unfold fX13_law_j192_123 gX13_law_j192_123
  refine EQ_jb (eX13_law_l197 a2 a4 a5 t0 0 hS) (fun o64 r1 => ?_)
  refine EQ_if Iff.rfl (fun c2 => ?_) (fun c2 => ?_)
  · exact (eX13_law_j241_123 a2 a4 a5 hS)
  · refine EQ_jgd (show h 441 (-2) = 14 from by rw [k_441 hS]) ?_
    refine EQ_jb (eX13_err 2 a5 hS) (fun h68 r3 => ?_)
    exact (eX13_law_j241_123 a2 a4 a5 r3)
noncomputable def gX13_law_b123 (i2 : Int) (s : Int × AH) : Option ((Int × AH) ⊕ (Int × AH)) := jt2 s fun a4 h => if h 441 6 = 0 then (if 2 ≤ a4 then (some (.inr (a4, h))) else (if h 441 2 = 110 then (jl (h 441 3) fun x51 => jb (gX13_is 14 h) fun v53 => if v53 = 0 then (jb (gX13_is 22 h) fun v56 => if v56 = 0 then (jb (gX13_is 24 h) fun v59 => if v59 = 0 then (jb (gX13_is 26 h) fun v62 => if v62 = 0 then (gX13_law_j192_123 i2 a4 x51 0 h) else (gX13_law_j192_123 i2 a4 x51 1 h)) else (gX13_law_j192_123 i2 a4 x51 1 h)) else (gX13_law_j192_123 i2 a4 x51 1 h)) else (gX13_law_j192_123 i2 a4 x51 1 h)) else (some (.inr (a4, h))))) else (some (.inr (a4, h)))
theorem eX13_law_b123 (i2 : Int) {s : Int × AH} (hS : (fun r => Sh S r.2) s) : EQ (fX13_law_b123 441 i2 s) (gX13_law_b123 i2 s) (Sum.elim (fun r => Sh S r.2) (fun r => Sh S r.2)) := by
  unfold fX13_law_b123 gX13_law_b123
  obtain ⟨a4, h⟩ := s
  refine EQ_jt2 ?_
  replace hS : Sh S h := hS
  refine EQ_jgd (show h 441 (-2) = 14 from by rw [k_441 hS]) ?_
  refine EQ_if Iff.rfl (fun c1 => ?_) (fun c1 => ?_)
  · refine EQ_if Iff.rfl (fun c2 => ?_) (fun c2 => ?_)
    · exact EQ_some hS
    · refine EQ_jgd (show h 441 (-2) = 14 from by rw [k_441 hS]) ?_
      refine EQ_if Iff.rfl (fun c3 => ?_) (fun c3 => ?_)
      · refine EQ_jgd (show h 441 (-2) = 14 from by rw [k_441 hS]) ?_
        refine EQ_jl rfl (fun x51 ex51 => ?_)
        clear ex51
        refine EQ_jgd (show h 14 (-2) = 1 from by rw [k_14 hS]) ?_
        refine EQ_jgd (show h 441 (-2) = 14 from by rw [k_441 hS]) ?_
        refine EQ_jb (eX13_is 14 hS) (fun v53 r4 => ?_)
        refine EQ_if Iff.rfl (fun c5 => ?_) (fun c5 => ?_)
        · refine EQ_jgd (show h 22 (-2) = 1 from by rw [k_22 hS]) ?_
          refine EQ_jgd (show h 441 (-2) = 14 from by rw [k_441 hS]) ?_
          refine EQ_jb (eX13_is 22 hS) (fun v56 r6 => ?_)
          refine EQ_if Iff.rfl (fun c7 => ?_) (fun c7 => ?_)
          · refine EQ_jgd (show h 24 (-2) = 1 from by rw [k_24 hS]) ?_
            refine EQ_jgd (show h 441 (-2) = 14 from by rw [k_441 hS]) ?_
            refine EQ_jb (eX13_is 24 hS) (fun v59 r8 => ?_)
            refine EQ_if Iff.rfl (fun c9 => ?_) (fun c9 => ?_)
            · refine EQ_jgd (show h 26 (-2) = 1 from by rw [k_26 hS]) ?_
              refine EQ_jgd (show h 441 (-2) = 14 from by rw [k_441 hS]) ?_
              refine EQ_jb (eX13_is 26 hS) (fun v62 r10 => ?_)
              refine EQ_if Iff.rfl (fun c11 => ?_) (fun c11 => ?_)
              · exact (eX13_law_j192_123 i2 a4 x51 0 hS)
              · exact (eX13_law_j192_123 i2 a4 x51 1 hS)
            · exact (eX13_law_j192_123 i2 a4 x51 1 hS)
          · exact (eX13_law_j192_123 i2 a4 x51 1 hS)
        · exact (eX13_law_j192_123 i2 a4 x51 1 hS)
      · exact EQ_some hS
  · exact EQ_some hS
noncomputable def gX13_law_l123 (i2 : Int) (a4 : Int) (h : AH) : Option (Int × AH) := jit (gX13_law_b123 i2) (a4, h)
theorem eX13_law_l123 (i2 : Int) (a4 : Int) {h : AH} (hS : Sh S h) : EQ (fX13_law_l123 441 i2 a4 h) (gX13_law_l123 i2 a4 h) (fun r => Sh S r.2) := EQ_jit (I := (fun r => Sh S r.2)) (fun s hs => eX13_law_b123 i2 hs) hS
noncomputable def gX13_law_j116 (a2 : Int) (h : AH) : Option (AH) := jb (gX13_next h) fun h14 => jb (gX13_law_l123 a2 0 h14) fun o15 => jt2 o15 fun y17 h18 => gX13_law_j314 a2 y17 h18
theorem eX13_law_j116 (a2 : Int) {h : AH} (hS : Sh S h) : EQ (fX13_law_j116 441 a2 h) (gX13_law_j116 a2 h) (fun r => Sh S r) := by
  unfold fX13_law_j116 gX13_law_j116
  refine EQ_jgd (show h 441 (-2) = 14 from by rw [k_441 hS]) ?_
  refine EQ_jb (eX13_next hS) (fun h14 r1 => ?_)
  refine EQ_jb (eX13_law_l123 a2 0 r1) (fun o15 r2 => ?_)
  obtain ⟨y17, h18⟩ := o15
  refine EQ_jt2 ?_
  replace r2 : Sh S h18 := r2
  exact (eX13_law_j314 a2 y17 r2)
noncomputable def gX13_law_j109 (a1 : Int) (a2 : Int) (h : AH) : Option (AH) := jb (gX13_err 6 a1 h) fun h92 => gX13_law_j116 a2 h92
theorem eX13_law_j109 (a1 : Int) (a2 : Int) {h : AH} (hS : Sh S h) : EQ (fX13_law_j109 441 a1 a2 h) (gX13_law_j109 a1 a2 h) (fun r => Sh S r) := by
  unfold fX13_law_j109 gX13_law_j109
  refine EQ_jgd (show h 441 (-2) = 14 from by rw [k_441 hS]) ?_
  refine EQ_jb (eX13_err 6 a1 hS) (fun h92 r1 => ?_)
  exact (eX13_law_j116 a2 r1)
noncomputable def gX13_law_j84_52 (a1 : Int) (a2 : Int) (a4 : Int) (t0 : Int) (t1 : Int) (h : AH) : Option ((Int × Int) ⊕ (Int)) := jl (jor t0 t1) fun x95 => jl (w32 (a4 + 1)) fun x96 => some (.inl (x95, x96))
theorem eX13_law_j84_52 (a1 : Int) (a2 : Int) (a4 : Int) (t0 : Int) (t1 : Int) {h : AH} (hS : Sh S h) : EQ (fX13_law_j84_52 441 a1 a2 a4 t0 t1 h) (gX13_law_j84_52 a1 a2 a4 t0 t1 h) (Sum.elim (fun _ => True) (fun _ => True)) := by
  unfold fX13_law_j84_52 gX13_law_j84_52
  refine EQ_jl rfl (fun x95 ex95 => ?_)
  clear ex95
  refine EQ_jl rfl (fun x96 ex96 => ?_)
  clear ex96
  exact EQ_some trivial
noncomputable def gX13_law_b52 (i1 : Int) (i2 : Int) (h : AH) (s : Int × Int) : Option ((Int × Int) ⊕ (Int)) := jt2 s fun a3 a4 => jg (isX4 (h 441 20)) <| if h (h 441 20) 1 ≤ a4 then (some (.inr a3)) else (jg (jI a4 3) <| if h (h 441 20 + 1) a4 = 2 then (gX13_law_j84_52 i1 i2 a4 a3 1 h) else (gX13_law_j84_52 i1 i2 a4 a3 0 h))
theorem eX13_law_b52 (i1 : Int) (i2 : Int) (s : Int × Int) {h : AH} (hS : Sh S h) : EQ (fX13_law_b52 441 i1 i2 h s) (gX13_law_b52 i1 i2 h s) (Sum.elim (fun _ => True) (fun _ => True)) := by
  unfold fX13_law_b52 gX13_law_b52
  obtain ⟨a3, a4⟩ := s
  refine EQ_jt2 ?_
  refine EQ_jgd (show h 441 (-2) = 14 from by rw [k_441 hS]) ?_
  refine EQ_jg ⟨fun x0 => (ik_X4 hS).mp x0, fun x0 => (ik_X4 hS).mpr x0⟩ (fun g1 => ?_)
  refine EQ_if Iff.rfl (fun c2 => ?_) (fun c2 => ?_)
  · exact EQ_some trivial
  · refine EQ_jgd (show h 441 (-2) = 14 from by rw [k_441 hS]) ?_
    refine EQ_jgd (show h (h 441 20) (-2) = 5 from by rw [kd_X4 hS g1]) ?_
    refine EQ_jg ⟨fun ⟨_, x0⟩ => (show jI a4 (h (h (h 441 20) 0) (-1)) ↔ jI a4 3 from by rw [ft_X4_0 hS g1, la_X4_0 hS g1]).mp x0, fun x0 => ⟨(show h (h (h 441 20) 0) (-2) = 101 from by rw [ft_X4_0 hS g1, ka_X4_0 hS g1]), (show jI a4 (h (h (h 441 20) 0) (-1)) ↔ jI a4 3 from by rw [ft_X4_0 hS g1, la_X4_0 hS g1]).mpr x0⟩⟩ (fun g3 => ?_)
    refine EQ_if (show h (h (h 441 20) 0) a4 = 2 ↔ h (h 441 20 + 1) a4 = 2 from by rw [ft_X4_0 hS g1]) (fun c4 => ?_) (fun c4 => ?_)
    · exact (eX13_law_j84_52 i1 i2 a4 a3 1 hS)
    · exact (eX13_law_j84_52 i1 i2 a4 a3 0 hS)
noncomputable def gX13_law_l52 (i1 : Int) (i2 : Int) (a3 : Int) (a4 : Int) (h : AH) : Option (Int) := jit (gX13_law_b52 i1 i2 h) (a3, a4)
theorem eX13_law_l52 (i1 : Int) (i2 : Int) (a3 : Int) (a4 : Int) {h : AH} (hS : Sh S h) : EQ (fX13_law_l52 441 i1 i2 a3 a4 h) (gX13_law_l52 i1 i2 a3 a4 h) (fun _ => True) := EQ_jit (I := (fun _ => True)) (fun s _ => eX13_law_b52 i1 i2 s hS) trivial
noncomputable def gX13_law_j48 (a1 : Int) (a2 : Int) (t0 : Int) (h : AH) : Option (AH) := jb (gX13_law_l52 a1 a2 t0 0 h) fun o7 => if o7 = 0 then (jg (isX4 (h 441 20)) <| jb (gX4_allPoints (h 441 20) h) fun v11 => if v11 ≤ 256 then (gX13_law_j116 a2 h) else (gX13_law_j109 a1 a2 h)) else (gX13_law_j109 a1 a2 h)
theorem eX13_law_j48 (a1 : Int) (a2 : Int) (t0 : Int) {h : AH} (hS : Sh S h) : EQ (fX13_law_j48 441 a1 a2 t0 h) (gX13_law_j48 a1 a2 t0 h) (fun r => Sh S r) := by
  unfold fX13_law_j48 gX13_law_j48
  refine EQ_jb (eX13_law_l52 a1 a2 t0 0 hS) (fun o7 r1 => ?_)
  refine EQ_if Iff.rfl (fun c2 => ?_) (fun c2 => ?_)
  · refine EQ_jgd (show h 441 (-2) = 14 from by rw [k_441 hS]) ?_
    refine EQ_jg ⟨fun x0 => (ik_X4 hS).mp x0, fun x0 => (ik_X4 hS).mpr x0⟩ (fun g3 => ?_)
    refine EQ_jb (eX4_allPoints (h 441 20) g3 hS) (fun v11 r4 => ?_)
    refine EQ_if Iff.rfl (fun c5 => ?_) (fun c5 => ?_)
    · exact (eX13_law_j116 a2 hS)
    · exact (eX13_law_j109 a1 a2 hS)
  · exact (eX13_law_j109 a1 a2 hS)
noncomputable def gX13_law_j32 (a1 : Int) (a2 : Int) (h : AH) : Option (AH) := jg (isX4 (h 441 20)) <| if h (h 441 20) 2 = 2 then (gX13_law_j48 a1 a2 1 h) else (gX13_law_j48 a1 a2 0 h)
theorem eX13_law_j32 (a1 : Int) (a2 : Int) {h : AH} (hS : Sh S h) : EQ (fX13_law_j32 441 a1 a2 h) (gX13_law_j32 a1 a2 h) (fun r => Sh S r) := by
  unfold fX13_law_j32 gX13_law_j32
  refine EQ_jgd (show h 441 (-2) = 14 from by rw [k_441 hS]) ?_
  refine EQ_jg ⟨fun x0 => (ik_X4 hS).mp x0, fun x0 => (ik_X4 hS).mpr x0⟩ (fun g1 => ?_)
  refine EQ_if Iff.rfl (fun c2 => ?_) (fun c2 => ?_)
  · exact (eX13_law_j48 a1 a2 1 hS)
  · exact (eX13_law_j48 a1 a2 0 hS)
noncomputable def gX13_law_j21 (a1 : Int) (t0 : Int) (h : AH) : Option (AH) := if t0 = 0 then (jb (gX13_err 5 a1 h) fun h5 => gX13_law_j32 a1 t0 h5) else (gX13_law_j32 a1 t0 h)
theorem eX13_law_j21 (a1 : Int) (t0 : Int) {h : AH} (hS : Sh S h) : EQ (fX13_law_j21 441 a1 t0 h) (gX13_law_j21 a1 t0 h) (fun r => Sh S r) := by
  unfold fX13_law_j21 gX13_law_j21
  refine EQ_if Iff.rfl (fun c1 => ?_) (fun c1 => ?_)
  · refine EQ_jgd (show h 441 (-2) = 14 from by rw [k_441 hS]) ?_
    refine EQ_jb (eX13_err 5 a1 hS) (fun h5 r2 => ?_)
    exact (eX13_law_j32 a1 t0 r2)
  · exact (eX13_law_j32 a1 t0 hS)
noncomputable def gX13_law (h : AH) : Option (AH) := jl (h 441 3) fun x1 => jg (isX4 (h 441 20)) <| if 4 ≤ h (h 441 20) 11 then (gX13_law_j21 x1 0 h) else (gX13_law_j21 x1 1 h)
theorem eX13_law {h : AH} (hS : Sh S h) : EQ (fX13_law 441 h) (gX13_law h) (fun r => Sh S r) := by
  unfold fX13_law gX13_law
  refine EQ_jgd (show h 441 (-2) = 14 from by rw [k_441 hS]) ?_
  refine EQ_jl rfl (fun x1 ex1 => ?_)
  clear ex1
  refine EQ_jgd (show h 441 (-2) = 14 from by rw [k_441 hS]) ?_
  refine EQ_jg ⟨fun x0 => (ik_X4 hS).mp x0, fun x0 => (ik_X4 hS).mpr x0⟩ (fun g1 => ?_)
  refine EQ_if Iff.rfl (fun c2 => ?_) (fun c2 => ?_)
  · exact (eX13_law_j21 x1 0 hS)
  · exact (eX13_law_j21 x1 1 hS)
noncomputable def gX13_ask_b120 (h : AH) : Option ((AH) ⊕ (AH)) := if h 441 6 = 0 then (jb (gX13_isEnd h) fun v29 => if v29 = 0 then (jb (gX13_is 40 h) fun v32 => if v32 = 0 then (jb (gX13_is 42 h) fun v35 => if v35 = 0 then (jb (gX13_no h) fun h38 => some (.inl h38)) else (jb (gX13_law h) fun h40 => some (.inl h40))) else (jb (gX13_row h) fun h42 => some (.inl h42))) else (some (.inr h))) else (some (.inr h))
theorem eX13_ask_b120 {h : AH} (hS : Sh S h) : EQ (fX13_ask_b120 441 h) (gX13_ask_b120 h) (Sum.elim (fun r => Sh S r) (fun r => Sh S r)) := by
  unfold fX13_ask_b120 gX13_ask_b120
  refine EQ_jgd (show h 441 (-2) = 14 from by rw [k_441 hS]) ?_
  refine EQ_if Iff.rfl (fun c1 => ?_) (fun c1 => ?_)
  · refine EQ_jgd (show h 441 (-2) = 14 from by rw [k_441 hS]) ?_
    refine EQ_jb (eX13_isEnd hS) (fun v29 r2 => ?_)
    refine EQ_if Iff.rfl (fun c3 => ?_) (fun c3 => ?_)
    · refine EQ_jgd (show h 40 (-2) = 1 from by rw [k_40 hS]) ?_
      refine EQ_jgd (show h 441 (-2) = 14 from by rw [k_441 hS]) ?_
      refine EQ_jb (eX13_is 40 hS) (fun v32 r4 => ?_)
      refine EQ_if Iff.rfl (fun c5 => ?_) (fun c5 => ?_)
      · refine EQ_jgd (show h 42 (-2) = 1 from by rw [k_42 hS]) ?_
        refine EQ_jgd (show h 441 (-2) = 14 from by rw [k_441 hS]) ?_
        refine EQ_jb (eX13_is 42 hS) (fun v35 r6 => ?_)
        refine EQ_if Iff.rfl (fun c7 => ?_) (fun c7 => ?_)
        · refine EQ_jgd (show h 441 (-2) = 14 from by rw [k_441 hS]) ?_
          refine EQ_jb (eX13_no hS) (fun h38 r8 => ?_)
          exact EQ_some r8
        · refine EQ_jgd (show h 441 (-2) = 14 from by rw [k_441 hS]) ?_
          refine EQ_jb (eX13_law hS) (fun h40 r9 => ?_)
          exact EQ_some r9
      · refine EQ_jgd (show h 441 (-2) = 14 from by rw [k_441 hS]) ?_
        refine EQ_jb (eX13_row hS) (fun h42 r10 => ?_)
        exact EQ_some r10
    · exact EQ_some hS
  · exact EQ_some hS
noncomputable def gX13_ask_l120 (h : AH) : Option (AH) := jit gX13_ask_b120 h
theorem eX13_ask_l120 {h : AH} (hS : Sh S h) : EQ (fX13_ask_l120 441 h) (gX13_ask_l120 h) (fun r => Sh S r) := EQ_jit (I := (fun r => Sh S r)) (fun s hs => eX13_ask_b120 hs) hS
noncomputable def gX13_ask_j114 (h : AH) : Option (AH) := jb (gX13_want 59 h) fun h24 => jb (gX13_ask_l120 h24) fun o25 => some o25
theorem eX13_ask_j114 {h : AH} (hS : Sh S h) : EQ (fX13_ask_j114 441 h) (gX13_ask_j114 h) (fun r => Sh S r) := by
  unfold fX13_ask_j114 gX13_ask_j114
  refine EQ_jgd (show h 441 (-2) = 14 from by rw [k_441 hS]) ?_
  refine EQ_jb (eX13_want 59 hS) (fun h24 r1 => ?_)
  refine EQ_jb (eX13_ask_l120 r1) (fun o25 r2 => ?_)
  exact EQ_some r2
noncomputable def gX13_ask_b87 (h : AH) : Option ((AH) ⊕ (AH)) := if h 441 6 = 0 then (if h 441 2 = 44 then (jb (gX13_next h) fun h46 => jb (gX13_piece h46) fun h48 => some (.inl h48)) else (some (.inr h))) else (some (.inr h))
theorem eX13_ask_b87 {h : AH} (hS : Sh S h) : EQ (fX13_ask_b87 441 h) (gX13_ask_b87 h) (Sum.elim (fun r => Sh S r) (fun r => Sh S r)) := by
  unfold fX13_ask_b87 gX13_ask_b87
  refine EQ_jgd (show h 441 (-2) = 14 from by rw [k_441 hS]) ?_
  refine EQ_if Iff.rfl (fun c1 => ?_) (fun c1 => ?_)
  · refine EQ_jgd (show h 441 (-2) = 14 from by rw [k_441 hS]) ?_
    refine EQ_if Iff.rfl (fun c2 => ?_) (fun c2 => ?_)
    · refine EQ_jgd (show h 441 (-2) = 14 from by rw [k_441 hS]) ?_
      refine EQ_jb (eX13_next hS) (fun h46 r3 => ?_)
      refine EQ_jgd (show h46 441 (-2) = 14 from by rw [k_441 r3]) ?_
      refine EQ_jb (eX13_piece r3) (fun h48 r4 => ?_)
      exact EQ_some r4
    · exact EQ_some hS
  · exact EQ_some hS
noncomputable def gX13_ask_l87 (h : AH) : Option (AH) := jit gX13_ask_b87 h
theorem eX13_ask_l87 {h : AH} (hS : Sh S h) : EQ (fX13_ask_l87 441 h) (gX13_ask_l87 h) (fun r => Sh S r) := EQ_jit (I := (fun r => Sh S r)) (fun s hs => eX13_ask_b87 hs) hS
noncomputable def gX13_ask_j52 (a1 : Int) (a2 : Int) (h : AH) : Option (AH) := jb (gX13_want 62 h) fun h9 => jl (jst h9 a1 1 a2) fun h10 => jb2 (gX13_kind h10) fun v12 h13 => jl (jst h13 a1 2 v12) fun h14 => jb (gX13_want 59 h14) fun h16 => jb (gX13_word 38 h16) fun h18 => jb (gX13_piece h18) fun h20 => jb (gX13_ask_l87 h20) fun o21 => gX13_ask_j114 o21
theorem eX13_ask_j52 (a1 : Int) (a2 : Int) (hT_a1 : isX4 a1) {h : AH} (hS : Sh S h) : EQ (fX13_ask_j52 441 a1 a2 h) (gX13_ask_j52 a1 a2 h) (fun r => Sh S r) := by
  unfold fX13_ask_j52 gX13_ask_j52
  refine EQ_jgd (show h 441 (-2) = 14 from by rw [k_441 hS]) ?_
  refine EQ_jb (eX13_want 62 hS) (fun h9 r1 => ?_)
  refine EQ_jgd ⟨(show h9 a1 (-2) = 5 from by rw [kd_X4 r1 hT_a1]), (show 200 ≤ a1 from ge_X4 hT_a1)⟩ ?_
  refine EQ_jl rfl (fun h10 eh10 => ?_)
  have s2 := Sh_of eh10 (Sh_sto_X4_1 r1 hT_a1)
  clear eh10
  refine EQ_jgd (show h10 441 (-2) = 14 from by rw [k_441 s2]) ?_
  refine EQ_jb2 (eX13_kind s2) (fun v12 h13 r3 => ?_)
  replace r3 : Sh S h13 := r3
  refine EQ_jgd ⟨(show h13 a1 (-2) = 5 from by rw [kd_X4 r3 hT_a1]), (show 200 ≤ a1 from ge_X4 hT_a1)⟩ ?_
  refine EQ_jl rfl (fun h14 eh14 => ?_)
  have s4 := Sh_of eh14 (Sh_sto_X4_2 r3 hT_a1)
  clear eh14
  refine EQ_jgd (show h14 441 (-2) = 14 from by rw [k_441 s4]) ?_
  refine EQ_jb (eX13_want 59 s4) (fun h16 r5 => ?_)
  refine EQ_jgd (show h16 38 (-2) = 1 from by rw [k_38 r5]) ?_
  refine EQ_jgd (show h16 441 (-2) = 14 from by rw [k_441 r5]) ?_
  refine EQ_jb (eX13_word 38 r5) (fun h18 r6 => ?_)
  refine EQ_jgd (show h18 441 (-2) = 14 from by rw [k_441 r6]) ?_
  refine EQ_jb (eX13_piece r6) (fun h20 r7 => ?_)
  refine EQ_jb (eX13_ask_l87 r7) (fun o21 r8 => ?_)
  exact (eX13_ask_j114 r8)
noncomputable def gX13_ask_j38_13 (a1 : Int) (a2 : Int) (h : AH) : Option ((Int × AH) ⊕ (Int × AH)) := if h 441 6 = 0 then (jb (gX13_isKind h) fun v59 => if v59 = 0 then (some (.inr (a2, h))) else (some (.inl (a2, h)))) else (some (.inr (a2, h)))
theorem eX13_ask_j38_13 (a1 : Int) (a2 : Int) (hT_a1 : isX4 a1) {h : AH} (hS : Sh S h) : EQ (fX13_ask_j38_13 441 a1 a2 h) (gX13_ask_j38_13 a1 a2 h) (Sum.elim (fun r => Sh S r.2) (fun r => Sh S r.2)) := by
  unfold fX13_ask_j38_13 gX13_ask_j38_13
  refine EQ_jgd (show h 441 (-2) = 14 from by rw [k_441 hS]) ?_
  refine EQ_if Iff.rfl (fun c1 => ?_) (fun c1 => ?_)
  · refine EQ_jgd (show h 441 (-2) = 14 from by rw [k_441 hS]) ?_
    refine EQ_jb (eX13_isKind hS) (fun v59 r2 => ?_)
    refine EQ_if Iff.rfl (fun c3 => ?_) (fun c3 => ?_)
    · exact EQ_some hS
    · exact EQ_some hS
  · exact EQ_some hS
noncomputable def gX13_ask_b13 (i1 : Int) (s : Int × AH) : Option ((Int × AH) ⊕ (Int × AH)) := jt2 s fun a2 h => if a2 = 3 then (jb (gX13_no h) fun h51 => gX13_ask_j38_13 i1 a2 h51) else (jl (w32 (a2 + 1)) fun x52 => jb2 (gX13_kind h) fun v54 h55 => jg (jI a2 3) <| jl (jst h55 (i1 + 1) a2 v54) fun h56 => gX13_ask_j38_13 i1 x52 h56)
theorem eX13_ask_b13 (i1 : Int) (hT_i1 : isX4 i1) {s : Int × AH} (hS : (fun r => Sh S r.2) s) : EQ (fX13_ask_b13 441 i1 s) (gX13_ask_b13 i1 s) (Sum.elim (fun r => Sh S r.2) (fun r => Sh S r.2)) := by
  unfold fX13_ask_b13 gX13_ask_b13
  obtain ⟨a2, h⟩ := s
  refine EQ_jt2 ?_
  replace hS : Sh S h := hS
  refine EQ_if Iff.rfl (fun c1 => ?_) (fun c1 => ?_)
  · refine EQ_jgd (show h 441 (-2) = 14 from by rw [k_441 hS]) ?_
    refine EQ_jb (eX13_no hS) (fun h51 r2 => ?_)
    exact (eX13_ask_j38_13 i1 a2 hT_i1 r2)
  · refine EQ_jgd (show h i1 (-2) = 5 from by rw [kd_X4 hS hT_i1]) ?_
    refine EQ_jl rfl (fun x52 ex52 => ?_)
    clear ex52
    refine EQ_jgd (show h 441 (-2) = 14 from by rw [k_441 hS]) ?_
    refine EQ_jb2 (eX13_kind hS) (fun v54 h55 r3 => ?_)
    replace r3 : Sh S h55 := r3
    refine EQ_jg ⟨fun ⟨_, _, x0⟩ => (show jI a2 (h55 (h i1 0) (-1)) ↔ jI a2 3 from by rw [ft_X4_0 hS hT_i1, la_X4_0 r3 hT_i1]).mp x0, fun x0 => ⟨(show h55 (h i1 0) (-2) = 101 from by rw [ft_X4_0 hS hT_i1, ka_X4_0 r3 hT_i1]), (show 200 ≤ h i1 0 from by rw [ft_X4_0 hS hT_i1]; exact gea_X4_0 hT_i1), (show jI a2 (h55 (h i1 0) (-1)) ↔ jI a2 3 from by rw [ft_X4_0 hS hT_i1, la_X4_0 r3 hT_i1]).mpr x0⟩⟩ (fun g4 => ?_)
    refine EQ_jl (by rw [ft_X4_0 hS hT_i1]) (fun h56 eh56 => ?_)
    have s5 := Sh_of eh56 (Sh_sta r3 (ara_X4_0 hT_i1) (jI_nn g4) (fun e => absurd ((ka_X4_0 r3 hT_i1).symm.trans e) (by decide)))
    clear eh56
    exact (eX13_ask_j38_13 i1 x52 hT_i1 s5)
noncomputable def gX13_ask_l13 (i1 : Int) (a2 : Int) (h : AH) : Option (Int × AH) := jit (gX13_ask_b13 i1) (a2, h)
theorem eX13_ask_l13 (i1 : Int) (a2 : Int) (hT_i1 : isX4 i1) {h : AH} (hS : Sh S h) : EQ (fX13_ask_l13 441 i1 a2 h) (gX13_ask_l13 i1 a2 h) (fun r => Sh S r.2) := EQ_jit (I := (fun r => Sh S r.2)) (fun s hs => eX13_ask_b13 i1 hT_i1 hs) hS
noncomputable def gX13_ask (a1 : Int) (h : AH) : Option (AH) := jl (jst h 441 20 a1) fun h1 => jb (gX13_word 30 h1) fun h3 => jb (gX13_ask_l13 a1 0 h3) fun o4 => jt2 o4 fun y6 h7 => gX13_ask_j52 a1 y6 h7
theorem eX13_ask (a1 : Int) (hT_a1 : isX4 a1) {h : AH} (hS : Sh S h) : EQ (fX13_ask 441 a1 h) (gX13_ask a1 h) (fun r => Sh S r) := by
  unfold fX13_ask gX13_ask
  refine EQ_jgd ⟨(show h 441 (-2) = 14 from by rw [k_441 hS]), (show (200 : Int) ≤ 441 from (by decide))⟩ ?_
  refine EQ_jl rfl (fun h1 eh1 => ?_)
  have s1 := Sh_of eh1 (Sh_sto hS (a := 441) (i := 20) (by decide +kernel))
  clear eh1
  refine EQ_jgd (show h1 30 (-2) = 1 from by rw [k_30 s1]) ?_
  refine EQ_jgd (show h1 441 (-2) = 14 from by rw [k_441 s1]) ?_
  refine EQ_jb (eX13_word 30 s1) (fun h3 r2 => ?_)
  refine EQ_jb (eX13_ask_l13 a1 0 hT_a1 r2) (fun o4 r3 => ?_)
  obtain ⟨y6, h7⟩ := o4
  refine EQ_jt2 ?_
  replace r3 : Sh S h7 := r3
  exact (eX13_ask_j52 a1 y6 hT_a1 r3)
noncomputable def gX13_result (h : AH) : Option (Int × AH) := if h 441 6 = 0 then (if h 441 8 = 0 then (some (0, h)) else (jl (jst h 200 56 (h 441 9)) fun h3 => some (w32 ((-10) - h3 441 8), h3))) else (jl (jst h 200 56 (h 441 7)) fun h4 => some ((-11), h4))
theorem eX13_result {h : AH} (hS : Sh S h) : EQ (fX13_result 441 h) (gX13_result h) (fun r => Sh S r.2) := by
  unfold fX13_result gX13_result
  refine EQ_jgd (show h 441 (-2) = 14 from by rw [k_441 hS]) ?_
  refine EQ_if Iff.rfl (fun c1 => ?_) (fun c1 => ?_)
  · refine EQ_jgd (show h 441 (-2) = 14 from by rw [k_441 hS]) ?_
    refine EQ_if Iff.rfl (fun c2 => ?_) (fun c2 => ?_)
    · exact EQ_some hS
    · refine EQ_jgd (show h 441 (-2) = 14 from by rw [k_441 hS]) ?_
      refine EQ_jgd (show h 441 (-2) = 14 from by rw [k_441 hS]) ?_
      refine EQ_jgd ⟨(show h (h 441 26) (-2) = 2 from by rw [r_441_26 hS, k_200 hS]), (show 200 ≤ h 441 26 from by rw [r_441_26 hS]; exact (by decide))⟩ ?_
      refine EQ_jl (by rw [r_441_26 hS]) (fun h3 eh3 => ?_)
      have s3 := Sh_of eh3 (Sh_sto hS (a := 200) (i := 56) (by decide +kernel))
      clear eh3
      refine EQ_jgd (show h3 441 (-2) = 14 from by rw [k_441 s3]) ?_
      exact EQ_some s3
  · refine EQ_jgd (show h 441 (-2) = 14 from by rw [k_441 hS]) ?_
    refine EQ_jgd (show h 441 (-2) = 14 from by rw [k_441 hS]) ?_
    refine EQ_jgd ⟨(show h (h 441 26) (-2) = 2 from by rw [r_441_26 hS, k_200 hS]), (show 200 ≤ h 441 26 from by rw [r_441_26 hS]; exact (by decide))⟩ ?_
    refine EQ_jl (by rw [r_441_26 hS]) (fun h4 eh4 => ?_)
    have s4 := Sh_of eh4 (Sh_sto hS (a := 200) (i := 56) (by decide +kernel))
    clear eh4
    exact EQ_some s4
noncomputable def gX4_settle_j38 (a0 : Int) (t0 : Int) (t1 : Int) (h : AH) : Option (AH) := jl (jst h t0 18 t1) fun h8 => jl (jst h8 a0 19 1) fun h9 => some h9
theorem eX4_settle_j38 (a0 : Int) (t0 : Int) (t1 : Int) (hT_a0 : isX4 a0) (hT_t0 : isX4 t0) {h : AH} (hS : Sh S h) : EQ (fX4_settle_j38 a0 t0 t1 h) (gX4_settle_j38 a0 t0 t1 h) (fun r => Sh S r) := by
  unfold fX4_settle_j38 gX4_settle_j38
  refine EQ_jgd ⟨(show h t0 (-2) = 5 from by rw [kd_X4 hS hT_t0]), (show 200 ≤ t0 from ge_X4 hT_t0)⟩ ?_
  refine EQ_jl rfl (fun h8 eh8 => ?_)
  have s1 := Sh_of eh8 (Sh_sto_X4_18 hS hT_t0)
  clear eh8
  refine EQ_jgd ⟨(show h8 a0 (-2) = 5 from by rw [kd_X4 s1 hT_a0]), (show 200 ≤ a0 from ge_X4 hT_a0), (show jZ 1 from by unfold jZ; decide)⟩ ?_
  refine EQ_jl rfl (fun h9 eh9 => ?_)
  have s2 := Sh_of eh9 (Sh_sto_X4_19 s1 hT_a0)
  clear eh9
  exact EQ_some s2
noncomputable def gX4_settle_j16 (a0 : Int) (t0 : Int) (t1 : Int) (h : AH) : Option (AH) := jg (jZ t1) <| jl (jst h t0 17 t1) fun h4 => if h4 a0 17 = 0 then (gX4_settle_j38 a0 a0 (h4 a0 8) h4) else (jb (gX4_allPoints a0 h4) fun v7 => gX4_settle_j38 a0 a0 v7 h4)
theorem eX4_settle_j16 (a0 : Int) (t0 : Int) (t1 : Int) (hT_a0 : isX4 a0) (hT_t0 : isX4 t0) {h : AH} (hS : Sh S h) : EQ (fX4_settle_j16 a0 t0 t1 h) (gX4_settle_j16 a0 t0 t1 h) (fun r => Sh S r) := by
  unfold fX4_settle_j16 gX4_settle_j16
  refine EQ_jg ⟨fun ⟨_, _, x0⟩ => x0, fun x0 => ⟨(show h t0 (-2) = 5 from by rw [kd_X4 hS hT_t0]), (show 200 ≤ t0 from ge_X4 hT_t0), x0⟩⟩ (fun g1 => ?_)
  refine EQ_jl rfl (fun h4 eh4 => ?_)
  have s2 := Sh_of eh4 (Sh_sto_X4_17 hS hT_t0)
  clear eh4
  refine EQ_jgd (show h4 a0 (-2) = 5 from by rw [kd_X4 s2 hT_a0]) ?_
  refine EQ_if Iff.rfl (fun c3 => ?_) (fun c3 => ?_)
  · refine EQ_jgd (show h4 a0 (-2) = 5 from by rw [kd_X4 s2 hT_a0]) ?_
    exact (eX4_settle_j38 a0 a0 (h4 a0 8) hT_a0 hT_a0 s2)
  · refine EQ_jgd (show h4 a0 (-2) = 5 from by rw [kd_X4 s2 hT_a0]) ?_
    refine EQ_jb (eX4_allPoints a0 hT_a0 s2) (fun v7 r4 => ?_)
    exact (eX4_settle_j38 a0 a0 v7 hT_a0 hT_a0 s2)
noncomputable def gX4_settle (a0 : Int) (h : AH) : Option (AH) := jb (gX4_allPoints a0 h) fun v2 => if 256 < v2 then (gX4_settle_j16 a0 a0 0 h) else (gX4_settle_j16 a0 a0 1 h)
theorem eX4_settle (a0 : Int) (hT_a0 : isX4 a0) {h : AH} (hS : Sh S h) : EQ (fX4_settle a0 h) (gX4_settle a0 h) (fun r => Sh S r) := by
  unfold fX4_settle gX4_settle
  refine EQ_jgd (show h a0 (-2) = 5 from by rw [kd_X4 hS hT_a0]) ?_
  refine EQ_jb (eX4_allPoints a0 hT_a0 hS) (fun v2 r1 => ?_)
  refine EQ_if Iff.rfl (fun c2 => ?_) (fun c2 => ?_)
  · exact (eX4_settle_j16 a0 a0 0 hT_a0 hT_a0 hS)
  · exact (eX4_settle_j16 a0 a0 1 hT_a0 hT_a0 hS)
noncomputable def gX1_ask (h : AH) : Option (Int × AH) := if h 200 53 = 0 then (jb (gX4_clear (h 200 17) h) fun h3 => jb2 (gX1_takeTape h3) fun v5 h6 => jb (gX13_begin 440 v5 (h6 200 17 + 12) h6) fun h8 => jb (gX13_ask (h8 200 17) h8) fun h10 => jb2 (gX13_result h10) fun v12 h13 => if 0 ≤ v12 then (jl (h13 200 16) fun x15 => jl (jst h13 200 16 (h13 200 17)) fun h16 => jl (jst h16 200 17 x15) fun h17 => jb (gX4_settle (h17 200 16) h17) fun h19 => jb (gX5_clear h19) fun h21 => some (h21 (h21 200 16) 18, h21)) else (some (v12, h13))) else (some ((-5), h))
theorem eX1_ask {h : AH} (hS : Sh S h) : EQ (fX1_ask 200 h) (gX1_ask h) (fun r => Sh S r.2) := by
  unfold fX1_ask gX1_ask
  refine EQ_jgd (show h 200 (-2) = 2 from by rw [k_200 hS]) ?_
  refine EQ_if Iff.rfl (fun c1 => ?_) (fun c1 => ?_)
  · refine EQ_jgd (show h 200 (-2) = 2 from by rw [k_200 hS]) ?_
    refine EQ_jgd (show h (h 200 17) (-2) = 5 from by rw [kd_X4 hS (dy_200_17 hS)]) ?_
    refine EQ_jb (eX4_clear (h 200 17) (dy_200_17 hS) hS) (fun h3 r2 => ?_)
    refine EQ_jgd (show h3 200 (-2) = 2 from by rw [k_200 r2]) ?_
    refine EQ_jgd (show h3 200 (-2) = 2 from by rw [k_200 r2]) ?_
    refine EQ_jgd (show h3 200 (-2) = 2 from by rw [k_200 r2]) ?_
    refine EQ_jb2 (eX1_takeTape r2) (fun v5 h6 r3 => ?_)
    replace r3 : Sh S h6 := r3
    refine EQ_jgd (show h6 200 (-2) = 2 from by rw [k_200 r3]) ?_
    refine EQ_jgd (show h6 (h6 200 17) (-2) = 5 from by rw [kd_X4 r3 (dy_200_17 r3)]) ?_
    refine EQ_jgd (show h6 (h3 200 57) (-2) = 14 from by rw [r_200_57 r2, k_441 r3]) ?_
    refine EQ_jb (by rw [r_200_57 r2, r_200_54 r2, ft_X4_16 r3 (dy_200_17 r3)]; exact eX13_begin 440 v5 (h6 200 17 + 12) (sub_X4_16 (dy_200_17 r3)) r3) (fun h8 r4 => ?_)
    refine EQ_jgd (show h8 200 (-2) = 2 from by rw [k_200 r4]) ?_
    refine EQ_jgd (show h8 200 (-2) = 2 from by rw [k_200 r4]) ?_
    refine EQ_jgd (show h8 (h8 200 57) (-2) = 14 from by rw [r_200_57 r4, k_441 r4]) ?_
    refine EQ_jb (by rw [r_200_57 r4]; exact eX13_ask (h8 200 17) (dy_200_17 r4) r4) (fun h10 r5 => ?_)
    refine EQ_jgd (show h10 200 (-2) = 2 from by rw [k_200 r5]) ?_
    refine EQ_jgd (show h10 (h10 200 57) (-2) = 14 from by rw [r_200_57 r5, k_441 r5]) ?_
    refine EQ_jb2 (by rw [r_200_57 r5]; exact eX13_result r5) (fun v12 h13 r6 => ?_)
    replace r6 : Sh S h13 := r6
    refine EQ_if Iff.rfl (fun c7 => ?_) (fun c7 => ?_)
    · refine EQ_jgd (show h13 200 (-2) = 2 from by rw [k_200 r6]) ?_
      refine EQ_jl rfl (fun x15 ex15 => ?_)
      refine EQ_jgd (show h13 200 (-2) = 2 from by rw [k_200 r6]) ?_
      refine EQ_jgd ⟨(show h13 200 (-2) = 2 from by rw [k_200 r6]), (show (200 : Int) ≤ 200 from (by decide))⟩ ?_
      refine EQ_jl rfl (fun h16 eh16 => ?_)
      have s8 := Sh_of eh16 (Sh_dy_200_16 r6 (dy_200_17 r6))
      clear eh16
      refine EQ_jgd ⟨(show h16 200 (-2) = 2 from by rw [k_200 s8]), (show (200 : Int) ≤ 200 from (by decide))⟩ ?_
      refine EQ_jl rfl (fun h17 eh17 => ?_)
      have s9 := Sh_of eh17 (Sh_dy_200_17 s8 (isof_X4 ex15 (dy_200_16 r6)))
      clear eh17
      refine EQ_jgd (show h17 200 (-2) = 2 from by rw [k_200 s9]) ?_
      refine EQ_jgd (show h17 (h17 200 16) (-2) = 5 from by rw [kd_X4 s9 (dy_200_16 s9)]) ?_
      refine EQ_jb (eX4_settle (h17 200 16) (dy_200_16 s9) s9) (fun h19 r10 => ?_)
      refine EQ_jgd (show h19 200 (-2) = 2 from by rw [k_200 r10]) ?_
      refine EQ_jgd (show h19 (h19 200 18) (-2) = 6 from by rw [r_200_18 r10, k_307 r10]) ?_
      refine EQ_jb (by rw [r_200_18 r10]; exact eX5_clear r10) (fun h21 r11 => ?_)
      refine EQ_jgd (show h21 200 (-2) = 2 from by rw [k_200 r11]) ?_
      refine EQ_jgd (show h21 (h21 200 16) (-2) = 5 from by rw [kd_X4 r11 (dy_200_16 r11)]) ?_
      exact EQ_some r11
    · exact EQ_some r6
  · exact EQ_some hS
noncomputable def gX1_isTaken_j60 (a1 : Int) (a2 : Int) (a3 : Int) (t0 : Int) (h : AH) : Option (Int) := if t0 = 0 then (jb (gX1_isName a1 a2 a3 22 h) fun v18 => if v18 = 0 then (jb (gX1_isName a1 a2 a3 24 h) fun v21 => if v21 = 0 then (jb (gX1_isName a1 a2 a3 26 h) fun v24 => if v24 = 0 then (some 0) else (some 1)) else (some 1)) else (some 1)) else (some 1)
theorem eX1_isTaken_j60 (a1 : Int) (a2 : Int) (a3 : Int) (t0 : Int) {h : AH} (hS : Sh S h) : EQ (fX1_isTaken_j60 a1 a2 a3 t0 h) (gX1_isTaken_j60 a1 a2 a3 t0 h) (fun _ => True) := by
  unfold fX1_isTaken_j60 gX1_isTaken_j60
  refine EQ_if Iff.rfl (fun c1 => ?_) (fun c1 => ?_)
  · refine EQ_jgd (show h 22 (-2) = 1 from by rw [k_22 hS]) ?_
    refine EQ_jb (eX1_isName a1 a2 a3 22 hS) (fun v18 r2 => ?_)
    refine EQ_if Iff.rfl (fun c3 => ?_) (fun c3 => ?_)
    · refine EQ_jgd (show h 24 (-2) = 1 from by rw [k_24 hS]) ?_
      refine EQ_jb (eX1_isName a1 a2 a3 24 hS) (fun v21 r4 => ?_)
      refine EQ_if Iff.rfl (fun c5 => ?_) (fun c5 => ?_)
      · refine EQ_jgd (show h 26 (-2) = 1 from by rw [k_26 hS]) ?_
        refine EQ_jb (eX1_isName a1 a2 a3 26 hS) (fun v24 r6 => ?_)
        refine EQ_if Iff.rfl (fun c7 => ?_) (fun c7 => ?_)
        · exact EQ_some trivial
        · exact EQ_some trivial
      · exact EQ_some trivial
    · exact EQ_some trivial
  · exact EQ_some trivial
noncomputable def gX1_isTaken (a1 : Int) (a2 : Int) (a3 : Int) (h : AH) : Option (Int) := jb (gX1_actBy a1 a2 a3 h) fun v2 => if v2 = (-1) then (jb (gX1_isName a1 a2 a3 14 h) fun v5 => if v5 = 0 then (jb (gX1_isName a1 a2 a3 16 h) fun v8 => if v8 = 0 then (jb (gX1_isName a1 a2 a3 18 h) fun v11 => if v11 = 0 then (jb (gX1_isName a1 a2 a3 20 h) fun v14 => if v14 = 0 then (gX1_isTaken_j60 a1 a2 a3 0 h) else (gX1_isTaken_j60 a1 a2 a3 1 h)) else (gX1_isTaken_j60 a1 a2 a3 1 h)) else (gX1_isTaken_j60 a1 a2 a3 1 h)) else (gX1_isTaken_j60 a1 a2 a3 1 h)) else (gX1_isTaken_j60 a1 a2 a3 1 h)
theorem eX1_isTaken (a1 : Int) (a2 : Int) (a3 : Int) {h : AH} (hS : Sh S h) : EQ (fX1_isTaken 200 a1 a2 a3 h) (gX1_isTaken a1 a2 a3 h) (fun _ => True) := by
  unfold fX1_isTaken gX1_isTaken
  refine EQ_jgd (show h 200 (-2) = 2 from by rw [k_200 hS]) ?_
  refine EQ_jb (eX1_actBy a1 a2 a3 hS) (fun v2 r1 => ?_)
  refine EQ_if Iff.rfl (fun c2 => ?_) (fun c2 => ?_)
  · refine EQ_jgd (show h 14 (-2) = 1 from by rw [k_14 hS]) ?_
    refine EQ_jb (eX1_isName a1 a2 a3 14 hS) (fun v5 r3 => ?_)
    refine EQ_if Iff.rfl (fun c4 => ?_) (fun c4 => ?_)
    · refine EQ_jgd (show h 16 (-2) = 1 from by rw [k_16 hS]) ?_
      refine EQ_jb (eX1_isName a1 a2 a3 16 hS) (fun v8 r5 => ?_)
      refine EQ_if Iff.rfl (fun c6 => ?_) (fun c6 => ?_)
      · refine EQ_jgd (show h 18 (-2) = 1 from by rw [k_18 hS]) ?_
        refine EQ_jb (eX1_isName a1 a2 a3 18 hS) (fun v11 r7 => ?_)
        refine EQ_if Iff.rfl (fun c8 => ?_) (fun c8 => ?_)
        · refine EQ_jgd (show h 20 (-2) = 1 from by rw [k_20 hS]) ?_
          refine EQ_jb (eX1_isName a1 a2 a3 20 hS) (fun v14 r9 => ?_)
          refine EQ_if Iff.rfl (fun c10 => ?_) (fun c10 => ?_)
          · exact (eX1_isTaken_j60 a1 a2 a3 0 hS)
          · exact (eX1_isTaken_j60 a1 a2 a3 1 hS)
        · exact (eX1_isTaken_j60 a1 a2 a3 1 hS)
      · exact (eX1_isTaken_j60 a1 a2 a3 1 hS)
    · exact (eX1_isTaken_j60 a1 a2 a3 1 hS)
  · exact (eX1_isTaken_j60 a1 a2 a3 1 hS)
noncomputable def gX13_parameters_b7 (i1 : Int) (i2 : Int) (s : Int × AH) : Option ((Int × AH) ⊕ (AH)) := jt2 s fun a3 h => if i1 ≤ a3 then (some (.inr h)) else (jg (jI a3 3) <| jl (jst h 442 a3 (w32 ((-1) - a3))) fun h5 => jg (h5 i2 (-2) = 101 ∧ jI a3 (h5 i2 (-1))) <| jl (jst h5 444 a3 (h5 i2 a3)) fun h6 => jl (w32 (a3 + 1)) fun x7 => some (.inl (x7, h6)))
theorem eX13_parameters_b7 (i1 : Int) (i2 : Int) {s : Int × AH} (hS : (fun r => Sh S r.2) s) : EQ (fX13_parameters_b7 441 i1 i2 s) (gX13_parameters_b7 i1 i2 s) (Sum.elim (fun r => Sh S r.2) (fun r => Sh S r)) := by
  unfold fX13_parameters_b7 gX13_parameters_b7
  obtain ⟨a3, h⟩ := s
  refine EQ_jt2 ?_
  replace hS : Sh S h := hS
  refine EQ_if Iff.rfl (fun c1 => ?_) (fun c1 => ?_)
  · exact EQ_some hS
  · refine EQ_jgd (show h 441 (-2) = 14 from by rw [k_441 hS]) ?_
    refine EQ_jg ⟨fun ⟨_, _, x0⟩ => (show jI a3 (h (h 441 10) (-1)) ↔ jI a3 3 from by rw [r_441_10 hS, l_442 hS]).mp x0, fun x0 => ⟨(show h (h 441 10) (-2) = 101 from by rw [r_441_10 hS, k_442 hS]), (show 200 ≤ h 441 10 from by rw [r_441_10 hS]; exact (by decide)), (show jI a3 (h (h 441 10) (-1)) ↔ jI a3 3 from by rw [r_441_10 hS, l_442 hS]).mpr x0⟩⟩ (fun g2 => ?_)
    refine EQ_jl (by rw [r_441_10 hS]) (fun h5 eh5 => ?_)
    have s3 := Sh_of eh5 (Sh_sta hS (by decide +kernel) (jI_nn g2) (fun e => absurd ((k_442 hS).symm.trans e) (by decide)))
    clear eh5
    refine EQ_jgd (show h5 441 (-2) = 14 from by rw [k_441 s3]) ?_
    refine EQ_jg Iff.rfl (fun g4 => ?_)
    refine EQ_jgd ⟨(show h5 (h5 441 12) (-2) = 101 from by rw [r_441_12 s3, k_444 s3]), (show 200 ≤ h5 441 12 from by rw [r_441_12 s3]; exact (by decide)), ((show jI a3 (h5 (h5 441 12) (-1)) ↔ jI a3 3 from by rw [r_441_12 s3, l_444 s3]).mpr g2)⟩ ?_
    refine EQ_jl (by rw [r_441_12 s3]) (fun h6 eh6 => ?_)
    have s5 := Sh_of eh6 (Sh_sta s3 (by decide +kernel) (jI_nn g2) (fun e => absurd ((k_444 s3).symm.trans e) (by decide)))
    clear eh6
    refine EQ_jl rfl (fun x7 ex7 => ?_)
    clear ex7
    exact EQ_some s5
noncomputable def gX13_parameters_l7 (i1 : Int) (i2 : Int) (a3 : Int) (h : AH) : Option (AH) := jit (gX13_parameters_b7 i1 i2) (a3, h)
theorem eX13_parameters_l7 (i1 : Int) (i2 : Int) (a3 : Int) {h : AH} (hS : Sh S h) : EQ (fX13_parameters_l7 441 i1 i2 a3 h) (gX13_parameters_l7 i1 i2 a3 h) (fun r => Sh S r) := EQ_jit (I := (fun r => Sh S r.2)) (fun s hs => eX13_parameters_b7 i1 i2 hs) hS
noncomputable def gX13_parameters (a1 : Int) (a2 : Int) (h : AH) : Option (AH) := jl (jst h 441 13 a1) fun h1 => jb (gX13_parameters_l7 a1 a2 0 h1) fun o2 => some o2
theorem eX13_parameters (a1 : Int) (a2 : Int) {h : AH} (hS : Sh S h) : EQ (fX13_parameters 441 a1 a2 h) (gX13_parameters a1 a2 h) (fun r => Sh S r) := by
  unfold fX13_parameters gX13_parameters
  refine EQ_jgd ⟨(show h 441 (-2) = 14 from by rw [k_441 hS]), (show (200 : Int) ≤ 441 from (by decide))⟩ ?_
  refine EQ_jl rfl (fun h1 eh1 => ?_)
  have s1 := Sh_of eh1 (Sh_sto hS (a := 441) (i := 13) (by decide +kernel))
  clear eh1
  refine EQ_jb (eX13_parameters_l7 a1 a2 0 s1) (fun o2 r2 => ?_)
  exact EQ_some r2
noncomputable def gX13_own_j187 (h : AH) : Option (AH) := if h 441 6 = 0 then (jb (gX13_isEnd h) fun v40 => if v40 = 0 then (jb (gX13_no h) fun h43 => some h43) else (some h)) else (some h)
theorem eX13_own_j187 {h : AH} (hS : Sh S h) : EQ (fX13_own_j187 441 h) (gX13_own_j187 h) (fun r => Sh S r) := by
  unfold fX13_own_j187 gX13_own_j187
  refine EQ_jgd (show h 441 (-2) = 14 from by rw [k_441 hS]) ?_
  refine EQ_if Iff.rfl (fun c1 => ?_) (fun c1 => ?_)
  · refine EQ_jgd (show h 441 (-2) = 14 from by rw [k_441 hS]) ?_
    refine EQ_jb (eX13_isEnd hS) (fun v40 r2 => ?_)
    refine EQ_if Iff.rfl (fun c3 => ?_) (fun c3 => ?_)
    · refine EQ_jgd (show h 441 (-2) = 14 from by rw [k_441 hS]) ?_
      refine EQ_jb (eX13_no hS) (fun h43 r4 => ?_)
      exact EQ_some r4
    · exact EQ_some hS
  · exact EQ_some hS
noncomputable def gX13_own_j139 (a1 : Int) (h : AH) : Option (AH) := jb (gX13_want 62 h) fun h24 => jb2 (gX13_kind h24) fun v26 h27 => jl (jst h27 441 24 v26) fun h28 => jb (gX13_want 61 h28) fun h30 => jb (gX13_parameters a1 444 h30) fun h32 => if h32 441 6 = 0 then (jb2 (gX13_told (h32 441 24) h32) fun v35 h36 => jl (jst h36 441 23 v35) fun h37 => gX13_own_j187 h37) else (gX13_own_j187 h32)
theorem eX13_own_j139 (a1 : Int) {h : AH} (hS : Sh S h) : EQ (fX13_own_j139 441 a1 h) (gX13_own_j139 a1 h) (fun r => Sh S r) := by
  unfold fX13_own_j139 gX13_own_j139
  refine EQ_jgd (show h 441 (-2) = 14 from by rw [k_441 hS]) ?_
  refine EQ_jb (eX13_want 62 hS) (fun h24 r1 => ?_)
  refine EQ_jgd (show h24 441 (-2) = 14 from by rw [k_441 r1]) ?_
  refine EQ_jb2 (eX13_kind r1) (fun v26 h27 r2 => ?_)
  replace r2 : Sh S h27 := r2
  refine EQ_jgd ⟨(show h27 441 (-2) = 14 from by rw [k_441 r2]), (show (200 : Int) ≤ 441 from (by decide))⟩ ?_
  refine EQ_jl rfl (fun h28 eh28 => ?_)
  have s3 := Sh_of eh28 (Sh_sto r2 (a := 441) (i := 24) (by decide +kernel))
  clear eh28
  refine EQ_jgd (show h28 441 (-2) = 14 from by rw [k_441 s3]) ?_
  refine EQ_jb (eX13_want 61 s3) (fun h30 r4 => ?_)
  refine EQ_jgd (show h30 441 (-2) = 14 from by rw [k_441 r4]) ?_
  refine EQ_jgd (show h30 441 (-2) = 14 from by rw [k_441 r4]) ?_
  refine EQ_jb (by rw [r_441_12 r4]; exact eX13_parameters a1 444 r4) (fun h32 r5 => ?_)
  refine EQ_jgd (show h32 441 (-2) = 14 from by rw [k_441 r5]) ?_
  refine EQ_if Iff.rfl (fun c6 => ?_) (fun c6 => ?_)
  · refine EQ_jgd (show h32 441 (-2) = 14 from by rw [k_441 r5]) ?_
    refine EQ_jgd (show h32 441 (-2) = 14 from by rw [k_441 r5]) ?_
    refine EQ_jb2 (eX13_told (h32 441 24) r5) (fun v35 h36 r7 => ?_)
    replace r7 : Sh S h36 := r7
    refine EQ_jgd ⟨(show h36 441 (-2) = 14 from by rw [k_441 r7]), (show (200 : Int) ≤ 441 from (by decide))⟩ ?_
    refine EQ_jl rfl (fun h37 eh37 => ?_)
    have s8 := Sh_of eh37 (Sh_sto r7 (a := 441) (i := 23) (by decide +kernel))
    clear eh37
    exact (eX13_own_j187 s8)
  · exact (eX13_own_j187 r5)
noncomputable def gX13_own_j125_100 (a1 : Int) (h : AH) : Option ((Int × AH) ⊕ (Int × AH)) := if h 441 6 = 0 then (jb (gX13_isKind h) fun v54 => if v54 = 0 then (some (.inr (a1, h))) else (some (.inl (a1, h)))) else (some (.inr (a1, h)))
theorem eX13_own_j125_100 (a1 : Int) {h : AH} (hS : Sh S h) : EQ (fX13_own_j125_100 441 a1 h) (gX13_own_j125_100 a1 h) (Sum.elim (fun r => Sh S r.2) (fun r => Sh S r.2)) := by
  unfold fX13_own_j125_100 gX13_own_j125_100
  refine EQ_jgd (show h 441 (-2) = 14 from by rw [k_441 hS]) ?_
  refine EQ_if Iff.rfl (fun c1 => ?_) (fun c1 => ?_)
  · refine EQ_jgd (show h 441 (-2) = 14 from by rw [k_441 hS]) ?_
    refine EQ_jb (eX13_isKind hS) (fun v54 r2 => ?_)
    refine EQ_if Iff.rfl (fun c3 => ?_) (fun c3 => ?_)
    · exact EQ_some hS
    · exact EQ_some hS
  · exact EQ_some hS
noncomputable def gX13_own_b100 (s : Int × AH) : Option ((Int × AH) ⊕ (Int × AH)) := jt2 s fun a1 h => if a1 = 2 then (jb (gX13_no h) fun h46 => gX13_own_j125_100 a1 h46) else (jl (w32 (a1 + 1)) fun x47 => jb2 (gX13_kind h) fun v49 h50 => jg (jI a1 3) <| jl (jst h50 444 a1 v49) fun h51 => gX13_own_j125_100 x47 h51)
theorem eX13_own_b100 {s : Int × AH} (hS : (fun r => Sh S r.2) s) : EQ (fX13_own_b100 441 s) (gX13_own_b100 s) (Sum.elim (fun r => Sh S r.2) (fun r => Sh S r.2)) := by
  unfold fX13_own_b100 gX13_own_b100
  obtain ⟨a1, h⟩ := s
  refine EQ_jt2 ?_
  replace hS : Sh S h := hS
  refine EQ_if Iff.rfl (fun c1 => ?_) (fun c1 => ?_)
  · refine EQ_jgd (show h 441 (-2) = 14 from by rw [k_441 hS]) ?_
    refine EQ_jb (eX13_no hS) (fun h46 r2 => ?_)
    exact (eX13_own_j125_100 a1 r2)
  · refine EQ_jgd (show h 441 (-2) = 14 from by rw [k_441 hS]) ?_
    refine EQ_jl rfl (fun x47 ex47 => ?_)
    clear ex47
    refine EQ_jgd (show h 441 (-2) = 14 from by rw [k_441 hS]) ?_
    refine EQ_jb2 (eX13_kind hS) (fun v49 h50 r3 => ?_)
    replace r3 : Sh S h50 := r3
    refine EQ_jg ⟨fun ⟨_, _, x0⟩ => (show jI a1 (h50 (h 441 12) (-1)) ↔ jI a1 3 from by rw [r_441_12 hS, l_444 r3]).mp x0, fun x0 => ⟨(show h50 (h 441 12) (-2) = 101 from by rw [r_441_12 hS, k_444 r3]), (show 200 ≤ h 441 12 from by rw [r_441_12 hS]; exact (by decide)), (show jI a1 (h50 (h 441 12) (-1)) ↔ jI a1 3 from by rw [r_441_12 hS, l_444 r3]).mpr x0⟩⟩ (fun g4 => ?_)
    refine EQ_jl (by rw [r_441_12 hS]) (fun h51 eh51 => ?_)
    have s5 := Sh_of eh51 (Sh_sta r3 (by decide +kernel) (jI_nn g4) (fun e => absurd ((k_444 r3).symm.trans e) (by decide)))
    clear eh51
    exact (eX13_own_j125_100 x47 s5)
noncomputable def gX13_own_l100 (a1 : Int) (h : AH) : Option (Int × AH) := jit gX13_own_b100 (a1, h)
theorem eX13_own_l100 (a1 : Int) {h : AH} (hS : Sh S h) : EQ (fX13_own_l100 441 a1 h) (gX13_own_l100 a1 h) (fun r => Sh S r.2) := EQ_jit (I := (fun r => Sh S r.2)) (fun s hs => eX13_own_b100 hs) hS
noncomputable def gX13_own_j78 (h : AH) : Option (AH) := jl (jst h 441 21 (h 441 3)) fun h15 => jl (jst h15 441 22 (h15 441 4)) fun h16 => jb (gX13_next h16) fun h18 => jb (gX13_own_l100 0 h18) fun o19 => jt2 o19 fun y21 h22 => gX13_own_j139 y21 h22
theorem eX13_own_j78 {h : AH} (hS : Sh S h) : EQ (fX13_own_j78 441 h) (gX13_own_j78 h) (fun r => Sh S r) := by
  unfold fX13_own_j78 gX13_own_j78
  refine EQ_jgd (show h 441 (-2) = 14 from by rw [k_441 hS]) ?_
  refine EQ_jgd ⟨(show h 441 (-2) = 14 from by rw [k_441 hS]), (show (200 : Int) ≤ 441 from (by decide))⟩ ?_
  refine EQ_jl rfl (fun h15 eh15 => ?_)
  have s1 := Sh_of eh15 (Sh_sto hS (a := 441) (i := 21) (by decide +kernel))
  clear eh15
  refine EQ_jgd (show h15 441 (-2) = 14 from by rw [k_441 s1]) ?_
  refine EQ_jgd ⟨(show h15 441 (-2) = 14 from by rw [k_441 s1]), (show (200 : Int) ≤ 441 from (by decide))⟩ ?_
  refine EQ_jl rfl (fun h16 eh16 => ?_)
  have s2 := Sh_of eh16 (Sh_sto s1 (a := 441) (i := 22) (by decide +kernel))
  clear eh16
  refine EQ_jgd (show h16 441 (-2) = 14 from by rw [k_441 s2]) ?_
  refine EQ_jb (eX13_next s2) (fun h18 r3 => ?_)
  refine EQ_jb (eX13_own_l100 0 r3) (fun o19 r4 => ?_)
  obtain ⟨y21, h22⟩ := o19
  refine EQ_jt2 ?_
  replace r4 : Sh S h22 := r4
  exact (eX13_own_j139 y21 r4)
noncomputable def gX13_own_j60 (h : AH) : Option (AH) := if h 200 7 = 10 then (jb (gX13_err 5 0 h) fun h14 => gX13_own_j78 h14) else (gX13_own_j78 h)
theorem eX13_own_j60 {h : AH} (hS : Sh S h) : EQ (fX13_own_j60 441 h) (gX13_own_j60 h) (fun r => Sh S r) := by
  unfold fX13_own_j60 gX13_own_j60
  refine EQ_jgd (show h 441 (-2) = 14 from by rw [k_441 hS]) ?_
  refine EQ_jgd (show h (h 441 26) (-2) = 2 from by rw [r_441_26 hS, k_200 hS]) ?_
  refine EQ_if (show h (h 441 26) 7 = 10 ↔ h 200 7 = 10 from by rw [r_441_26 hS]) (fun c1 => ?_) (fun c1 => ?_)
  · refine EQ_jgd (show h 441 (-2) = 14 from by rw [k_441 hS]) ?_
    refine EQ_jb (eX13_err 5 0 hS) (fun h14 r2 => ?_)
    exact (eX13_own_j78 r2)
  · exact (eX13_own_j78 hS)
noncomputable def gX13_own (h : AH) : Option (AH) := jb (gX13_word 44 h) fun h2 => if h2 441 6 = 0 then (if h2 441 2 = 110 then (jb (gX1_isTaken (h2 441 0) (h2 441 3) (h2 441 4) h2) fun v6 => if v6 = 0 then (gX13_own_j60 h2) else (jb (gX13_err 2 (h2 441 3) h2) fun h9 => gX13_own_j60 h9)) else (jb (gX13_no h2) fun h11 => some h11)) else (some h2)
theorem eX13_own {h : AH} (hS : Sh S h) : EQ (fX13_own 441 h) (gX13_own h) (fun r => Sh S r) := by
  unfold fX13_own gX13_own
  refine EQ_jgd (show h 44 (-2) = 1 from by rw [k_44 hS]) ?_
  refine EQ_jgd (show h 441 (-2) = 14 from by rw [k_441 hS]) ?_
  refine EQ_jb (eX13_word 44 hS) (fun h2 r1 => ?_)
  refine EQ_jgd (show h2 441 (-2) = 14 from by rw [k_441 r1]) ?_
  refine EQ_if Iff.rfl (fun c2 => ?_) (fun c2 => ?_)
  · refine EQ_jgd (show h2 441 (-2) = 14 from by rw [k_441 r1]) ?_
    refine EQ_if Iff.rfl (fun c3 => ?_) (fun c3 => ?_)
    · refine EQ_jgd (show h2 441 (-2) = 14 from by rw [k_441 r1]) ?_
      refine EQ_jgd (show h2 441 (-2) = 14 from by rw [k_441 r1]) ?_
      refine EQ_jgd (show h2 441 (-2) = 14 from by rw [k_441 r1]) ?_
      refine EQ_jgd (show h2 441 (-2) = 14 from by rw [k_441 r1]) ?_
      refine EQ_jgd (show h2 (h2 441 26) (-2) = 2 from by rw [r_441_26 r1, k_200 r1]) ?_
      refine EQ_jb (by rw [r_441_26 r1]; exact eX1_isTaken (h2 441 0) (h2 441 3) (h2 441 4) r1) (fun v6 r4 => ?_)
      refine EQ_if Iff.rfl (fun c5 => ?_) (fun c5 => ?_)
      · exact (eX13_own_j60 r1)
      · refine EQ_jgd (show h2 441 (-2) = 14 from by rw [k_441 r1]) ?_
        refine EQ_jgd (show h2 441 (-2) = 14 from by rw [k_441 r1]) ?_
        refine EQ_jb (eX13_err 2 (h2 441 3) r1) (fun h9 r6 => ?_)
        exact (eX13_own_j60 r6)
    · refine EQ_jgd (show h2 441 (-2) = 14 from by rw [k_441 r1]) ?_
      refine EQ_jb (eX13_no r1) (fun h11 r7 => ?_)
      exact EQ_some r7
  · exact EQ_some r1
noncomputable def gX12_blocksFor (a1 : Int) : Option (Int) := some (jdiv (w32 (w32 (a1 + 121) - 1)) 121)
theorem eX12_blocksFor (a1 : Int) : EQ (fX12_blocksFor 434 a1) (gX12_blocksFor a1) (fun _ => True) := by
  unfold fX12_blocksFor gX12_blocksFor
  exact EQ_some trivial
noncomputable def gX12_put (a1 : Int) (h : AH) : Option (AH) := jl (jst h 434 7 (w32 (h 434 7 + 1))) fun h1 => jg (jI (h 434 7) 28400) <| jl (jst h1 436 (h 434 7) (ji2b (ji2b a1))) fun h2 => some h2
theorem eX12_put (a1 : Int) {h : AH} (hS : Sh S h) : EQ (fX12_put 434 a1 h) (gX12_put a1 h) (fun r => Sh S r) := by
  unfold fX12_put gX12_put
  refine EQ_jgd (show h 434 (-2) = 13 from by rw [k_434 hS]) ?_
  refine EQ_jgd (show h 434 (-2) = 13 from by rw [k_434 hS]) ?_
  refine EQ_jgd ⟨(show h 434 (-2) = 13 from by rw [k_434 hS]), (show (200 : Int) ≤ 434 from (by decide))⟩ ?_
  refine EQ_jl rfl (fun h1 eh1 => ?_)
  have s1 := Sh_of eh1 (Sh_sto hS (a := 434) (i := 7) (by decide +kernel))
  clear eh1
  refine EQ_jg ⟨fun ⟨_, _, x0⟩ => (show jI (h 434 7) (h1 (h 434 1) (-1)) ↔ jI (h 434 7) 28400 from by rw [r_434_1 hS, l_436 s1]).mp x0, fun x0 => ⟨(show h1 (h 434 1) (-2) = 103 from by rw [r_434_1 hS, k_436 s1]), (show 200 ≤ h 434 1 from by rw [r_434_1 hS]; exact (by decide)), (show jI (h 434 7) (h1 (h 434 1) (-1)) ↔ jI (h 434 7) 28400 from by rw [r_434_1 hS, l_436 s1]).mpr x0⟩⟩ (fun g2 => ?_)
  refine EQ_jl (by rw [r_434_1 hS]) (fun h2 eh2 => ?_)
  have s3 := Sh_of eh2 (Sh_sta s1 (by decide +kernel) (jI_nn g2) (fun _ => jBy_b _))
  clear eh2
  exact EQ_some s3
noncomputable def gX12_begin (a1 : Int) (a2 : Int) (h : AH) : Option (Int × AH) := jb (gX12_blocksFor (w32 (w32 (h 434 5 + 3) + a2))) fun v2 => if v2 ≤ w32 (200 - h 434 4) then (jl (jst h 434 7 (h 434 5)) fun h4 => jb (gX12_put a1 h4) fun h6 => jb (gX12_put (jshr a2 8) h6) fun h8 => jb (gX12_put a2 h8) fun h10 => some (1, h10)) else (some (0, h))
theorem eX12_begin (a1 : Int) (a2 : Int) {h : AH} (hS : Sh S h) : EQ (fX12_begin 434 a1 a2 h) (gX12_begin a1 a2 h) (fun r => Sh S r.2) := by
  unfold fX12_begin gX12_begin
  refine EQ_jgd (show h 434 (-2) = 13 from by rw [k_434 hS]) ?_
  refine EQ_jgd (show h 434 (-2) = 13 from by rw [k_434 hS]) ?_
  refine EQ_jb (eX12_blocksFor (w32 (w32 (h 434 5 + 3) + a2))) (fun v2 r1 => ?_)
  refine EQ_jgd (show h 434 (-2) = 13 from by rw [k_434 hS]) ?_
  refine EQ_if Iff.rfl (fun c2 => ?_) (fun c2 => ?_)
  · refine EQ_jgd (show h 434 (-2) = 13 from by rw [k_434 hS]) ?_
    refine EQ_jgd ⟨(show h 434 (-2) = 13 from by rw [k_434 hS]), (show (200 : Int) ≤ 434 from (by decide))⟩ ?_
    refine EQ_jl rfl (fun h4 eh4 => ?_)
    have s3 := Sh_of eh4 (Sh_sto hS (a := 434) (i := 7) (by decide +kernel))
    clear eh4
    refine EQ_jgd (show h4 434 (-2) = 13 from by rw [k_434 s3]) ?_
    refine EQ_jb (eX12_put a1 s3) (fun h6 r4 => ?_)
    refine EQ_jgd (show h6 434 (-2) = 13 from by rw [k_434 r4]) ?_
    refine EQ_jb (eX12_put (jshr a2 8) r4) (fun h8 r5 => ?_)
    refine EQ_jgd (show h8 434 (-2) = 13 from by rw [k_434 r5]) ?_
    refine EQ_jb (eX12_put a2 r5) (fun h10 r6 => ?_)
    exact EQ_some r6
  · exact EQ_some hS
noncomputable def gX12_put_2_b2 (i1 : Int) (i2 : Int) (s : Int × AH) : Option ((Int × AH) ⊕ (AH)) := jt2 s fun a3 h => if i2 ≤ a3 then (some (.inr h)) else (jg (h i1 (-2) = 103 ∧ jI a3 (h i1 (-1))) <| jb (gX12_put (h i1 a3) h) fun h5 => jl (w32 (a3 + 1)) fun x6 => some (.inl (x6, h5)))
theorem eX12_put_2_b2 (i1 : Int) (i2 : Int) {s : Int × AH} (hS : (fun r => Sh S r.2) s) : EQ (fX12_put_2_b2 434 i1 i2 s) (gX12_put_2_b2 i1 i2 s) (Sum.elim (fun r => Sh S r.2) (fun r => Sh S r)) := by
  unfold fX12_put_2_b2 gX12_put_2_b2
  obtain ⟨a3, h⟩ := s
  refine EQ_jt2 ?_
  replace hS : Sh S h := hS
  refine EQ_if Iff.rfl (fun c1 => ?_) (fun c1 => ?_)
  · exact EQ_some hS
  · refine EQ_jg Iff.rfl (fun g2 => ?_)
    refine EQ_jgd (show h 434 (-2) = 13 from by rw [k_434 hS]) ?_
    refine EQ_jb (eX12_put (h i1 a3) hS) (fun h5 r3 => ?_)
    refine EQ_jl rfl (fun x6 ex6 => ?_)
    clear ex6
    exact EQ_some r3
noncomputable def gX12_put_2_l2 (i1 : Int) (i2 : Int) (a3 : Int) (h : AH) : Option (AH) := jit (gX12_put_2_b2 i1 i2) (a3, h)
theorem eX12_put_2_l2 (i1 : Int) (i2 : Int) (a3 : Int) {h : AH} (hS : Sh S h) : EQ (fX12_put_2_l2 434 i1 i2 a3 h) (gX12_put_2_l2 i1 i2 a3 h) (fun r => Sh S r) := EQ_jit (I := (fun r => Sh S r.2)) (fun s hs => eX12_put_2_b2 i1 i2 hs) hS
noncomputable def gX12_put_2 (a1 : Int) (a2 : Int) (h : AH) : Option (AH) := jb (gX12_put_2_l2 a1 a2 0 h) fun o1 => some o1
theorem eX12_put_2 (a1 : Int) (a2 : Int) {h : AH} (hS : Sh S h) : EQ (fX12_put_2 434 a1 a2 h) (gX12_put_2 a1 a2 h) (fun r => Sh S r) := by
  unfold fX12_put_2 gX12_put_2
  refine EQ_jb (eX12_put_2_l2 a1 a2 0 hS) (fun o1 r1 => ?_)
  exact EQ_some r1
noncomputable def gX12_end (h : AH) : Option (AH) := jl (jst h 434 5 (h 434 7)) fun h1 => jl (jst h1 434 6 (w32 (h1 434 6 + 1))) fun h2 => some h2
theorem eX12_end {h : AH} (hS : Sh S h) : EQ (fX12_end 434 h) (gX12_end h) (fun r => Sh S r) := by
  unfold fX12_end gX12_end
  refine EQ_jgd (show h 434 (-2) = 13 from by rw [k_434 hS]) ?_
  refine EQ_jgd ⟨(show h 434 (-2) = 13 from by rw [k_434 hS]), (show (200 : Int) ≤ 434 from (by decide))⟩ ?_
  refine EQ_jl rfl (fun h1 eh1 => ?_)
  have s1 := Sh_of eh1 (Sh_sto hS (a := 434) (i := 5) (by decide +kernel))
  clear eh1
  refine EQ_jgd (show h1 434 (-2) = 13 from by rw [k_434 s1]) ?_
  refine EQ_jgd ⟨(show h1 434 (-2) = 13 from by rw [k_434 s1]), (show (200 : Int) ≤ 434 from (by decide))⟩ ?_
  refine EQ_jl rfl (fun h2 eh2 => ?_)
  have s2 := Sh_of eh2 (Sh_sto s1 (a := 434) (i := 6) (by decide +kernel))
  clear eh2
  exact EQ_some s2
noncomputable def gX13_ownName (h : AH) : Option (Int × AH) := jg (jroom h 4) <| jl (jnew h 1 4) fun h1 => jg (¬ h 0 0 = 0) <| jb (fJ0_init_4 (h 0 0) (h1 441 0) 0 (h1 441 21) (w32 (h1 441 22 - h1 441 21)) h1) fun h3 => some (h 0 0, h3)
theorem eX13_ownName {h : AH} (hS : Sh S h) : EQ (fX13_ownName 441 h) (gX13_ownName h) (fun r => Sh S r.2) := by
  unfold fX13_ownName gX13_ownName
  refine EQ_jg Iff.rfl (fun g1 => ?_)
  refine EQ_jl rfl (fun h1 eh1 => ?_)
  have s2 := Sh_of eh1 (Sh_new hS (by decide))
  clear eh1
  refine EQ_jgd (show h1 441 (-2) = 14 from by rw [k_441 s2]) ?_
  refine EQ_jgd (show h1 441 (-2) = 14 from by rw [k_441 s2]) ?_
  refine EQ_jgd (show h1 441 (-2) = 14 from by rw [k_441 s2]) ?_
  refine EQ_jgd (show h1 441 (-2) = 14 from by rw [k_441 s2]) ?_
  refine EQ_jg Iff.rfl (fun g3 => ?_)
  refine EQ_jb (wJ0_init_4 (h 0 0) (h1 441 0) 0 (h1 441 21) (w32 (h1 441 22 - h1 441 21)) s2) (fun h3 r4 => ?_)
  exact EQ_some r4
noncomputable def gX3_part (a0 : Int) (a1 : Int) (a2 : Int) (h : AH) : Option (Int) := if 3 ≤ a2 then (some (-1)) else (jg (jI (w32 (w32 (3 * a1) + a2)) (h (a0 + 5) (-1))) <| some (h (a0 + 5) (w32 (w32 (3 * a1) + a2))))
theorem eX3_part (a0 : Int) (a1 : Int) (a2 : Int) (hT_a0 : isX3 a0) {h : AH} (hS : Sh S h) : EQ (fX3_part a0 a1 a2 h) (gX3_part a0 a1 a2 h) (fun _ => True) := by
  unfold fX3_part gX3_part
  refine EQ_if Iff.rfl (fun c1 => ?_) (fun c1 => ?_)
  · exact EQ_some trivial
  · refine EQ_jgd (show h a0 (-2) = 4 from by rw [kd_X3 hS hT_a0]) ?_
    refine EQ_jg ⟨fun ⟨_, x0⟩ => (show jI (w32 (w32 (3 * a1) + a2)) (h (h a0 4) (-1)) ↔ jI (w32 (w32 (3 * a1) + a2)) (h (a0 + 5) (-1)) from by rw [ft_X3_4 hS hT_a0]).mp x0, fun x0 => ⟨(show h (h a0 4) (-2) = 101 from by rw [ft_X3_4 hS hT_a0, ka_X3_4 hS hT_a0]), (show jI (w32 (w32 (3 * a1) + a2)) (h (h a0 4) (-1)) ↔ jI (w32 (w32 (3 * a1) + a2)) (h (a0 + 5) (-1)) from by rw [ft_X3_4 hS hT_a0]).mpr x0⟩⟩ (fun g2 => ?_)
    exact EQ_some' (by rw [ft_X3_4 hS hT_a0]) trivial
noncomputable def gX3_copy_j67_32 (F : Int → Int → Int → AH → Option (Int × AH)) (a0 : Int) (a1 : Int) (a2 : Int) (a3 : Int) (a4 : Int) (h : AH) : Option ((Int × AH) ⊕ (AH)) := jl (w32 (a4 + 1)) fun x17 => some (.inl (x17, h))
theorem eX3_copy_j67_32 {F0 : Int → Int → Int → AH → Option (Int × AH)} {F : Int → Int → Int → AH → Option (Int × AH)} (hF : ∀ (b_a0 : Int) (b_a1 : Int) (b_a2 : Int), isX3 b_a0 → isX3 b_a1 → ∀ {b_h : AH}, Sh S b_h → EQ (F0 b_a0 b_a1 b_a2 b_h) (F b_a0 b_a1 b_a2 b_h) (fun r => Sh S r.2)) (a0 : Int) (a1 : Int) (a2 : Int) (a3 : Int) (a4 : Int) (hT_a0 : isX3 a0) (hT_a1 : isX3 a1) {h : AH} (hS : Sh S h) : EQ (fX3_copy_j67_32 F0 a0 a1 a2 a3 a4 h) (gX3_copy_j67_32 F a0 a1 a2 a3 a4 h) (Sum.elim (fun r => Sh S r.2) (fun r => Sh S r)) := by
  unfold fX3_copy_j67_32 gX3_copy_j67_32
  refine EQ_jl rfl (fun x17 ex17 => ?_)
  clear ex17
  exact EQ_some hS
noncomputable def gX3_copy_b32 (F : Int → Int → Int → AH → Option (Int × AH)) (i0 : Int) (i1 : Int) (i2 : Int) (i3 : Int) (s : Int × AH) : Option ((Int × AH) ⊕ (AH)) := jt2 s fun a4 h => if 3 ≤ a4 then (some (.inr h)) else (jb (gX3_part i1 i2 a4 h) fun v8 => if v8 < 0 then (gX3_copy_j67_32 F i0 i1 i2 i3 a4 h) else (jb (gX3_part i1 i2 a4 h) fun v11 => jb2 (F i0 i1 v11 h) fun v13 h14 => jb (gX3_join i0 i3 a4 v13 h14) fun h16 => gX3_copy_j67_32 F i0 i1 i2 i3 a4 h16))
theorem eX3_copy_b32 {F0 : Int → Int → Int → AH → Option (Int × AH)} {F : Int → Int → Int → AH → Option (Int × AH)} (hF : ∀ (b_a0 : Int) (b_a1 : Int) (b_a2 : Int), isX3 b_a0 → isX3 b_a1 → ∀ {b_h : AH}, Sh S b_h → EQ (F0 b_a0 b_a1 b_a2 b_h) (F b_a0 b_a1 b_a2 b_h) (fun r => Sh S r.2)) (i0 : Int) (i1 : Int) (i2 : Int) (i3 : Int) (hT_i0 : isX3 i0) (hT_i1 : isX3 i1) {s : Int × AH} (hS : (fun r => Sh S r.2) s) : EQ (fX3_copy_b32 F0 i0 i1 i2 i3 s) (gX3_copy_b32 F i0 i1 i2 i3 s) (Sum.elim (fun r => Sh S r.2) (fun r => Sh S r)) := by
  unfold fX3_copy_b32 gX3_copy_b32
  obtain ⟨a4, h⟩ := s
  refine EQ_jt2 ?_
  replace hS : Sh S h := hS
  refine EQ_if Iff.rfl (fun c1 => ?_) (fun c1 => ?_)
  · exact EQ_some hS
  · refine EQ_jgd (show h i1 (-2) = 4 from by rw [kd_X3 hS hT_i1]) ?_
    refine EQ_jb (eX3_part i1 i2 a4 hT_i1 hS) (fun v8 r2 => ?_)
    refine EQ_if Iff.rfl (fun c3 => ?_) (fun c3 => ?_)
    · exact (eX3_copy_j67_32 hF i0 i1 i2 i3 a4 hT_i0 hT_i1 hS)
    · refine EQ_jgd (show h i1 (-2) = 4 from by rw [kd_X3 hS hT_i1]) ?_
      refine EQ_jb (eX3_part i1 i2 a4 hT_i1 hS) (fun v11 r4 => ?_)
      refine EQ_jgd (show h i0 (-2) = 4 from by rw [kd_X3 hS hT_i0]) ?_
      refine EQ_jb2 (hF i0 i1 v11 hT_i0 hT_i1 hS) (fun v13 h14 r5 => ?_)
      replace r5 : Sh S h14 := r5
      refine EQ_jgd (show h14 i0 (-2) = 4 from by rw [kd_X3 r5 hT_i0]) ?_
      refine EQ_jb (eX3_join i0 i3 a4 v13 hT_i0 r5) (fun h16 r6 => ?_)
      exact (eX3_copy_j67_32 hF i0 i1 i2 i3 a4 hT_i0 hT_i1 r6)
noncomputable def gX3_copy_l32 (F : Int → Int → Int → AH → Option (Int × AH)) (i0 : Int) (i1 : Int) (i2 : Int) (i3 : Int) (a4 : Int) (h : AH) : Option (AH) := jit (gX3_copy_b32 F i0 i1 i2 i3) (a4, h)
theorem eX3_copy_l32 {F0 : Int → Int → Int → AH → Option (Int × AH)} {F : Int → Int → Int → AH → Option (Int × AH)} (hF : ∀ (b_a0 : Int) (b_a1 : Int) (b_a2 : Int), isX3 b_a0 → isX3 b_a1 → ∀ {b_h : AH}, Sh S b_h → EQ (F0 b_a0 b_a1 b_a2 b_h) (F b_a0 b_a1 b_a2 b_h) (fun r => Sh S r.2)) (i0 : Int) (i1 : Int) (i2 : Int) (i3 : Int) (a4 : Int) (hT_i0 : isX3 i0) (hT_i1 : isX3 i1) {h : AH} (hS : Sh S h) : EQ (fX3_copy_l32 F0 i0 i1 i2 i3 a4 h) (gX3_copy_l32 F i0 i1 i2 i3 a4 h) (fun r => Sh S r) := EQ_jit (I := (fun r => Sh S r.2)) (fun s hs => eX3_copy_b32 hF i0 i1 i2 i3 hT_i0 hT_i1 hs) hS
noncomputable def gX3_copy_ (F : Int → Int → Int → AH → Option (Int × AH)) (a0 : Int) (a1 : Int) (a2 : Int) (h : AH) : Option (Int × AH) := jg (jI a2 (h (a1 + 1) (-1))) <| jg (jI a2 (h (a1 + 2) (-1))) <| jg (jI a2 (h (a1 + 3) (-1))) <| jg (jI a2 (h (a1 + 4) (-1))) <| jb2 (gX3_add a0 (h (a1 + 1) a2) (h (a1 + 2) a2) (h (a1 + 3) a2) (h (a1 + 4) a2) h) fun v2 h3 => jb (gX3_copy_l32 F a0 a1 a2 v2 0 h3) fun o4 => some (v2, o4)
theorem eX3_copy_ {F0 : Int → Int → Int → AH → Option (Int × AH)} {F : Int → Int → Int → AH → Option (Int × AH)} (hF : ∀ (b_a0 : Int) (b_a1 : Int) (b_a2 : Int), isX3 b_a0 → isX3 b_a1 → ∀ {b_h : AH}, Sh S b_h → EQ (F0 b_a0 b_a1 b_a2 b_h) (F b_a0 b_a1 b_a2 b_h) (fun r => Sh S r.2)) (a0 : Int) (a1 : Int) (a2 : Int) (hT_a0 : isX3 a0) (hT_a1 : isX3 a1) {h : AH} (hS : Sh S h) : EQ (fX3_copy_ F0 a0 a1 a2 h) (gX3_copy_ F a0 a1 a2 h) (fun r => Sh S r.2) := by
  unfold fX3_copy_ gX3_copy_
  refine EQ_jgd (show h a1 (-2) = 4 from by rw [kd_X3 hS hT_a1]) ?_
  refine EQ_jg ⟨fun ⟨_, x0⟩ => (show jI a2 (h (h a1 1) (-1)) ↔ jI a2 (h (a1 + 1) (-1)) from by rw [ft_X3_1 hS hT_a1]).mp x0, fun x0 => ⟨(show h (h a1 1) (-2) = 101 from by rw [ft_X3_1 hS hT_a1, ka_X3_1 hS hT_a1]), (show jI a2 (h (h a1 1) (-1)) ↔ jI a2 (h (a1 + 1) (-1)) from by rw [ft_X3_1 hS hT_a1]).mpr x0⟩⟩ (fun g1 => ?_)
  refine EQ_jgd (show h a1 (-2) = 4 from by rw [kd_X3 hS hT_a1]) ?_
  refine EQ_jg ⟨fun ⟨_, x0⟩ => (show jI a2 (h (h a1 2) (-1)) ↔ jI a2 (h (a1 + 2) (-1)) from by rw [ft_X3_2 hS hT_a1]).mp x0, fun x0 => ⟨(show h (h a1 2) (-2) = 101 from by rw [ft_X3_2 hS hT_a1, ka_X3_2 hS hT_a1]), (show jI a2 (h (h a1 2) (-1)) ↔ jI a2 (h (a1 + 2) (-1)) from by rw [ft_X3_2 hS hT_a1]).mpr x0⟩⟩ (fun g2 => ?_)
  refine EQ_jgd (show h a1 (-2) = 4 from by rw [kd_X3 hS hT_a1]) ?_
  refine EQ_jg ⟨fun ⟨_, x0⟩ => (show jI a2 (h (h a1 3) (-1)) ↔ jI a2 (h (a1 + 3) (-1)) from by rw [ft_X3_3 hS hT_a1]).mp x0, fun x0 => ⟨(show h (h a1 3) (-2) = 101 from by rw [ft_X3_3 hS hT_a1, ka_X3_3 hS hT_a1]), (show jI a2 (h (h a1 3) (-1)) ↔ jI a2 (h (a1 + 3) (-1)) from by rw [ft_X3_3 hS hT_a1]).mpr x0⟩⟩ (fun g3 => ?_)
  refine EQ_jgd (show h a1 (-2) = 4 from by rw [kd_X3 hS hT_a1]) ?_
  refine EQ_jg ⟨fun ⟨_, x0⟩ => (show jI a2 (h (h a1 5) (-1)) ↔ jI a2 (h (a1 + 4) (-1)) from by rw [ft_X3_5 hS hT_a1]).mp x0, fun x0 => ⟨(show h (h a1 5) (-2) = 101 from by rw [ft_X3_5 hS hT_a1, ka_X3_5 hS hT_a1]), (show jI a2 (h (h a1 5) (-1)) ↔ jI a2 (h (a1 + 4) (-1)) from by rw [ft_X3_5 hS hT_a1]).mpr x0⟩⟩ (fun g4 => ?_)
  refine EQ_jgd (show h a0 (-2) = 4 from by rw [kd_X3 hS hT_a0]) ?_
  refine EQ_jb2 (by rw [ft_X3_1 hS hT_a1, ft_X3_2 hS hT_a1, ft_X3_3 hS hT_a1, ft_X3_5 hS hT_a1]; exact eX3_add a0 (h (a1 + 1) a2) (h (a1 + 2) a2) (h (a1 + 3) a2) (h (a1 + 4) a2) hT_a0 hS) (fun v2 h3 r5 => ?_)
  replace r5 : Sh S h3 := r5
  refine EQ_jb (eX3_copy_l32 hF a0 a1 a2 v2 0 hT_a0 hT_a1 r5) (fun o4 r6 => ?_)
  exact EQ_some r6
noncomputable def gX3_copyD : Nat → Int → Int → Int → AH → Option (Int × AH)
  | 0 => fun _ _ _ _ => none
  | d + 1 => gX3_copy_ (gX3_copyD d)
theorem eX3_copyD : ∀ (d : Nat) (a0 : Int) (a1 : Int) (a2 : Int) (hT_a0 : isX3 a0) (hT_a1 : isX3 a1) {h : AH} (hS : Sh S h) , EQ (fX3_copyD d a0 a1 a2 h) (gX3_copyD d a0 a1 a2 h) (fun r => Sh S r.2) := by
  intro d
  induction d with
  | zero => intro a0 a1 a2 hT_a0 hT_a1 h hS; exact EQ_none
  | succ d ih => intro a0 a1 a2 hT_a0 hT_a1 h hS; exact eX3_copy_ ih a0 a1 a2 hT_a0 hT_a1 hS
noncomputable def gX3_copy : Int → Int → Int → AH → Option (Int × AH) := gX3_copyD 40
theorem eX3_copy (a0 : Int) (a1 : Int) (a2 : Int) (hT_a0 : isX3 a0) (hT_a1 : isX3 a1) {h : AH} (hS : Sh S h) : EQ (fX3_copy a0 a1 a2 h) (gX3_copy a0 a1 a2 h) (fun r => Sh S r.2) := eX3_copyD 40 a0 a1 a2 hT_a0 hT_a1 hS
noncomputable def gX1_weight_j90_59 (F : Int → Int → AH → Option (Int)) (a1 : Int) (a2 : Int) (a3 : Int) (a4 : Int) (h : AH) : Option ((Int × Int) ⊕ (Int)) := jl (w32 (a4 + 1)) fun x17 => some (.inl (a3, x17))
theorem eX1_weight_j90_59 {F0 : Int → Int → Int → AH → Option (Int)} {F : Int → Int → AH → Option (Int)} (hF : ∀ (b_a1 : Int) (b_a2 : Int), isX3 b_a1 → ∀ {b_h : AH}, Sh S b_h → EQ (F0 200 b_a1 b_a2 b_h) (F b_a1 b_a2 b_h) (fun _ => True)) (a1 : Int) (a2 : Int) (a3 : Int) (a4 : Int) (hT_a1 : isX3 a1) {h : AH} (hS : Sh S h) : EQ (fX1_weight_j90_59 F0 200 a1 a2 a3 a4 h) (gX1_weight_j90_59 F a1 a2 a3 a4 h) (Sum.elim (fun _ => True) (fun _ => True)) := by
  unfold fX1_weight_j90_59 gX1_weight_j90_59
  refine EQ_jl rfl (fun x17 ex17 => ?_)
  clear ex17
  exact EQ_some trivial
noncomputable def gX1_weight_b59 (F : Int → Int → AH → Option (Int)) (i1 : Int) (i2 : Int) (h : AH) (s : Int × Int) : Option ((Int × Int) ⊕ (Int)) := jt2 s fun a3 a4 => if 3 ≤ a4 then (some (.inr a3)) else (jb (gX3_part i1 i2 a4 h) fun v10 => if v10 < 0 then (gX1_weight_j90_59 F i1 i2 a3 a4 h) else (jb (gX3_part i1 i2 a4 h) fun v13 => jb (F i1 v13 h) fun v15 => jl (w32 (a3 + v15)) fun x16 => gX1_weight_j90_59 F i1 i2 x16 a4 h))
theorem eX1_weight_b59 {F0 : Int → Int → Int → AH → Option (Int)} {F : Int → Int → AH → Option (Int)} (hF : ∀ (b_a1 : Int) (b_a2 : Int), isX3 b_a1 → ∀ {b_h : AH}, Sh S b_h → EQ (F0 200 b_a1 b_a2 b_h) (F b_a1 b_a2 b_h) (fun _ => True)) (i1 : Int) (i2 : Int) (hT_i1 : isX3 i1) (s : Int × Int) {h : AH} (hS : Sh S h) : EQ (fX1_weight_b59 F0 200 i1 i2 h s) (gX1_weight_b59 F i1 i2 h s) (Sum.elim (fun _ => True) (fun _ => True)) := by
  unfold fX1_weight_b59 gX1_weight_b59
  obtain ⟨a3, a4⟩ := s
  refine EQ_jt2 ?_
  refine EQ_if Iff.rfl (fun c1 => ?_) (fun c1 => ?_)
  · exact EQ_some trivial
  · refine EQ_jgd (show h i1 (-2) = 4 from by rw [kd_X3 hS hT_i1]) ?_
    refine EQ_jb (eX3_part i1 i2 a4 hT_i1 hS) (fun v10 r2 => ?_)
    refine EQ_if Iff.rfl (fun c3 => ?_) (fun c3 => ?_)
    · exact (eX1_weight_j90_59 hF i1 i2 a3 a4 hT_i1 hS)
    · refine EQ_jgd (show h i1 (-2) = 4 from by rw [kd_X3 hS hT_i1]) ?_
      refine EQ_jb (eX3_part i1 i2 a4 hT_i1 hS) (fun v13 r4 => ?_)
      refine EQ_jgd (show h 200 (-2) = 2 from by rw [k_200 hS]) ?_
      refine EQ_jb (hF i1 v13 hT_i1 hS) (fun v15 r5 => ?_)
      refine EQ_jl rfl (fun x16 ex16 => ?_)
      clear ex16
      exact (eX1_weight_j90_59 hF i1 i2 x16 a4 hT_i1 hS)
noncomputable def gX1_weight_l59 (F : Int → Int → AH → Option (Int)) (i1 : Int) (i2 : Int) (a3 : Int) (a4 : Int) (h : AH) : Option (Int) := jit (gX1_weight_b59 F i1 i2 h) (a3, a4)
theorem eX1_weight_l59 {F0 : Int → Int → Int → AH → Option (Int)} {F : Int → Int → AH → Option (Int)} (hF : ∀ (b_a1 : Int) (b_a2 : Int), isX3 b_a1 → ∀ {b_h : AH}, Sh S b_h → EQ (F0 200 b_a1 b_a2 b_h) (F b_a1 b_a2 b_h) (fun _ => True)) (i1 : Int) (i2 : Int) (a3 : Int) (a4 : Int) (hT_i1 : isX3 i1) {h : AH} (hS : Sh S h) : EQ (fX1_weight_l59 F0 200 i1 i2 a3 a4 h) (gX1_weight_l59 F i1 i2 a3 a4 h) (fun _ => True) := EQ_jit (I := (fun _ => True)) (fun s _ => eX1_weight_b59 hF i1 i2 hT_i1 s hS) trivial
noncomputable def gX1_weight_j56 (F : Int → Int → AH → Option (Int)) (a1 : Int) (a2 : Int) (a3 : Int) (h : AH) : Option (Int) := jb (gX1_weight_l59 F a1 a2 a3 0 h) fun o6 => some o6
theorem eX1_weight_j56 {F0 : Int → Int → Int → AH → Option (Int)} {F : Int → Int → AH → Option (Int)} (hF : ∀ (b_a1 : Int) (b_a2 : Int), isX3 b_a1 → ∀ {b_h : AH}, Sh S b_h → EQ (F0 200 b_a1 b_a2 b_h) (F b_a1 b_a2 b_h) (fun _ => True)) (a1 : Int) (a2 : Int) (a3 : Int) (hT_a1 : isX3 a1) {h : AH} (hS : Sh S h) : EQ (fX1_weight_j56 F0 200 a1 a2 a3 h) (gX1_weight_j56 F a1 a2 a3 h) (fun _ => True) := by
  unfold fX1_weight_j56 gX1_weight_j56
  refine EQ_jb (eX1_weight_l59 hF a1 a2 a3 0 hT_a1 hS) (fun o6 r1 => ?_)
  exact EQ_some trivial
noncomputable def gX1_weight_j44 (F : Int → Int → AH → Option (Int)) (a1 : Int) (a2 : Int) (a3 : Int) (h : AH) : Option (Int) := jg (jI a2 (h (a1 + 1) (-1))) <| if h (a1 + 1) a2 = 4 then (gX1_weight_j56 F a1 a2 1 h) else (gX1_weight_j56 F a1 a2 a3 h)
theorem eX1_weight_j44 {F0 : Int → Int → Int → AH → Option (Int)} {F : Int → Int → AH → Option (Int)} (hF : ∀ (b_a1 : Int) (b_a2 : Int), isX3 b_a1 → ∀ {b_h : AH}, Sh S b_h → EQ (F0 200 b_a1 b_a2 b_h) (F b_a1 b_a2 b_h) (fun _ => True)) (a1 : Int) (a2 : Int) (a3 : Int) (hT_a1 : isX3 a1) {h : AH} (hS : Sh S h) : EQ (fX1_weight_j44 F0 200 a1 a2 a3 h) (gX1_weight_j44 F a1 a2 a3 h) (fun _ => True) := by
  unfold fX1_weight_j44 gX1_weight_j44
  refine EQ_jgd (show h a1 (-2) = 4 from by rw [kd_X3 hS hT_a1]) ?_
  refine EQ_jg ⟨fun ⟨_, x0⟩ => (show jI a2 (h (h a1 1) (-1)) ↔ jI a2 (h (a1 + 1) (-1)) from by rw [ft_X3_1 hS hT_a1]).mp x0, fun x0 => ⟨(show h (h a1 1) (-2) = 101 from by rw [ft_X3_1 hS hT_a1, ka_X3_1 hS hT_a1]), (show jI a2 (h (h a1 1) (-1)) ↔ jI a2 (h (a1 + 1) (-1)) from by rw [ft_X3_1 hS hT_a1]).mpr x0⟩⟩ (fun g1 => ?_)
  refine EQ_if (show h (h a1 1) a2 = 4 ↔ h (a1 + 1) a2 = 4 from by rw [ft_X3_1 hS hT_a1]) (fun c2 => ?_) (fun c2 => ?_)
  · exact (eX1_weight_j56 hF a1 a2 1 hT_a1 hS)
  · exact (eX1_weight_j56 hF a1 a2 a3 hT_a1 hS)
noncomputable def gX1_weight_ (F : Int → Int → AH → Option (Int)) (a1 : Int) (a2 : Int) (h : AH) : Option (Int) := jg (jI a2 (h (a1 + 1) (-1))) <| if h (a1 + 1) a2 = 2 then (jg (jI a2 (h (a1 + 2) (-1))) <| if h (a1 + 2) a2 < 26 then (jl (w32 (1 + 0)) fun x3 => gX1_weight_j44 F a1 a2 x3 h) else (jg (jI (w32 (h (a1 + 2) a2 - 26)) 10) <| jl (w32 (1 + h 267 (w32 (h (a1 + 2) a2 - 26)))) fun x4 => gX1_weight_j44 F a1 a2 x4 h)) else (gX1_weight_j44 F a1 a2 0 h)
theorem eX1_weight_ {F0 : Int → Int → Int → AH → Option (Int)} {F : Int → Int → AH → Option (Int)} (hF : ∀ (b_a1 : Int) (b_a2 : Int), isX3 b_a1 → ∀ {b_h : AH}, Sh S b_h → EQ (F0 200 b_a1 b_a2 b_h) (F b_a1 b_a2 b_h) (fun _ => True)) (a1 : Int) (a2 : Int) (hT_a1 : isX3 a1) {h : AH} (hS : Sh S h) : EQ (fX1_weight_ F0 200 a1 a2 h) (gX1_weight_ F a1 a2 h) (fun _ => True) := by
  unfold fX1_weight_ gX1_weight_
  refine EQ_jgd (show h a1 (-2) = 4 from by rw [kd_X3 hS hT_a1]) ?_
  refine EQ_jg ⟨fun ⟨_, x0⟩ => (show jI a2 (h (h a1 1) (-1)) ↔ jI a2 (h (a1 + 1) (-1)) from by rw [ft_X3_1 hS hT_a1]).mp x0, fun x0 => ⟨(show h (h a1 1) (-2) = 101 from by rw [ft_X3_1 hS hT_a1, ka_X3_1 hS hT_a1]), (show jI a2 (h (h a1 1) (-1)) ↔ jI a2 (h (a1 + 1) (-1)) from by rw [ft_X3_1 hS hT_a1]).mpr x0⟩⟩ (fun g1 => ?_)
  refine EQ_if (show h (h a1 1) a2 = 2 ↔ h (a1 + 1) a2 = 2 from by rw [ft_X3_1 hS hT_a1]) (fun c2 => ?_) (fun c2 => ?_)
  · refine EQ_jgd (show h a1 (-2) = 4 from by rw [kd_X3 hS hT_a1]) ?_
    refine EQ_jg ⟨fun ⟨_, x0⟩ => (show jI a2 (h (h a1 2) (-1)) ↔ jI a2 (h (a1 + 2) (-1)) from by rw [ft_X3_2 hS hT_a1]).mp x0, fun x0 => ⟨(show h (h a1 2) (-2) = 101 from by rw [ft_X3_2 hS hT_a1, ka_X3_2 hS hT_a1]), (show jI a2 (h (h a1 2) (-1)) ↔ jI a2 (h (a1 + 2) (-1)) from by rw [ft_X3_2 hS hT_a1]).mpr x0⟩⟩ (fun g3 => ?_)
    refine EQ_if (show h (h a1 2) a2 < 26 ↔ h (a1 + 2) a2 < 26 from by rw [ft_X3_2 hS hT_a1]) (fun c4 => ?_) (fun c4 => ?_)
    · refine EQ_jl rfl (fun x3 ex3 => ?_)
      clear ex3
      exact (eX1_weight_j44 hF a1 a2 x3 hT_a1 hS)
    · refine EQ_jgd (show h 200 (-2) = 2 from by rw [k_200 hS]) ?_
      refine EQ_jgd (show h a1 (-2) = 4 from by rw [kd_X3 hS hT_a1]) ?_
      refine EQ_jgd ⟨(show h (h a1 2) (-2) = 101 from by rw [ft_X3_2 hS hT_a1, ka_X3_2 hS hT_a1]), ((show jI a2 (h (h a1 2) (-1)) ↔ jI a2 (h (a1 + 2) (-1)) from by rw [ft_X3_2 hS hT_a1]).mpr g3)⟩ ?_
      refine EQ_jg ⟨fun ⟨_, x0⟩ => (show jI (w32 (h (h a1 2) a2 - 26)) (h (h 200 5) (-1)) ↔ jI (w32 (h (a1 + 2) a2 - 26)) 10 from by rw [ft_X3_2 hS hT_a1, r_200_5 hS, l_267 hS]).mp x0, fun x0 => ⟨(show h (h 200 5) (-2) = 101 from by rw [r_200_5 hS, k_267 hS]), (show jI (w32 (h (h a1 2) a2 - 26)) (h (h 200 5) (-1)) ↔ jI (w32 (h (a1 + 2) a2 - 26)) 10 from by rw [ft_X3_2 hS hT_a1, r_200_5 hS, l_267 hS]).mpr x0⟩⟩ (fun g5 => ?_)
      refine EQ_jl (by rw [r_200_5 hS, ft_X3_2 hS hT_a1]) (fun x4 ex4 => ?_)
      clear ex4
      exact (eX1_weight_j44 hF a1 a2 x4 hT_a1 hS)
  · exact (eX1_weight_j44 hF a1 a2 0 hT_a1 hS)
noncomputable def gX1_weightD : Nat → Int → Int → AH → Option (Int)
  | 0 => fun _ _ _ => none
  | d + 1 => gX1_weight_ (gX1_weightD d)
theorem eX1_weightD : ∀ (d : Nat) (a1 : Int) (a2 : Int) (hT_a1 : isX3 a1) {h : AH} (hS : Sh S h) , EQ (fX1_weightD d 200 a1 a2 h) (gX1_weightD d a1 a2 h) (fun _ => True) := by
  intro d
  induction d with
  | zero => intro a1 a2 hT_a1 h hS; exact EQ_none
  | succ d ih => intro a1 a2 hT_a1 h hS; exact eX1_weight_ ih a1 a2 hT_a1 hS
noncomputable def gX1_weight : Int → Int → AH → Option (Int) := gX1_weightD 40
theorem eX1_weight (a1 : Int) (a2 : Int) (hT_a1 : isX3 a1) {h : AH} (hS : Sh S h) : EQ (fX1_weight 200 a1 a2 h) (gX1_weight a1 a2 h) (fun _ => True) := eX1_weightD 40 a1 a2 hT_a1 hS
noncomputable def gX1_addOwn_b42 (i2 : Int) (i3 : Int) (i5 : Int) (i6 : Int) (s : Int × AH) : Option ((Int × AH) ⊕ (AH)) := jt2 s fun a7 h => if 2 ≤ a7 then (some (.inr h)) else (jg (h i5 (-2) = 101 ∧ jI a7 (h i5 (-1))) <| jg (jI (w32 (w32 (3 * h 200 7) + a7)) 30) <| jl (jst h 266 (w32 (w32 (3 * h 200 7) + a7)) (h i5 a7)) fun h15 => jl (w32 (a7 + 1)) fun x16 => some (.inl (x16, h15)))
theorem eX1_addOwn_b42 (i2 : Int) (i3 : Int) (i5 : Int) (i6 : Int) (hT_i2 : isX3 i2) {s : Int × AH} (hS : (fun r => Sh S r.2) s) : EQ (fX1_addOwn_b42 200 i2 i3 i5 i6 s) (gX1_addOwn_b42 i2 i3 i5 i6 s) (Sum.elim (fun r => Sh S r.2) (fun r => Sh S r)) := by
  unfold fX1_addOwn_b42 gX1_addOwn_b42
  obtain ⟨a7, h⟩ := s
  refine EQ_jt2 ?_
  replace hS : Sh S h := hS
  refine EQ_if Iff.rfl (fun c1 => ?_) (fun c1 => ?_)
  · exact EQ_some hS
  · refine EQ_jgd (show h 200 (-2) = 2 from by rw [k_200 hS]) ?_
    refine EQ_jgd (show h 200 (-2) = 2 from by rw [k_200 hS]) ?_
    refine EQ_jg Iff.rfl (fun g2 => ?_)
    refine EQ_jg ⟨fun ⟨_, _, x0⟩ => (show jI (w32 (w32 (3 * h 200 7) + a7)) (h (h 200 4) (-1)) ↔ jI (w32 (w32 (3 * h 200 7) + a7)) 30 from by rw [r_200_4 hS, l_266 hS]).mp x0, fun x0 => ⟨(show h (h 200 4) (-2) = 101 from by rw [r_200_4 hS, k_266 hS]), (show 200 ≤ h 200 4 from by rw [r_200_4 hS]; exact (by decide)), (show jI (w32 (w32 (3 * h 200 7) + a7)) (h (h 200 4) (-1)) ↔ jI (w32 (w32 (3 * h 200 7) + a7)) 30 from by rw [r_200_4 hS, l_266 hS]).mpr x0⟩⟩ (fun g3 => ?_)
    refine EQ_jl (by rw [r_200_4 hS]) (fun h15 eh15 => ?_)
    have s4 := Sh_of eh15 (Sh_sta hS (by decide +kernel) (jI_nn g3) (fun e => absurd ((k_266 hS).symm.trans e) (by decide)))
    clear eh15
    refine EQ_jl rfl (fun x16 ex16 => ?_)
    clear ex16
    exact EQ_some s4
noncomputable def gX1_addOwn_l42 (i2 : Int) (i3 : Int) (i5 : Int) (i6 : Int) (a7 : Int) (h : AH) : Option (AH) := jit (gX1_addOwn_b42 i2 i3 i5 i6) (a7, h)
theorem eX1_addOwn_l42 (i2 : Int) (i3 : Int) (i5 : Int) (i6 : Int) (a7 : Int) (hT_i2 : isX3 i2) {h : AH} (hS : Sh S h) : EQ (fX1_addOwn_l42 200 i2 i3 i5 i6 a7 h) (gX1_addOwn_l42 i2 i3 i5 i6 a7 h) (fun r => Sh S r) := EQ_jit (I := (fun r => Sh S r.2)) (fun s hs => eX1_addOwn_b42 i2 i3 i5 i6 hT_i2 hs) hS
noncomputable def gX1_addOwn (a1 : Int) (a2 : Int) (a3 : Int) (a4 : Int) (a5 : Int) (a6 : Int) (h : AH) : Option (AH) := jg (jI (h 200 7) 10 ∧ ((a1 : Int) = 0 ∨ h a1 (-2) = 1)) <| jl (jst h 268 (h 200 7) a1) fun h1 => jb2 (gX3_copy 258 a2 a3 h1) fun v3 h4 => jg (jI (h1 200 7) 10) <| jl (jst h4 264 (h1 200 7) v3) fun h5 => jg (jI (h5 200 7) 10) <| jl (jst h5 265 (h5 200 7) a4) fun h6 => jb (gX1_addOwn_l42 a2 a3 a5 a6 0 h6) fun o7 => jg (jI (w32 (w32 (3 * o7 200 7) + 2)) 30) <| jl (jst o7 266 (w32 (w32 (3 * o7 200 7) + 2)) a6) fun h9 => jb (gX1_weight a2 a3 h9) fun v11 => jg (jI (h9 200 7) 10) <| jl (jst h9 267 (h9 200 7) v11) fun h12 => jl (jst h12 200 7 (w32 (h12 200 7 + 1))) fun h13 => some h13
theorem eX1_addOwn (a1 : Int) (a2 : Int) (a3 : Int) (a4 : Int) (a5 : Int) (a6 : Int) (hT_a2 : isX3 a2) {h : AH} (hS : Sh S h) : EQ (fX1_addOwn 200 a1 a2 a3 a4 a5 a6 h) (gX1_addOwn a1 a2 a3 a4 a5 a6 h) (fun r => Sh S r) := by
  unfold fX1_addOwn gX1_addOwn
  refine EQ_jgd (show h 200 (-2) = 2 from by rw [k_200 hS]) ?_
  refine EQ_jgd (show h 200 (-2) = 2 from by rw [k_200 hS]) ?_
  refine EQ_jg ⟨fun ⟨_, _, x0, x1⟩ => ⟨(show jI (h 200 7) (h (h 200 6) (-1)) ↔ jI (h 200 7) 10 from by rw [r_200_6 hS, l_268 hS]).mp x0, x1⟩, fun ⟨x0, x1⟩ => ⟨(show h (h 200 6) (-2) = 107 from by rw [r_200_6 hS, k_268 hS]), (show 200 ≤ h 200 6 from by rw [r_200_6 hS]; exact (by decide)), (show jI (h 200 7) (h (h 200 6) (-1)) ↔ jI (h 200 7) 10 from by rw [r_200_6 hS, l_268 hS]).mpr x0, x1⟩⟩ (fun g1 => ?_)
  refine EQ_jl (by rw [r_200_6 hS]) (fun h1 eh1 => ?_)
  have s2 := Sh_of eh1 (Sh_stA hS (by decide +kernel) (jI_nn (g1.1)))
  clear eh1
  refine EQ_jgd (show h1 200 (-2) = 2 from by rw [k_200 s2]) ?_
  refine EQ_jgd (show h1 200 (-2) = 2 from by rw [k_200 s2]) ?_
  refine EQ_jgd (show h1 200 (-2) = 2 from by rw [k_200 s2]) ?_
  refine EQ_jgd (show h1 (h1 200 1) (-2) = 4 from by rw [r_200_1 s2, k_258 s2]) ?_
  refine EQ_jb2 (by rw [r_200_1 s2]; exact eX3_copy 258 a2 a3 (by unfold isX3; decide) hT_a2 s2) (fun v3 h4 r3 => ?_)
  replace r3 : Sh S h4 := r3
  refine EQ_jg ⟨fun ⟨_, _, x0⟩ => (show jI (h1 200 7) (h4 (h1 200 2) (-1)) ↔ jI (h1 200 7) 10 from by rw [r_200_2 s2, l_264 r3]).mp x0, fun x0 => ⟨(show h4 (h1 200 2) (-2) = 101 from by rw [r_200_2 s2, k_264 r3]), (show 200 ≤ h1 200 2 from by rw [r_200_2 s2]; exact (by decide)), (show jI (h1 200 7) (h4 (h1 200 2) (-1)) ↔ jI (h1 200 7) 10 from by rw [r_200_2 s2, l_264 r3]).mpr x0⟩⟩ (fun g4 => ?_)
  refine EQ_jl (by rw [r_200_2 s2]) (fun h5 eh5 => ?_)
  have s5 := Sh_of eh5 (Sh_sta r3 (by decide +kernel) (jI_nn g4) (fun e => absurd ((k_264 r3).symm.trans e) (by decide)))
  clear eh5
  refine EQ_jgd (show h5 200 (-2) = 2 from by rw [k_200 s5]) ?_
  refine EQ_jgd (show h5 200 (-2) = 2 from by rw [k_200 s5]) ?_
  refine EQ_jg ⟨fun ⟨_, _, x0⟩ => (show jI (h5 200 7) (h5 (h5 200 3) (-1)) ↔ jI (h5 200 7) 10 from by rw [r_200_3 s5, l_265 s5]).mp x0, fun x0 => ⟨(show h5 (h5 200 3) (-2) = 101 from by rw [r_200_3 s5, k_265 s5]), (show 200 ≤ h5 200 3 from by rw [r_200_3 s5]; exact (by decide)), (show jI (h5 200 7) (h5 (h5 200 3) (-1)) ↔ jI (h5 200 7) 10 from by rw [r_200_3 s5, l_265 s5]).mpr x0⟩⟩ (fun g6 => ?_)
  refine EQ_jl (by rw [r_200_3 s5]) (fun h6 eh6 => ?_)
  have s7 := Sh_of eh6 (Sh_sta s5 (by decide +kernel) (jI_nn g6) (fun e => absurd ((k_265 s5).symm.trans e) (by decide)))
  clear eh6
  refine EQ_jb (eX1_addOwn_l42 a2 a3 a5 a6 0 hT_a2 s7) (fun o7 r8 => ?_)
  refine EQ_jgd (show o7 200 (-2) = 2 from by rw [k_200 r8]) ?_
  refine EQ_jgd (show o7 200 (-2) = 2 from by rw [k_200 r8]) ?_
  refine EQ_jg ⟨fun ⟨_, _, x0⟩ => (show jI (w32 (w32 (3 * o7 200 7) + 2)) (o7 (o7 200 4) (-1)) ↔ jI (w32 (w32 (3 * o7 200 7) + 2)) 30 from by rw [r_200_4 r8, l_266 r8]).mp x0, fun x0 => ⟨(show o7 (o7 200 4) (-2) = 101 from by rw [r_200_4 r8, k_266 r8]), (show 200 ≤ o7 200 4 from by rw [r_200_4 r8]; exact (by decide)), (show jI (w32 (w32 (3 * o7 200 7) + 2)) (o7 (o7 200 4) (-1)) ↔ jI (w32 (w32 (3 * o7 200 7) + 2)) 30 from by rw [r_200_4 r8, l_266 r8]).mpr x0⟩⟩ (fun g9 => ?_)
  refine EQ_jl (by rw [r_200_4 r8]) (fun h9 eh9 => ?_)
  have s10 := Sh_of eh9 (Sh_sta r8 (by decide +kernel) (jI_nn g9) (fun e => absurd ((k_266 r8).symm.trans e) (by decide)))
  clear eh9
  refine EQ_jgd (show h9 200 (-2) = 2 from by rw [k_200 s10]) ?_
  refine EQ_jgd (show h9 200 (-2) = 2 from by rw [k_200 s10]) ?_
  refine EQ_jgd (show h9 200 (-2) = 2 from by rw [k_200 s10]) ?_
  refine EQ_jb (eX1_weight a2 a3 hT_a2 s10) (fun v11 r11 => ?_)
  refine EQ_jg ⟨fun ⟨_, _, x0⟩ => (show jI (h9 200 7) (h9 (h9 200 5) (-1)) ↔ jI (h9 200 7) 10 from by rw [r_200_5 s10, l_267 s10]).mp x0, fun x0 => ⟨(show h9 (h9 200 5) (-2) = 101 from by rw [r_200_5 s10, k_267 s10]), (show 200 ≤ h9 200 5 from by rw [r_200_5 s10]; exact (by decide)), (show jI (h9 200 7) (h9 (h9 200 5) (-1)) ↔ jI (h9 200 7) 10 from by rw [r_200_5 s10, l_267 s10]).mpr x0⟩⟩ (fun g12 => ?_)
  refine EQ_jl (by rw [r_200_5 s10]) (fun h12 eh12 => ?_)
  have s13 := Sh_of eh12 (Sh_sta s10 (by decide +kernel) (jI_nn g12) (fun e => absurd ((k_267 s10).symm.trans e) (by decide)))
  clear eh12
  refine EQ_jgd (show h12 200 (-2) = 2 from by rw [k_200 s13]) ?_
  refine EQ_jgd ⟨(show h12 200 (-2) = 2 from by rw [k_200 s13]), (show (200 : Int) ≤ 200 from (by decide))⟩ ?_
  refine EQ_jl rfl (fun h13 eh13 => ?_)
  have s14 := Sh_of eh13 (Sh_sto s13 (a := 200) (i := 7) (by decide +kernel))
  clear eh13
  exact EQ_some s14
noncomputable def gX1_act (h : AH) : Option (Int × AH) := if h 200 53 = 0 then (jb2 (gX1_takeTape h) fun v3 h4 => jl (jst h4 324 0 0) fun h5 => jb (gX13_begin 440 v3 324 h5) fun h7 => jb (gX13_own h7) fun h9 => jb2 (gX13_result h9) fun v11 h12 => if 0 ≤ v11 then (jb2 (gX12_begin 1 v3 h12) fun v15 h16 => if v15 = 0 then (some ((-3), h16)) else (jb (gX12_put_2 440 v3 h16) fun h19 => jb (gX12_end h19) fun h21 => jb2 (gX13_ownName h21) fun v23 h24 => jb (gX1_addOwn v23 324 (h24 441 23) (h24 441 13) 444 (h24 441 24) h24) fun h26 => some (h26 200 7, h26))) else (some (v11, h12))) else (some ((-5), h))
theorem eX1_act {h : AH} (hS : Sh S h) : EQ (fX1_act 200 h) (gX1_act h) (fun r => Sh S r.2) := by
  unfold fX1_act gX1_act
  refine EQ_jgd (show h 200 (-2) = 2 from by rw [k_200 hS]) ?_
  refine EQ_if Iff.rfl (fun c1 => ?_) (fun c1 => ?_)
  · refine EQ_jgd (show h 200 (-2) = 2 from by rw [k_200 hS]) ?_
    refine EQ_jb2 (eX1_takeTape hS) (fun v3 h4 r2 => ?_)
    replace r2 : Sh S h4 := r2
    refine EQ_jgd (show h4 200 (-2) = 2 from by rw [k_200 r2]) ?_
    refine EQ_jgd ⟨(show h4 (h4 200 20) (-2) = 4 from by rw [r_200_20 r2, k_324 r2]), (show 200 ≤ h4 200 20 from by rw [r_200_20 r2]; exact (by decide))⟩ ?_
    refine EQ_jl (by rw [r_200_20 r2]) (fun h5 eh5 => ?_)
    have s3 := Sh_of eh5 (Sh_sto r2 (a := 324) (i := 0) (by decide +kernel))
    clear eh5
    refine EQ_jgd (show h5 200 (-2) = 2 from by rw [k_200 s3]) ?_
    refine EQ_jgd (show h5 200 (-2) = 2 from by rw [k_200 s3]) ?_
    refine EQ_jgd (show h5 200 (-2) = 2 from by rw [k_200 s3]) ?_
    refine EQ_jgd (show h5 (h5 200 57) (-2) = 14 from by rw [r_200_57 s3, k_441 s3]) ?_
    refine EQ_jb (by rw [r_200_57 s3, r_200_54 s3, r_200_20 s3]; exact eX13_begin 440 v3 324 (by unfold isX3; decide) s3) (fun h7 r4 => ?_)
    refine EQ_jgd (show h7 200 (-2) = 2 from by rw [k_200 r4]) ?_
    refine EQ_jgd (show h7 (h7 200 57) (-2) = 14 from by rw [r_200_57 r4, k_441 r4]) ?_
    refine EQ_jb (by rw [r_200_57 r4]; exact eX13_own r4) (fun h9 r5 => ?_)
    refine EQ_jgd (show h9 200 (-2) = 2 from by rw [k_200 r5]) ?_
    refine EQ_jgd (show h9 (h9 200 57) (-2) = 14 from by rw [r_200_57 r5, k_441 r5]) ?_
    refine EQ_jb2 (by rw [r_200_57 r5]; exact eX13_result r5) (fun v11 h12 r6 => ?_)
    replace r6 : Sh S h12 := r6
    refine EQ_if Iff.rfl (fun c7 => ?_) (fun c7 => ?_)
    · refine EQ_jgd (show h12 200 (-2) = 2 from by rw [k_200 r6]) ?_
      refine EQ_jgd (show h12 (h12 200 52) (-2) = 13 from by rw [r_200_52 r6, k_434 r6]) ?_
      refine EQ_jb2 (by rw [r_200_52 r6]; exact eX12_begin 1 v3 r6) (fun v15 h16 r8 => ?_)
      replace r8 : Sh S h16 := r8
      refine EQ_if Iff.rfl (fun c9 => ?_) (fun c9 => ?_)
      · exact EQ_some r8
      · refine EQ_jgd (show h16 200 (-2) = 2 from by rw [k_200 r8]) ?_
        refine EQ_jgd (show h16 200 (-2) = 2 from by rw [k_200 r8]) ?_
        refine EQ_jgd (show h16 (h16 200 52) (-2) = 13 from by rw [r_200_52 r8, k_434 r8]) ?_
        refine EQ_jb (by rw [r_200_52 r8, r_200_54 r8]; exact eX12_put_2 440 v3 r8) (fun h19 r10 => ?_)
        refine EQ_jgd (show h19 200 (-2) = 2 from by rw [k_200 r10]) ?_
        refine EQ_jgd (show h19 (h19 200 52) (-2) = 13 from by rw [r_200_52 r10, k_434 r10]) ?_
        refine EQ_jb (by rw [r_200_52 r10]; exact eX12_end r10) (fun h21 r11 => ?_)
        refine EQ_jgd (show h21 200 (-2) = 2 from by rw [k_200 r11]) ?_
        refine EQ_jgd (show h21 (h21 200 57) (-2) = 14 from by rw [r_200_57 r11, k_441 r11]) ?_
        refine EQ_jb2 (by rw [r_200_57 r11]; exact eX13_ownName r11) (fun v23 h24 r12 => ?_)
        replace r12 : Sh S h24 := r12
        refine EQ_jgd (show h24 200 (-2) = 2 from by rw [k_200 r12]) ?_
        refine EQ_jgd (show h24 200 (-2) = 2 from by rw [k_200 r12]) ?_
        refine EQ_jgd (show h24 (h24 200 57) (-2) = 14 from by rw [r_200_57 r12, k_441 r12]) ?_
        refine EQ_jgd (show h24 200 (-2) = 2 from by rw [k_200 r12]) ?_
        refine EQ_jgd (show h24 (h24 200 57) (-2) = 14 from by rw [r_200_57 r12, k_441 r12]) ?_
        refine EQ_jgd (show h24 200 (-2) = 2 from by rw [k_200 r12]) ?_
        refine EQ_jgd (show h24 (h24 200 57) (-2) = 14 from by rw [r_200_57 r12, k_441 r12]) ?_
        refine EQ_jgd (show h24 200 (-2) = 2 from by rw [k_200 r12]) ?_
        refine EQ_jgd (show h24 (h24 200 57) (-2) = 14 from by rw [r_200_57 r12, k_441 r12]) ?_
        refine EQ_jgd (show h24 200 (-2) = 2 from by rw [k_200 r12]) ?_
        refine EQ_jb (by rw [r_200_20 r12, r_200_57 r12, r_441_12 r12]; exact eX1_addOwn v23 324 (h24 441 23) (h24 441 13) 444 (h24 441 24) (by unfold isX3; decide) r12) (fun h26 r13 => ?_)
        refine EQ_jgd (show h26 200 (-2) = 2 from by rw [k_200 r13]) ?_
        exact EQ_some r13
    · exact EQ_some r6
  · exact EQ_some hS
noncomputable def gX5_begin (h : AH) : Option (AH) := jb (fJ6_fill 316 0 h) fun h2 => jb (fJ6_fill 317 0 h2) fun h4 => jb (fJ6_fill_2 321 0 h4) fun h6 => jl (jst h6 314 0 0) fun h7 => some h7
theorem eX5_begin {h : AH} (hS : Sh S h) : EQ (fX5_begin 307 h) (gX5_begin h) (fun r => Sh S r) := by
  unfold fX5_begin gX5_begin
  refine EQ_jgd (show h 307 (-2) = 6 from by rw [k_307 hS]) ?_
  refine EQ_jb (by rw [r_307_11 hS]; exact wJ6_fill 316 0 hS) (fun h2 r1 => ?_)
  refine EQ_jgd (show h2 307 (-2) = 6 from by rw [k_307 r1]) ?_
  refine EQ_jb (by rw [r_307_12 r1]; exact wJ6_fill 317 0 r1) (fun h4 r2 => ?_)
  refine EQ_jgd (show h4 307 (-2) = 6 from by rw [k_307 r2]) ?_
  refine EQ_jb (by rw [r_307_16 r2]; exact wJ6_fill_2 321 0 r2) (fun h6 r3 => ?_)
  refine EQ_jgd (show h6 307 (-2) = 6 from by rw [k_307 r3]) ?_
  refine EQ_jgd ⟨(show h6 (h6 307 9) (-2) = 101 from by rw [r_307_9 r3, k_314 r3]), (show 200 ≤ h6 307 9 from by rw [r_307_9 r3]; exact (by decide)), (show jI 0 (h6 (h6 307 9) (-1)) from by rw [r_307_9 r3, l_314 r3]; unfold jI; decide)⟩ ?_
  refine EQ_jl (by rw [r_307_9 r3]) (fun h7 eh7 => ?_)
  have s4 := Sh_of eh7 (Sh_sta r3 (by decide +kernel) (by decide) (fun e => absurd ((k_314 r3).symm.trans e) (by decide)))
  clear eh7
  exact EQ_some s4
noncomputable def gX5_points (h : AH) : Option (Int) := some (h (h 200 16) 18)
theorem eX5_points {h : AH} (hS : Sh S h) : EQ (fX5_points 307 h) (gX5_points h) (fun _ => True) := by
  unfold fX5_points gX5_points
  refine EQ_jgd (show h 307 (-2) = 6 from by rw [k_307 hS]) ?_
  refine EQ_jgd (show h (h 307 22) (-2) = 2 from by rw [r_307_22 hS, k_200 hS]) ?_
  refine EQ_jgd (show h (h (h 307 22) 16) (-2) = 5 from by rw [r_307_22 hS, kd_X4 hS (dy_200_16 hS)]) ?_
  exact EQ_some' (by rw [r_307_22 hS]) trivial
noncomputable def gX4_valueAt_b28 (i0 : Int) (i2 : Int) (h : AH) (s : Int × Int) : Option ((Int × Int) ⊕ (Int)) := jt2 s fun a3 a4 => if a4 ≤ i2 then (some (.inr a3)) else (jg (jI a4 3) <| jb (gX4_valuesOf (h (i0 + 1) a4)) fun v9 => jg (¬ v9 = (0 : Int)) <| jl (jdiv a3 v9) fun x10 => jl (w32 (a4 + (-1))) fun x11 => some (.inl (x10, x11)))
theorem eX4_valueAt_b28 (i0 : Int) (i2 : Int) (hT_i0 : isX4 i0) (s : Int × Int) {h : AH} (hS : Sh S h) : EQ (fX4_valueAt_b28 i0 i2 h s) (gX4_valueAt_b28 i0 i2 h s) (Sum.elim (fun _ => True) (fun _ => True)) := by
  unfold fX4_valueAt_b28 gX4_valueAt_b28
  obtain ⟨a3, a4⟩ := s
  refine EQ_jt2 ?_
  refine EQ_if Iff.rfl (fun c1 => ?_) (fun c1 => ?_)
  · exact EQ_some trivial
  · refine EQ_jgd (show h i0 (-2) = 5 from by rw [kd_X4 hS hT_i0]) ?_
    refine EQ_jg ⟨fun ⟨_, x0⟩ => (show jI a4 (h (h i0 0) (-1)) ↔ jI a4 3 from by rw [ft_X4_0 hS hT_i0, la_X4_0 hS hT_i0]).mp x0, fun x0 => ⟨(show h (h i0 0) (-2) = 101 from by rw [ft_X4_0 hS hT_i0, ka_X4_0 hS hT_i0]), (show jI a4 (h (h i0 0) (-1)) ↔ jI a4 3 from by rw [ft_X4_0 hS hT_i0, la_X4_0 hS hT_i0]).mpr x0⟩⟩ (fun g2 => ?_)
    refine EQ_jb (by rw [ft_X4_0 hS hT_i0]; exact eX4_valuesOf (h (i0 + 1) a4)) (fun v9 r3 => ?_)
    refine EQ_jg Iff.rfl (fun g4 => ?_)
    refine EQ_jl rfl (fun x10 ex10 => ?_)
    clear ex10
    refine EQ_jl rfl (fun x11 ex11 => ?_)
    clear ex11
    exact EQ_some trivial
noncomputable def gX4_valueAt_l28 (i0 : Int) (i2 : Int) (a3 : Int) (a4 : Int) (h : AH) : Option (Int) := jit (gX4_valueAt_b28 i0 i2 h) (a3, a4)
theorem eX4_valueAt_l28 (i0 : Int) (i2 : Int) (a3 : Int) (a4 : Int) (hT_i0 : isX4 i0) {h : AH} (hS : Sh S h) : EQ (fX4_valueAt_l28 i0 i2 a3 a4 h) (gX4_valueAt_l28 i0 i2 a3 a4 h) (fun _ => True) := EQ_jit (I := (fun _ => True)) (fun s _ => eX4_valueAt_b28 i0 i2 hT_i0 s hS) trivial
noncomputable def gX4_valueAt (a0 : Int) (a1 : Int) (a2 : Int) (h : AH) : Option (Int) := if h a0 17 = 0 then (jg (jI (w32 (w32 (3 * a1) + a2)) 36) <| some (h (a0 + 6) (w32 (w32 (3 * a1) + a2)))) else (jl (w32 (h a0 1 - 1)) fun x2 => jb (gX4_valueAt_l28 a0 a2 a1 x2 h) fun o3 => jg (jI a2 3) <| jb (gX4_valuesOf (h (a0 + 1) a2)) fun v6 => jg (¬ v6 = (0 : Int)) <| some (jrem o3 v6))
theorem eX4_valueAt (a0 : Int) (a1 : Int) (a2 : Int) (hT_a0 : isX4 a0) {h : AH} (hS : Sh S h) : EQ (fX4_valueAt a0 a1 a2 h) (gX4_valueAt a0 a1 a2 h) (fun _ => True) := by
  unfold fX4_valueAt gX4_valueAt
  refine EQ_jgd (show h a0 (-2) = 5 from by rw [kd_X4 hS hT_a0]) ?_
  refine EQ_if Iff.rfl (fun c1 => ?_) (fun c1 => ?_)
  · refine EQ_jgd (show h a0 (-2) = 5 from by rw [kd_X4 hS hT_a0]) ?_
    refine EQ_jg ⟨fun ⟨_, x0⟩ => (show jI (w32 (w32 (3 * a1) + a2)) (h (h a0 9) (-1)) ↔ jI (w32 (w32 (3 * a1) + a2)) 36 from by rw [ft_X4_9 hS hT_a0, la_X4_9 hS hT_a0]).mp x0, fun x0 => ⟨(show h (h a0 9) (-2) = 101 from by rw [ft_X4_9 hS hT_a0, ka_X4_9 hS hT_a0]), (show jI (w32 (w32 (3 * a1) + a2)) (h (h a0 9) (-1)) ↔ jI (w32 (w32 (3 * a1) + a2)) 36 from by rw [ft_X4_9 hS hT_a0, la_X4_9 hS hT_a0]).mpr x0⟩⟩ (fun g2 => ?_)
    exact EQ_some' (by rw [ft_X4_9 hS hT_a0]) trivial
  · refine EQ_jgd (show h a0 (-2) = 5 from by rw [kd_X4 hS hT_a0]) ?_
    refine EQ_jl rfl (fun x2 ex2 => ?_)
    clear ex2
    refine EQ_jb (eX4_valueAt_l28 a0 a2 a1 x2 hT_a0 hS) (fun o3 r3 => ?_)
    refine EQ_jgd (show h a0 (-2) = 5 from by rw [kd_X4 hS hT_a0]) ?_
    refine EQ_jg ⟨fun ⟨_, x0⟩ => (show jI a2 (h (h a0 0) (-1)) ↔ jI a2 3 from by rw [ft_X4_0 hS hT_a0, la_X4_0 hS hT_a0]).mp x0, fun x0 => ⟨(show h (h a0 0) (-2) = 101 from by rw [ft_X4_0 hS hT_a0, ka_X4_0 hS hT_a0]), (show jI a2 (h (h a0 0) (-1)) ↔ jI a2 3 from by rw [ft_X4_0 hS hT_a0, la_X4_0 hS hT_a0]).mpr x0⟩⟩ (fun g4 => ?_)
    refine EQ_jb (by rw [ft_X4_0 hS hT_a0]; exact eX4_valuesOf (h (a0 + 1) a2)) (fun v6 r5 => ?_)
    refine EQ_jg Iff.rfl (fun g6 => ?_)
    exact EQ_some trivial
noncomputable def gX5_isFresh_b2 (i1 : Int) (h : AH) (a2 : Int) : Option ((Int) ⊕ ((Unit) ⊕ (Unit))) := jb (gX5_points h) fun v6 => if v6 ≤ a2 then (some (.inr (.inr ()))) else (jg (jI (w32 (w32 (i1 * 256) + a2)) 30976) <| jg (jI a2 256) <| if h 312 (w32 (w32 (i1 * 256) + a2)) = h 320 a2 then (jl (w32 (a2 + 1)) fun x9 => some (.inl x9)) else (some (.inr (.inl ()))))
theorem eX5_isFresh_b2 (i1 : Int) (a2 : Int) {h : AH} (hS : Sh S h) : EQ (fX5_isFresh_b2 307 i1 h a2) (gX5_isFresh_b2 i1 h a2) (Sum.elim (fun _ => True) (Sum.elim (fun _ => True) (fun _ => True))) := by
  unfold fX5_isFresh_b2 gX5_isFresh_b2
  refine EQ_jgd (show h 307 (-2) = 6 from by rw [k_307 hS]) ?_
  refine EQ_jb (eX5_points hS) (fun v6 r1 => ?_)
  refine EQ_if Iff.rfl (fun c2 => ?_) (fun c2 => ?_)
  · exact EQ_some trivial
  · refine EQ_jgd (show h 307 (-2) = 6 from by rw [k_307 hS]) ?_
    refine EQ_jg ⟨fun ⟨_, x0⟩ => (show jI (w32 (w32 (i1 * 256) + a2)) (h (h 307 5) (-1)) ↔ jI (w32 (w32 (i1 * 256) + a2)) 30976 from by rw [r_307_5 hS, l_312 hS]).mp x0, fun x0 => ⟨(show h (h 307 5) (-2) = 101 from by rw [r_307_5 hS, k_312 hS]), (show jI (w32 (w32 (i1 * 256) + a2)) (h (h 307 5) (-1)) ↔ jI (w32 (w32 (i1 * 256) + a2)) 30976 from by rw [r_307_5 hS, l_312 hS]).mpr x0⟩⟩ (fun g3 => ?_)
    refine EQ_jgd (show h 307 (-2) = 6 from by rw [k_307 hS]) ?_
    refine EQ_jg ⟨fun ⟨_, x0⟩ => (show jI a2 (h (h 307 15) (-1)) ↔ jI a2 256 from by rw [r_307_15 hS, l_320 hS]).mp x0, fun x0 => ⟨(show h (h 307 15) (-2) = 101 from by rw [r_307_15 hS, k_320 hS]), (show jI a2 (h (h 307 15) (-1)) ↔ jI a2 256 from by rw [r_307_15 hS, l_320 hS]).mpr x0⟩⟩ (fun g4 => ?_)
    refine EQ_if (show h (h 307 5) (w32 (w32 (i1 * 256) + a2)) = h (h 307 15) a2 ↔ h 312 (w32 (w32 (i1 * 256) + a2)) = h 320 a2 from by rw [r_307_5 hS, r_307_15 hS]) (fun c5 => ?_) (fun c5 => ?_)
    · refine EQ_jl rfl (fun x9 ex9 => ?_)
      clear ex9
      exact EQ_some trivial
    · exact EQ_some trivial
noncomputable def gX5_isFresh_l2 (i1 : Int) (a2 : Int) (h : AH) : Option ((Unit) ⊕ (Unit)) := jit (gX5_isFresh_b2 i1 h) a2
theorem eX5_isFresh_l2 (i1 : Int) (a2 : Int) {h : AH} (hS : Sh S h) : EQ (fX5_isFresh_l2 307 i1 a2 h) (gX5_isFresh_l2 i1 a2 h) (Sum.elim (fun _ => True) (fun _ => True)) := EQ_jit (I := (fun _ => True)) (fun s _ => eX5_isFresh_b2 i1 s hS) trivial
noncomputable def gX5_isFresh (a1 : Int) (h : AH) : Option (Int) := jb (gX5_isFresh_l2 a1 0 h) fun o1 => jm o1 (fun o3 => some 0) (fun o4 => some 1)
theorem eX5_isFresh (a1 : Int) {h : AH} (hS : Sh S h) : EQ (fX5_isFresh 307 a1 h) (gX5_isFresh a1 h) (fun _ => True) := by
  unfold fX5_isFresh gX5_isFresh
  refine EQ_jb (eX5_isFresh_l2 a1 0 hS) (fun o1 r1 => ?_)
  refine EQ_jm r1 (fun o3 r2 => ?_) (fun o4 r3 => ?_)
  · exact EQ_some trivial
  · exact EQ_some trivial
noncomputable def gX5_place_b6 (i1 : Int) (i2 : Int) (i3 : Int) (i4 : Int) (i5 : Int) (i6 : Int) (h : AH) (s : Int × Int) : Option ((Int × Int) ⊕ (Int)) := jt2 s fun a7 a8 => jb (gX5_points h) fun v21 => if v21 ≤ a8 then (some (.inr a7)) else (jg (jI a8 256) <| jl (w32 (w32 (a7 * 31) + h 320 a8)) fun x23 => jl (w32 (a8 + 1)) fun x24 => some (.inl (x23, x24)))
theorem eX5_place_b6 (i1 : Int) (i2 : Int) (i3 : Int) (i4 : Int) (i5 : Int) (i6 : Int) (s : Int × Int) {h : AH} (hS : Sh S h) : EQ (fX5_place_b6 307 i1 i2 i3 i4 i5 i6 h s) (gX5_place_b6 i1 i2 i3 i4 i5 i6 h s) (Sum.elim (fun _ => True) (fun _ => True)) := by
  unfold fX5_place_b6 gX5_place_b6
  obtain ⟨a7, a8⟩ := s
  refine EQ_jt2 ?_
  refine EQ_jgd (show h 307 (-2) = 6 from by rw [k_307 hS]) ?_
  refine EQ_jb (eX5_points hS) (fun v21 r1 => ?_)
  refine EQ_if Iff.rfl (fun c2 => ?_) (fun c2 => ?_)
  · exact EQ_some trivial
  · refine EQ_jgd (show h 307 (-2) = 6 from by rw [k_307 hS]) ?_
    refine EQ_jg ⟨fun ⟨_, x0⟩ => (show jI a8 (h (h 307 15) (-1)) ↔ jI a8 256 from by rw [r_307_15 hS, l_320 hS]).mp x0, fun x0 => ⟨(show h (h 307 15) (-2) = 101 from by rw [r_307_15 hS, k_320 hS]), (show jI a8 (h (h 307 15) (-1)) ↔ jI a8 256 from by rw [r_307_15 hS, l_320 hS]).mpr x0⟩⟩ (fun g3 => ?_)
    refine EQ_jl (by rw [r_307_15 hS]) (fun x23 ex23 => ?_)
    clear ex23
    refine EQ_jl rfl (fun x24 ex24 => ?_)
    clear ex24
    exact EQ_some trivial
noncomputable def gX5_place_l6 (i1 : Int) (i2 : Int) (i3 : Int) (i4 : Int) (i5 : Int) (i6 : Int) (a7 : Int) (a8 : Int) (h : AH) : Option (Int) := jit (gX5_place_b6 i1 i2 i3 i4 i5 i6 h) (a7, a8)
theorem eX5_place_l6 (i1 : Int) (i2 : Int) (i3 : Int) (i4 : Int) (i5 : Int) (i6 : Int) (a7 : Int) (a8 : Int) {h : AH} (hS : Sh S h) : EQ (fX5_place_l6 307 i1 i2 i3 i4 i5 i6 a7 a8 h) (gX5_place_l6 i1 i2 i3 i4 i5 i6 a7 a8 h) (fun _ => True) := EQ_jit (I := (fun _ => True)) (fun s _ => eX5_place_b6 i1 i2 i3 i4 i5 i6 s hS) trivial
noncomputable def gX5_place_j83_39 (a1 : Int) (a2 : Int) (a3 : Int) (a4 : Int) (a5 : Int) (a6 : Int) (a7 : Int) (a8 : Int) (h : AH) : Option ((Int) ⊕ ((Int) ⊕ (Unit))) := jl (w32 (a8 + 1)) fun x31 => some (.inl x31)
theorem eX5_place_j83_39 (a1 : Int) (a2 : Int) (a3 : Int) (a4 : Int) (a5 : Int) (a6 : Int) (a7 : Int) (a8 : Int) {h : AH} (hS : Sh S h) : EQ (fX5_place_j83_39 307 a1 a2 a3 a4 a5 a6 a7 a8 h) (gX5_place_j83_39 a1 a2 a3 a4 a5 a6 a7 a8 h) (Sum.elim (fun _ => True) (Sum.elim (fun _ => True) (fun _ => True))) := by
  unfold fX5_place_j83_39 gX5_place_j83_39
  refine EQ_jl rfl (fun x31 ex31 => ?_)
  clear ex31
  exact EQ_some trivial
noncomputable def gX5_place_b39 (i1 : Int) (i2 : Int) (i3 : Int) (i4 : Int) (i5 : Int) (i6 : Int) (i7 : Int) (h : AH) (a8 : Int) : Option ((Int) ⊕ ((Int) ⊕ (Unit))) := if h 307 0 ≤ a8 then (some (.inr (.inr ()))) else (jg (jI a8 121) <| if h 308 a8 = i1 then (if h 313 a8 = i7 then (jb (gX5_isFresh a8 h) fun v29 => if v29 = 0 then (gX5_place_j83_39 i1 i2 i3 i4 i5 i6 i7 a8 h) else (some (.inr (.inl a8)))) else (gX5_place_j83_39 i1 i2 i3 i4 i5 i6 i7 a8 h)) else (gX5_place_j83_39 i1 i2 i3 i4 i5 i6 i7 a8 h))
theorem eX5_place_b39 (i1 : Int) (i2 : Int) (i3 : Int) (i4 : Int) (i5 : Int) (i6 : Int) (i7 : Int) (a8 : Int) {h : AH} (hS : Sh S h) : EQ (fX5_place_b39 307 i1 i2 i3 i4 i5 i6 i7 h a8) (gX5_place_b39 i1 i2 i3 i4 i5 i6 i7 h a8) (Sum.elim (fun _ => True) (Sum.elim (fun _ => True) (fun _ => True))) := by
  unfold fX5_place_b39 gX5_place_b39
  refine EQ_jgd (show h 307 (-2) = 6 from by rw [k_307 hS]) ?_
  refine EQ_if Iff.rfl (fun c1 => ?_) (fun c1 => ?_)
  · exact EQ_some trivial
  · refine EQ_jgd (show h 307 (-2) = 6 from by rw [k_307 hS]) ?_
    refine EQ_jg ⟨fun ⟨_, x0⟩ => (show jI a8 (h (h 307 1) (-1)) ↔ jI a8 121 from by rw [r_307_1 hS, l_308 hS]).mp x0, fun x0 => ⟨(show h (h 307 1) (-2) = 101 from by rw [r_307_1 hS, k_308 hS]), (show jI a8 (h (h 307 1) (-1)) ↔ jI a8 121 from by rw [r_307_1 hS, l_308 hS]).mpr x0⟩⟩ (fun g2 => ?_)
    refine EQ_if (show h (h 307 1) a8 = i1 ↔ h 308 a8 = i1 from by rw [r_307_1 hS]) (fun c3 => ?_) (fun c3 => ?_)
    · refine EQ_jgd (show h 307 (-2) = 6 from by rw [k_307 hS]) ?_
      refine EQ_jgd ⟨(show h (h 307 6) (-2) = 101 from by rw [r_307_6 hS, k_313 hS]), ((show jI a8 (h (h 307 6) (-1)) ↔ jI a8 121 from by rw [r_307_6 hS, l_313 hS]).mpr g2)⟩ ?_
      refine EQ_if (show h (h 307 6) a8 = i7 ↔ h 313 a8 = i7 from by rw [r_307_6 hS]) (fun c4 => ?_) (fun c4 => ?_)
      · refine EQ_jgd (show h 307 (-2) = 6 from by rw [k_307 hS]) ?_
        refine EQ_jb (eX5_isFresh a8 hS) (fun v29 r5 => ?_)
        refine EQ_if Iff.rfl (fun c6 => ?_) (fun c6 => ?_)
        · exact (eX5_place_j83_39 i1 i2 i3 i4 i5 i6 i7 a8 hS)
        · exact EQ_some trivial
      · exact (eX5_place_j83_39 i1 i2 i3 i4 i5 i6 i7 a8 hS)
    · exact (eX5_place_j83_39 i1 i2 i3 i4 i5 i6 i7 a8 hS)
noncomputable def gX5_place_l39 (i1 : Int) (i2 : Int) (i3 : Int) (i4 : Int) (i5 : Int) (i6 : Int) (i7 : Int) (a8 : Int) (h : AH) : Option ((Int) ⊕ (Unit)) := jit (gX5_place_b39 i1 i2 i3 i4 i5 i6 i7 h) a8
theorem eX5_place_l39 (i1 : Int) (i2 : Int) (i3 : Int) (i4 : Int) (i5 : Int) (i6 : Int) (i7 : Int) (a8 : Int) {h : AH} (hS : Sh S h) : EQ (fX5_place_l39 307 i1 i2 i3 i4 i5 i6 i7 a8 h) (gX5_place_l39 i1 i2 i3 i4 i5 i6 i7 a8 h) (Sum.elim (fun _ => True) (fun _ => True)) := EQ_jit (I := (fun _ => True)) (fun s _ => eX5_place_b39 i1 i2 i3 i4 i5 i6 i7 s hS) trivial
noncomputable def gX5_place (a1 : Int) (a2 : Int) (a3 : Int) (a4 : Int) (a5 : Int) (a6 : Int) (h : AH) : Option (Int × AH) := jb (gX5_place_l6 a1 a2 a3 a4 a5 a6 a1 0 h) fun o1 => jb (gX5_place_l39 a1 a2 a3 a4 a5 a6 o1 0 h) fun o3 => jm o3 (fun o5 => some (o5, h)) (fun o6 => if h 307 0 = 120 then (some ((-1), h)) else (jg (jI (h 307 0) 121) <| jl (jst h 308 (h 307 0) a1) fun h8 => jg (jI (h8 307 0) 121) <| jl (jst h8 309 (h8 307 0) a2) fun h9 => jg (jI (h9 307 0) 121) <| jl (jst h9 310 (h9 307 0) a3) fun h10 => jg (jI (w32 (3 * h10 307 0)) 363) <| jl (jst h10 311 (w32 (3 * h10 307 0)) a4) fun h11 => jg (jI (w32 (w32 (3 * h11 307 0) + 1)) 363) <| jl (jst h11 311 (w32 (w32 (3 * h11 307 0) + 1)) a5) fun h12 => jg (jI (w32 (w32 (3 * h12 307 0) + 2)) 363) <| jl (jst h12 311 (w32 (w32 (3 * h12 307 0) + 2)) a6) fun h13 => jg (jI (h13 307 0) 121) <| jl (jst h13 313 (h13 307 0) o1) fun h14 => jg (jI (h14 307 0) 121) <| jl (jst h14 315 (h14 307 0) (-1)) fun h15 => jb (gX5_points h15) fun v17 => jg ((0 : Int) ≤ 0 ∧ (0 : Int) ≤ w32 (h15 307 0 * 256) ∧ (0 : Int) ≤ v17 ∧ (0 : Int) + v17 ≤ 256 ∧ w32 (h15 307 0 * 256) + v17 ≤ 30976) <| jl (jcpy h15 320 0 312 (w32 (h15 307 0 * 256)) v17) fun h18 => jl (jst h18 307 0 (w32 (h18 307 0 + 1))) fun h19 => some (h18 307 0, h19)))
theorem eX5_place (a1 : Int) (a2 : Int) (a3 : Int) (a4 : Int) (a5 : Int) (a6 : Int) {h : AH} (hS : Sh S h) : EQ (fX5_place 307 a1 a2 a3 a4 a5 a6 h) (gX5_place a1 a2 a3 a4 a5 a6 h) (fun r => Sh S r.2) := by
  unfold fX5_place gX5_place
  refine EQ_jb (eX5_place_l6 a1 a2 a3 a4 a5 a6 a1 0 hS) (fun o1 r1 => ?_)
  refine EQ_jb (eX5_place_l39 a1 a2 a3 a4 a5 a6 o1 0 hS) (fun o3 r2 => ?_)
  refine EQ_jm r2 (fun o5 r3 => ?_) (fun o6 r4 => ?_)
  · exact EQ_some hS
  · refine EQ_jgd (show h 307 (-2) = 6 from by rw [k_307 hS]) ?_
    refine EQ_if Iff.rfl (fun c5 => ?_) (fun c5 => ?_)
    · exact EQ_some hS
    · refine EQ_jgd (show h 307 (-2) = 6 from by rw [k_307 hS]) ?_
      refine EQ_jgd (show h 307 (-2) = 6 from by rw [k_307 hS]) ?_
      refine EQ_jg ⟨fun ⟨_, _, x0⟩ => (show jI (h 307 0) (h (h 307 1) (-1)) ↔ jI (h 307 0) 121 from by rw [r_307_1 hS, l_308 hS]).mp x0, fun x0 => ⟨(show h (h 307 1) (-2) = 101 from by rw [r_307_1 hS, k_308 hS]), (show 200 ≤ h 307 1 from by rw [r_307_1 hS]; exact (by decide)), (show jI (h 307 0) (h (h 307 1) (-1)) ↔ jI (h 307 0) 121 from by rw [r_307_1 hS, l_308 hS]).mpr x0⟩⟩ (fun g6 => ?_)
      refine EQ_jl (by rw [r_307_1 hS]) (fun h8 eh8 => ?_)
      have s7 := Sh_of eh8 (Sh_sta hS (by decide +kernel) (jI_nn g6) (fun e => absurd ((k_308 hS).symm.trans e) (by decide)))
      clear eh8
      refine EQ_jgd (show h8 307 (-2) = 6 from by rw [k_307 s7]) ?_
      refine EQ_jgd (show h8 307 (-2) = 6 from by rw [k_307 s7]) ?_
      refine EQ_jg ⟨fun ⟨_, _, x0⟩ => (show jI (h8 307 0) (h8 (h8 307 2) (-1)) ↔ jI (h8 307 0) 121 from by rw [r_307_2 s7, l_309 s7]).mp x0, fun x0 => ⟨(show h8 (h8 307 2) (-2) = 101 from by rw [r_307_2 s7, k_309 s7]), (show 200 ≤ h8 307 2 from by rw [r_307_2 s7]; exact (by decide)), (show jI (h8 307 0) (h8 (h8 307 2) (-1)) ↔ jI (h8 307 0) 121 from by rw [r_307_2 s7, l_309 s7]).mpr x0⟩⟩ (fun g8 => ?_)
      refine EQ_jl (by rw [r_307_2 s7]) (fun h9 eh9 => ?_)
      have s9 := Sh_of eh9 (Sh_sta s7 (by decide +kernel) (jI_nn g8) (fun e => absurd ((k_309 s7).symm.trans e) (by decide)))
      clear eh9
      refine EQ_jgd (show h9 307 (-2) = 6 from by rw [k_307 s9]) ?_
      refine EQ_jgd (show h9 307 (-2) = 6 from by rw [k_307 s9]) ?_
      refine EQ_jg ⟨fun ⟨_, _, x0⟩ => (show jI (h9 307 0) (h9 (h9 307 3) (-1)) ↔ jI (h9 307 0) 121 from by rw [r_307_3 s9, l_310 s9]).mp x0, fun x0 => ⟨(show h9 (h9 307 3) (-2) = 101 from by rw [r_307_3 s9, k_310 s9]), (show 200 ≤ h9 307 3 from by rw [r_307_3 s9]; exact (by decide)), (show jI (h9 307 0) (h9 (h9 307 3) (-1)) ↔ jI (h9 307 0) 121 from by rw [r_307_3 s9, l_310 s9]).mpr x0⟩⟩ (fun g10 => ?_)
      refine EQ_jl (by rw [r_307_3 s9]) (fun h10 eh10 => ?_)
      have s11 := Sh_of eh10 (Sh_sta s9 (by decide +kernel) (jI_nn g10) (fun e => absurd ((k_310 s9).symm.trans e) (by decide)))
      clear eh10
      refine EQ_jgd (show h10 307 (-2) = 6 from by rw [k_307 s11]) ?_
      refine EQ_jgd (show h10 307 (-2) = 6 from by rw [k_307 s11]) ?_
      refine EQ_jg ⟨fun ⟨_, _, x0⟩ => (show jI (w32 (3 * h10 307 0)) (h10 (h10 307 4) (-1)) ↔ jI (w32 (3 * h10 307 0)) 363 from by rw [r_307_4 s11, l_311 s11]).mp x0, fun x0 => ⟨(show h10 (h10 307 4) (-2) = 101 from by rw [r_307_4 s11, k_311 s11]), (show 200 ≤ h10 307 4 from by rw [r_307_4 s11]; exact (by decide)), (show jI (w32 (3 * h10 307 0)) (h10 (h10 307 4) (-1)) ↔ jI (w32 (3 * h10 307 0)) 363 from by rw [r_307_4 s11, l_311 s11]).mpr x0⟩⟩ (fun g12 => ?_)
      refine EQ_jl (by rw [r_307_4 s11]) (fun h11 eh11 => ?_)
      have s13 := Sh_of eh11 (Sh_sta s11 (by decide +kernel) (jI_nn g12) (fun e => absurd ((k_311 s11).symm.trans e) (by decide)))
      clear eh11
      refine EQ_jgd (show h11 307 (-2) = 6 from by rw [k_307 s13]) ?_
      refine EQ_jgd (show h11 307 (-2) = 6 from by rw [k_307 s13]) ?_
      refine EQ_jg ⟨fun ⟨_, _, x0⟩ => (show jI (w32 (w32 (3 * h11 307 0) + 1)) (h11 (h11 307 4) (-1)) ↔ jI (w32 (w32 (3 * h11 307 0) + 1)) 363 from by rw [r_307_4 s13, l_311 s13]).mp x0, fun x0 => ⟨(show h11 (h11 307 4) (-2) = 101 from by rw [r_307_4 s13, k_311 s13]), (show 200 ≤ h11 307 4 from by rw [r_307_4 s13]; exact (by decide)), (show jI (w32 (w32 (3 * h11 307 0) + 1)) (h11 (h11 307 4) (-1)) ↔ jI (w32 (w32 (3 * h11 307 0) + 1)) 363 from by rw [r_307_4 s13, l_311 s13]).mpr x0⟩⟩ (fun g14 => ?_)
      refine EQ_jl (by rw [r_307_4 s13]) (fun h12 eh12 => ?_)
      have s15 := Sh_of eh12 (Sh_sta s13 (by decide +kernel) (jI_nn g14) (fun e => absurd ((k_311 s13).symm.trans e) (by decide)))
      clear eh12
      refine EQ_jgd (show h12 307 (-2) = 6 from by rw [k_307 s15]) ?_
      refine EQ_jgd (show h12 307 (-2) = 6 from by rw [k_307 s15]) ?_
      refine EQ_jg ⟨fun ⟨_, _, x0⟩ => (show jI (w32 (w32 (3 * h12 307 0) + 2)) (h12 (h12 307 4) (-1)) ↔ jI (w32 (w32 (3 * h12 307 0) + 2)) 363 from by rw [r_307_4 s15, l_311 s15]).mp x0, fun x0 => ⟨(show h12 (h12 307 4) (-2) = 101 from by rw [r_307_4 s15, k_311 s15]), (show 200 ≤ h12 307 4 from by rw [r_307_4 s15]; exact (by decide)), (show jI (w32 (w32 (3 * h12 307 0) + 2)) (h12 (h12 307 4) (-1)) ↔ jI (w32 (w32 (3 * h12 307 0) + 2)) 363 from by rw [r_307_4 s15, l_311 s15]).mpr x0⟩⟩ (fun g16 => ?_)
      refine EQ_jl (by rw [r_307_4 s15]) (fun h13 eh13 => ?_)
      have s17 := Sh_of eh13 (Sh_sta s15 (by decide +kernel) (jI_nn g16) (fun e => absurd ((k_311 s15).symm.trans e) (by decide)))
      clear eh13
      refine EQ_jgd (show h13 307 (-2) = 6 from by rw [k_307 s17]) ?_
      refine EQ_jgd (show h13 307 (-2) = 6 from by rw [k_307 s17]) ?_
      refine EQ_jg ⟨fun ⟨_, _, x0⟩ => (show jI (h13 307 0) (h13 (h13 307 6) (-1)) ↔ jI (h13 307 0) 121 from by rw [r_307_6 s17, l_313 s17]).mp x0, fun x0 => ⟨(show h13 (h13 307 6) (-2) = 101 from by rw [r_307_6 s17, k_313 s17]), (show 200 ≤ h13 307 6 from by rw [r_307_6 s17]; exact (by decide)), (show jI (h13 307 0) (h13 (h13 307 6) (-1)) ↔ jI (h13 307 0) 121 from by rw [r_307_6 s17, l_313 s17]).mpr x0⟩⟩ (fun g18 => ?_)
      refine EQ_jl (by rw [r_307_6 s17]) (fun h14 eh14 => ?_)
      have s19 := Sh_of eh14 (Sh_sta s17 (by decide +kernel) (jI_nn g18) (fun e => absurd ((k_313 s17).symm.trans e) (by decide)))
      clear eh14
      refine EQ_jgd (show h14 307 (-2) = 6 from by rw [k_307 s19]) ?_
      refine EQ_jgd (show h14 307 (-2) = 6 from by rw [k_307 s19]) ?_
      refine EQ_jg ⟨fun ⟨_, _, x0⟩ => (show jI (h14 307 0) (h14 (h14 307 10) (-1)) ↔ jI (h14 307 0) 121 from by rw [r_307_10 s19, l_315 s19]).mp x0, fun x0 => ⟨(show h14 (h14 307 10) (-2) = 101 from by rw [r_307_10 s19, k_315 s19]), (show 200 ≤ h14 307 10 from by rw [r_307_10 s19]; exact (by decide)), (show jI (h14 307 0) (h14 (h14 307 10) (-1)) ↔ jI (h14 307 0) 121 from by rw [r_307_10 s19, l_315 s19]).mpr x0⟩⟩ (fun g20 => ?_)
      refine EQ_jl (by rw [r_307_10 s19]) (fun h15 eh15 => ?_)
      have s21 := Sh_of eh15 (Sh_sta s19 (by decide +kernel) (jI_nn g20) (fun e => absurd ((k_315 s19).symm.trans e) (by decide)))
      clear eh15
      refine EQ_jgd (show h15 307 (-2) = 6 from by rw [k_307 s21]) ?_
      refine EQ_jgd (show h15 307 (-2) = 6 from by rw [k_307 s21]) ?_
      refine EQ_jgd (show h15 307 (-2) = 6 from by rw [k_307 s21]) ?_
      refine EQ_jgd (show h15 307 (-2) = 6 from by rw [k_307 s21]) ?_
      refine EQ_jb (eX5_points s21) (fun v17 r22 => ?_)
      refine EQ_jg ⟨fun x0 => (show jcpG h15 101 (h15 307 15) 0 (h15 307 5) (w32 (h15 307 0 * 256)) v17 ↔ (0 : Int) ≤ 0 ∧ (0 : Int) ≤ w32 (h15 307 0 * 256) ∧ (0 : Int) ≤ v17 ∧ (0 : Int) + v17 ≤ 256 ∧ w32 (h15 307 0 * 256) + v17 ≤ 30976 from by rw [r_307_15 s21, r_307_5 s21]; exact cpg (by rw [k_320 s21]) (by rw [k_312 s21]) ((by decide)) ((by decide)) (l_320 s21) (l_312 s21)).mp x0, fun x0 => (show jcpG h15 101 (h15 307 15) 0 (h15 307 5) (w32 (h15 307 0 * 256)) v17 ↔ (0 : Int) ≤ 0 ∧ (0 : Int) ≤ w32 (h15 307 0 * 256) ∧ (0 : Int) ≤ v17 ∧ (0 : Int) + v17 ≤ 256 ∧ w32 (h15 307 0 * 256) + v17 ≤ 30976 from by rw [r_307_15 s21, r_307_5 s21]; exact cpg (by rw [k_320 s21]) (by rw [k_312 s21]) ((by decide)) ((by decide)) (l_320 s21) (l_312 s21)).mpr x0⟩ (fun g23 => ?_)
      refine EQ_jl (by rw [r_307_15 s21, r_307_5 s21]) (fun h18 eh18 => ?_)
      have s24 := Sh_of eh18 (Sh_cpy s21 (by decide +kernel) (g23.2.1) (fun e => absurd ((k_312 s21).symm.trans e) (by decide)))
      clear eh18
      refine EQ_jgd (show h18 307 (-2) = 6 from by rw [k_307 s24]) ?_
      refine EQ_jgd ⟨(show h18 307 (-2) = 6 from by rw [k_307 s24]), (show (200 : Int) ≤ 307 from (by decide))⟩ ?_
      refine EQ_jl rfl (fun h19 eh19 => ?_)
      have s25 := Sh_of eh19 (Sh_sto s24 (a := 307) (i := 0) (by decide +kernel))
      clear eh19
      exact EQ_some s25
noncomputable def gX18_length_b4 (s : Int × Int) : Option ((Int × Int) ⊕ (Int)) := jt2 s fun a1 a2 => if a2 ≤ 0 then (some (.inr a1)) else (jl (w32 (a1 + 1)) fun x4 => jl (jdiv a2 27) fun x5 => some (.inl (x4, x5)))
theorem eX18_length_b4 (s : Int × Int) : EQ (fX18_length_b4 s) (gX18_length_b4 s) (Sum.elim (fun _ => True) (fun _ => True)) := by
  unfold fX18_length_b4 gX18_length_b4
  obtain ⟨a1, a2⟩ := s
  refine EQ_jt2 ?_
  refine EQ_if Iff.rfl (fun c1 => ?_) (fun c1 => ?_)
  · exact EQ_some trivial
  · refine EQ_jl rfl (fun x4 ex4 => ?_)
    clear ex4
    refine EQ_jl rfl (fun x5 ex5 => ?_)
    clear ex5
    exact EQ_some trivial
noncomputable def gX18_length_l4 (a1 : Int) (a2 : Int) : Option (Int) := jit gX18_length_b4 (a1, a2)
theorem eX18_length_l4 (a1 : Int) (a2 : Int) : EQ (fX18_length_l4 a1 a2) (gX18_length_l4 a1 a2) (fun _ => True) := EQ_jit (I := (fun _ => True)) (fun s _ => eX18_length_b4 s) trivial
noncomputable def gX18_length (a0 : Int) : Option (Int) := jb (gX18_length_l4 0 a0) fun o1 => some o1
theorem eX18_length (a0 : Int) : EQ (fX18_length a0) (gX18_length a0) (fun _ => True) := by
  unfold fX18_length gX18_length
  refine EQ_jb (eX18_length_l4 0 a0) (fun o1 r1 => ?_)
  exact EQ_some trivial
noncomputable def gX18_power_b4 (i0 : Int) (s : Int × Int) : Option ((Int × Int) ⊕ (Int)) := jt2 s fun a1 a2 => if i0 ≤ a2 then (some (.inr a1)) else (jl (w32 (a1 * 27)) fun x4 => jl (w32 (a2 + 1)) fun x5 => some (.inl (x4, x5)))
theorem eX18_power_b4 (i0 : Int) (s : Int × Int) : EQ (fX18_power_b4 i0 s) (gX18_power_b4 i0 s) (Sum.elim (fun _ => True) (fun _ => True)) := by
  unfold fX18_power_b4 gX18_power_b4
  obtain ⟨a1, a2⟩ := s
  refine EQ_jt2 ?_
  refine EQ_if Iff.rfl (fun c1 => ?_) (fun c1 => ?_)
  · exact EQ_some trivial
  · refine EQ_jl rfl (fun x4 ex4 => ?_)
    clear ex4
    refine EQ_jl rfl (fun x5 ex5 => ?_)
    clear ex5
    exact EQ_some trivial
noncomputable def gX18_power_l4 (i0 : Int) (a1 : Int) (a2 : Int) : Option (Int) := jit (gX18_power_b4 i0) (a1, a2)
theorem eX18_power_l4 (i0 : Int) (a1 : Int) (a2 : Int) : EQ (fX18_power_l4 i0 a1 a2) (gX18_power_l4 i0 a1 a2) (fun _ => True) := EQ_jit (I := (fun _ => True)) (fun s _ => eX18_power_b4 i0 s) trivial
noncomputable def gX18_power (a0 : Int) : Option (Int) := jb (gX18_power_l4 a0 1 0) fun o1 => some o1
theorem eX18_power (a0 : Int) : EQ (fX18_power a0) (gX18_power a0) (fun _ => True) := by
  unfold fX18_power gX18_power
  refine EQ_jb (eX18_power_l4 a0 1 0) (fun o1 r1 => ?_)
  exact EQ_some trivial
noncomputable def gX18_join (a0 : Int) (a1 : Int) : Option (Int) := jb (gX18_length a1) fun v2 => jb (gX18_length a0) fun v4 => if w32 (v4 + v2) ≤ 6 then (jb (gX18_power v2) fun v7 => some (w32 (w32 (a0 * v7) + a1))) else (some (-1))
theorem eX18_join (a0 : Int) (a1 : Int) : EQ (fX18_join a0 a1) (gX18_join a0 a1) (fun _ => True) := by
  unfold fX18_join gX18_join
  refine EQ_jb (eX18_length a1) (fun v2 r1 => ?_)
  refine EQ_jb (eX18_length a0) (fun v4 r2 => ?_)
  refine EQ_if Iff.rfl (fun c3 => ?_) (fun c3 => ?_)
  · refine EQ_jb (eX18_power v2) (fun v7 r4 => ?_)
    exact EQ_some trivial
  · exact EQ_some trivial
noncomputable def gX18_front (a0 : Int) (a1 : Int) : Option (Int) := jb (gX18_length a0) fun v2 => if a1 < v2 then (jb (gX18_power (w32 (v2 - a1))) fun v5 => jg (¬ v5 = (0 : Int)) <| some (jdiv a0 v5)) else (some a0)
theorem eX18_front (a0 : Int) (a1 : Int) : EQ (fX18_front a0 a1) (gX18_front a0 a1) (fun _ => True) := by
  unfold fX18_front gX18_front
  refine EQ_jb (eX18_length a0) (fun v2 r1 => ?_)
  refine EQ_if Iff.rfl (fun c2 => ?_) (fun c2 => ?_)
  · refine EQ_jb (eX18_power (w32 (v2 - a1))) (fun v5 r3 => ?_)
    refine EQ_jg Iff.rfl (fun g4 => ?_)
    exact EQ_some trivial
  · exact EQ_some trivial
noncomputable def gX18_behind (a0 : Int) (a1 : Int) : Option (Int) := jb (gX18_length a0) fun v2 => if a1 < v2 then (jb (gX18_power (w32 (v2 - a1))) fun v5 => jg (¬ v5 = (0 : Int)) <| some (jrem a0 v5)) else (some 0)
theorem eX18_behind (a0 : Int) (a1 : Int) : EQ (fX18_behind a0 a1) (gX18_behind a0 a1) (fun _ => True) := by
  unfold fX18_behind gX18_behind
  refine EQ_jb (eX18_length a0) (fun v2 r1 => ?_)
  refine EQ_if Iff.rfl (fun c2 => ?_) (fun c2 => ?_)
  · refine EQ_jb (eX18_power (w32 (v2 - a1))) (fun v5 r3 => ?_)
    refine EQ_jg Iff.rfl (fun g4 => ?_)
    exact EQ_some trivial
  · exact EQ_some trivial
noncomputable def gX18_turned_b4 (s : Int × Int) : Option ((Int × Int) ⊕ (Int)) := jt2 s fun a1 a2 => if a2 ≤ 0 then (some (.inr a1)) else (jl (w32 (w32 (a1 * 27) + jrem a2 27)) fun x4 => jl (jdiv a2 27) fun x5 => some (.inl (x4, x5)))
theorem eX18_turned_b4 (s : Int × Int) : EQ (fX18_turned_b4 s) (gX18_turned_b4 s) (Sum.elim (fun _ => True) (fun _ => True)) := by
  unfold fX18_turned_b4 gX18_turned_b4
  obtain ⟨a1, a2⟩ := s
  refine EQ_jt2 ?_
  refine EQ_if Iff.rfl (fun c1 => ?_) (fun c1 => ?_)
  · exact EQ_some trivial
  · refine EQ_jl rfl (fun x4 ex4 => ?_)
    clear ex4
    refine EQ_jl rfl (fun x5 ex5 => ?_)
    clear ex5
    exact EQ_some trivial
noncomputable def gX18_turned_l4 (a1 : Int) (a2 : Int) : Option (Int) := jit gX18_turned_b4 (a1, a2)
theorem eX18_turned_l4 (a1 : Int) (a2 : Int) : EQ (fX18_turned_l4 a1 a2) (gX18_turned_l4 a1 a2) (fun _ => True) := EQ_jit (I := (fun _ => True)) (fun s _ => eX18_turned_b4 s) trivial
noncomputable def gX18_turned (a0 : Int) : Option (Int) := jb (gX18_turned_l4 0 a0) fun o1 => some o1
theorem eX18_turned (a0 : Int) : EQ (fX18_turned a0) (gX18_turned a0) (fun _ => True) := by
  unfold fX18_turned gX18_turned
  refine EQ_jb (eX18_turned_l4 0 a0) (fun o1 r1 => ?_)
  exact EQ_some trivial
noncomputable def gX2_give_j196 (a1 : Int) (a2 : Int) : Option (Int) := if a1 = a2 then (some 1) else (some 0)
theorem eX2_give_j196 (a1 : Int) (a2 : Int) : EQ (fX2_give_j196 a1 a2) (gX2_give_j196 a1 a2) (fun _ => True) := by
  unfold fX2_give_j196 gX2_give_j196
  refine EQ_if Iff.rfl (fun c1 => ?_) (fun c1 => ?_)
  · exact EQ_some trivial
  · exact EQ_some trivial
noncomputable def gX2_give_j219 (a1 : Int) (a2 : Int) (a3 : Int) : Option (Int) := if a1 = 1 then (some a2) else (some a3)
theorem eX2_give_j219 (a1 : Int) (a2 : Int) (a3 : Int) : EQ (fX2_give_j219 a1 a2 a3) (gX2_give_j219 a1 a2 a3) (fun _ => True) := by
  unfold fX2_give_j219 gX2_give_j219
  refine EQ_if Iff.rfl (fun c1 => ?_) (fun c1 => ?_)
  · exact EQ_some trivial
  · exact EQ_some trivial
noncomputable def gX2_give (a0 : Int) (a1 : Int) (a2 : Int) (a3 : Int) : Option (Int) := if a0 < 0 ∨ 24 < a0 then (some (w32 (a1 + 1))) else (if a0 = 0 then (some (jand (w32 (a1 + a2)) 15)) else (if a0 = 1 then (some (jand (w32 (a1 - a2)) 15)) else (if a0 = 2 then (some (jand (w32 (a1 * a2)) 15)) else (if a0 = 3 then (if a2 = 0 then (some (-1)) else (jg (¬ a2 = (0 : Int)) <| some (jdiv a1 a2))) else (if a0 = 4 then (if a2 = 0 then (some (-1)) else (jg (¬ a2 = (0 : Int)) <| some (jrem a1 a2))) else (if a0 = 5 then (some (min a1 a2)) else (if a0 = 6 then (some (max a1 a2)) else (if a0 = 7 then (some (jand a1 a2)) else (if a0 = 8 then (some (jor a1 a2)) else (if a0 = 9 then (some (jxor a1 a2)) else (if a0 = 10 then (if a2 ≤ a1 then (some 0) else (some 1)) else (if a0 = 11 then (gX2_give_j196 a1 a2) else (if a0 = 12 then (some (w32 (1 - a1))) else (if a0 = 13 then (some (jand a1 a2)) else (if a0 = 14 then (some (jor a1 a2)) else (if a0 = 15 then (gX2_give_j219 a1 a2 a3) else (if a0 = 16 then (gX2_give_j219 a1 a2 a3) else (if a0 = 17 then (jb (gX18_join a1 a2) fun v24 => some v24) else (if a0 = 18 then (jb (gX18_length a1) fun v27 => some v27) else (if a0 = 19 then (jb (gX18_front a1 a2) fun v30 => some v30) else (if a0 = 20 then (jb (gX18_behind a1 a2) fun v33 => some v33) else (if a0 = 21 then (jb (gX18_turned a1) fun v36 => some v36) else (if a0 = 22 then (if a1 = 0 then (some (-1)) else (jb (gX18_front a1 1) fun v40 => some v40)) else (if a0 = 23 then (gX2_give_j196 a1 a2) else (if a1 = 0 then (some (-1)) else (jb (gX18_front a1 1) fun v45 => some (jand (w32 (v45 - 1)) 15)))))))))))))))))))))))))))
theorem eX2_give (a0 : Int) (a1 : Int) (a2 : Int) (a3 : Int) : EQ (fX2_give a0 a1 a2 a3) (gX2_give a0 a1 a2 a3) (fun _ => True) := by
  unfold fX2_give gX2_give
  refine EQ_if Iff.rfl (fun c1 => ?_) (fun c1 => ?_)
  · exact EQ_some trivial
  · refine EQ_if Iff.rfl (fun c2 => ?_) (fun c2 => ?_)
    · exact EQ_some trivial
    · refine EQ_if Iff.rfl (fun c3 => ?_) (fun c3 => ?_)
      · exact EQ_some trivial
      · refine EQ_if Iff.rfl (fun c4 => ?_) (fun c4 => ?_)
        · exact EQ_some trivial
        · refine EQ_if Iff.rfl (fun c5 => ?_) (fun c5 => ?_)
          · refine EQ_if Iff.rfl (fun c6 => ?_) (fun c6 => ?_)
            · exact EQ_some trivial
            · refine EQ_jg Iff.rfl (fun g7 => ?_)
              exact EQ_some trivial
          · refine EQ_if Iff.rfl (fun c8 => ?_) (fun c8 => ?_)
            · refine EQ_if Iff.rfl (fun c9 => ?_) (fun c9 => ?_)
              · exact EQ_some trivial
              · refine EQ_jg Iff.rfl (fun g10 => ?_)
                exact EQ_some trivial
            · refine EQ_if Iff.rfl (fun c11 => ?_) (fun c11 => ?_)
              · exact EQ_some trivial
              · refine EQ_if Iff.rfl (fun c12 => ?_) (fun c12 => ?_)
                · exact EQ_some trivial
                · refine EQ_if Iff.rfl (fun c13 => ?_) (fun c13 => ?_)
                  · exact EQ_some trivial
                  · refine EQ_if Iff.rfl (fun c14 => ?_) (fun c14 => ?_)
                    · exact EQ_some trivial
                    · refine EQ_if Iff.rfl (fun c15 => ?_) (fun c15 => ?_)
                      · exact EQ_some trivial
                      · refine EQ_if Iff.rfl (fun c16 => ?_) (fun c16 => ?_)
                        · refine EQ_if Iff.rfl (fun c17 => ?_) (fun c17 => ?_)
                          · exact EQ_some trivial
                          · exact EQ_some trivial
                        · refine EQ_if Iff.rfl (fun c18 => ?_) (fun c18 => ?_)
                          · exact (eX2_give_j196 a1 a2)
                          · refine EQ_if Iff.rfl (fun c19 => ?_) (fun c19 => ?_)
                            · exact EQ_some trivial
                            · refine EQ_if Iff.rfl (fun c20 => ?_) (fun c20 => ?_)
                              · exact EQ_some trivial
                              · refine EQ_if Iff.rfl (fun c21 => ?_) (fun c21 => ?_)
                                · exact EQ_some trivial
                                · refine EQ_if Iff.rfl (fun c22 => ?_) (fun c22 => ?_)
                                  · exact (eX2_give_j219 a1 a2 a3)
                                  · refine EQ_if Iff.rfl (fun c23 => ?_) (fun c23 => ?_)
                                    · exact (eX2_give_j219 a1 a2 a3)
                                    · refine EQ_if Iff.rfl (fun c24 => ?_) (fun c24 => ?_)
                                      · refine EQ_jb (eX18_join a1 a2) (fun v24 r25 => ?_)
                                        exact EQ_some trivial
                                      · refine EQ_if Iff.rfl (fun c26 => ?_) (fun c26 => ?_)
                                        · refine EQ_jb (eX18_length a1) (fun v27 r27 => ?_)
                                          exact EQ_some trivial
                                        · refine EQ_if Iff.rfl (fun c28 => ?_) (fun c28 => ?_)
                                          · refine EQ_jb (eX18_front a1 a2) (fun v30 r29 => ?_)
                                            exact EQ_some trivial
                                          · refine EQ_if Iff.rfl (fun c30 => ?_) (fun c30 => ?_)
                                            · refine EQ_jb (eX18_behind a1 a2) (fun v33 r31 => ?_)
                                              exact EQ_some trivial
                                            · refine EQ_if Iff.rfl (fun c32 => ?_) (fun c32 => ?_)
                                              · refine EQ_jb (eX18_turned a1) (fun v36 r33 => ?_)
                                                exact EQ_some trivial
                                              · refine EQ_if Iff.rfl (fun c34 => ?_) (fun c34 => ?_)
                                                · refine EQ_if Iff.rfl (fun c35 => ?_) (fun c35 => ?_)
                                                  · exact EQ_some trivial
                                                  · refine EQ_jb (eX18_front a1 1) (fun v40 r36 => ?_)
                                                    exact EQ_some trivial
                                                · refine EQ_if Iff.rfl (fun c37 => ?_) (fun c37 => ?_)
                                                  · exact (eX2_give_j196 a1 a2)
                                                  · refine EQ_if Iff.rfl (fun c38 => ?_) (fun c38 => ?_)
                                                    · exact EQ_some trivial
                                                    · refine EQ_jb (eX18_front a1 1) (fun v45 r39 => ?_)
                                                      exact EQ_some trivial
noncomputable def gX4_pointOf_b5 (i0 : Int) (i1 : Int) (i2 : Int) (h : AH) (s : Int × Int) : Option ((Int × Int) ⊕ (Int)) := jt2 s fun a3 a4 => if h i0 1 ≤ a4 then (some (.inr a3)) else (jg (jI a4 3) <| jb (gX4_valuesOf (h (i0 + 1) a4)) fun v5 => jg (h i1 (-2) = 101 ∧ jI (w32 (i2 + a4)) (h i1 (-1))) <| jl (w32 (w32 (a3 * v5) + h i1 (w32 (i2 + a4)))) fun x6 => jl (w32 (a4 + 1)) fun x7 => some (.inl (x6, x7)))
theorem eX4_pointOf_b5 (i0 : Int) (i1 : Int) (i2 : Int) (hT_i0 : isX4 i0) (s : Int × Int) {h : AH} (hS : Sh S h) : EQ (fX4_pointOf_b5 i0 i1 i2 h s) (gX4_pointOf_b5 i0 i1 i2 h s) (Sum.elim (fun _ => True) (fun _ => True)) := by
  unfold fX4_pointOf_b5 gX4_pointOf_b5
  obtain ⟨a3, a4⟩ := s
  refine EQ_jt2 ?_
  refine EQ_jgd (show h i0 (-2) = 5 from by rw [kd_X4 hS hT_i0]) ?_
  refine EQ_if Iff.rfl (fun c1 => ?_) (fun c1 => ?_)
  · exact EQ_some trivial
  · refine EQ_jgd (show h i0 (-2) = 5 from by rw [kd_X4 hS hT_i0]) ?_
    refine EQ_jg ⟨fun ⟨_, x0⟩ => (show jI a4 (h (h i0 0) (-1)) ↔ jI a4 3 from by rw [ft_X4_0 hS hT_i0, la_X4_0 hS hT_i0]).mp x0, fun x0 => ⟨(show h (h i0 0) (-2) = 101 from by rw [ft_X4_0 hS hT_i0, ka_X4_0 hS hT_i0]), (show jI a4 (h (h i0 0) (-1)) ↔ jI a4 3 from by rw [ft_X4_0 hS hT_i0, la_X4_0 hS hT_i0]).mpr x0⟩⟩ (fun g2 => ?_)
    refine EQ_jb (by rw [ft_X4_0 hS hT_i0]; exact eX4_valuesOf (h (i0 + 1) a4)) (fun v5 r3 => ?_)
    refine EQ_jg Iff.rfl (fun g4 => ?_)
    refine EQ_jl rfl (fun x6 ex6 => ?_)
    clear ex6
    refine EQ_jl rfl (fun x7 ex7 => ?_)
    clear ex7
    exact EQ_some trivial
noncomputable def gX4_pointOf_l5 (i0 : Int) (i1 : Int) (i2 : Int) (a3 : Int) (a4 : Int) (h : AH) : Option (Int) := jit (gX4_pointOf_b5 i0 i1 i2 h) (a3, a4)
theorem eX4_pointOf_l5 (i0 : Int) (i1 : Int) (i2 : Int) (a3 : Int) (a4 : Int) (hT_i0 : isX4 i0) {h : AH} (hS : Sh S h) : EQ (fX4_pointOf_l5 i0 i1 i2 a3 a4 h) (gX4_pointOf_l5 i0 i1 i2 a3 a4 h) (fun _ => True) := EQ_jit (I := (fun _ => True)) (fun s _ => eX4_pointOf_b5 i0 i1 i2 hT_i0 s hS) trivial
noncomputable def gX4_pointOf (a0 : Int) (a1 : Int) (a2 : Int) (h : AH) : Option (Int) := jb (gX4_pointOf_l5 a0 a1 a2 0 0 h) fun o1 => some o1
theorem eX4_pointOf (a0 : Int) (a1 : Int) (a2 : Int) (hT_a0 : isX4 a0) {h : AH} (hS : Sh S h) : EQ (fX4_pointOf a0 a1 a2 h) (gX4_pointOf a0 a1 a2 h) (fun _ => True) := by
  unfold fX4_pointOf gX4_pointOf
  refine EQ_jb (eX4_pointOf_l5 a0 a1 a2 0 0 hT_a0 hS) (fun o1 r1 => ?_)
  exact EQ_some trivial
noncomputable def gX1_work_j85 (F : Int → Int → Int → AH → Option (Int × AH)) (a1 : Int) (a2 : Int) (a3 : Int) (h : AH) : Option (Int × AH) := jb2 (F a1 a2 a3 h) fun v9 h10 => some (v9, h10)
theorem eX1_work_j85 {F0 : Int → Int → Int → Int → AH → Option (Int × AH)} {F : Int → Int → Int → AH → Option (Int × AH)} (hF : ∀ (b_a1 : Int) (b_a2 : Int) (b_a3 : Int), isX3 b_a1 → ∀ {b_h : AH}, Sh S b_h → EQ (F0 200 b_a1 b_a2 b_a3 b_h) (F b_a1 b_a2 b_a3 b_h) (fun r => Sh S r.2)) (a1 : Int) (a2 : Int) (a3 : Int) (hT_a1 : isX3 a1) {h : AH} (hS : Sh S h) : EQ (fX1_work_j85 F0 200 a1 a2 a3 h) (gX1_work_j85 F a1 a2 a3 h) (fun r => Sh S r.2) := by
  unfold fX1_work_j85 gX1_work_j85
  refine EQ_jgd (show h 200 (-2) = 2 from by rw [k_200 hS]) ?_
  refine EQ_jb2 (hF a1 a2 a3 hT_a1 hS) (fun v9 h10 r1 => ?_)
  replace r1 : Sh S h10 := r1
  exact EQ_some r1
noncomputable def gX1_work_j17 (F : Int → Int → Int → AH → Option (Int × AH)) (a1 : Int) (a2 : Int) (a3 : Int) (h : AH) : Option (Int × AH) := jg (isX3 a1) <| jg (jI a2 (h (a1 + 1) (-1))) <| if h (a1 + 1) a2 < 0 ∨ 3 < h (a1 + 1) a2 then (gX1_work_j85 F a1 a2 a3 h) else (if h (a1 + 1) a2 = 0 then (jg (jI a2 (h (a1 + 2) (-1))) <| jg (jI (w32 (a3 + h (a1 + 2) a2)) 1000) <| some (h 269 (w32 (a3 + h (a1 + 2) a2)), h)) else (if h (a1 + 1) a2 = 1 then (jg (jI a2 (h (a1 + 2) (-1))) <| some (h (a1 + 2) a2, h)) else (if h (a1 + 1) a2 = 2 then (gX1_work_j85 F a1 a2 a3 h) else (jg (jI a2 (h (a1 + 2) (-1))) <| jg (jI (h (a1 + 2) a2) 3) <| some (h 270 (h (a1 + 2) a2), h)))))
theorem eX1_work_j17 {F0 : Int → Int → Int → Int → AH → Option (Int × AH)} {F : Int → Int → Int → AH → Option (Int × AH)} (hF : ∀ (b_a1 : Int) (b_a2 : Int) (b_a3 : Int), isX3 b_a1 → ∀ {b_h : AH}, Sh S b_h → EQ (F0 200 b_a1 b_a2 b_a3 b_h) (F b_a1 b_a2 b_a3 b_h) (fun r => Sh S r.2)) (a1 : Int) (a2 : Int) (a3 : Int) {h : AH} (hS : Sh S h) : EQ (fX1_work_j17 F0 200 a1 a2 a3 h) (gX1_work_j17 F a1 a2 a3 h) (fun r => Sh S r.2) := by
  unfold fX1_work_j17 gX1_work_j17
  refine EQ_jg ⟨fun x0 => (ik_X3 hS).mp x0, fun x0 => (ik_X3 hS).mpr x0⟩ (fun g1 => ?_)
  refine EQ_jg ⟨fun ⟨_, x0⟩ => (show jI a2 (h (h a1 1) (-1)) ↔ jI a2 (h (a1 + 1) (-1)) from by rw [ft_X3_1 hS g1]).mp x0, fun x0 => ⟨(show h (h a1 1) (-2) = 101 from by rw [ft_X3_1 hS g1, ka_X3_1 hS g1]), (show jI a2 (h (h a1 1) (-1)) ↔ jI a2 (h (a1 + 1) (-1)) from by rw [ft_X3_1 hS g1]).mpr x0⟩⟩ (fun g2 => ?_)
  refine EQ_if (show h (h a1 1) a2 < 0 ∨ 3 < h (h a1 1) a2 ↔ h (a1 + 1) a2 < 0 ∨ 3 < h (a1 + 1) a2 from by rw [ft_X3_1 hS g1]) (fun c3 => ?_) (fun c3 => ?_)
  · exact (eX1_work_j85 hF a1 a2 a3 g1 hS)
  · refine EQ_if (show h (h a1 1) a2 = 0 ↔ h (a1 + 1) a2 = 0 from by rw [ft_X3_1 hS g1]) (fun c4 => ?_) (fun c4 => ?_)
    · refine EQ_jgd (show h 200 (-2) = 2 from by rw [k_200 hS]) ?_
      refine EQ_jgd (show h a1 (-2) = 4 from by rw [kd_X3 hS g1]) ?_
      refine EQ_jg ⟨fun ⟨_, x0⟩ => (show jI a2 (h (h a1 2) (-1)) ↔ jI a2 (h (a1 + 2) (-1)) from by rw [ft_X3_2 hS g1]).mp x0, fun x0 => ⟨(show h (h a1 2) (-2) = 101 from by rw [ft_X3_2 hS g1, ka_X3_2 hS g1]), (show jI a2 (h (h a1 2) (-1)) ↔ jI a2 (h (a1 + 2) (-1)) from by rw [ft_X3_2 hS g1]).mpr x0⟩⟩ (fun g5 => ?_)
      refine EQ_jg ⟨fun ⟨_, x0⟩ => (show jI (w32 (a3 + h (h a1 2) a2)) (h (h 200 8) (-1)) ↔ jI (w32 (a3 + h (a1 + 2) a2)) 1000 from by rw [ft_X3_2 hS g1, r_200_8 hS, l_269 hS]).mp x0, fun x0 => ⟨(show h (h 200 8) (-2) = 101 from by rw [r_200_8 hS, k_269 hS]), (show jI (w32 (a3 + h (h a1 2) a2)) (h (h 200 8) (-1)) ↔ jI (w32 (a3 + h (a1 + 2) a2)) 1000 from by rw [ft_X3_2 hS g1, r_200_8 hS, l_269 hS]).mpr x0⟩⟩ (fun g6 => ?_)
      exact EQ_some' (by rw [r_200_8 hS, ft_X3_2 hS g1]) hS
    · refine EQ_if (show h (h a1 1) a2 = 1 ↔ h (a1 + 1) a2 = 1 from by rw [ft_X3_1 hS g1]) (fun c7 => ?_) (fun c7 => ?_)
      · refine EQ_jgd (show h a1 (-2) = 4 from by rw [kd_X3 hS g1]) ?_
        refine EQ_jg ⟨fun ⟨_, x0⟩ => (show jI a2 (h (h a1 2) (-1)) ↔ jI a2 (h (a1 + 2) (-1)) from by rw [ft_X3_2 hS g1]).mp x0, fun x0 => ⟨(show h (h a1 2) (-2) = 101 from by rw [ft_X3_2 hS g1, ka_X3_2 hS g1]), (show jI a2 (h (h a1 2) (-1)) ↔ jI a2 (h (a1 + 2) (-1)) from by rw [ft_X3_2 hS g1]).mpr x0⟩⟩ (fun g8 => ?_)
        exact EQ_some' (by rw [ft_X3_2 hS g1]) hS
      · refine EQ_if (show h (h a1 1) a2 = 2 ↔ h (a1 + 1) a2 = 2 from by rw [ft_X3_1 hS g1]) (fun c9 => ?_) (fun c9 => ?_)
        · exact (eX1_work_j85 hF a1 a2 a3 g1 hS)
        · refine EQ_jgd (show h 200 (-2) = 2 from by rw [k_200 hS]) ?_
          refine EQ_jgd (show h a1 (-2) = 4 from by rw [kd_X3 hS g1]) ?_
          refine EQ_jg ⟨fun ⟨_, x0⟩ => (show jI a2 (h (h a1 2) (-1)) ↔ jI a2 (h (a1 + 2) (-1)) from by rw [ft_X3_2 hS g1]).mp x0, fun x0 => ⟨(show h (h a1 2) (-2) = 101 from by rw [ft_X3_2 hS g1, ka_X3_2 hS g1]), (show jI a2 (h (h a1 2) (-1)) ↔ jI a2 (h (a1 + 2) (-1)) from by rw [ft_X3_2 hS g1]).mpr x0⟩⟩ (fun g10 => ?_)
          refine EQ_jg ⟨fun ⟨_, x0⟩ => (show jI (h (h a1 2) a2) (h (h 200 13) (-1)) ↔ jI (h (a1 + 2) a2) 3 from by rw [ft_X3_2 hS g1, r_200_13 hS, l_270 hS]).mp x0, fun x0 => ⟨(show h (h 200 13) (-2) = 101 from by rw [r_200_13 hS, k_270 hS]), (show jI (h (h a1 2) a2) (h (h 200 13) (-1)) ↔ jI (h (a1 + 2) a2) 3 from by rw [ft_X3_2 hS g1, r_200_13 hS, l_270 hS]).mpr x0⟩⟩ (fun g11 => ?_)
          exact EQ_some' (by rw [r_200_13 hS, ft_X3_2 hS g1]) hS
noncomputable def gX1_work_ (F : Int → Int → Int → AH → Option (Int × AH)) (a1 : Int) (a2 : Int) (a3 : Int) (h : AH) : Option (Int × AH) := if a2 = h 200 11 then (if a3 = 0 then (some (h 200 12, h)) else (gX1_work_j17 F a1 a2 a3 h)) else (gX1_work_j17 F a1 a2 a3 h)
theorem eX1_work_ {F0 : Int → Int → Int → Int → AH → Option (Int × AH)} {F : Int → Int → Int → AH → Option (Int × AH)} (hF : ∀ (b_a1 : Int) (b_a2 : Int) (b_a3 : Int), isX3 b_a1 → ∀ {b_h : AH}, Sh S b_h → EQ (F0 200 b_a1 b_a2 b_a3 b_h) (F b_a1 b_a2 b_a3 b_h) (fun r => Sh S r.2)) (a1 : Int) (a2 : Int) (a3 : Int) {h : AH} (hS : Sh S h) : EQ (fX1_work_ F0 200 a1 a2 a3 h) (gX1_work_ F a1 a2 a3 h) (fun r => Sh S r.2) := by
  unfold fX1_work_ gX1_work_
  refine EQ_jgd (show h 200 (-2) = 2 from by rw [k_200 hS]) ?_
  refine EQ_if Iff.rfl (fun c1 => ?_) (fun c1 => ?_)
  · refine EQ_if Iff.rfl (fun c2 => ?_) (fun c2 => ?_)
    · refine EQ_jgd (show h 200 (-2) = 2 from by rw [k_200 hS]) ?_
      exact EQ_some hS
    · exact (eX1_work_j17 hF a1 a2 a3 hS)
  · exact (eX1_work_j17 hF a1 a2 a3 hS)
noncomputable def gX1_workOwn_ (F : Int → Int → Int → AH → Option (Int × AH)) (a1 : Int) (a2 : Int) (h : AH) : Option (Int × AH) := jl (h 200 11) fun x1 => jl (jst h 200 11 (-1)) fun h2 => jg (jI a1 10) <| jb2 (gX1_work_ F 258 (h2 264 a1) a2 h2) fun v4 h5 => jl (jst h5 200 11 x1) fun h6 => some (v4, h6)
theorem eX1_workOwn_ {F0 : Int → Int → Int → Int → AH → Option (Int × AH)} {F : Int → Int → Int → AH → Option (Int × AH)} (hF : ∀ (b_a1 : Int) (b_a2 : Int) (b_a3 : Int), isX3 b_a1 → ∀ {b_h : AH}, Sh S b_h → EQ (F0 200 b_a1 b_a2 b_a3 b_h) (F b_a1 b_a2 b_a3 b_h) (fun r => Sh S r.2)) (a1 : Int) (a2 : Int) {h : AH} (hS : Sh S h) : EQ (fX1_workOwn_ F0 200 a1 a2 h) (gX1_workOwn_ F a1 a2 h) (fun r => Sh S r.2) := by
  unfold fX1_workOwn_ gX1_workOwn_
  refine EQ_jgd (show h 200 (-2) = 2 from by rw [k_200 hS]) ?_
  refine EQ_jl rfl (fun x1 ex1 => ?_)
  clear ex1
  refine EQ_jgd ⟨(show h 200 (-2) = 2 from by rw [k_200 hS]), (show (200 : Int) ≤ 200 from (by decide))⟩ ?_
  refine EQ_jl rfl (fun h2 eh2 => ?_)
  have s1 := Sh_of eh2 (Sh_sto hS (a := 200) (i := 11) (by decide +kernel))
  clear eh2
  refine EQ_jgd (show h2 200 (-2) = 2 from by rw [k_200 s1]) ?_
  refine EQ_jgd (show h2 200 (-2) = 2 from by rw [k_200 s1]) ?_
  refine EQ_jg ⟨fun ⟨_, x0⟩ => (show jI a1 (h2 (h2 200 2) (-1)) ↔ jI a1 10 from by rw [r_200_2 s1, l_264 s1]).mp x0, fun x0 => ⟨(show h2 (h2 200 2) (-2) = 101 from by rw [r_200_2 s1, k_264 s1]), (show jI a1 (h2 (h2 200 2) (-1)) ↔ jI a1 10 from by rw [r_200_2 s1, l_264 s1]).mpr x0⟩⟩ (fun g2 => ?_)
  refine EQ_jgd (show h2 200 (-2) = 2 from by rw [k_200 s1]) ?_
  refine EQ_jb2 (by rw [r_200_1 s1, r_200_2 s1]; exact eX1_work_ hF 258 (h2 264 a1) a2 s1) (fun v4 h5 r3 => ?_)
  replace r3 : Sh S h5 := r3
  refine EQ_jgd ⟨(show h5 200 (-2) = 2 from by rw [k_200 r3]), (show (200 : Int) ≤ 200 from (by decide))⟩ ?_
  refine EQ_jl rfl (fun h6 eh6 => ?_)
  have s4 := Sh_of eh6 (Sh_sto r3 (a := 200) (i := 11) (by decide +kernel))
  clear eh6
  exact EQ_some s4
noncomputable def gX1_workAct_j93 (F : Int → Int → Int → AH → Option (Int × AH)) (a3 : Int) (t1 : Int) (t2 : Int) (t3 : Int) (t4 : Int) (h : AH) : Option (Int × AH) := jb (gX3_part t2 t3 t4 h) fun v15 => jb2 (gX1_work_ F t1 v15 a3 h) fun v17 h18 => some (v17, h18)
theorem eX1_workAct_j93 {F0 : Int → Int → Int → Int → AH → Option (Int × AH)} {F : Int → Int → Int → AH → Option (Int × AH)} (hF : ∀ (b_a1 : Int) (b_a2 : Int) (b_a3 : Int), isX3 b_a1 → ∀ {b_h : AH}, Sh S b_h → EQ (F0 200 b_a1 b_a2 b_a3 b_h) (F b_a1 b_a2 b_a3 b_h) (fun r => Sh S r.2)) (a3 : Int) (t1 : Int) (t2 : Int) (t3 : Int) (t4 : Int) (hT_t1 : isX3 t1) (hT_t2 : isX3 t2) {h : AH} (hS : Sh S h) : EQ (fX1_workAct_j93 F0 a3 200 t1 t2 t3 t4 h) (gX1_workAct_j93 F a3 t1 t2 t3 t4 h) (fun r => Sh S r.2) := by
  unfold fX1_workAct_j93 gX1_workAct_j93
  refine EQ_jgd (show h t2 (-2) = 4 from by rw [kd_X3 hS hT_t2]) ?_
  refine EQ_jb (eX3_part t2 t3 t4 hT_t2 hS) (fun v15 r1 => ?_)
  refine EQ_jgd (show h 200 (-2) = 2 from by rw [k_200 hS]) ?_
  refine EQ_jb2 (eX1_work_ hF t1 v15 a3 hS) (fun v17 h18 r2 => ?_)
  replace r2 : Sh S h18 := r2
  exact EQ_some r2
noncomputable def gX1_workAct_j44 (F : Int → Int → Int → AH → Option (Int × AH)) (a1 : Int) (a2 : Int) (a3 : Int) (h : AH) : Option (Int × AH) := jb (gX3_part a1 a2 0 h) fun v7 => jb2 (gX1_work_ F a1 v7 a3 h) fun v9 h10 => jl (jst h10 200 10 (w32 (h10 200 10 + 1))) fun h11 => if v9 = (-1) then (some ((-1), h11)) else (if v9 = 1 then (gX1_workAct_j93 F a3 a1 a1 a2 1 h11) else (gX1_workAct_j93 F a3 a1 a1 a2 2 h11))
theorem eX1_workAct_j44 {F0 : Int → Int → Int → Int → AH → Option (Int × AH)} {F : Int → Int → Int → AH → Option (Int × AH)} (hF : ∀ (b_a1 : Int) (b_a2 : Int) (b_a3 : Int), isX3 b_a1 → ∀ {b_h : AH}, Sh S b_h → EQ (F0 200 b_a1 b_a2 b_a3 b_h) (F b_a1 b_a2 b_a3 b_h) (fun r => Sh S r.2)) (a1 : Int) (a2 : Int) (a3 : Int) (hT_a1 : isX3 a1) {h : AH} (hS : Sh S h) : EQ (fX1_workAct_j44 F0 200 a1 a2 a3 h) (gX1_workAct_j44 F a1 a2 a3 h) (fun r => Sh S r.2) := by
  unfold fX1_workAct_j44 gX1_workAct_j44
  refine EQ_jgd (show h a1 (-2) = 4 from by rw [kd_X3 hS hT_a1]) ?_
  refine EQ_jb (eX3_part a1 a2 0 hT_a1 hS) (fun v7 r1 => ?_)
  refine EQ_jgd (show h 200 (-2) = 2 from by rw [k_200 hS]) ?_
  refine EQ_jb2 (eX1_work_ hF a1 v7 a3 hS) (fun v9 h10 r2 => ?_)
  replace r2 : Sh S h10 := r2
  refine EQ_jgd (show h10 200 (-2) = 2 from by rw [k_200 r2]) ?_
  refine EQ_jgd ⟨(show h10 200 (-2) = 2 from by rw [k_200 r2]), (show (200 : Int) ≤ 200 from (by decide))⟩ ?_
  refine EQ_jl rfl (fun h11 eh11 => ?_)
  have s3 := Sh_of eh11 (Sh_sto r2 (a := 200) (i := 10) (by decide +kernel))
  clear eh11
  refine EQ_if Iff.rfl (fun c4 => ?_) (fun c4 => ?_)
  · exact EQ_some s3
  · refine EQ_if Iff.rfl (fun c5 => ?_) (fun c5 => ?_)
    · exact (eX1_workAct_j93 hF a3 a1 a1 a2 1 hT_a1 hT_a1 s3)
    · exact (eX1_workAct_j93 hF a3 a1 a1 a2 2 hT_a1 hT_a1 s3)
noncomputable def gX1_workAct_j339 (F : Int → Int → Int → AH → Option (Int × AH)) (a6 : Int) (a9 : Int) (h : AH) : Option (Int × AH) := jl (jst h 200 9 a6) fun h41 => some (a9, h41)
theorem eX1_workAct_j339 {F0 : Int → Int → Int → Int → AH → Option (Int × AH)} {F : Int → Int → Int → AH → Option (Int × AH)} (hF : ∀ (b_a1 : Int) (b_a2 : Int) (b_a3 : Int), isX3 b_a1 → ∀ {b_h : AH}, Sh S b_h → EQ (F0 200 b_a1 b_a2 b_a3 b_h) (F b_a1 b_a2 b_a3 b_h) (fun r => Sh S r.2)) (a6 : Int) (a9 : Int) {h : AH} (hS : Sh S h) : EQ (fX1_workAct_j339 F0 200 a6 a9 h) (gX1_workAct_j339 F a6 a9 h) (fun r => Sh S r.2) := by
  unfold fX1_workAct_j339 gX1_workAct_j339
  refine EQ_jgd ⟨(show h 200 (-2) = 2 from by rw [k_200 hS]), (show (200 : Int) ≤ 200 from (by decide))⟩ ?_
  refine EQ_jl rfl (fun h41 eh41 => ?_)
  have s1 := Sh_of eh41 (Sh_sto hS (a := 200) (i := 9) (by decide +kernel))
  clear eh41
  exact EQ_some s1
noncomputable def gX1_workAct_j321 (F : Int → Int → Int → AH → Option (Int × AH)) (a4 : Int) (a6 : Int) (a8 : Int) (a9 : Int) (h : AH) : Option (Int × AH) := if a8 = 0 then (gX1_workAct_j339 F a6 a9 h) else (jb2 (gX1_workOwn_ F (w32 (a4 - 26)) a6 h) fun v39 h40 => gX1_workAct_j339 F a6 v39 h40)
theorem eX1_workAct_j321 {F0 : Int → Int → Int → Int → AH → Option (Int × AH)} {F : Int → Int → Int → AH → Option (Int × AH)} (hF : ∀ (b_a1 : Int) (b_a2 : Int) (b_a3 : Int), isX3 b_a1 → ∀ {b_h : AH}, Sh S b_h → EQ (F0 200 b_a1 b_a2 b_a3 b_h) (F b_a1 b_a2 b_a3 b_h) (fun r => Sh S r.2)) (a4 : Int) (a6 : Int) (a8 : Int) (a9 : Int) {h : AH} (hS : Sh S h) : EQ (fX1_workAct_j321 F0 200 a4 a6 a8 a9 h) (gX1_workAct_j321 F a4 a6 a8 a9 h) (fun r => Sh S r.2) := by
  unfold fX1_workAct_j321 gX1_workAct_j321
  refine EQ_if Iff.rfl (fun c1 => ?_) (fun c1 => ?_)
  · exact (eX1_workAct_j339 hF a6 a9 hS)
  · refine EQ_jgd (show h 200 (-2) = 2 from by rw [k_200 hS]) ?_
    refine EQ_jb2 (eX1_workOwn_ hF (w32 (a4 - 26)) a6 hS) (fun v39 h40 r2 => ?_)
    replace r2 : Sh S h40 := r2
    exact (eX1_workAct_j339 hF a6 v39 r2)
noncomputable def gX1_workAct_j313 (F : Int → Int → Int → AH → Option (Int × AH)) (a6 : Int) (t0 : Int) (t1 : Int) (t2 : Int) (t3 : Int) (h : AH) : Option (Int × AH) := jb (gX2_give t0 t1 t2 t3) fun v44 => gX1_workAct_j339 F a6 v44 h
theorem eX1_workAct_j313 {F0 : Int → Int → Int → Int → AH → Option (Int × AH)} {F : Int → Int → Int → AH → Option (Int × AH)} (hF : ∀ (b_a1 : Int) (b_a2 : Int) (b_a3 : Int), isX3 b_a1 → ∀ {b_h : AH}, Sh S b_h → EQ (F0 200 b_a1 b_a2 b_a3 b_h) (F b_a1 b_a2 b_a3 b_h) (fun r => Sh S r.2)) (a6 : Int) (t0 : Int) (t1 : Int) (t2 : Int) (t3 : Int) {h : AH} (hS : Sh S h) : EQ (fX1_workAct_j313 F0 200 a6 t0 t1 t2 t3 h) (gX1_workAct_j313 F a6 t0 t1 t2 t3 h) (fun r => Sh S r.2) := by
  unfold fX1_workAct_j313 gX1_workAct_j313
  refine EQ_jb (eX2_give t0 t1 t2 t3) (fun v44 r1 => ?_)
  exact (eX1_workAct_j339 hF a6 v44 hS)
noncomputable def gX1_workAct_j294 (F : Int → Int → Int → AH → Option (Int × AH)) (a6 : Int) (a7 : Int) (t0 : Int) (t1 : Int) (t2 : Int) (h : AH) : Option (Int × AH) := if a7 ≤ 2 then (gX1_workAct_j313 F a6 t0 t1 t2 0 h) else (jg (jI (w32 (a6 + 2)) 1000) <| gX1_workAct_j313 F a6 t0 t1 t2 (h 269 (w32 (a6 + 2))) h)
theorem eX1_workAct_j294 {F0 : Int → Int → Int → Int → AH → Option (Int × AH)} {F : Int → Int → Int → AH → Option (Int × AH)} (hF : ∀ (b_a1 : Int) (b_a2 : Int) (b_a3 : Int), isX3 b_a1 → ∀ {b_h : AH}, Sh S b_h → EQ (F0 200 b_a1 b_a2 b_a3 b_h) (F b_a1 b_a2 b_a3 b_h) (fun r => Sh S r.2)) (a6 : Int) (a7 : Int) (t0 : Int) (t1 : Int) (t2 : Int) {h : AH} (hS : Sh S h) : EQ (fX1_workAct_j294 F0 200 a6 a7 t0 t1 t2 h) (gX1_workAct_j294 F a6 a7 t0 t1 t2 h) (fun r => Sh S r.2) := by
  unfold fX1_workAct_j294 gX1_workAct_j294
  refine EQ_if Iff.rfl (fun c1 => ?_) (fun c1 => ?_)
  · exact (eX1_workAct_j313 hF a6 t0 t1 t2 0 hS)
  · refine EQ_jgd (show h 200 (-2) = 2 from by rw [k_200 hS]) ?_
    refine EQ_jg ⟨fun ⟨_, x0⟩ => (show jI (w32 (a6 + 2)) (h (h 200 8) (-1)) ↔ jI (w32 (a6 + 2)) 1000 from by rw [r_200_8 hS, l_269 hS]).mp x0, fun x0 => ⟨(show h (h 200 8) (-2) = 101 from by rw [r_200_8 hS, k_269 hS]), (show jI (w32 (a6 + 2)) (h (h 200 8) (-1)) ↔ jI (w32 (a6 + 2)) 1000 from by rw [r_200_8 hS, l_269 hS]).mpr x0⟩⟩ (fun g2 => ?_)
    exact (by rw [r_200_8 hS]; exact eX1_workAct_j313 hF a6 t0 t1 t2 (h 269 (w32 (a6 + 2))) hS)
noncomputable def gX1_workAct_j254 (F : Int → Int → Int → AH → Option (Int × AH)) (a4 : Int) (a6 : Int) (a7 : Int) (a8 : Int) (a9 : Int) (h : AH) : Option (Int × AH) := if a8 = 0 then (gX1_workAct_j321 F a4 a6 a8 a9 h) else (if 26 ≤ a4 then (gX1_workAct_j321 F a4 a6 a8 a9 h) else (jg (jI a6 1000) <| if a7 ≤ 1 then (gX1_workAct_j294 F a6 a7 a4 (h 269 a6) 0 h) else (jg (jI (w32 (a6 + 1)) 1000) <| gX1_workAct_j294 F a6 a7 a4 (h 269 a6) (h 269 (w32 (a6 + 1))) h)))
theorem eX1_workAct_j254 {F0 : Int → Int → Int → Int → AH → Option (Int × AH)} {F : Int → Int → Int → AH → Option (Int × AH)} (hF : ∀ (b_a1 : Int) (b_a2 : Int) (b_a3 : Int), isX3 b_a1 → ∀ {b_h : AH}, Sh S b_h → EQ (F0 200 b_a1 b_a2 b_a3 b_h) (F b_a1 b_a2 b_a3 b_h) (fun r => Sh S r.2)) (a4 : Int) (a6 : Int) (a7 : Int) (a8 : Int) (a9 : Int) {h : AH} (hS : Sh S h) : EQ (fX1_workAct_j254 F0 200 a4 a6 a7 a8 a9 h) (gX1_workAct_j254 F a4 a6 a7 a8 a9 h) (fun r => Sh S r.2) := by
  unfold fX1_workAct_j254 gX1_workAct_j254
  refine EQ_if Iff.rfl (fun c1 => ?_) (fun c1 => ?_)
  · exact (eX1_workAct_j321 hF a4 a6 a8 a9 hS)
  · refine EQ_if Iff.rfl (fun c2 => ?_) (fun c2 => ?_)
    · exact (eX1_workAct_j321 hF a4 a6 a8 a9 hS)
    · refine EQ_jgd (show h 200 (-2) = 2 from by rw [k_200 hS]) ?_
      refine EQ_jg ⟨fun ⟨_, x0⟩ => (show jI a6 (h (h 200 8) (-1)) ↔ jI a6 1000 from by rw [r_200_8 hS, l_269 hS]).mp x0, fun x0 => ⟨(show h (h 200 8) (-2) = 101 from by rw [r_200_8 hS, k_269 hS]), (show jI a6 (h (h 200 8) (-1)) ↔ jI a6 1000 from by rw [r_200_8 hS, l_269 hS]).mpr x0⟩⟩ (fun g3 => ?_)
      refine EQ_if Iff.rfl (fun c4 => ?_) (fun c4 => ?_)
      · exact (by rw [r_200_8 hS]; exact eX1_workAct_j294 hF a6 a7 a4 (h 269 a6) 0 hS)
      · refine EQ_jgd (show h 200 (-2) = 2 from by rw [k_200 hS]) ?_
        refine EQ_jg ⟨fun ⟨_, x0⟩ => (show jI (w32 (a6 + 1)) (h (h 200 8) (-1)) ↔ jI (w32 (a6 + 1)) 1000 from by rw [r_200_8 hS, l_269 hS]).mp x0, fun x0 => ⟨(show h (h 200 8) (-2) = 101 from by rw [r_200_8 hS, k_269 hS]), (show jI (w32 (a6 + 1)) (h (h 200 8) (-1)) ↔ jI (w32 (a6 + 1)) 1000 from by rw [r_200_8 hS, l_269 hS]).mpr x0⟩⟩ (fun g5 => ?_)
        exact (by rw [r_200_8 hS]; exact eX1_workAct_j294 hF a6 a7 a4 (h 269 a6) (h 269 (w32 (a6 + 1))) hS)
noncomputable def gX1_workAct_j182_147 (F : Int → Int → Int → AH → Option (Int × AH)) (a1 : Int) (a2 : Int) (a3 : Int) (a4 : Int) (a5 : Int) (a6 : Int) (a7 : Int) (a9 : Int) (a10 : Int) (t0 : Int) (t1 : Int) (h : AH) : Option ((Int × Int × AH) ⊕ (Int × AH)) := jl (jand t0 t1) fun x52 => jg (jI (w32 (a6 + a9)) 1000) <| jl (jst h 269 (w32 (a6 + a9)) a10) fun h53 => jl (w32 (a9 + 1)) fun x54 => some (.inl (x52, x54, h53))
theorem eX1_workAct_j182_147 {F0 : Int → Int → Int → Int → AH → Option (Int × AH)} {F : Int → Int → Int → AH → Option (Int × AH)} (hF : ∀ (b_a1 : Int) (b_a2 : Int) (b_a3 : Int), isX3 b_a1 → ∀ {b_h : AH}, Sh S b_h → EQ (F0 200 b_a1 b_a2 b_a3 b_h) (F b_a1 b_a2 b_a3 b_h) (fun r => Sh S r.2)) (a1 : Int) (a2 : Int) (a3 : Int) (a4 : Int) (a5 : Int) (a6 : Int) (a7 : Int) (a9 : Int) (a10 : Int) (t0 : Int) (t1 : Int) (hT_a1 : isX3 a1) {h : AH} (hS : Sh S h) : EQ (fX1_workAct_j182_147 F0 200 a1 a2 a3 a4 a5 a6 a7 a9 a10 t0 t1 h) (gX1_workAct_j182_147 F a1 a2 a3 a4 a5 a6 a7 a9 a10 t0 t1 h) (Sum.elim (fun r => Sh S r.2.2) (fun r => Sh S r.2)) := by
  unfold fX1_workAct_j182_147 gX1_workAct_j182_147
  refine EQ_jl rfl (fun x52 ex52 => ?_)
  clear ex52
  refine EQ_jgd (show h 200 (-2) = 2 from by rw [k_200 hS]) ?_
  refine EQ_jg ⟨fun ⟨_, _, x0⟩ => (show jI (w32 (a6 + a9)) (h (h 200 8) (-1)) ↔ jI (w32 (a6 + a9)) 1000 from by rw [r_200_8 hS, l_269 hS]).mp x0, fun x0 => ⟨(show h (h 200 8) (-2) = 101 from by rw [r_200_8 hS, k_269 hS]), (show 200 ≤ h 200 8 from by rw [r_200_8 hS]; exact (by decide)), (show jI (w32 (a6 + a9)) (h (h 200 8) (-1)) ↔ jI (w32 (a6 + a9)) 1000 from by rw [r_200_8 hS, l_269 hS]).mpr x0⟩⟩ (fun g1 => ?_)
  refine EQ_jl (by rw [r_200_8 hS]) (fun h53 eh53 => ?_)
  have s2 := Sh_of eh53 (Sh_sta hS (by decide +kernel) (jI_nn g1) (fun e => absurd ((k_269 hS).symm.trans e) (by decide)))
  clear eh53
  refine EQ_jl rfl (fun x54 ex54 => ?_)
  clear ex54
  exact EQ_some s2
noncomputable def gX1_workAct_b147 (F : Int → Int → Int → AH → Option (Int × AH)) (i1 : Int) (i2 : Int) (i3 : Int) (i4 : Int) (i5 : Int) (i6 : Int) (i7 : Int) (s : Int × Int × AH) : Option ((Int × Int × AH) ⊕ (Int × AH)) := jt3 s fun a8 a9 h => if i7 ≤ a9 then (some (.inr (a8, h))) else (jb (gX3_part i1 i2 a9 h) fun v47 => jb2 (gX1_work_ F i1 v47 i3 h) fun v49 h50 => if v49 = (-1) then (gX1_workAct_j182_147 F i1 i2 i3 i4 i5 i6 i7 a9 v49 a8 0 h50) else (gX1_workAct_j182_147 F i1 i2 i3 i4 i5 i6 i7 a9 v49 a8 1 h50))
theorem eX1_workAct_b147 {F0 : Int → Int → Int → Int → AH → Option (Int × AH)} {F : Int → Int → Int → AH → Option (Int × AH)} (hF : ∀ (b_a1 : Int) (b_a2 : Int) (b_a3 : Int), isX3 b_a1 → ∀ {b_h : AH}, Sh S b_h → EQ (F0 200 b_a1 b_a2 b_a3 b_h) (F b_a1 b_a2 b_a3 b_h) (fun r => Sh S r.2)) (i1 : Int) (i2 : Int) (i3 : Int) (i4 : Int) (i5 : Int) (i6 : Int) (i7 : Int) (hT_i1 : isX3 i1) {s : Int × Int × AH} (hS : (fun r => Sh S r.2.2) s) : EQ (fX1_workAct_b147 F0 200 i1 i2 i3 i4 i5 i6 i7 s) (gX1_workAct_b147 F i1 i2 i3 i4 i5 i6 i7 s) (Sum.elim (fun r => Sh S r.2.2) (fun r => Sh S r.2)) := by
  unfold fX1_workAct_b147 gX1_workAct_b147
  obtain ⟨a8, a9, h⟩ := s
  refine EQ_jt3 ?_
  replace hS : Sh S h := hS
  refine EQ_if Iff.rfl (fun c1 => ?_) (fun c1 => ?_)
  · exact EQ_some hS
  · refine EQ_jgd (show h i1 (-2) = 4 from by rw [kd_X3 hS hT_i1]) ?_
    refine EQ_jb (eX3_part i1 i2 a9 hT_i1 hS) (fun v47 r2 => ?_)
    refine EQ_jgd (show h 200 (-2) = 2 from by rw [k_200 hS]) ?_
    refine EQ_jb2 (eX1_work_ hF i1 v47 i3 hS) (fun v49 h50 r3 => ?_)
    replace r3 : Sh S h50 := r3
    refine EQ_if Iff.rfl (fun c4 => ?_) (fun c4 => ?_)
    · exact (eX1_workAct_j182_147 hF i1 i2 i3 i4 i5 i6 i7 a9 v49 a8 0 hT_i1 r3)
    · exact (eX1_workAct_j182_147 hF i1 i2 i3 i4 i5 i6 i7 a9 v49 a8 1 hT_i1 r3)
noncomputable def gX1_workAct_l147 (F : Int → Int → Int → AH → Option (Int × AH)) (i1 : Int) (i2 : Int) (i3 : Int) (i4 : Int) (i5 : Int) (i6 : Int) (i7 : Int) (a8 : Int) (a9 : Int) (h : AH) : Option (Int × AH) := jit (gX1_workAct_b147 F i1 i2 i3 i4 i5 i6 i7) (a8, a9, h)
theorem eX1_workAct_l147 {F0 : Int → Int → Int → Int → AH → Option (Int × AH)} {F : Int → Int → Int → AH → Option (Int × AH)} (hF : ∀ (b_a1 : Int) (b_a2 : Int) (b_a3 : Int), isX3 b_a1 → ∀ {b_h : AH}, Sh S b_h → EQ (F0 200 b_a1 b_a2 b_a3 b_h) (F b_a1 b_a2 b_a3 b_h) (fun r => Sh S r.2)) (i1 : Int) (i2 : Int) (i3 : Int) (i4 : Int) (i5 : Int) (i6 : Int) (i7 : Int) (a8 : Int) (a9 : Int) (hT_i1 : isX3 i1) {h : AH} (hS : Sh S h) : EQ (fX1_workAct_l147 F0 200 i1 i2 i3 i4 i5 i6 i7 a8 a9 h) (gX1_workAct_l147 F i1 i2 i3 i4 i5 i6 i7 a8 a9 h) (fun r => Sh S r.2) := EQ_jit (I := (fun r => Sh S r.2.2)) (fun s hs => eX1_workAct_b147 hF i1 i2 i3 i4 i5 i6 i7 hT_i1 hs) hS
noncomputable def gX1_workAct_j128 (F : Int → Int → Int → AH → Option (Int × AH)) (a1 : Int) (a2 : Int) (a3 : Int) (a4 : Int) (a5 : Int) (a6 : Int) (t0 : Int) (h : AH) : Option (Int × AH) := jl (jst h 200 9 (w32 (h 200 9 + t0))) fun h23 => jb (gX1_workAct_l147 F a1 a2 a3 a4 a5 a6 t0 1 0 h23) fun o24 => jt2 o24 fun y26 h27 => jl (jst h27 200 10 (w32 (h27 200 10 + 1))) fun h28 => if y26 = 0 then (gX1_workAct_j254 F a4 a6 t0 y26 (-1) h28) else (if a5 = 0 then (gX1_workAct_j254 F a4 a6 t0 y26 (-1) h28) else (jb (gX4_pointOf (h28 200 16) 269 a6 h28) fun v32 => jg (h28 (h28 200 14) (-2) = 101 ∧ jI (w32 (h28 200 15 + v32)) (h28 (h28 200 14) (-1))) <| jl (h28 (h28 200 14) (w32 (h28 200 15 + v32))) fun x33 => gX1_workAct_j339 F a6 x33 h28))
theorem eX1_workAct_j128 {F0 : Int → Int → Int → Int → AH → Option (Int × AH)} {F : Int → Int → Int → AH → Option (Int × AH)} (hF : ∀ (b_a1 : Int) (b_a2 : Int) (b_a3 : Int), isX3 b_a1 → ∀ {b_h : AH}, Sh S b_h → EQ (F0 200 b_a1 b_a2 b_a3 b_h) (F b_a1 b_a2 b_a3 b_h) (fun r => Sh S r.2)) (a1 : Int) (a2 : Int) (a3 : Int) (a4 : Int) (a5 : Int) (a6 : Int) (t0 : Int) (hT_a1 : isX3 a1) {h : AH} (hS : Sh S h) : EQ (fX1_workAct_j128 F0 200 a1 a2 a3 a4 a5 a6 t0 h) (gX1_workAct_j128 F a1 a2 a3 a4 a5 a6 t0 h) (fun r => Sh S r.2) := by
  unfold fX1_workAct_j128 gX1_workAct_j128
  refine EQ_jgd (show h 200 (-2) = 2 from by rw [k_200 hS]) ?_
  refine EQ_jgd ⟨(show h 200 (-2) = 2 from by rw [k_200 hS]), (show (200 : Int) ≤ 200 from (by decide))⟩ ?_
  refine EQ_jl rfl (fun h23 eh23 => ?_)
  have s1 := Sh_of eh23 (Sh_sto hS (a := 200) (i := 9) (by decide +kernel))
  clear eh23
  refine EQ_jb (eX1_workAct_l147 hF a1 a2 a3 a4 a5 a6 t0 1 0 hT_a1 s1) (fun o24 r2 => ?_)
  obtain ⟨y26, h27⟩ := o24
  refine EQ_jt2 ?_
  replace r2 : Sh S h27 := r2
  refine EQ_jgd (show h27 200 (-2) = 2 from by rw [k_200 r2]) ?_
  refine EQ_jgd ⟨(show h27 200 (-2) = 2 from by rw [k_200 r2]), (show (200 : Int) ≤ 200 from (by decide))⟩ ?_
  refine EQ_jl rfl (fun h28 eh28 => ?_)
  have s3 := Sh_of eh28 (Sh_sto r2 (a := 200) (i := 10) (by decide +kernel))
  clear eh28
  refine EQ_if Iff.rfl (fun c4 => ?_) (fun c4 => ?_)
  · exact (eX1_workAct_j254 hF a4 a6 t0 y26 (-1) s3)
  · refine EQ_if Iff.rfl (fun c5 => ?_) (fun c5 => ?_)
    · exact (eX1_workAct_j254 hF a4 a6 t0 y26 (-1) s3)
    · refine EQ_jgd (show h28 200 (-2) = 2 from by rw [k_200 s3]) ?_
      refine EQ_jgd (show h28 200 (-2) = 2 from by rw [k_200 s3]) ?_
      refine EQ_jgd (show h28 200 (-2) = 2 from by rw [k_200 s3]) ?_
      refine EQ_jgd (show h28 200 (-2) = 2 from by rw [k_200 s3]) ?_
      refine EQ_jgd (show h28 (h28 200 16) (-2) = 5 from by rw [kd_X4 s3 (dy_200_16 s3)]) ?_
      refine EQ_jb (by rw [r_200_8 s3]; exact eX4_pointOf (h28 200 16) 269 a6 (dy_200_16 s3) s3) (fun v32 r6 => ?_)
      refine EQ_jg Iff.rfl (fun g7 => ?_)
      refine EQ_jl rfl (fun x33 ex33 => ?_)
      clear ex33
      exact (eX1_workAct_j339 hF a6 x33 s3)
