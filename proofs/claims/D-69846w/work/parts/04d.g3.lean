set_option maxRecDepth 100000
variable {S : Nat → Nat}
noncomputable def gX9_lead (a1 : Int) (a2 : Int) (a4 : Int) (h : AH) : Option (AH) := if jcmp a2 (-1) = 0 then (some h) else (jg (jI a1 401) <| jb2 (gX9_place a2 (w32 (h 416 a1 + 1)) h) fun v3 h4 => if v3 = (-1) then (jl (jst h4 408 11 0) fun h6 => some h6) else (jl (w32 (w32 (a1 * 400) + v3)) fun x7 => jg (jI x7 160000) <| if jcmp (h4 417 x7) 0 = 0 then (gX9_lead_j81 x7 x7 a4 h4) else (gX9_lead_j81 x7 x7 (min (h4 418 x7) a4) h4)))
theorem eX9_lead (a1 : Int) (a2 : Int) (a4 : Int) {h : AH} (hS : Sh S h) : EQ (fX9_lead 408 a1 a2 a4 h) (gX9_lead a1 a2 a4 h) (fun r => Sh S r) := by
  unfold fX9_lead gX9_lead
  refine EQ_if Iff.rfl (fun c1 => ?_) (fun c1 => ?_)
  · exact EQ_some hS
  · refine EQ_jgd (show h 408 (-2) = 10 from by rw [k_408 hS]) ?_
    refine EQ_jg ⟨fun ⟨_, x0⟩ => (show jI a1 (h (h 408 8) (-1)) ↔ jI a1 401 from by rw [r_408_8 hS, l_416 hS]).mp x0, fun x0 => ⟨(show h (h 408 8) (-2) = 101 from by rw [r_408_8 hS, k_416 hS]), (show jI a1 (h (h 408 8) (-1)) ↔ jI a1 401 from by rw [r_408_8 hS, l_416 hS]).mpr x0⟩⟩ (fun g2 => ?_)
    refine EQ_jgd (show h 408 (-2) = 10 from by rw [k_408 hS]) ?_
    refine EQ_jb2 (by rw [r_408_8 hS]; exact eX9_place a2 (w32 (h 416 a1 + 1)) hS) (fun v3 h4 r3 => ?_)
    replace r3 : Sh S h4 := r3
    refine EQ_if Iff.rfl (fun c4 => ?_) (fun c4 => ?_)
    · refine EQ_jgd ⟨(show h4 408 (-2) = 10 from by rw [k_408 r3]), (show (200 : Int) ≤ 408 from (by decide)), (show jZ 0 from by unfold jZ; decide)⟩ ?_
      refine EQ_jl rfl (fun h6 eh6 => ?_)
      have s5 := Sh_of eh6 (Sh_sto r3 (a := 408) (i := 11) (by decide +kernel))
      clear eh6
      exact EQ_some s5
    · refine EQ_jl rfl (fun x7 ex7 => ?_)
      clear ex7
      refine EQ_jgd (show h4 408 (-2) = 10 from by rw [k_408 r3]) ?_
      refine EQ_jgd (show h4 408 (-2) = 10 from by rw [k_408 r3]) ?_
      refine EQ_jg ⟨fun ⟨_, x0⟩ => (show jI x7 (h4 (h4 408 12) (-1)) ↔ jI x7 160000 from by rw [r_408_12 r3, l_417 r3]).mp x0, fun x0 => ⟨(show h4 (h4 408 12) (-2) = 102 from by rw [r_408_12 r3, k_417 r3]), (show jI x7 (h4 (h4 408 12) (-1)) ↔ jI x7 160000 from by rw [r_408_12 r3, l_417 r3]).mpr x0⟩⟩ (fun g6 => ?_)
      refine EQ_if (show jcmp (h4 (h4 408 12) x7) 0 = 0 ↔ jcmp (h4 417 x7) 0 = 0 from by rw [r_408_12 r3]) (fun c7 => ?_) (fun c7 => ?_)
      · exact (by rw [r_408_13 r3]; exact eX9_lead_j81 x7 x7 a4 r3)
      · refine EQ_jgd (show h4 408 (-2) = 10 from by rw [k_408 r3]) ?_
        refine EQ_jgd ⟨(show h4 (h4 408 13) (-2) = 101 from by rw [r_408_13 r3, k_418 r3]), ((show jI x7 (h4 (h4 408 13) (-1)) ↔ jI x7 160000 from by rw [r_408_13 r3, l_418 r3]).mpr g6)⟩ ?_
        exact (by rw [r_408_13 r3]; exact eX9_lead_j81 x7 x7 (min (h4 418 x7) a4) r3)
noncomputable def gX9_behind_b86 (i1 : Int) (i3 : Int) (i4 : Int) (i5 : Int) (i7 : Int) (i8 : Int) (i9 : Int) (i10 : Int) (h : AH) (a11 : Int) : Option ((Int) ⊕ ((Unit) ⊕ (Unit))) := if i9 ≤ a11 then (some (.inr (.inr ()))) else (jg (jI (w32 (w32 (10 * i7) + a11)) 80) <| jg (jI (w32 (w32 (w32 (w32 (10 * i7) + i10) + a11) - i8)) 80) <| if h 409 (w32 (w32 (10 * i7) + a11)) = h 410 (w32 (w32 (w32 (w32 (10 * i7) + i10) + a11) - i8)) then (jl (w32 (a11 + 1)) fun x22 => some (.inl x22)) else (some (.inr (.inl ()))))
theorem eX9_behind_b86 (i1 : Int) (i3 : Int) (i4 : Int) (i5 : Int) (i7 : Int) (i8 : Int) (i9 : Int) (i10 : Int) (a11 : Int) {h : AH} (hS : Sh S h) : EQ (fX9_behind_b86 408 i1 i3 i4 i5 i7 i8 i9 i10 h a11) (gX9_behind_b86 i1 i3 i4 i5 i7 i8 i9 i10 h a11) (Sum.elim (fun _ => True) (Sum.elim (fun _ => True) (fun _ => True))) := by
  unfold fX9_behind_b86 gX9_behind_b86
  refine EQ_if Iff.rfl (fun c1 => ?_) (fun c1 => ?_)
  · exact EQ_some trivial
  · refine EQ_jgd (show h 408 (-2) = 10 from by rw [k_408 hS]) ?_
    refine EQ_jg ⟨fun ⟨_, x0⟩ => (show jI (w32 (w32 (10 * i7) + a11)) (h (h 408 1) (-1)) ↔ jI (w32 (w32 (10 * i7) + a11)) 80 from by rw [r_408_1 hS, l_409 hS]).mp x0, fun x0 => ⟨(show h (h 408 1) (-2) = 103 from by rw [r_408_1 hS, k_409 hS]), (show jI (w32 (w32 (10 * i7) + a11)) (h (h 408 1) (-1)) ↔ jI (w32 (w32 (10 * i7) + a11)) 80 from by rw [r_408_1 hS, l_409 hS]).mpr x0⟩⟩ (fun g2 => ?_)
    refine EQ_jgd (show h 408 (-2) = 10 from by rw [k_408 hS]) ?_
    refine EQ_jg ⟨fun ⟨_, x0⟩ => (show jI (w32 (w32 (w32 (w32 (10 * i7) + i10) + a11) - i8)) (h (h 408 2) (-1)) ↔ jI (w32 (w32 (w32 (w32 (10 * i7) + i10) + a11) - i8)) 80 from by rw [r_408_2 hS, l_410 hS]).mp x0, fun x0 => ⟨(show h (h 408 2) (-2) = 103 from by rw [r_408_2 hS, k_410 hS]), (show jI (w32 (w32 (w32 (w32 (10 * i7) + i10) + a11) - i8)) (h (h 408 2) (-1)) ↔ jI (w32 (w32 (w32 (w32 (10 * i7) + i10) + a11) - i8)) 80 from by rw [r_408_2 hS, l_410 hS]).mpr x0⟩⟩ (fun g3 => ?_)
    refine EQ_if (show h (h 408 1) (w32 (w32 (10 * i7) + a11)) = h (h 408 2) (w32 (w32 (w32 (w32 (10 * i7) + i10) + a11) - i8)) ↔ h 409 (w32 (w32 (10 * i7) + a11)) = h 410 (w32 (w32 (w32 (w32 (10 * i7) + i10) + a11) - i8)) from by rw [r_408_1 hS, r_408_2 hS]) (fun c4 => ?_) (fun c4 => ?_)
    · refine EQ_jl rfl (fun x22 ex22 => ?_)
      clear ex22
      exact EQ_some trivial
    · exact EQ_some trivial
noncomputable def gX9_behind_l86 (i1 : Int) (i3 : Int) (i4 : Int) (i5 : Int) (i7 : Int) (i8 : Int) (i9 : Int) (i10 : Int) (a11 : Int) (h : AH) : Option ((Unit) ⊕ (Unit)) := jit (gX9_behind_b86 i1 i3 i4 i5 i7 i8 i9 i10 h) a11
theorem eX9_behind_l86 (i1 : Int) (i3 : Int) (i4 : Int) (i5 : Int) (i7 : Int) (i8 : Int) (i9 : Int) (i10 : Int) (a11 : Int) {h : AH} (hS : Sh S h) : EQ (fX9_behind_l86 408 i1 i3 i4 i5 i7 i8 i9 i10 a11 h) (gX9_behind_l86 i1 i3 i4 i5 i7 i8 i9 i10 a11 h) (Sum.elim (fun _ => True) (fun _ => True)) := EQ_jit (I := (fun _ => True)) (fun s _ => eX9_behind_b86 i1 i3 i4 i5 i7 i8 i9 i10 s hS) trivial
noncomputable def gX9_behind_b6 (i1 : Int) (i3 : Int) (i4 : Int) (h : AH) (s : Int × Int) : Option ((Int × Int) ⊕ ((Unit) ⊕ ((Unit) ⊕ ((Int))))) := jt2 s fun a5 a7 => if h 408 0 ≤ a7 then (some (.inr (.inr (.inr a5)))) else (jg (jI (w32 (w32 (8 * i3) + a7)) 1424) <| jl (h 413 (w32 (w32 (8 * i3) + a7))) fun x8 => jg (jI (w32 (w32 (8 * i4) + a7)) 1424) <| jl (h 413 (w32 (w32 (8 * i4) + a7))) fun x9 => jb (gX9_placeIn i1 a7) fun v11 => if x9 ≤ x8 then (some (.inr (.inl ()))) else (jg (jI a7 8) <| if w32 (w32 (v11 + x9) - x8) ≤ h 412 a7 then (jb (gX9_behind_l86 i1 i3 i4 a5 a7 x8 x9 v11 x8 h) fun o14 => jm o14 (fun o16 => some (.inr (.inr (.inl ())))) (fun o17 => jl (jorL a5 (jshlL (w32 (w32 (v11 + x9) - x8)) (w32 (4 * a7)))) fun x18 => jl (w32 (a7 + 1)) fun x19 => some (.inl (x18, x19)))) else (some (.inr (.inl ())))))
theorem eX9_behind_b6 (i1 : Int) (i3 : Int) (i4 : Int) (s : Int × Int) {h : AH} (hS : Sh S h) : EQ (fX9_behind_b6 408 i1 i3 i4 h s) (gX9_behind_b6 i1 i3 i4 h s) (Sum.elim (fun _ => True) (Sum.elim (fun _ => True) (Sum.elim (fun _ => True) (fun _ => True)))) := by
  unfold fX9_behind_b6 gX9_behind_b6
  obtain ⟨a5, a7⟩ := s
  refine EQ_jt2 ?_
  refine EQ_jgd (show h 408 (-2) = 10 from by rw [k_408 hS]) ?_
  refine EQ_if Iff.rfl (fun c1 => ?_) (fun c1 => ?_)
  · exact EQ_some trivial
  · refine EQ_jgd (show h 408 (-2) = 10 from by rw [k_408 hS]) ?_
    refine EQ_jg ⟨fun ⟨_, x0⟩ => (show jI (w32 (w32 (8 * i3) + a7)) (h (h 408 5) (-1)) ↔ jI (w32 (w32 (8 * i3) + a7)) 1424 from by rw [r_408_5 hS, l_413 hS]).mp x0, fun x0 => ⟨(show h (h 408 5) (-2) = 101 from by rw [r_408_5 hS, k_413 hS]), (show jI (w32 (w32 (8 * i3) + a7)) (h (h 408 5) (-1)) ↔ jI (w32 (w32 (8 * i3) + a7)) 1424 from by rw [r_408_5 hS, l_413 hS]).mpr x0⟩⟩ (fun g2 => ?_)
    refine EQ_jl (by rw [r_408_5 hS]) (fun x8 ex8 => ?_)
    clear ex8
    refine EQ_jgd (show h 408 (-2) = 10 from by rw [k_408 hS]) ?_
    refine EQ_jg ⟨fun ⟨_, x0⟩ => (show jI (w32 (w32 (8 * i4) + a7)) (h (h 408 5) (-1)) ↔ jI (w32 (w32 (8 * i4) + a7)) 1424 from by rw [r_408_5 hS, l_413 hS]).mp x0, fun x0 => ⟨(show h (h 408 5) (-2) = 101 from by rw [r_408_5 hS, k_413 hS]), (show jI (w32 (w32 (8 * i4) + a7)) (h (h 408 5) (-1)) ↔ jI (w32 (w32 (8 * i4) + a7)) 1424 from by rw [r_408_5 hS, l_413 hS]).mpr x0⟩⟩ (fun g3 => ?_)
    refine EQ_jl (by rw [r_408_5 hS]) (fun x9 ex9 => ?_)
    clear ex9
    refine EQ_jgd (show h 408 (-2) = 10 from by rw [k_408 hS]) ?_
    refine EQ_jb (eX9_placeIn i1 a7) (fun v11 r4 => ?_)
    refine EQ_if Iff.rfl (fun c5 => ?_) (fun c5 => ?_)
    · exact EQ_some trivial
    · refine EQ_jgd (show h 408 (-2) = 10 from by rw [k_408 hS]) ?_
      refine EQ_jg ⟨fun ⟨_, x0⟩ => (show jI a7 (h (h 408 4) (-1)) ↔ jI a7 8 from by rw [r_408_4 hS, l_412 hS]).mp x0, fun x0 => ⟨(show h (h 408 4) (-2) = 101 from by rw [r_408_4 hS, k_412 hS]), (show jI a7 (h (h 408 4) (-1)) ↔ jI a7 8 from by rw [r_408_4 hS, l_412 hS]).mpr x0⟩⟩ (fun g6 => ?_)
      refine EQ_if (show w32 (w32 (v11 + x9) - x8) ≤ h (h 408 4) a7 ↔ w32 (w32 (v11 + x9) - x8) ≤ h 412 a7 from by rw [r_408_4 hS]) (fun c7 => ?_) (fun c7 => ?_)
      · refine EQ_jb (eX9_behind_l86 i1 i3 i4 a5 a7 x8 x9 v11 x8 hS) (fun o14 r8 => ?_)
        refine EQ_jm r8 (fun o16 r9 => ?_) (fun o17 r10 => ?_)
        · exact EQ_some trivial
        · refine EQ_jl rfl (fun x18 ex18 => ?_)
          clear ex18
          refine EQ_jl rfl (fun x19 ex19 => ?_)
          clear ex19
          exact EQ_some trivial
      · exact EQ_some trivial
noncomputable def gX9_behind_l6 (i1 : Int) (i3 : Int) (i4 : Int) (a5 : Int) (a7 : Int) (h : AH) : Option ((Unit) ⊕ ((Unit) ⊕ ((Int)))) := jit (gX9_behind_b6 i1 i3 i4 h) (a5, a7)
theorem eX9_behind_l6 (i1 : Int) (i3 : Int) (i4 : Int) (a5 : Int) (a7 : Int) {h : AH} (hS : Sh S h) : EQ (fX9_behind_l6 408 i1 i3 i4 a5 a7 h) (gX9_behind_l6 i1 i3 i4 a5 a7 h) (Sum.elim (fun _ => True) (Sum.elim (fun _ => True) (fun _ => True))) := EQ_jit (I := (fun _ => True)) (fun s _ => eX9_behind_b6 i1 i3 i4 s hS) trivial
noncomputable def gX9_behind (a1 : Int) (a3 : Int) (a4 : Int) (h : AH) : Option (Int) := jb (gX9_behind_l6 a1 a3 a4 0 0 h) fun o1 => jm o1 (fun o3 => some (-1)) (fun o4 => jm o4 (fun o5 => some (-1)) (fun o6 => some o6))
theorem eX9_behind (a1 : Int) (a3 : Int) (a4 : Int) {h : AH} (hS : Sh S h) : EQ (fX9_behind 408 a1 a3 a4 h) (gX9_behind a1 a3 a4 h) (fun _ => True) := by
  unfold fX9_behind gX9_behind
  refine EQ_jb (eX9_behind_l6 a1 a3 a4 0 0 hS) (fun o1 r1 => ?_)
  refine EQ_jm r1 (fun o3 r2 => ?_) (fun o4 r3 => ?_)
  · exact EQ_some trivial
  · refine EQ_jm r3 (fun o5 r4 => ?_) (fun o6 r5 => ?_)
    · exact EQ_some trivial
    · exact EQ_some trivial
noncomputable def gX9_priceOf (a1 : Int) : Option (Int) := if 22 ≤ a1 then (some 2) else (some 1)
theorem eX9_priceOf (a1 : Int) : EQ (fX9_priceOf 408 a1) (gX9_priceOf a1) (fun _ => True) := by
  unfold fX9_priceOf gX9_priceOf
  refine EQ_if Iff.rfl (fun c1 => ?_) (fun c1 => ?_)
  · exact EQ_some trivial
  · exact EQ_some trivial
noncomputable def gX9_leave_j119_41 (a1 : Int) (a2 : Int) (h : AH) : Option ((Int × AH) ⊕ (AH)) := jl (w32 (a2 + 1)) fun x9 => some (.inl (x9, h))
theorem eX9_leave_j119_41 (a1 : Int) (a2 : Int) {h : AH} (hS : Sh S h) : EQ (fX9_leave_j119_41 408 a1 a2 h) (gX9_leave_j119_41 a1 a2 h) (Sum.elim (fun r => Sh S r.2) (fun r => Sh S r)) := by
  unfold fX9_leave_j119_41 gX9_leave_j119_41
  refine EQ_jl rfl (fun x9 ex9 => ?_)
  clear ex9
  exact EQ_some hS
noncomputable def gX9_leave_j113_62 (a1 : Int) (a2 : Int) (a3 : Int) (h : AH) : Option ((Int × AH) ⊕ (AH)) := jl (w32 (a3 + 1)) fun x21 => some (.inl (x21, h))
theorem eX9_leave_j113_62 (a1 : Int) (a2 : Int) (a3 : Int) {h : AH} (hS : Sh S h) : EQ (fX9_leave_j113_62 408 a1 a2 a3 h) (gX9_leave_j113_62 a1 a2 a3 h) (Sum.elim (fun r => Sh S r.2) (fun r => Sh S r)) := by
  unfold fX9_leave_j113_62 gX9_leave_j113_62
  refine EQ_jl rfl (fun x21 ex21 => ?_)
  clear ex21
  exact EQ_some hS
noncomputable def gX9_leave_b62 (i1 : Int) (i2 : Int) (s : Int × AH) : Option ((Int × AH) ⊕ (AH)) := jt2 s fun a3 h => if 178 ≤ a3 then (some (.inr h)) else (if h 408 11 = 0 then (some (.inr h)) else (jg (jI a3 178) <| if h 414 a3 = 0 then (gX9_leave_j113_62 i1 i2 a3 h) else (jg (jI i1 401) <| jb (gX9_behind (h 415 i1) i2 a3 h) fun v14 => jb (gX9_priceOf i2) fun v16 => jb (gX9_priceOf a3) fun v18 => jb (gX9_lead i1 v14 (w32 (v16 + v18)) h) fun h20 => gX9_leave_j113_62 i1 i2 a3 h20)))
theorem eX9_leave_b62 (i1 : Int) (i2 : Int) {s : Int × AH} (hS : (fun r => Sh S r.2) s) : EQ (fX9_leave_b62 408 i1 i2 s) (gX9_leave_b62 i1 i2 s) (Sum.elim (fun r => Sh S r.2) (fun r => Sh S r)) := by
  unfold fX9_leave_b62 gX9_leave_b62
  obtain ⟨a3, h⟩ := s
  refine EQ_jt2 ?_
  replace hS : Sh S h := hS
  refine EQ_if Iff.rfl (fun c1 => ?_) (fun c1 => ?_)
  · exact EQ_some hS
  · refine EQ_jgd (show h 408 (-2) = 10 from by rw [k_408 hS]) ?_
    refine EQ_if Iff.rfl (fun c2 => ?_) (fun c2 => ?_)
    · exact EQ_some hS
    · refine EQ_jgd (show h 408 (-2) = 10 from by rw [k_408 hS]) ?_
      refine EQ_jg ⟨fun ⟨_, x0⟩ => (show jI a3 (h (h 408 6) (-1)) ↔ jI a3 178 from by rw [r_408_6 hS, l_414 hS]).mp x0, fun x0 => ⟨(show h (h 408 6) (-2) = 104 from by rw [r_408_6 hS, k_414 hS]), (show jI a3 (h (h 408 6) (-1)) ↔ jI a3 178 from by rw [r_408_6 hS, l_414 hS]).mpr x0⟩⟩ (fun g3 => ?_)
      refine EQ_if (show h (h 408 6) a3 = 0 ↔ h 414 a3 = 0 from by rw [r_408_6 hS]) (fun c4 => ?_) (fun c4 => ?_)
      · exact (eX9_leave_j113_62 i1 i2 a3 hS)
      · refine EQ_jgd (show h 408 (-2) = 10 from by rw [k_408 hS]) ?_
        refine EQ_jg ⟨fun ⟨_, x0⟩ => (show jI i1 (h (h 408 7) (-1)) ↔ jI i1 401 from by rw [r_408_7 hS, l_415 hS]).mp x0, fun x0 => ⟨(show h (h 408 7) (-2) = 102 from by rw [r_408_7 hS, k_415 hS]), (show jI i1 (h (h 408 7) (-1)) ↔ jI i1 401 from by rw [r_408_7 hS, l_415 hS]).mpr x0⟩⟩ (fun g5 => ?_)
        refine EQ_jgd (show h 408 (-2) = 10 from by rw [k_408 hS]) ?_
        refine EQ_jb (by rw [r_408_7 hS]; exact eX9_behind (h 415 i1) i2 a3 hS) (fun v14 r6 => ?_)
        refine EQ_jgd (show h 408 (-2) = 10 from by rw [k_408 hS]) ?_
        refine EQ_jb (eX9_priceOf i2) (fun v16 r7 => ?_)
        refine EQ_jgd (show h 408 (-2) = 10 from by rw [k_408 hS]) ?_
        refine EQ_jb (eX9_priceOf a3) (fun v18 r8 => ?_)
        refine EQ_jgd (show h 408 (-2) = 10 from by rw [k_408 hS]) ?_
        refine EQ_jb (eX9_lead i1 v14 (w32 (v16 + v18)) hS) (fun h20 r9 => ?_)
        exact (eX9_leave_j113_62 i1 i2 a3 r9)
noncomputable def gX9_leave_l62 (i1 : Int) (i2 : Int) (a3 : Int) (h : AH) : Option (AH) := jit (gX9_leave_b62 i1 i2) (a3, h)
theorem eX9_leave_l62 (i1 : Int) (i2 : Int) (a3 : Int) {h : AH} (hS : Sh S h) : EQ (fX9_leave_l62 408 i1 i2 a3 h) (gX9_leave_l62 i1 i2 a3 h) (fun r => Sh S r) := EQ_jit (I := (fun r => Sh S r.2)) (fun s hs => eX9_leave_b62 i1 i2 hs) hS
noncomputable def gX9_leave_b41 (i1 : Int) (s : Int × AH) : Option ((Int × AH) ⊕ (AH)) := jt2 s fun a2 h => if 178 ≤ a2 then (some (.inr h)) else (jg (jI a2 178) <| if h 414 a2 = 0 then (gX9_leave_j119_41 i1 a2 h) else (jb (gX9_leave_l62 i1 a2 0 h) fun o7 => gX9_leave_j119_41 i1 a2 o7))
theorem eX9_leave_b41 (i1 : Int) {s : Int × AH} (hS : (fun r => Sh S r.2) s) : EQ (fX9_leave_b41 408 i1 s) (gX9_leave_b41 i1 s) (Sum.elim (fun r => Sh S r.2) (fun r => Sh S r)) := by
  unfold fX9_leave_b41 gX9_leave_b41
  obtain ⟨a2, h⟩ := s
  refine EQ_jt2 ?_
  replace hS : Sh S h := hS
  refine EQ_if Iff.rfl (fun c1 => ?_) (fun c1 => ?_)
  · exact EQ_some hS
  · refine EQ_jgd (show h 408 (-2) = 10 from by rw [k_408 hS]) ?_
    refine EQ_jg ⟨fun ⟨_, x0⟩ => (show jI a2 (h (h 408 6) (-1)) ↔ jI a2 178 from by rw [r_408_6 hS, l_414 hS]).mp x0, fun x0 => ⟨(show h (h 408 6) (-2) = 104 from by rw [r_408_6 hS, k_414 hS]), (show jI a2 (h (h 408 6) (-1)) ↔ jI a2 178 from by rw [r_408_6 hS, l_414 hS]).mpr x0⟩⟩ (fun g2 => ?_)
    refine EQ_if (show h (h 408 6) a2 = 0 ↔ h 414 a2 = 0 from by rw [r_408_6 hS]) (fun c3 => ?_) (fun c3 => ?_)
    · exact (eX9_leave_j119_41 i1 a2 hS)
    · refine EQ_jb (eX9_leave_l62 i1 a2 0 hS) (fun o7 r4 => ?_)
      exact (eX9_leave_j119_41 i1 a2 r4)
noncomputable def gX9_leave_l41 (i1 : Int) (a2 : Int) (h : AH) : Option (AH) := jit (gX9_leave_b41 i1) (a2, h)
theorem eX9_leave_l41 (i1 : Int) (a2 : Int) {h : AH} (hS : Sh S h) : EQ (fX9_leave_l41 408 i1 a2 h) (gX9_leave_l41 i1 a2 h) (fun r => Sh S r) := EQ_jit (I := (fun r => Sh S r.2)) (fun s hs => eX9_leave_b41 i1 hs) hS
noncomputable def gX9_leave_j39 (a1 : Int) (h : AH) : Option (AH) := jb (gX9_leave_l41 a1 0 h) fun o3 => some o3
theorem eX9_leave_j39 (a1 : Int) {h : AH} (hS : Sh S h) : EQ (fX9_leave_j39 408 a1 h) (gX9_leave_j39 a1 h) (fun r => Sh S r) := by
  unfold fX9_leave_j39 gX9_leave_j39
  refine EQ_jb (eX9_leave_l41 a1 0 hS) (fun o3 r1 => ?_)
  exact EQ_some r1
noncomputable def gX9_leave_b2 (i1 : Int) (s : Int × AH) : Option ((Int × AH) ⊕ (AH)) := jt2 s fun a2 h => if 4 ≤ a2 then (some (.inr h)) else (if h 408 11 = 0 then (some (.inr h)) else (jg (jI i1 401) <| jb (gX9_behindWord (h 415 i1) a2 h) fun v25 => jb (gX9_lead i1 v25 (w32 (2 * a2)) h) fun h27 => jl (w32 (a2 + 1)) fun x28 => some (.inl (x28, h27))))
theorem eX9_leave_b2 (i1 : Int) {s : Int × AH} (hS : (fun r => Sh S r.2) s) : EQ (fX9_leave_b2 408 i1 s) (gX9_leave_b2 i1 s) (Sum.elim (fun r => Sh S r.2) (fun r => Sh S r)) := by
  unfold fX9_leave_b2 gX9_leave_b2
  obtain ⟨a2, h⟩ := s
  refine EQ_jt2 ?_
  replace hS : Sh S h := hS
  refine EQ_if Iff.rfl (fun c1 => ?_) (fun c1 => ?_)
  · exact EQ_some hS
  · refine EQ_jgd (show h 408 (-2) = 10 from by rw [k_408 hS]) ?_
    refine EQ_if Iff.rfl (fun c2 => ?_) (fun c2 => ?_)
    · exact EQ_some hS
    · refine EQ_jgd (show h 408 (-2) = 10 from by rw [k_408 hS]) ?_
      refine EQ_jg ⟨fun ⟨_, x0⟩ => (show jI i1 (h (h 408 7) (-1)) ↔ jI i1 401 from by rw [r_408_7 hS, l_415 hS]).mp x0, fun x0 => ⟨(show h (h 408 7) (-2) = 102 from by rw [r_408_7 hS, k_415 hS]), (show jI i1 (h (h 408 7) (-1)) ↔ jI i1 401 from by rw [r_408_7 hS, l_415 hS]).mpr x0⟩⟩ (fun g3 => ?_)
      refine EQ_jgd (show h 408 (-2) = 10 from by rw [k_408 hS]) ?_
      refine EQ_jb (by rw [r_408_7 hS]; exact eX9_behindWord (h 415 i1) a2 hS) (fun v25 r4 => ?_)
      refine EQ_jgd (show h 408 (-2) = 10 from by rw [k_408 hS]) ?_
      refine EQ_jb (eX9_lead i1 v25 (w32 (2 * a2)) hS) (fun h27 r5 => ?_)
      refine EQ_jl rfl (fun x28 ex28 => ?_)
      clear ex28
      exact EQ_some r5
noncomputable def gX9_leave_l2 (i1 : Int) (a2 : Int) (h : AH) : Option (AH) := jit (gX9_leave_b2 i1) (a2, h)
theorem eX9_leave_l2 (i1 : Int) (a2 : Int) {h : AH} (hS : Sh S h) : EQ (fX9_leave_l2 408 i1 a2 h) (gX9_leave_l2 i1 a2 h) (fun r => Sh S r) := EQ_jit (I := (fun r => Sh S r.2)) (fun s hs => eX9_leave_b2 i1 hs) hS
noncomputable def gX9_leave (a1 : Int) (h : AH) : Option (AH) := jb (gX9_leave_l2 a1 1 h) fun o1 => gX9_leave_j39 a1 o1
theorem eX9_leave (a1 : Int) {h : AH} (hS : Sh S h) : EQ (fX9_leave 408 a1 h) (gX9_leave a1 h) (fun r => Sh S r) := by
  unfold fX9_leave gX9_leave
  refine EQ_jb (eX9_leave_l2 a1 1 hS) (fun o1 r1 => ?_)
  exact (eX9_leave_j39 a1 r1)
noncomputable def gX9_look_j98_40 (a2 : Int) (h : AH) : Option ((Int × AH) ⊕ (AH)) := jl (w32 (a2 + 1)) fun x19 => some (.inl (x19, h))
theorem eX9_look_j98_40 (a2 : Int) {h : AH} (hS : Sh S h) : EQ (fX9_look_j98_40 408 a2 h) (gX9_look_j98_40 a2 h) (Sum.elim (fun r => Sh S r.2) (fun r => Sh S r)) := by
  unfold fX9_look_j98_40 gX9_look_j98_40
  refine EQ_jl rfl (fun x19 ex19 => ?_)
  clear ex19
  exact EQ_some hS
noncomputable def gX9_look_b57 (i2 : Int) (s : Int × AH) : Option ((Int × AH) ⊕ (AH)) := jt2 s fun a3 h => if 400 ≤ a3 then (some (.inr h)) else (jg (jI (w32 (w32 (i2 * 400) + a3)) 160000) <| jl (jst h 417 (w32 (w32 (i2 * 400) + a3)) 0) fun h21 => jl (w32 (a3 + 1)) fun x22 => some (.inl (x22, h21)))
theorem eX9_look_b57 (i2 : Int) {s : Int × AH} (hS : (fun r => Sh S r.2) s) : EQ (fX9_look_b57 408 i2 s) (gX9_look_b57 i2 s) (Sum.elim (fun r => Sh S r.2) (fun r => Sh S r)) := by
  unfold fX9_look_b57 gX9_look_b57
  obtain ⟨a3, h⟩ := s
  refine EQ_jt2 ?_
  replace hS : Sh S h := hS
  refine EQ_if Iff.rfl (fun c1 => ?_) (fun c1 => ?_)
  · exact EQ_some hS
  · refine EQ_jgd (show h 408 (-2) = 10 from by rw [k_408 hS]) ?_
    refine EQ_jg ⟨fun ⟨_, _, x0⟩ => (show jI (w32 (w32 (i2 * 400) + a3)) (h (h 408 12) (-1)) ↔ jI (w32 (w32 (i2 * 400) + a3)) 160000 from by rw [r_408_12 hS, l_417 hS]).mp x0, fun x0 => ⟨(show h (h 408 12) (-2) = 102 from by rw [r_408_12 hS, k_417 hS]), (show 200 ≤ h 408 12 from by rw [r_408_12 hS]; exact (by decide)), (show jI (w32 (w32 (i2 * 400) + a3)) (h (h 408 12) (-1)) ↔ jI (w32 (w32 (i2 * 400) + a3)) 160000 from by rw [r_408_12 hS, l_417 hS]).mpr x0⟩⟩ (fun g2 => ?_)
    refine EQ_jl (by rw [r_408_12 hS]) (fun h21 eh21 => ?_)
    have s3 := Sh_of eh21 (Sh_sta hS (by decide +kernel) (jI_nn g2) (fun e => absurd ((k_417 hS).symm.trans e) (by decide)))
    clear eh21
    refine EQ_jl rfl (fun x22 ex22 => ?_)
    clear ex22
    exact EQ_some s3
noncomputable def gX9_look_l57 (i2 : Int) (a3 : Int) (h : AH) : Option (AH) := jit (gX9_look_b57 i2) (a3, h)
theorem eX9_look_l57 (i2 : Int) (a3 : Int) {h : AH} (hS : Sh S h) : EQ (fX9_look_l57 408 i2 a3 h) (gX9_look_l57 i2 a3 h) (fun r => Sh S r) := EQ_jit (I := (fun r => Sh S r.2)) (fun s hs => eX9_look_b57 i2 hs) hS
noncomputable def gX9_look_b40 (s : Int × AH) : Option ((Int × AH) ⊕ (AH)) := jt2 s fun a2 h => if h 408 9 ≤ a2 then (some (.inr h)) else (if h 408 11 = 0 then (some (.inr h)) else (jb (gX9_look_l57 a2 0 h) fun o14 => jg (jI a2 401) <| if 4 ≤ o14 416 a2 then (gX9_look_j98_40 a2 o14) else (jb (gX9_leave a2 o14) fun h18 => gX9_look_j98_40 a2 h18)))
theorem eX9_look_b40 {s : Int × AH} (hS : (fun r => Sh S r.2) s) : EQ (fX9_look_b40 408 s) (gX9_look_b40 s) (Sum.elim (fun r => Sh S r.2) (fun r => Sh S r)) := by
  unfold fX9_look_b40 gX9_look_b40
  obtain ⟨a2, h⟩ := s
  refine EQ_jt2 ?_
  replace hS : Sh S h := hS
  refine EQ_jgd (show h 408 (-2) = 10 from by rw [k_408 hS]) ?_
  refine EQ_if Iff.rfl (fun c1 => ?_) (fun c1 => ?_)
  · exact EQ_some hS
  · refine EQ_jgd (show h 408 (-2) = 10 from by rw [k_408 hS]) ?_
    refine EQ_if Iff.rfl (fun c2 => ?_) (fun c2 => ?_)
    · exact EQ_some hS
    · refine EQ_jb (eX9_look_l57 a2 0 hS) (fun o14 r3 => ?_)
      refine EQ_jgd (show o14 408 (-2) = 10 from by rw [k_408 r3]) ?_
      refine EQ_jg ⟨fun ⟨_, x0⟩ => (show jI a2 (o14 (o14 408 8) (-1)) ↔ jI a2 401 from by rw [r_408_8 r3, l_416 r3]).mp x0, fun x0 => ⟨(show o14 (o14 408 8) (-2) = 101 from by rw [r_408_8 r3, k_416 r3]), (show jI a2 (o14 (o14 408 8) (-1)) ↔ jI a2 401 from by rw [r_408_8 r3, l_416 r3]).mpr x0⟩⟩ (fun g4 => ?_)
      refine EQ_if (show 4 ≤ o14 (o14 408 8) a2 ↔ 4 ≤ o14 416 a2 from by rw [r_408_8 r3]) (fun c5 => ?_) (fun c5 => ?_)
      · exact (eX9_look_j98_40 a2 r3)
      · refine EQ_jgd (show o14 408 (-2) = 10 from by rw [k_408 r3]) ?_
        refine EQ_jb (eX9_leave a2 r3) (fun h18 r6 => ?_)
        exact (eX9_look_j98_40 a2 r6)
noncomputable def gX9_look_l40 (a2 : Int) (h : AH) : Option (AH) := jit gX9_look_b40 (a2, h)
theorem eX9_look_l40 (a2 : Int) {h : AH} (hS : Sh S h) : EQ (fX9_look_l40 408 a2 h) (gX9_look_l40 a2 h) (fun r => Sh S r) := EQ_jit (I := (fun r => Sh S r.2)) (fun s hs => eX9_look_b40 hs) hS
noncomputable def gX9_look (h : AH) : Option (Int × AH) := if h 408 10 = 0 then (jl (jst h 408 10 1) fun h2 => jl (jst h2 408 11 1) fun h3 => jb (gX9_findSpots h3) fun h5 => jl (jst h5 408 9 0) fun h6 => jb2 (gX9_place 0 0 h6) fun v8 h9 => jb (gX9_look_l40 0 h9) fun o10 => jg (jZ (o10 408 11)) <| some (o10 408 11, o10)) else (jg (jZ (h 408 11)) <| some (h 408 11, h))
theorem eX9_look {h : AH} (hS : Sh S h) : EQ (fX9_look 408 h) (gX9_look h) (fun r => Sh S r.2) := by
  unfold fX9_look gX9_look
  refine EQ_jgd (show h 408 (-2) = 10 from by rw [k_408 hS]) ?_
  refine EQ_if Iff.rfl (fun c1 => ?_) (fun c1 => ?_)
  · refine EQ_jgd ⟨(show h 408 (-2) = 10 from by rw [k_408 hS]), (show (200 : Int) ≤ 408 from (by decide)), (show jZ 1 from by unfold jZ; decide)⟩ ?_
    refine EQ_jl rfl (fun h2 eh2 => ?_)
    have s2 := Sh_of eh2 (Sh_sto hS (a := 408) (i := 10) (by decide +kernel))
    clear eh2
    refine EQ_jgd ⟨(show h2 408 (-2) = 10 from by rw [k_408 s2]), (show (200 : Int) ≤ 408 from (by decide)), (show jZ 1 from by unfold jZ; decide)⟩ ?_
    refine EQ_jl rfl (fun h3 eh3 => ?_)
    have s3 := Sh_of eh3 (Sh_sto s2 (a := 408) (i := 11) (by decide +kernel))
    clear eh3
    refine EQ_jgd (show h3 408 (-2) = 10 from by rw [k_408 s3]) ?_
    refine EQ_jb (eX9_findSpots s3) (fun h5 r4 => ?_)
    refine EQ_jgd ⟨(show h5 408 (-2) = 10 from by rw [k_408 r4]), (show (200 : Int) ≤ 408 from (by decide))⟩ ?_
    refine EQ_jl rfl (fun h6 eh6 => ?_)
    have s5 := Sh_of eh6 (Sh_sto r4 (a := 408) (i := 9) (by decide +kernel))
    clear eh6
    refine EQ_jgd (show h6 408 (-2) = 10 from by rw [k_408 s5]) ?_
    refine EQ_jb2 (eX9_place 0 0 s5) (fun v8 h9 r6 => ?_)
    replace r6 : Sh S h9 := r6
    refine EQ_jb (eX9_look_l40 0 r6) (fun o10 r7 => ?_)
    refine EQ_jgd (show o10 408 (-2) = 10 from by rw [k_408 r7]) ?_
    refine EQ_jg Iff.rfl (fun g8 => ?_)
    exact EQ_some r7
  · refine EQ_jgd (show h 408 (-2) = 10 from by rw [k_408 hS]) ?_
    refine EQ_jg Iff.rfl (fun g9 => ?_)
    exact EQ_some hS
noncomputable def gX9_end_b4 (h : AH) (s : Int × Int) : Option ((Int × Int) ⊕ (Int)) := jt2 s fun a1 a3 => if h 408 0 ≤ a3 then (some (.inr a1)) else (jg (jI a3 8) <| jl (jorL a1 (jshlL (h 412 a3) (w32 (4 * a3)))) fun x8 => jl (w32 (a3 + 1)) fun x9 => some (.inl (x8, x9)))
theorem eX9_end_b4 (s : Int × Int) {h : AH} (hS : Sh S h) : EQ (fX9_end_b4 408 h s) (gX9_end_b4 h s) (Sum.elim (fun _ => True) (fun _ => True)) := by
  unfold fX9_end_b4 gX9_end_b4
  obtain ⟨a1, a3⟩ := s
  refine EQ_jt2 ?_
  refine EQ_jgd (show h 408 (-2) = 10 from by rw [k_408 hS]) ?_
  refine EQ_if Iff.rfl (fun c1 => ?_) (fun c1 => ?_)
  · exact EQ_some trivial
  · refine EQ_jgd (show h 408 (-2) = 10 from by rw [k_408 hS]) ?_
    refine EQ_jg ⟨fun ⟨_, x0⟩ => (show jI a3 (h (h 408 4) (-1)) ↔ jI a3 8 from by rw [r_408_4 hS, l_412 hS]).mp x0, fun x0 => ⟨(show h (h 408 4) (-2) = 101 from by rw [r_408_4 hS, k_412 hS]), (show jI a3 (h (h 408 4) (-1)) ↔ jI a3 8 from by rw [r_408_4 hS, l_412 hS]).mpr x0⟩⟩ (fun g2 => ?_)
    refine EQ_jl (by rw [r_408_4 hS]) (fun x8 ex8 => ?_)
    clear ex8
    refine EQ_jl rfl (fun x9 ex9 => ?_)
    clear ex9
    exact EQ_some trivial
noncomputable def gX9_end_l4 (a1 : Int) (a3 : Int) (h : AH) : Option (Int) := jit (gX9_end_b4 h) (a1, a3)
theorem eX9_end_l4 (a1 : Int) (a3 : Int) {h : AH} (hS : Sh S h) : EQ (fX9_end_l4 408 a1 a3 h) (gX9_end_l4 a1 a3 h) (fun _ => True) := EQ_jit (I := (fun _ => True)) (fun s _ => eX9_end_b4 s hS) trivial
noncomputable def gX9_end_b34 (i1 : Int) (h : AH) (a3 : Int) : Option ((Int) ⊕ ((Int) ⊕ (Unit))) := if h 408 9 ≤ a3 then (some (.inr (.inr ()))) else (jg (jI a3 401) <| if jcmp (h 415 a3) i1 = 0 then (some (.inr (.inl a3))) else (jl (w32 (a3 + 1)) fun x12 => some (.inl x12)))
theorem eX9_end_b34 (i1 : Int) (a3 : Int) {h : AH} (hS : Sh S h) : EQ (fX9_end_b34 408 i1 h a3) (gX9_end_b34 i1 h a3) (Sum.elim (fun _ => True) (Sum.elim (fun _ => True) (fun _ => True))) := by
  unfold fX9_end_b34 gX9_end_b34
  refine EQ_jgd (show h 408 (-2) = 10 from by rw [k_408 hS]) ?_
  refine EQ_if Iff.rfl (fun c1 => ?_) (fun c1 => ?_)
  · exact EQ_some trivial
  · refine EQ_jgd (show h 408 (-2) = 10 from by rw [k_408 hS]) ?_
    refine EQ_jg ⟨fun ⟨_, x0⟩ => (show jI a3 (h (h 408 7) (-1)) ↔ jI a3 401 from by rw [r_408_7 hS, l_415 hS]).mp x0, fun x0 => ⟨(show h (h 408 7) (-2) = 102 from by rw [r_408_7 hS, k_415 hS]), (show jI a3 (h (h 408 7) (-1)) ↔ jI a3 401 from by rw [r_408_7 hS, l_415 hS]).mpr x0⟩⟩ (fun g2 => ?_)
    refine EQ_if (show jcmp (h (h 408 7) a3) i1 = 0 ↔ jcmp (h 415 a3) i1 = 0 from by rw [r_408_7 hS]) (fun c3 => ?_) (fun c3 => ?_)
    · exact EQ_some trivial
    · refine EQ_jl rfl (fun x12 ex12 => ?_)
      clear ex12
      exact EQ_some trivial
noncomputable def gX9_end_l34 (i1 : Int) (a3 : Int) (h : AH) : Option ((Int) ⊕ (Unit)) := jit (gX9_end_b34 i1 h) a3
theorem eX9_end_l34 (i1 : Int) (a3 : Int) {h : AH} (hS : Sh S h) : EQ (fX9_end_l34 408 i1 a3 h) (gX9_end_l34 i1 a3 h) (Sum.elim (fun _ => True) (fun _ => True)) := EQ_jit (I := (fun _ => True)) (fun s _ => eX9_end_b34 i1 s hS) trivial
noncomputable def gX9_end (h : AH) : Option (Int) := jb (gX9_end_l4 0 0 h) fun o1 => jb (gX9_end_l34 o1 0 h) fun o3 => jm o3 (fun o5 => some o5) (fun o6 => some (-1))
theorem eX9_end {h : AH} (hS : Sh S h) : EQ (fX9_end 408 h) (gX9_end h) (fun _ => True) := by
  unfold fX9_end gX9_end
  refine EQ_jb (eX9_end_l4 0 0 hS) (fun o1 r1 => ?_)
  refine EQ_jb (eX9_end_l34 o1 0 hS) (fun o3 r2 => ?_)
  refine EQ_jm r2 (fun o5 r3 => ?_) (fun o6 r4 => ?_)
  · exact EQ_some trivial
  · exact EQ_some trivial
noncomputable def gX9_findPrices_j26_2 (a1 : Int) (a2 : Int) (t1 : Int) (t2 : Int) (h : AH) : Option ((Int × AH) ⊕ (AH)) := jg (jI t1 2000) <| jl (jst h 419 t1 t2) fun h7 => jl (w32 (a2 + 1)) fun x8 => some (.inl (x8, h7))
theorem eX9_findPrices_j26_2 (a1 : Int) (a2 : Int) (t1 : Int) (t2 : Int) {h : AH} (hS : Sh S h) : EQ (fX9_findPrices_j26_2 408 a1 a2 419 t1 t2 h) (gX9_findPrices_j26_2 a1 a2 t1 t2 h) (Sum.elim (fun r => Sh S r.2) (fun r => Sh S r)) := by
  unfold fX9_findPrices_j26_2 gX9_findPrices_j26_2
  refine EQ_jg ⟨fun ⟨_, _, x0⟩ => (show jI t1 (h 419 (-1)) ↔ jI t1 2000 from by rw [l_419 hS]).mp x0, fun x0 => ⟨(show h 419 (-2) = 101 from by rw [k_419 hS]), (show (200 : Int) ≤ 419 from (by decide)), (show jI t1 (h 419 (-1)) ↔ jI t1 2000 from by rw [l_419 hS]).mpr x0⟩⟩ (fun g1 => ?_)
  refine EQ_jl rfl (fun h7 eh7 => ?_)
  have s2 := Sh_of eh7 (Sh_sta hS (by decide +kernel) (jI_nn g1) (fun e => absurd ((k_419 hS).symm.trans e) (by decide)))
  clear eh7
  refine EQ_jl rfl (fun x8 ex8 => ?_)
  clear ex8
  exact EQ_some s2
noncomputable def gX9_findPrices_b2 (i1 : Int) (s : Int × AH) : Option ((Int × AH) ⊕ (AH)) := jt2 s fun a2 h => if h 408 9 ≤ a2 then (some (.inr h)) else (if a2 = i1 then (gX9_findPrices_j26_2 i1 a2 a2 0 h) else (gX9_findPrices_j26_2 i1 a2 a2 1000000 h))
theorem eX9_findPrices_b2 (i1 : Int) {s : Int × AH} (hS : (fun r => Sh S r.2) s) : EQ (fX9_findPrices_b2 408 i1 s) (gX9_findPrices_b2 i1 s) (Sum.elim (fun r => Sh S r.2) (fun r => Sh S r)) := by
  unfold fX9_findPrices_b2 gX9_findPrices_b2
  obtain ⟨a2, h⟩ := s
  refine EQ_jt2 ?_
  replace hS : Sh S h := hS
  refine EQ_jgd (show h 408 (-2) = 10 from by rw [k_408 hS]) ?_
  refine EQ_if Iff.rfl (fun c1 => ?_) (fun c1 => ?_)
  · exact EQ_some hS
  · refine EQ_jgd (show h 408 (-2) = 10 from by rw [k_408 hS]) ?_
    refine EQ_if Iff.rfl (fun c2 => ?_) (fun c2 => ?_)
    · exact (by rw [r_408_14 hS]; exact eX9_findPrices_j26_2 i1 a2 a2 0 hS)
    · exact (by rw [r_408_14 hS]; exact eX9_findPrices_j26_2 i1 a2 a2 1000000 hS)
noncomputable def gX9_findPrices_l2 (i1 : Int) (a2 : Int) (h : AH) : Option (AH) := jit (gX9_findPrices_b2 i1) (a2, h)
theorem eX9_findPrices_l2 (i1 : Int) (a2 : Int) {h : AH} (hS : Sh S h) : EQ (fX9_findPrices_l2 408 i1 a2 h) (gX9_findPrices_l2 i1 a2 h) (fun r => Sh S r) := EQ_jit (I := (fun r => Sh S r.2)) (fun s hs => eX9_findPrices_b2 i1 hs) hS
noncomputable def gX9_findPrices_j120_57 (a2 : Int) (a3 : Int) (a4 : Int) (a5 : Int) (h : AH) : Option ((Int × Int) ⊕ (Int)) := jl (w32 (a5 + 1)) fun x21 => some (.inl (a4, x21))
theorem eX9_findPrices_j120_57 (a2 : Int) (a3 : Int) (a4 : Int) (a5 : Int) {h : AH} (hS : Sh S h) : EQ (fX9_findPrices_j120_57 408 a2 a3 a4 a5 h) (gX9_findPrices_j120_57 a2 a3 a4 a5 h) (Sum.elim (fun _ => True) (fun _ => True)) := by
  unfold fX9_findPrices_j120_57 gX9_findPrices_j120_57
  refine EQ_jl rfl (fun x21 ex21 => ?_)
  clear ex21
  exact EQ_some trivial
noncomputable def gX9_findPrices_b57 (i2 : Int) (i3 : Int) (h : AH) (s : Int × Int) : Option ((Int × Int) ⊕ (Int)) := jt2 s fun a4 a5 => if h 408 9 ≤ a5 then (some (.inr a4)) else (jg (jI (w32 (w32 (i3 * 400) + a5)) 160000) <| if jcmp (h 417 (w32 (w32 (i3 * 400) + a5))) 0 ≤ 0 then (gX9_findPrices_j120_57 i2 i3 a4 a5 h) else (jg (jI (w32 (w32 (w32 (i2 - 1) * 400) + a5)) 2000) <| jl (min a4 (w32 (h 418 (w32 (w32 (i3 * 400) + a5)) + h 419 (w32 (w32 (w32 (i2 - 1) * 400) + a5))))) fun x20 => gX9_findPrices_j120_57 i2 i3 x20 a5 h))
theorem eX9_findPrices_b57 (i2 : Int) (i3 : Int) (s : Int × Int) {h : AH} (hS : Sh S h) : EQ (fX9_findPrices_b57 408 i2 i3 h s) (gX9_findPrices_b57 i2 i3 h s) (Sum.elim (fun _ => True) (fun _ => True)) := by
  unfold fX9_findPrices_b57 gX9_findPrices_b57
  obtain ⟨a4, a5⟩ := s
  refine EQ_jt2 ?_
  refine EQ_jgd (show h 408 (-2) = 10 from by rw [k_408 hS]) ?_
  refine EQ_if Iff.rfl (fun c1 => ?_) (fun c1 => ?_)
  · exact EQ_some trivial
  · refine EQ_jgd (show h 408 (-2) = 10 from by rw [k_408 hS]) ?_
    refine EQ_jg ⟨fun ⟨_, x0⟩ => (show jI (w32 (w32 (i3 * 400) + a5)) (h (h 408 12) (-1)) ↔ jI (w32 (w32 (i3 * 400) + a5)) 160000 from by rw [r_408_12 hS, l_417 hS]).mp x0, fun x0 => ⟨(show h (h 408 12) (-2) = 102 from by rw [r_408_12 hS, k_417 hS]), (show jI (w32 (w32 (i3 * 400) + a5)) (h (h 408 12) (-1)) ↔ jI (w32 (w32 (i3 * 400) + a5)) 160000 from by rw [r_408_12 hS, l_417 hS]).mpr x0⟩⟩ (fun g2 => ?_)
    refine EQ_if (show jcmp (h (h 408 12) (w32 (w32 (i3 * 400) + a5))) 0 ≤ 0 ↔ jcmp (h 417 (w32 (w32 (i3 * 400) + a5))) 0 ≤ 0 from by rw [r_408_12 hS]) (fun c3 => ?_) (fun c3 => ?_)
    · exact (eX9_findPrices_j120_57 i2 i3 a4 a5 hS)
    · refine EQ_jgd (show h 408 (-2) = 10 from by rw [k_408 hS]) ?_
      refine EQ_jgd ⟨(show h (h 408 13) (-2) = 101 from by rw [r_408_13 hS, k_418 hS]), ((show jI (w32 (w32 (i3 * 400) + a5)) (h (h 408 13) (-1)) ↔ jI (w32 (w32 (i3 * 400) + a5)) 160000 from by rw [r_408_13 hS, l_418 hS]).mpr g2)⟩ ?_
      refine EQ_jgd (show h 408 (-2) = 10 from by rw [k_408 hS]) ?_
      refine EQ_jg ⟨fun ⟨_, x0⟩ => (show jI (w32 (w32 (w32 (i2 - 1) * 400) + a5)) (h (h 408 14) (-1)) ↔ jI (w32 (w32 (w32 (i2 - 1) * 400) + a5)) 2000 from by rw [r_408_14 hS, l_419 hS]).mp x0, fun x0 => ⟨(show h (h 408 14) (-2) = 101 from by rw [r_408_14 hS, k_419 hS]), (show jI (w32 (w32 (w32 (i2 - 1) * 400) + a5)) (h (h 408 14) (-1)) ↔ jI (w32 (w32 (w32 (i2 - 1) * 400) + a5)) 2000 from by rw [r_408_14 hS, l_419 hS]).mpr x0⟩⟩ (fun g4 => ?_)
      refine EQ_jl (by rw [r_408_13 hS, r_408_14 hS]) (fun x20 ex20 => ?_)
      clear ex20
      exact (eX9_findPrices_j120_57 i2 i3 x20 a5 hS)
noncomputable def gX9_findPrices_l57 (i2 : Int) (i3 : Int) (a5 : Int) (h : AH) : Option (Int) := jit (gX9_findPrices_b57 i2 i3 h) (1000000, a5)
theorem eX9_findPrices_l57 (i2 : Int) (i3 : Int) (a5 : Int) {h : AH} (hS : Sh S h) : EQ (fX9_findPrices_l57 408 i2 i3 1000000 a5 h) (gX9_findPrices_l57 i2 i3 a5 h) (fun _ => True) := EQ_jit (I := (fun _ => True)) (fun s _ => eX9_findPrices_b57 i2 i3 s hS) trivial
noncomputable def gX9_findPrices_b42 (i2 : Int) (s : Int × AH) : Option ((Int × AH) ⊕ (AH)) := jt2 s fun a3 h => if h 408 9 ≤ a3 then (some (.inr h)) else (jb (gX9_findPrices_l57 i2 a3 0 h) fun o14 => jg (jI (w32 (w32 (i2 * 400) + a3)) 2000) <| jl (jst h 419 (w32 (w32 (i2 * 400) + a3)) o14) fun h16 => jl (w32 (a3 + 1)) fun x17 => some (.inl (x17, h16)))
theorem eX9_findPrices_b42 (i2 : Int) {s : Int × AH} (hS : (fun r => Sh S r.2) s) : EQ (fX9_findPrices_b42 408 i2 s) (gX9_findPrices_b42 i2 s) (Sum.elim (fun r => Sh S r.2) (fun r => Sh S r)) := by
  unfold fX9_findPrices_b42 gX9_findPrices_b42
  obtain ⟨a3, h⟩ := s
  refine EQ_jt2 ?_
  replace hS : Sh S h := hS
  refine EQ_jgd (show h 408 (-2) = 10 from by rw [k_408 hS]) ?_
  refine EQ_if Iff.rfl (fun c1 => ?_) (fun c1 => ?_)
  · exact EQ_some hS
  · refine EQ_jb (eX9_findPrices_l57 i2 a3 0 hS) (fun o14 r2 => ?_)
    refine EQ_jgd (show h 408 (-2) = 10 from by rw [k_408 hS]) ?_
    refine EQ_jg ⟨fun ⟨_, _, x0⟩ => (show jI (w32 (w32 (i2 * 400) + a3)) (h (h 408 14) (-1)) ↔ jI (w32 (w32 (i2 * 400) + a3)) 2000 from by rw [r_408_14 hS, l_419 hS]).mp x0, fun x0 => ⟨(show h (h 408 14) (-2) = 101 from by rw [r_408_14 hS, k_419 hS]), (show 200 ≤ h 408 14 from by rw [r_408_14 hS]; exact (by decide)), (show jI (w32 (w32 (i2 * 400) + a3)) (h (h 408 14) (-1)) ↔ jI (w32 (w32 (i2 * 400) + a3)) 2000 from by rw [r_408_14 hS, l_419 hS]).mpr x0⟩⟩ (fun g3 => ?_)
    refine EQ_jl (by rw [r_408_14 hS]) (fun h16 eh16 => ?_)
    have s4 := Sh_of eh16 (Sh_sta hS (by decide +kernel) (jI_nn g3) (fun e => absurd ((k_419 hS).symm.trans e) (by decide)))
    clear eh16
    refine EQ_jl rfl (fun x17 ex17 => ?_)
    clear ex17
    exact EQ_some s4
noncomputable def gX9_findPrices_l42 (i2 : Int) (a3 : Int) (h : AH) : Option (AH) := jit (gX9_findPrices_b42 i2) (a3, h)
theorem eX9_findPrices_l42 (i2 : Int) (a3 : Int) {h : AH} (hS : Sh S h) : EQ (fX9_findPrices_l42 408 i2 a3 h) (gX9_findPrices_l42 i2 a3 h) (fun r => Sh S r) := EQ_jit (I := (fun r => Sh S r.2)) (fun s hs => eX9_findPrices_b42 i2 hs) hS
noncomputable def gX9_findPrices_b35 (s : Int × AH) : Option ((Int × AH) ⊕ (AH)) := jt2 s fun a2 h => if 4 < a2 then (some (.inr h)) else (jb (gX9_findPrices_l42 a2 0 h) fun o10 => jl (w32 (a2 + 1)) fun x12 => some (.inl (x12, o10)))
theorem eX9_findPrices_b35 {s : Int × AH} (hS : (fun r => Sh S r.2) s) : EQ (fX9_findPrices_b35 408 s) (gX9_findPrices_b35 s) (Sum.elim (fun r => Sh S r.2) (fun r => Sh S r)) := by
  unfold fX9_findPrices_b35 gX9_findPrices_b35
  obtain ⟨a2, h⟩ := s
  refine EQ_jt2 ?_
  replace hS : Sh S h := hS
  refine EQ_if Iff.rfl (fun c1 => ?_) (fun c1 => ?_)
  · exact EQ_some hS
  · refine EQ_jb (eX9_findPrices_l42 a2 0 hS) (fun o10 r2 => ?_)
    refine EQ_jl rfl (fun x12 ex12 => ?_)
    clear ex12
    exact EQ_some r2
noncomputable def gX9_findPrices_l35 (a2 : Int) (h : AH) : Option (AH) := jit gX9_findPrices_b35 (a2, h)
theorem eX9_findPrices_l35 (a2 : Int) {h : AH} (hS : Sh S h) : EQ (fX9_findPrices_l35 408 a2 h) (gX9_findPrices_l35 a2 h) (fun r => Sh S r) := EQ_jit (I := (fun r => Sh S r.2)) (fun s hs => eX9_findPrices_b35 hs) hS
noncomputable def gX9_findPrices (a1 : Int) (h : AH) : Option (AH) := jb (gX9_findPrices_l2 a1 0 h) fun o1 => jb (gX9_findPrices_l35 1 o1) fun o3 => some o3
theorem eX9_findPrices (a1 : Int) {h : AH} (hS : Sh S h) : EQ (fX9_findPrices 408 a1 h) (gX9_findPrices a1 h) (fun r => Sh S r) := by
  unfold fX9_findPrices gX9_findPrices
  refine EQ_jb (eX9_findPrices_l2 a1 0 hS) (fun o1 r1 => ?_)
  refine EQ_jb (eX9_findPrices_l35 1 r1) (fun o3 r2 => ?_)
  exact EQ_some r2
noncomputable def gX9_find_2_b2 (i1 : Int) (h : AH) (a3 : Int) : Option ((Int) ⊕ (Int)) := jg (jI a3 401) <| if jcmp (h 415 a3) i1 = 0 then (some (.inr a3)) else (jl (w32 (a3 + 1)) fun x4 => some (.inl x4))
theorem eX9_find_2_b2 (i1 : Int) (a3 : Int) {h : AH} (hS : Sh S h) : EQ (fX9_find_2_b2 408 i1 h a3) (gX9_find_2_b2 i1 h a3) (Sum.elim (fun _ => True) (fun _ => True)) := by
  unfold fX9_find_2_b2 gX9_find_2_b2
  refine EQ_jgd (show h 408 (-2) = 10 from by rw [k_408 hS]) ?_
  refine EQ_jg ⟨fun ⟨_, x0⟩ => (show jI a3 (h (h 408 7) (-1)) ↔ jI a3 401 from by rw [r_408_7 hS, l_415 hS]).mp x0, fun x0 => ⟨(show h (h 408 7) (-2) = 102 from by rw [r_408_7 hS, k_415 hS]), (show jI a3 (h (h 408 7) (-1)) ↔ jI a3 401 from by rw [r_408_7 hS, l_415 hS]).mpr x0⟩⟩ (fun g1 => ?_)
  refine EQ_if (show jcmp (h (h 408 7) a3) i1 = 0 ↔ jcmp (h 415 a3) i1 = 0 from by rw [r_408_7 hS]) (fun c2 => ?_) (fun c2 => ?_)
  · exact EQ_some trivial
  · refine EQ_jl rfl (fun x4 ex4 => ?_)
    clear ex4
    exact EQ_some trivial
noncomputable def gX9_find_2_l2 (i1 : Int) (a3 : Int) (h : AH) : Option (Int) := jit (gX9_find_2_b2 i1 h) a3
theorem eX9_find_2_l2 (i1 : Int) (a3 : Int) {h : AH} (hS : Sh S h) : EQ (fX9_find_2_l2 408 i1 a3 h) (gX9_find_2_l2 i1 a3 h) (fun _ => True) := EQ_jit (I := (fun _ => True)) (fun s _ => eX9_find_2_b2 i1 s hS) trivial
noncomputable def gX9_find_2 (a1 : Int) (h : AH) : Option (Int) := jb (gX9_find_2_l2 a1 0 h) fun o1 => some o1
theorem eX9_find_2 (a1 : Int) {h : AH} (hS : Sh S h) : EQ (fX9_find_2 408 a1 h) (gX9_find_2 a1 h) (fun _ => True) := by
  unfold fX9_find_2 gX9_find_2
  refine EQ_jb (eX9_find_2_l2 a1 0 hS) (fun o1 r1 => ?_)
  exact EQ_some trivial
noncomputable def gX9_choose_j155_24 (a1 : Int) (a2 : Int) (a3 : Int) (a4 : Int) (a5 : Int) (h : AH) : Option ((Int) ⊕ ((Int × Int) ⊕ (Unit))) := jl (w32 (a5 + 1)) fun x33 => some (.inl x33)
theorem eX9_choose_j155_24 (a1 : Int) (a2 : Int) (a3 : Int) (a4 : Int) (a5 : Int) {h : AH} (hS : Sh S h) : EQ (fX9_choose_j155_24 408 a1 a2 a3 a4 a5 h) (gX9_choose_j155_24 a1 a2 a3 a4 a5 h) (Sum.elim (fun _ => True) (Sum.elim (fun _ => True) (fun _ => True))) := by
  unfold fX9_choose_j155_24 gX9_choose_j155_24
  refine EQ_jl rfl (fun x33 ex33 => ?_)
  clear ex33
  exact EQ_some trivial
noncomputable def gX9_choose_b24 (i1 : Int) (i2 : Int) (i3 : Int) (i4 : Int) (h : AH) (a5 : Int) : Option ((Int) ⊕ ((Int × Int) ⊕ (Unit))) := if 4 ≤ a5 then (some (.inr (.inr ()))) else (jg (jI i1 401) <| jb (gX9_behindWord (h 415 i1) a5 h) fun v28 => if jcmp v28 (-1) = 0 then (gX9_choose_j155_24 i1 i2 i3 i4 a5 h) else (jb (gX9_find_2 v28 h) fun v31 => jg (jI (w32 (w32 (w32 (i2 - 1) * 400) + v31)) 2000) <| if w32 (w32 (2 * a5) + h 419 (w32 (w32 (w32 (i2 - 1) * 400) + v31))) = i4 then (some (.inr (.inl (a5, v28)))) else (gX9_choose_j155_24 i1 i2 i3 i4 a5 h)))
theorem eX9_choose_b24 (i1 : Int) (i2 : Int) (i3 : Int) (i4 : Int) (a5 : Int) {h : AH} (hS : Sh S h) : EQ (fX9_choose_b24 408 i1 i2 i3 i4 h a5) (gX9_choose_b24 i1 i2 i3 i4 h a5) (Sum.elim (fun _ => True) (Sum.elim (fun _ => True) (fun _ => True))) := by
  unfold fX9_choose_b24 gX9_choose_b24
  refine EQ_if Iff.rfl (fun c1 => ?_) (fun c1 => ?_)
  · exact EQ_some trivial
  · refine EQ_jgd (show h 408 (-2) = 10 from by rw [k_408 hS]) ?_
    refine EQ_jg ⟨fun ⟨_, x0⟩ => (show jI i1 (h (h 408 7) (-1)) ↔ jI i1 401 from by rw [r_408_7 hS, l_415 hS]).mp x0, fun x0 => ⟨(show h (h 408 7) (-2) = 102 from by rw [r_408_7 hS, k_415 hS]), (show jI i1 (h (h 408 7) (-1)) ↔ jI i1 401 from by rw [r_408_7 hS, l_415 hS]).mpr x0⟩⟩ (fun g2 => ?_)
    refine EQ_jgd (show h 408 (-2) = 10 from by rw [k_408 hS]) ?_
    refine EQ_jb (by rw [r_408_7 hS]; exact eX9_behindWord (h 415 i1) a5 hS) (fun v28 r3 => ?_)
    refine EQ_if Iff.rfl (fun c4 => ?_) (fun c4 => ?_)
    · exact (eX9_choose_j155_24 i1 i2 i3 i4 a5 hS)
    · refine EQ_jgd (show h 408 (-2) = 10 from by rw [k_408 hS]) ?_
      refine EQ_jgd (show h 408 (-2) = 10 from by rw [k_408 hS]) ?_
      refine EQ_jb (eX9_find_2 v28 hS) (fun v31 r5 => ?_)
      refine EQ_jg ⟨fun ⟨_, x0⟩ => (show jI (w32 (w32 (w32 (i2 - 1) * 400) + v31)) (h (h 408 14) (-1)) ↔ jI (w32 (w32 (w32 (i2 - 1) * 400) + v31)) 2000 from by rw [r_408_14 hS, l_419 hS]).mp x0, fun x0 => ⟨(show h (h 408 14) (-2) = 101 from by rw [r_408_14 hS, k_419 hS]), (show jI (w32 (w32 (w32 (i2 - 1) * 400) + v31)) (h (h 408 14) (-1)) ↔ jI (w32 (w32 (w32 (i2 - 1) * 400) + v31)) 2000 from by rw [r_408_14 hS, l_419 hS]).mpr x0⟩⟩ (fun g6 => ?_)
      refine EQ_if (show w32 (w32 (2 * a5) + h (h 408 14) (w32 (w32 (w32 (i2 - 1) * 400) + v31))) = i4 ↔ w32 (w32 (2 * a5) + h 419 (w32 (w32 (w32 (i2 - 1) * 400) + v31))) = i4 from by rw [r_408_14 hS]) (fun c7 => ?_) (fun c7 => ?_)
      · exact EQ_some trivial
      · exact (eX9_choose_j155_24 i1 i2 i3 i4 a5 hS)
noncomputable def gX9_choose_l24 (i1 : Int) (i2 : Int) (i3 : Int) (i4 : Int) (a5 : Int) (h : AH) : Option ((Int × Int) ⊕ (Unit)) := jit (gX9_choose_b24 i1 i2 i3 i4 h) a5
theorem eX9_choose_l24 (i1 : Int) (i2 : Int) (i3 : Int) (i4 : Int) (a5 : Int) {h : AH} (hS : Sh S h) : EQ (fX9_choose_l24 408 i1 i2 i3 i4 a5 h) (gX9_choose_l24 i1 i2 i3 i4 a5 h) (Sum.elim (fun _ => True) (fun _ => True)) := EQ_jit (I := (fun _ => True)) (fun s _ => eX9_choose_b24 i1 i2 i3 i4 s hS) trivial
noncomputable def gX9_choose_b95 (i1 : Int) (i3 : Int) (i5 : Int) (i6 : Int) (s : Int × AH) : Option ((Int × AH) ⊕ (AH)) := jt2 s fun a8 h => if i5 ≤ a8 then (some (.inr h)) else (jg (jI i3 4) <| jg (jI i1 401) <| jb (gX9_placeIn (h 415 i1) 0) fun v36 => jg (jI (w32 (v36 + a8)) 80) <| jl (jst h 421 i3 (w32 (w32 (w32 (w32 (h 421 i3 * 27) + h 410 (w32 (v36 + a8))) - 97) + 1))) fun h37 => jl (w32 (a8 + 1)) fun x38 => some (.inl (x38, h37)))
theorem eX9_choose_b95 (i1 : Int) (i3 : Int) (i5 : Int) (i6 : Int) {s : Int × AH} (hS : (fun r => Sh S r.2) s) : EQ (fX9_choose_b95 408 i1 i3 i5 i6 s) (gX9_choose_b95 i1 i3 i5 i6 s) (Sum.elim (fun r => Sh S r.2) (fun r => Sh S r)) := by
  unfold fX9_choose_b95 gX9_choose_b95
  obtain ⟨a8, h⟩ := s
  refine EQ_jt2 ?_
  replace hS : Sh S h := hS
  refine EQ_if Iff.rfl (fun c1 => ?_) (fun c1 => ?_)
  · exact EQ_some hS
  · refine EQ_jgd (show h 408 (-2) = 10 from by rw [k_408 hS]) ?_
    refine EQ_jgd (show h 408 (-2) = 10 from by rw [k_408 hS]) ?_
    refine EQ_jg ⟨fun ⟨_, x0⟩ => (show jI i3 (h (h 408 17) (-1)) ↔ jI i3 4 from by rw [r_408_17 hS, l_421 hS]).mp x0, fun x0 => ⟨(show h (h 408 17) (-2) = 101 from by rw [r_408_17 hS, k_421 hS]), (show jI i3 (h (h 408 17) (-1)) ↔ jI i3 4 from by rw [r_408_17 hS, l_421 hS]).mpr x0⟩⟩ (fun g2 => ?_)
    refine EQ_jgd (show h 408 (-2) = 10 from by rw [k_408 hS]) ?_
    refine EQ_jgd (show h 408 (-2) = 10 from by rw [k_408 hS]) ?_
    refine EQ_jg ⟨fun ⟨_, x0⟩ => (show jI i1 (h (h 408 7) (-1)) ↔ jI i1 401 from by rw [r_408_7 hS, l_415 hS]).mp x0, fun x0 => ⟨(show h (h 408 7) (-2) = 102 from by rw [r_408_7 hS, k_415 hS]), (show jI i1 (h (h 408 7) (-1)) ↔ jI i1 401 from by rw [r_408_7 hS, l_415 hS]).mpr x0⟩⟩ (fun g3 => ?_)
    refine EQ_jgd (show h 408 (-2) = 10 from by rw [k_408 hS]) ?_
    refine EQ_jb (by rw [r_408_7 hS]; exact eX9_placeIn (h 415 i1) 0) (fun v36 r4 => ?_)
    refine EQ_jg ⟨fun ⟨_, x0⟩ => (show jI (w32 (v36 + a8)) (h (h 408 2) (-1)) ↔ jI (w32 (v36 + a8)) 80 from by rw [r_408_2 hS, l_410 hS]).mp x0, fun x0 => ⟨(show h (h 408 2) (-2) = 103 from by rw [r_408_2 hS, k_410 hS]), (show jI (w32 (v36 + a8)) (h (h 408 2) (-1)) ↔ jI (w32 (v36 + a8)) 80 from by rw [r_408_2 hS, l_410 hS]).mpr x0⟩⟩ (fun g5 => ?_)
    refine EQ_jgd ⟨(show h (h 408 17) (-2) = 101 from by rw [r_408_17 hS, k_421 hS]), (show 200 ≤ h 408 17 from by rw [r_408_17 hS]; exact (by decide)), ((show jI i3 (h (h 408 17) (-1)) ↔ jI i3 4 from by rw [r_408_17 hS, l_421 hS]).mpr g2)⟩ ?_
    refine EQ_jl (by rw [r_408_17 hS, r_408_2 hS]) (fun h37 eh37 => ?_)
    have s6 := Sh_of eh37 (Sh_sta hS (by decide +kernel) (jI_nn g2) (fun e => absurd ((k_421 hS).symm.trans e) (by decide)))
    clear eh37
    refine EQ_jl rfl (fun x38 ex38 => ?_)
    clear ex38
    exact EQ_some s6
noncomputable def gX9_choose_l95 (i1 : Int) (i3 : Int) (i5 : Int) (i6 : Int) (a8 : Int) (h : AH) : Option (AH) := jit (gX9_choose_b95 i1 i3 i5 i6) (a8, h)
theorem eX9_choose_l95 (i1 : Int) (i3 : Int) (i5 : Int) (i6 : Int) (a8 : Int) {h : AH} (hS : Sh S h) : EQ (fX9_choose_l95 408 i1 i3 i5 i6 a8 h) (gX9_choose_l95 i1 i3 i5 i6 a8 h) (fun r => Sh S r) := EQ_jit (I := (fun r => Sh S r.2)) (fun s hs => eX9_choose_b95 i1 i3 i5 i6 hs) hS
noncomputable def gX9_choose_j308_171 (a1 : Int) (a2 : Int) (a3 : Int) (a4 : Int) (a5 : Int) (h : AH) : Option ((Int) ⊕ ((Int × Int × Int) ⊕ (Unit))) := jl (w32 (a5 + 1)) fun x46 => some (.inl x46)
theorem eX9_choose_j308_171 (a1 : Int) (a2 : Int) (a3 : Int) (a4 : Int) (a5 : Int) {h : AH} (hS : Sh S h) : EQ (fX9_choose_j308_171 408 a1 a2 a3 a4 a5 h) (gX9_choose_j308_171 a1 a2 a3 a4 a5 h) (Sum.elim (fun _ => True) (Sum.elim (fun _ => True) (fun _ => True))) := by
  unfold fX9_choose_j308_171 gX9_choose_j308_171
  refine EQ_jl rfl (fun x46 ex46 => ?_)
  clear ex46
  exact EQ_some trivial
noncomputable def gX9_choose_j302_182 (a1 : Int) (a2 : Int) (a3 : Int) (a4 : Int) (a5 : Int) (a6 : Int) (h : AH) : Option ((Int) ⊕ ((Int × Int) ⊕ (Unit))) := jl (w32 (a6 + 1)) fun x60 => some (.inl x60)
theorem eX9_choose_j302_182 (a1 : Int) (a2 : Int) (a3 : Int) (a4 : Int) (a5 : Int) (a6 : Int) {h : AH} (hS : Sh S h) : EQ (fX9_choose_j302_182 408 a1 a2 a3 a4 a5 a6 h) (gX9_choose_j302_182 a1 a2 a3 a4 a5 a6 h) (Sum.elim (fun _ => True) (Sum.elim (fun _ => True) (fun _ => True))) := by
  unfold fX9_choose_j302_182 gX9_choose_j302_182
  refine EQ_jl rfl (fun x60 ex60 => ?_)
  clear ex60
  exact EQ_some trivial
noncomputable def gX9_choose_b182 (i1 : Int) (i2 : Int) (i3 : Int) (i4 : Int) (i5 : Int) (h : AH) (a6 : Int) : Option ((Int) ⊕ ((Int × Int) ⊕ (Unit))) := if 178 ≤ a6 then (some (.inr (.inr ()))) else (jg (jI i5 178) <| if h 414 i5 = 0 then (some (.inr (.inr ()))) else (jg (jI a6 178) <| if h 414 a6 = 0 then (gX9_choose_j302_182 i1 i2 i3 i4 i5 a6 h) else (jg (jI i1 401) <| jb (gX9_behind (h 415 i1) i5 a6 h) fun v51 => if jcmp v51 (-1) = 0 then (gX9_choose_j302_182 i1 i2 i3 i4 i5 a6 h) else (jb (gX9_priceOf i5) fun v54 => jb (gX9_priceOf a6) fun v56 => jb (gX9_find_2 v51 h) fun v58 => jg (jI (w32 (w32 (w32 (i2 - 1) * 400) + v58)) 2000) <| if w32 (w32 (v54 + v56) + h 419 (w32 (w32 (w32 (i2 - 1) * 400) + v58))) = i4 then (some (.inr (.inl (a6, v51)))) else (gX9_choose_j302_182 i1 i2 i3 i4 i5 a6 h)))))
theorem eX9_choose_b182 (i1 : Int) (i2 : Int) (i3 : Int) (i4 : Int) (i5 : Int) (a6 : Int) {h : AH} (hS : Sh S h) : EQ (fX9_choose_b182 408 i1 i2 i3 i4 i5 h a6) (gX9_choose_b182 i1 i2 i3 i4 i5 h a6) (Sum.elim (fun _ => True) (Sum.elim (fun _ => True) (fun _ => True))) := by
  unfold fX9_choose_b182 gX9_choose_b182
  refine EQ_if Iff.rfl (fun c1 => ?_) (fun c1 => ?_)
  · exact EQ_some trivial
  · refine EQ_jgd (show h 408 (-2) = 10 from by rw [k_408 hS]) ?_
    refine EQ_jg ⟨fun ⟨_, x0⟩ => (show jI i5 (h (h 408 6) (-1)) ↔ jI i5 178 from by rw [r_408_6 hS, l_414 hS]).mp x0, fun x0 => ⟨(show h (h 408 6) (-2) = 104 from by rw [r_408_6 hS, k_414 hS]), (show jI i5 (h (h 408 6) (-1)) ↔ jI i5 178 from by rw [r_408_6 hS, l_414 hS]).mpr x0⟩⟩ (fun g2 => ?_)
    refine EQ_if (show h (h 408 6) i5 = 0 ↔ h 414 i5 = 0 from by rw [r_408_6 hS]) (fun c3 => ?_) (fun c3 => ?_)
    · exact EQ_some trivial
    · refine EQ_jgd (show h 408 (-2) = 10 from by rw [k_408 hS]) ?_
      refine EQ_jg ⟨fun ⟨_, x0⟩ => (show jI a6 (h (h 408 6) (-1)) ↔ jI a6 178 from by rw [r_408_6 hS, l_414 hS]).mp x0, fun x0 => ⟨(show h (h 408 6) (-2) = 104 from by rw [r_408_6 hS, k_414 hS]), (show jI a6 (h (h 408 6) (-1)) ↔ jI a6 178 from by rw [r_408_6 hS, l_414 hS]).mpr x0⟩⟩ (fun g4 => ?_)
      refine EQ_if (show h (h 408 6) a6 = 0 ↔ h 414 a6 = 0 from by rw [r_408_6 hS]) (fun c5 => ?_) (fun c5 => ?_)
      · exact (eX9_choose_j302_182 i1 i2 i3 i4 i5 a6 hS)
      · refine EQ_jgd (show h 408 (-2) = 10 from by rw [k_408 hS]) ?_
        refine EQ_jg ⟨fun ⟨_, x0⟩ => (show jI i1 (h (h 408 7) (-1)) ↔ jI i1 401 from by rw [r_408_7 hS, l_415 hS]).mp x0, fun x0 => ⟨(show h (h 408 7) (-2) = 102 from by rw [r_408_7 hS, k_415 hS]), (show jI i1 (h (h 408 7) (-1)) ↔ jI i1 401 from by rw [r_408_7 hS, l_415 hS]).mpr x0⟩⟩ (fun g6 => ?_)
        refine EQ_jgd (show h 408 (-2) = 10 from by rw [k_408 hS]) ?_
        refine EQ_jb (by rw [r_408_7 hS]; exact eX9_behind (h 415 i1) i5 a6 hS) (fun v51 r7 => ?_)
        refine EQ_if Iff.rfl (fun c8 => ?_) (fun c8 => ?_)
        · exact (eX9_choose_j302_182 i1 i2 i3 i4 i5 a6 hS)
        · refine EQ_jgd (show h 408 (-2) = 10 from by rw [k_408 hS]) ?_
          refine EQ_jb (eX9_priceOf i5) (fun v54 r9 => ?_)
          refine EQ_jgd (show h 408 (-2) = 10 from by rw [k_408 hS]) ?_
          refine EQ_jb (eX9_priceOf a6) (fun v56 r10 => ?_)
          refine EQ_jgd (show h 408 (-2) = 10 from by rw [k_408 hS]) ?_
          refine EQ_jgd (show h 408 (-2) = 10 from by rw [k_408 hS]) ?_
          refine EQ_jb (eX9_find_2 v51 hS) (fun v58 r11 => ?_)
          refine EQ_jg ⟨fun ⟨_, x0⟩ => (show jI (w32 (w32 (w32 (i2 - 1) * 400) + v58)) (h (h 408 14) (-1)) ↔ jI (w32 (w32 (w32 (i2 - 1) * 400) + v58)) 2000 from by rw [r_408_14 hS, l_419 hS]).mp x0, fun x0 => ⟨(show h (h 408 14) (-2) = 101 from by rw [r_408_14 hS, k_419 hS]), (show jI (w32 (w32 (w32 (i2 - 1) * 400) + v58)) (h (h 408 14) (-1)) ↔ jI (w32 (w32 (w32 (i2 - 1) * 400) + v58)) 2000 from by rw [r_408_14 hS, l_419 hS]).mpr x0⟩⟩ (fun g12 => ?_)
          refine EQ_if (show w32 (w32 (v54 + v56) + h (h 408 14) (w32 (w32 (w32 (i2 - 1) * 400) + v58))) = i4 ↔ w32 (w32 (v54 + v56) + h 419 (w32 (w32 (w32 (i2 - 1) * 400) + v58))) = i4 from by rw [r_408_14 hS]) (fun c13 => ?_) (fun c13 => ?_)
          · exact EQ_some trivial
          · exact (eX9_choose_j302_182 i1 i2 i3 i4 i5 a6 hS)
noncomputable def gX9_choose_l182 (i1 : Int) (i2 : Int) (i3 : Int) (i4 : Int) (i5 : Int) (a6 : Int) (h : AH) : Option ((Int × Int) ⊕ (Unit)) := jit (gX9_choose_b182 i1 i2 i3 i4 i5 h) a6
theorem eX9_choose_l182 (i1 : Int) (i2 : Int) (i3 : Int) (i4 : Int) (i5 : Int) (a6 : Int) {h : AH} (hS : Sh S h) : EQ (fX9_choose_l182 408 i1 i2 i3 i4 i5 a6 h) (gX9_choose_l182 i1 i2 i3 i4 i5 a6 h) (Sum.elim (fun _ => True) (fun _ => True)) := EQ_jit (I := (fun _ => True)) (fun s _ => eX9_choose_b182 i1 i2 i3 i4 i5 s hS) trivial
noncomputable def gX9_choose_b171 (i1 : Int) (i2 : Int) (i3 : Int) (i4 : Int) (h : AH) (a5 : Int) : Option ((Int) ⊕ ((Int × Int × Int) ⊕ (Unit))) := if 178 ≤ a5 then (some (.inr (.inr ()))) else (jb (gX9_choose_l182 i1 i2 i3 i4 a5 0 h) fun o40 => jm o40 (fun o42 => jt2 o42 fun y44 y45 => some (.inr (.inl (a5, y44, y45)))) (fun o43 => gX9_choose_j308_171 i1 i2 i3 i4 a5 h))
theorem eX9_choose_b171 (i1 : Int) (i2 : Int) (i3 : Int) (i4 : Int) (a5 : Int) {h : AH} (hS : Sh S h) : EQ (fX9_choose_b171 408 i1 i2 i3 i4 h a5) (gX9_choose_b171 i1 i2 i3 i4 h a5) (Sum.elim (fun _ => True) (Sum.elim (fun _ => True) (fun _ => True))) := by
  unfold fX9_choose_b171 gX9_choose_b171
  refine EQ_if Iff.rfl (fun c1 => ?_) (fun c1 => ?_)
  · exact EQ_some trivial
  · refine EQ_jb (eX9_choose_l182 i1 i2 i3 i4 a5 0 hS) (fun o40 r2 => ?_)
    refine EQ_jm r2 (fun o42 r3 => ?_) (fun o43 r4 => ?_)
    · obtain ⟨y44, y45⟩ := o42
      refine EQ_jt2 ?_
      exact EQ_some trivial
    · exact (eX9_choose_j308_171 i1 i2 i3 i4 a5 hS)
noncomputable def gX9_choose_l171 (i1 : Int) (i2 : Int) (i3 : Int) (i4 : Int) (a5 : Int) (h : AH) : Option ((Int × Int × Int) ⊕ (Unit)) := jit (gX9_choose_b171 i1 i2 i3 i4 h) a5
theorem eX9_choose_l171 (i1 : Int) (i2 : Int) (i3 : Int) (i4 : Int) (a5 : Int) {h : AH} (hS : Sh S h) : EQ (fX9_choose_l171 408 i1 i2 i3 i4 a5 h) (gX9_choose_l171 i1 i2 i3 i4 a5 h) (Sum.elim (fun _ => True) (fun _ => True)) := EQ_jit (I := (fun _ => True)) (fun s _ => eX9_choose_b171 i1 i2 i3 i4 s hS) trivial
noncomputable def gX9_choose (a1 : Int) (a2 : Int) (h : AH) : Option (Int × AH) := jl (w32 (h 408 16 - a2)) fun x1 => jg (jI (w32 (w32 (a2 * 400) + a1)) 2000) <| jl (h 419 (w32 (w32 (a2 * 400) + a1))) fun x2 => jb (gX9_choose_l24 a1 a2 x1 x2 1 h) fun o3 => jm o3 (fun o5 => jt2 o5 fun y7 y8 => jg (jI x1 4) <| jl (jst h 421 x1 0) fun h9 => jb (gX9_choose_l95 a1 x1 y7 y8 0 h9) fun o10 => jb (gX9_find_2 y8 o10) fun v13 => some (v13, o10)) (fun o6 => jg (jI x1 4) <| jl (jst h 421 x1 (-1)) fun h14 => jb (gX9_choose_l171 a1 a2 x1 x2 0 h14) fun o15 => jm o15 (fun o17 => jt3 o17 fun y19 y20 y21 => jl (jst h14 422 x1 y19) fun h22 => jl (jst h22 423 x1 y20) fun h23 => jb (gX9_find_2 y21 h23) fun v25 => some (v25, h23)) (fun o18 => some ((-1), h14)))
theorem eX9_choose (a1 : Int) (a2 : Int) {h : AH} (hS : Sh S h) : EQ (fX9_choose 408 a1 a2 h) (gX9_choose a1 a2 h) (fun r => Sh S r.2) := by
  unfold fX9_choose gX9_choose
  refine EQ_jgd (show h 408 (-2) = 10 from by rw [k_408 hS]) ?_
  refine EQ_jl rfl (fun x1 ex1 => ?_)
  clear ex1
  refine EQ_jgd (show h 408 (-2) = 10 from by rw [k_408 hS]) ?_
  refine EQ_jg ⟨fun ⟨_, x0⟩ => (show jI (w32 (w32 (a2 * 400) + a1)) (h (h 408 14) (-1)) ↔ jI (w32 (w32 (a2 * 400) + a1)) 2000 from by rw [r_408_14 hS, l_419 hS]).mp x0, fun x0 => ⟨(show h (h 408 14) (-2) = 101 from by rw [r_408_14 hS, k_419 hS]), (show jI (w32 (w32 (a2 * 400) + a1)) (h (h 408 14) (-1)) ↔ jI (w32 (w32 (a2 * 400) + a1)) 2000 from by rw [r_408_14 hS, l_419 hS]).mpr x0⟩⟩ (fun g1 => ?_)
  refine EQ_jl (by rw [r_408_14 hS]) (fun x2 ex2 => ?_)
  clear ex2
  refine EQ_jb (eX9_choose_l24 a1 a2 x1 x2 1 hS) (fun o3 r2 => ?_)
  refine EQ_jm r2 (fun o5 r3 => ?_) (fun o6 r4 => ?_)
  · obtain ⟨y7, y8⟩ := o5
    refine EQ_jt2 ?_
    refine EQ_jgd (show h 408 (-2) = 10 from by rw [k_408 hS]) ?_
    refine EQ_jg ⟨fun ⟨_, _, x0⟩ => (show jI x1 (h (h 408 17) (-1)) ↔ jI x1 4 from by rw [r_408_17 hS, l_421 hS]).mp x0, fun x0 => ⟨(show h (h 408 17) (-2) = 101 from by rw [r_408_17 hS, k_421 hS]), (show 200 ≤ h 408 17 from by rw [r_408_17 hS]; exact (by decide)), (show jI x1 (h (h 408 17) (-1)) ↔ jI x1 4 from by rw [r_408_17 hS, l_421 hS]).mpr x0⟩⟩ (fun g5 => ?_)
    refine EQ_jl (by rw [r_408_17 hS]) (fun h9 eh9 => ?_)
    have s6 := Sh_of eh9 (Sh_sta hS (by decide +kernel) (jI_nn g5) (fun e => absurd ((k_421 hS).symm.trans e) (by decide)))
    clear eh9
    refine EQ_jb (eX9_choose_l95 a1 x1 y7 y8 0 s6) (fun o10 r7 => ?_)
    refine EQ_jgd (show o10 408 (-2) = 10 from by rw [k_408 r7]) ?_
    refine EQ_jb (eX9_find_2 y8 r7) (fun v13 r8 => ?_)
    exact EQ_some r7
  · refine EQ_jgd (show h 408 (-2) = 10 from by rw [k_408 hS]) ?_
    refine EQ_jg ⟨fun ⟨_, _, x0⟩ => (show jI x1 (h (h 408 17) (-1)) ↔ jI x1 4 from by rw [r_408_17 hS, l_421 hS]).mp x0, fun x0 => ⟨(show h (h 408 17) (-2) = 101 from by rw [r_408_17 hS, k_421 hS]), (show 200 ≤ h 408 17 from by rw [r_408_17 hS]; exact (by decide)), (show jI x1 (h (h 408 17) (-1)) ↔ jI x1 4 from by rw [r_408_17 hS, l_421 hS]).mpr x0⟩⟩ (fun g9 => ?_)
    refine EQ_jl (by rw [r_408_17 hS]) (fun h14 eh14 => ?_)
    have s10 := Sh_of eh14 (Sh_sta hS (by decide +kernel) (jI_nn g9) (fun e => absurd ((k_421 hS).symm.trans e) (by decide)))
    clear eh14
    refine EQ_jb (eX9_choose_l171 a1 a2 x1 x2 0 s10) (fun o15 r11 => ?_)
    refine EQ_jm r11 (fun o17 r12 => ?_) (fun o18 r13 => ?_)
    · obtain ⟨y19, y20, y21⟩ := o17
      refine EQ_jt3 ?_
      refine EQ_jgd (show h14 408 (-2) = 10 from by rw [k_408 s10]) ?_
      refine EQ_jgd ⟨(show h14 (h14 408 18) (-2) = 101 from by rw [r_408_18 s10, k_422 s10]), (show 200 ≤ h14 408 18 from by rw [r_408_18 s10]; exact (by decide)), ((show jI x1 (h14 (h14 408 18) (-1)) ↔ jI x1 4 from by rw [r_408_18 s10, l_422 s10]).mpr g9)⟩ ?_
      refine EQ_jl (by rw [r_408_18 s10]) (fun h22 eh22 => ?_)
      have s14 := Sh_of eh22 (Sh_sta s10 (by decide +kernel) (jI_nn g9) (fun e => absurd ((k_422 s10).symm.trans e) (by decide)))
      clear eh22
      refine EQ_jgd (show h22 408 (-2) = 10 from by rw [k_408 s14]) ?_
      refine EQ_jgd ⟨(show h22 (h22 408 19) (-2) = 101 from by rw [r_408_19 s14, k_423 s14]), (show 200 ≤ h22 408 19 from by rw [r_408_19 s14]; exact (by decide)), ((show jI x1 (h22 (h22 408 19) (-1)) ↔ jI x1 4 from by rw [r_408_19 s14, l_423 s14]).mpr g9)⟩ ?_
      refine EQ_jl (by rw [r_408_19 s14]) (fun h23 eh23 => ?_)
      have s15 := Sh_of eh23 (Sh_sta s14 (by decide +kernel) (jI_nn g9) (fun e => absurd ((k_423 s14).symm.trans e) (by decide)))
      clear eh23
      refine EQ_jgd (show h23 408 (-2) = 10 from by rw [k_408 s15]) ?_
      refine EQ_jb (eX9_find_2 y21 s15) (fun v25 r16 => ?_)
      exact EQ_some s15
    · exact EQ_some s10
noncomputable def gX9_fit_j51_21 (a2 : Int) (a3 : Int) (h : AH) : Option ((Int × Int) ⊕ (Int)) := jl (w32 (a3 + 1)) fun x14 => some (.inl (a2, x14))
theorem eX9_fit_j51_21 (a2 : Int) (a3 : Int) {h : AH} (hS : Sh S h) : EQ (fX9_fit_j51_21 408 a2 a3 h) (gX9_fit_j51_21 a2 a3 h) (Sum.elim (fun _ => True) (fun _ => True)) := by
  unfold fX9_fit_j51_21 gX9_fit_j51_21
  refine EQ_jl rfl (fun x14 ex14 => ?_)
  clear ex14
  exact EQ_some trivial
noncomputable def gX9_fit_b21 (h : AH) (s : Int × Int) : Option ((Int × Int) ⊕ (Int)) := jt2 s fun a2 a3 => if 4 < a3 then (some (.inr a2)) else (jg (jI (w32 (a3 * 400)) 2000) <| jg (jI (w32 (a2 * 400)) 2000) <| if h 419 (w32 (a2 * 400)) ≤ h 419 (w32 (a3 * 400)) then (gX9_fit_j51_21 a2 a3 h) else (gX9_fit_j51_21 a3 a3 h))
theorem eX9_fit_b21 (s : Int × Int) {h : AH} (hS : Sh S h) : EQ (fX9_fit_b21 408 h s) (gX9_fit_b21 h s) (Sum.elim (fun _ => True) (fun _ => True)) := by
  unfold fX9_fit_b21 gX9_fit_b21
  obtain ⟨a2, a3⟩ := s
  refine EQ_jt2 ?_
  refine EQ_if Iff.rfl (fun c1 => ?_) (fun c1 => ?_)
  · exact EQ_some trivial
  · refine EQ_jgd (show h 408 (-2) = 10 from by rw [k_408 hS]) ?_
    refine EQ_jg ⟨fun ⟨_, x0⟩ => (show jI (w32 (a3 * 400)) (h (h 408 14) (-1)) ↔ jI (w32 (a3 * 400)) 2000 from by rw [r_408_14 hS, l_419 hS]).mp x0, fun x0 => ⟨(show h (h 408 14) (-2) = 101 from by rw [r_408_14 hS, k_419 hS]), (show jI (w32 (a3 * 400)) (h (h 408 14) (-1)) ↔ jI (w32 (a3 * 400)) 2000 from by rw [r_408_14 hS, l_419 hS]).mpr x0⟩⟩ (fun g2 => ?_)
    refine EQ_jgd (show h 408 (-2) = 10 from by rw [k_408 hS]) ?_
    refine EQ_jg ⟨fun ⟨_, x0⟩ => (show jI (w32 (a2 * 400)) (h (h 408 14) (-1)) ↔ jI (w32 (a2 * 400)) 2000 from by rw [r_408_14 hS, l_419 hS]).mp x0, fun x0 => ⟨(show h (h 408 14) (-2) = 101 from by rw [r_408_14 hS, k_419 hS]), (show jI (w32 (a2 * 400)) (h (h 408 14) (-1)) ↔ jI (w32 (a2 * 400)) 2000 from by rw [r_408_14 hS, l_419 hS]).mpr x0⟩⟩ (fun g3 => ?_)
    refine EQ_if (show h (h 408 14) (w32 (a2 * 400)) ≤ h (h 408 14) (w32 (a3 * 400)) ↔ h 419 (w32 (a2 * 400)) ≤ h 419 (w32 (a3 * 400)) from by rw [r_408_14 hS]) (fun c4 => ?_) (fun c4 => ?_)
    · exact (eX9_fit_j51_21 a2 a3 hS)
    · exact (eX9_fit_j51_21 a3 a3 hS)
noncomputable def gX9_fit_l21 (a2 : Int) (a3 : Int) (h : AH) : Option (Int) := jit (gX9_fit_b21 h) (a2, a3)
theorem eX9_fit_l21 (a2 : Int) (a3 : Int) {h : AH} (hS : Sh S h) : EQ (fX9_fit_l21 408 a2 a3 h) (gX9_fit_l21 a2 a3 h) (fun _ => True) := EQ_jit (I := (fun _ => True)) (fun s _ => eX9_fit_b21 s hS) trivial
noncomputable def gX9_fit_b84 (i2 : Int) (s : Int × Int × AH) : Option ((Int × Int × AH) ⊕ (AH)) := jt3 s fun a3 a4 h => if a4 ≤ 0 then (some (.inr h)) else (jb2 (gX9_choose a3 a4 h) fun v17 h18 => jl (w32 (a4 + (-1))) fun x19 => some (.inl (v17, x19, h18)))
theorem eX9_fit_b84 (i2 : Int) {s : Int × Int × AH} (hS : (fun r => Sh S r.2.2) s) : EQ (fX9_fit_b84 408 i2 s) (gX9_fit_b84 i2 s) (Sum.elim (fun r => Sh S r.2.2) (fun r => Sh S r)) := by
  unfold fX9_fit_b84 gX9_fit_b84
  obtain ⟨a3, a4, h⟩ := s
  refine EQ_jt3 ?_
  replace hS : Sh S h := hS
  refine EQ_if Iff.rfl (fun c1 => ?_) (fun c1 => ?_)
  · exact EQ_some hS
  · refine EQ_jgd (show h 408 (-2) = 10 from by rw [k_408 hS]) ?_
    refine EQ_jb2 (eX9_choose a3 a4 hS) (fun v17 h18 r2 => ?_)
    replace r2 : Sh S h18 := r2
    refine EQ_jl rfl (fun x19 ex19 => ?_)
    clear ex19
    exact EQ_some r2
noncomputable def gX9_fit_l84 (i2 : Int) (a3 : Int) (a4 : Int) (h : AH) : Option (AH) := jit (gX9_fit_b84 i2) (a3, a4, h)
theorem eX9_fit_l84 (i2 : Int) (a3 : Int) (a4 : Int) {h : AH} (hS : Sh S h) : EQ (fX9_fit_l84 408 i2 a3 a4 h) (gX9_fit_l84 i2 a3 a4 h) (fun r => Sh S r) := EQ_jit (I := (fun r => Sh S r.2.2)) (fun s hs => eX9_fit_b84 i2 hs) hS
noncomputable def gX9_fit (h : AH) : Option (Int × AH) := jb (gX9_end h) fun v2 => if v2 = (-1) then (some (0, h)) else (jb (gX9_findPrices v2 h) fun h5 => jb (gX9_fit_l21 1 2 h5) fun o6 => jg (jI (w32 (o6 * 400)) 2000) <| if h5 419 (w32 (o6 * 400)) < 1000000 then (jl (jst h5 408 16 o6) fun h9 => jb (gX9_fit_l84 o6 0 o6 h9) fun o10 => some (o10 419 (w32 (o6 * 400)), o10)) else (some (0, h5)))
theorem eX9_fit {h : AH} (hS : Sh S h) : EQ (fX9_fit 408 h) (gX9_fit h) (fun r => Sh S r.2) := by
  unfold fX9_fit gX9_fit
  refine EQ_jgd (show h 408 (-2) = 10 from by rw [k_408 hS]) ?_
  refine EQ_jb (eX9_end hS) (fun v2 r1 => ?_)
  refine EQ_if Iff.rfl (fun c2 => ?_) (fun c2 => ?_)
  · exact EQ_some hS
  · refine EQ_jgd (show h 408 (-2) = 10 from by rw [k_408 hS]) ?_
    refine EQ_jb (eX9_findPrices v2 hS) (fun h5 r3 => ?_)
    refine EQ_jb (eX9_fit_l21 1 2 r3) (fun o6 r4 => ?_)
    refine EQ_jgd (show h5 408 (-2) = 10 from by rw [k_408 r3]) ?_
    refine EQ_jg ⟨fun ⟨_, x0⟩ => (show jI (w32 (o6 * 400)) (h5 (h5 408 14) (-1)) ↔ jI (w32 (o6 * 400)) 2000 from by rw [r_408_14 r3, l_419 r3]).mp x0, fun x0 => ⟨(show h5 (h5 408 14) (-2) = 101 from by rw [r_408_14 r3, k_419 r3]), (show jI (w32 (o6 * 400)) (h5 (h5 408 14) (-1)) ↔ jI (w32 (o6 * 400)) 2000 from by rw [r_408_14 r3, l_419 r3]).mpr x0⟩⟩ (fun g5 => ?_)
    refine EQ_if (show h5 (h5 408 14) (w32 (o6 * 400)) < 1000000 ↔ h5 419 (w32 (o6 * 400)) < 1000000 from by rw [r_408_14 r3]) (fun c6 => ?_) (fun c6 => ?_)
    · refine EQ_jgd ⟨(show h5 408 (-2) = 10 from by rw [k_408 r3]), (show (200 : Int) ≤ 408 from (by decide))⟩ ?_
      refine EQ_jl rfl (fun h9 eh9 => ?_)
      have s7 := Sh_of eh9 (Sh_sto r3 (a := 408) (i := 16) (by decide +kernel))
      clear eh9
      refine EQ_jb (eX9_fit_l84 o6 0 o6 s7) (fun o10 r8 => ?_)
      refine EQ_jgd (show o10 408 (-2) = 10 from by rw [k_408 r8]) ?_
      refine EQ_jgd ⟨(show o10 (o10 408 14) (-2) = 101 from by rw [r_408_14 r8, k_419 r8]), ((show jI (w32 (o6 * 400)) (o10 (o10 408 14) (-1)) ↔ jI (w32 (o6 * 400)) 2000 from by rw [r_408_14 r8, l_419 r8]).mpr g5)⟩ ?_
      exact EQ_some' (by rw [r_408_14 r8]) r8
    · exact EQ_some r3
noncomputable def gX1_fit_j58 (a1 : Int) (t1 : Int) (t2 : Int) (h : AH) : Option (Int × AH) := jg (jZ (jor t1 t2)) <| jl (jst h 200 63 (jor t1 t2)) fun h11 => some (a1, h11)
theorem eX1_fit_j58 (a1 : Int) (t1 : Int) (t2 : Int) {h : AH} (hS : Sh S h) : EQ (fX1_fit_j58 a1 200 t1 t2 h) (gX1_fit_j58 a1 t1 t2 h) (fun r => Sh S r.2) := by
  unfold fX1_fit_j58 gX1_fit_j58
  refine EQ_jg ⟨fun ⟨_, _, x0⟩ => x0, fun x0 => ⟨(show h 200 (-2) = 2 from by rw [k_200 hS]), (show (200 : Int) ≤ 200 from (by decide)), x0⟩⟩ (fun g1 => ?_)
  refine EQ_jl rfl (fun h11 eh11 => ?_)
  have s2 := Sh_of eh11 (Sh_sto hS (a := 200) (i := 63) (by decide +kernel))
  clear eh11
  exact EQ_some s2
noncomputable def gX1_fit (h : AH) : Option (Int × AH) := if h 200 53 = 0 then (if h 408 0 = 0 then (some ((-2), h)) else (jb2 (gX9_look h) fun v4 h5 => if v4 = 0 then (some ((-3), h5)) else (jb2 (gX9_fit h5) fun v8 h9 => if v8 ≤ 0 then (gX1_fit_j58 v8 (h9 200 63) 0 h9) else (gX1_fit_j58 v8 (h9 200 63) 1 h9)))) else (some ((-5), h))
theorem eX1_fit {h : AH} (hS : Sh S h) : EQ (fX1_fit 200 h) (gX1_fit h) (fun r => Sh S r.2) := by
  unfold fX1_fit gX1_fit
  refine EQ_jgd (show h 200 (-2) = 2 from by rw [k_200 hS]) ?_
  refine EQ_if Iff.rfl (fun c1 => ?_) (fun c1 => ?_)
  · refine EQ_jgd (show h 200 (-2) = 2 from by rw [k_200 hS]) ?_
    refine EQ_jgd (show h (h 200 49) (-2) = 10 from by rw [r_200_49 hS, k_408 hS]) ?_
    refine EQ_if (show h (h 200 49) 0 = 0 ↔ h 408 0 = 0 from by rw [r_200_49 hS]) (fun c2 => ?_) (fun c2 => ?_)
    · exact EQ_some hS
    · refine EQ_jgd (show h 200 (-2) = 2 from by rw [k_200 hS]) ?_
      refine EQ_jgd (show h (h 200 49) (-2) = 10 from by rw [r_200_49 hS, k_408 hS]) ?_
      refine EQ_jb2 (by rw [r_200_49 hS]; exact eX9_look hS) (fun v4 h5 r3 => ?_)
      replace r3 : Sh S h5 := r3
      refine EQ_if Iff.rfl (fun c4 => ?_) (fun c4 => ?_)
      · exact EQ_some r3
      · refine EQ_jgd (show h5 200 (-2) = 2 from by rw [k_200 r3]) ?_
        refine EQ_jgd (show h5 (h5 200 49) (-2) = 10 from by rw [r_200_49 r3, k_408 r3]) ?_
        refine EQ_jb2 (by rw [r_200_49 r3]; exact eX9_fit r3) (fun v8 h9 r5 => ?_)
        replace r5 : Sh S h9 := r5
        refine EQ_jgd (show h9 200 (-2) = 2 from by rw [k_200 r5]) ?_
        refine EQ_if Iff.rfl (fun c6 => ?_) (fun c6 => ?_)
        · exact (eX1_fit_j58 v8 (h9 200 63) 0 r5)
        · exact (eX1_fit_j58 v8 (h9 200 63) 1 r5)
  · exact EQ_some hS
noncomputable def gX9_count_j37_14 (a1 : Int) (a2 : Int) (a3 : Int) (t1 : Int) (t2 : Int) (h : AH) : Option ((Int × AH) ⊕ (AH)) := jg (jI t1 2000) <| jl (jst h 420 t1 t2) fun h10 => jl (w32 (a3 + 1)) fun x11 => some (.inl (x11, h10))
theorem eX9_count_j37_14 (a1 : Int) (a2 : Int) (a3 : Int) (t1 : Int) (t2 : Int) {h : AH} (hS : Sh S h) : EQ (fX9_count_j37_14 408 a1 a2 a3 420 t1 t2 h) (gX9_count_j37_14 a1 a2 a3 t1 t2 h) (Sum.elim (fun r => Sh S r.2) (fun r => Sh S r)) := by
  unfold fX9_count_j37_14 gX9_count_j37_14
  refine EQ_jg ⟨fun ⟨_, _, x0⟩ => (show jI t1 (h 420 (-1)) ↔ jI t1 2000 from by rw [l_420 hS]).mp x0, fun x0 => ⟨(show h 420 (-2) = 102 from by rw [k_420 hS]), (show (200 : Int) ≤ 420 from (by decide)), (show jI t1 (h 420 (-1)) ↔ jI t1 2000 from by rw [l_420 hS]).mpr x0⟩⟩ (fun g1 => ?_)
  refine EQ_jl rfl (fun h10 eh10 => ?_)
  have s2 := Sh_of eh10 (Sh_sta hS (by decide +kernel) (jI_nn g1) (fun e => absurd ((k_420 hS).symm.trans e) (by decide)))
  clear eh10
  refine EQ_jl rfl (fun x11 ex11 => ?_)
  clear ex11
  exact EQ_some s2
noncomputable def gX9_count_b14 (i1 : Int) (i2 : Int) (s : Int × AH) : Option ((Int × AH) ⊕ (AH)) := jt2 s fun a3 h => if h 408 9 ≤ a3 then (some (.inr h)) else (if a3 = i2 then (gX9_count_j37_14 i1 i2 a3 a3 1 h) else (gX9_count_j37_14 i1 i2 a3 a3 0 h))
theorem eX9_count_b14 (i1 : Int) (i2 : Int) {s : Int × AH} (hS : (fun r => Sh S r.2) s) : EQ (fX9_count_b14 408 i1 i2 s) (gX9_count_b14 i1 i2 s) (Sum.elim (fun r => Sh S r.2) (fun r => Sh S r)) := by
  unfold fX9_count_b14 gX9_count_b14
  obtain ⟨a3, h⟩ := s
  refine EQ_jt2 ?_
  replace hS : Sh S h := hS
  refine EQ_jgd (show h 408 (-2) = 10 from by rw [k_408 hS]) ?_
  refine EQ_if Iff.rfl (fun c1 => ?_) (fun c1 => ?_)
  · exact EQ_some hS
  · refine EQ_jgd (show h 408 (-2) = 10 from by rw [k_408 hS]) ?_
    refine EQ_if Iff.rfl (fun c2 => ?_) (fun c2 => ?_)
    · exact (by rw [r_408_15 hS]; exact eX9_count_j37_14 i1 i2 a3 a3 1 hS)
    · exact (by rw [r_408_15 hS]; exact eX9_count_j37_14 i1 i2 a3 a3 0 hS)
noncomputable def gX9_count_l14 (i1 : Int) (i2 : Int) (a3 : Int) (h : AH) : Option (AH) := jit (gX9_count_b14 i1 i2) (a3, h)
theorem eX9_count_l14 (i1 : Int) (i2 : Int) (a3 : Int) {h : AH} (hS : Sh S h) : EQ (fX9_count_l14 408 i1 i2 a3 h) (gX9_count_l14 i1 i2 a3 h) (fun r => Sh S r) := EQ_jit (I := (fun r => Sh S r.2)) (fun s hs => eX9_count_b14 i1 i2 hs) hS
noncomputable def gX9_count_j132_69 (a1 : Int) (a3 : Int) (a4 : Int) (a5 : Int) (a7 : Int) (h : AH) : Option ((Int × Int) ⊕ (Int)) := jl (w32 (a7 + 1)) fun x24 => some (.inl (a5, x24))
theorem eX9_count_j132_69 (a1 : Int) (a3 : Int) (a4 : Int) (a5 : Int) (a7 : Int) {h : AH} (hS : Sh S h) : EQ (fX9_count_j132_69 408 a1 a3 a4 a5 a7 h) (gX9_count_j132_69 a1 a3 a4 a5 a7 h) (Sum.elim (fun _ => True) (fun _ => True)) := by
  unfold fX9_count_j132_69 gX9_count_j132_69
  refine EQ_jl rfl (fun x24 ex24 => ?_)
  clear ex24
  exact EQ_some trivial
noncomputable def gX9_count_b69 (i1 : Int) (i3 : Int) (i4 : Int) (h : AH) (s : Int × Int) : Option ((Int × Int) ⊕ (Int)) := jt2 s fun a5 a7 => if h 408 9 ≤ a7 then (some (.inr a5)) else (jg (jI (w32 (w32 (i4 * 400) + a7)) 160000) <| if jcmp (h 417 (w32 (w32 (i4 * 400) + a7))) 0 ≤ 0 then (gX9_count_j132_69 i1 i3 i4 a5 a7 h) else (jg (jI (w32 (w32 (w32 (i3 - 1) * 400) + a7)) 2000) <| jl (w64 (a5 + w64 (h 417 (w32 (w32 (i4 * 400) + a7)) * h 420 (w32 (w32 (w32 (i3 - 1) * 400) + a7))))) fun x23 => gX9_count_j132_69 i1 i3 i4 x23 a7 h))
theorem eX9_count_b69 (i1 : Int) (i3 : Int) (i4 : Int) (s : Int × Int) {h : AH} (hS : Sh S h) : EQ (fX9_count_b69 408 i1 i3 i4 h s) (gX9_count_b69 i1 i3 i4 h s) (Sum.elim (fun _ => True) (fun _ => True)) := by
  unfold fX9_count_b69 gX9_count_b69
  obtain ⟨a5, a7⟩ := s
  refine EQ_jt2 ?_
  refine EQ_jgd (show h 408 (-2) = 10 from by rw [k_408 hS]) ?_
  refine EQ_if Iff.rfl (fun c1 => ?_) (fun c1 => ?_)
  · exact EQ_some trivial
  · refine EQ_jgd (show h 408 (-2) = 10 from by rw [k_408 hS]) ?_
    refine EQ_jg ⟨fun ⟨_, x0⟩ => (show jI (w32 (w32 (i4 * 400) + a7)) (h (h 408 12) (-1)) ↔ jI (w32 (w32 (i4 * 400) + a7)) 160000 from by rw [r_408_12 hS, l_417 hS]).mp x0, fun x0 => ⟨(show h (h 408 12) (-2) = 102 from by rw [r_408_12 hS, k_417 hS]), (show jI (w32 (w32 (i4 * 400) + a7)) (h (h 408 12) (-1)) ↔ jI (w32 (w32 (i4 * 400) + a7)) 160000 from by rw [r_408_12 hS, l_417 hS]).mpr x0⟩⟩ (fun g2 => ?_)
    refine EQ_if (show jcmp (h (h 408 12) (w32 (w32 (i4 * 400) + a7))) 0 ≤ 0 ↔ jcmp (h 417 (w32 (w32 (i4 * 400) + a7))) 0 ≤ 0 from by rw [r_408_12 hS]) (fun c3 => ?_) (fun c3 => ?_)
    · exact (eX9_count_j132_69 i1 i3 i4 a5 a7 hS)
    · refine EQ_jgd (show h 408 (-2) = 10 from by rw [k_408 hS]) ?_
      refine EQ_jgd ⟨(show h (h 408 12) (-2) = 102 from by rw [r_408_12 hS, k_417 hS]), ((show jI (w32 (w32 (i4 * 400) + a7)) (h (h 408 12) (-1)) ↔ jI (w32 (w32 (i4 * 400) + a7)) 160000 from by rw [r_408_12 hS, l_417 hS]).mpr g2)⟩ ?_
      refine EQ_jgd (show h 408 (-2) = 10 from by rw [k_408 hS]) ?_
      refine EQ_jg ⟨fun ⟨_, x0⟩ => (show jI (w32 (w32 (w32 (i3 - 1) * 400) + a7)) (h (h 408 15) (-1)) ↔ jI (w32 (w32 (w32 (i3 - 1) * 400) + a7)) 2000 from by rw [r_408_15 hS, l_420 hS]).mp x0, fun x0 => ⟨(show h (h 408 15) (-2) = 102 from by rw [r_408_15 hS, k_420 hS]), (show jI (w32 (w32 (w32 (i3 - 1) * 400) + a7)) (h (h 408 15) (-1)) ↔ jI (w32 (w32 (w32 (i3 - 1) * 400) + a7)) 2000 from by rw [r_408_15 hS, l_420 hS]).mpr x0⟩⟩ (fun g4 => ?_)
      refine EQ_jl (by rw [r_408_12 hS, r_408_15 hS]) (fun x23 ex23 => ?_)
      clear ex23
      exact (eX9_count_j132_69 i1 i3 i4 x23 a7 hS)
noncomputable def gX9_count_l69 (i1 : Int) (i3 : Int) (i4 : Int) (a5 : Int) (a7 : Int) (h : AH) : Option (Int) := jit (gX9_count_b69 i1 i3 i4 h) (a5, a7)
theorem eX9_count_l69 (i1 : Int) (i3 : Int) (i4 : Int) (a5 : Int) (a7 : Int) {h : AH} (hS : Sh S h) : EQ (fX9_count_l69 408 i1 i3 i4 a5 a7 h) (gX9_count_l69 i1 i3 i4 a5 a7 h) (fun _ => True) := EQ_jit (I := (fun _ => True)) (fun s _ => eX9_count_b69 i1 i3 i4 s hS) trivial
noncomputable def gX9_count_b54 (i1 : Int) (i3 : Int) (s : Int × AH) : Option ((Int × AH) ⊕ (AH)) := jt2 s fun a4 h => if h 408 9 ≤ a4 then (some (.inr h)) else (jb (gX9_count_l69 i1 i3 a4 0 0 h) fun o17 => jg (jI (w32 (w32 (i3 * 400) + a4)) 2000) <| jl (jst h 420 (w32 (w32 (i3 * 400) + a4)) o17) fun h19 => jl (w32 (a4 + 1)) fun x20 => some (.inl (x20, h19)))
theorem eX9_count_b54 (i1 : Int) (i3 : Int) {s : Int × AH} (hS : (fun r => Sh S r.2) s) : EQ (fX9_count_b54 408 i1 i3 s) (gX9_count_b54 i1 i3 s) (Sum.elim (fun r => Sh S r.2) (fun r => Sh S r)) := by
  unfold fX9_count_b54 gX9_count_b54
  obtain ⟨a4, h⟩ := s
  refine EQ_jt2 ?_
  replace hS : Sh S h := hS
  refine EQ_jgd (show h 408 (-2) = 10 from by rw [k_408 hS]) ?_
  refine EQ_if Iff.rfl (fun c1 => ?_) (fun c1 => ?_)
  · exact EQ_some hS
  · refine EQ_jb (eX9_count_l69 i1 i3 a4 0 0 hS) (fun o17 r2 => ?_)
    refine EQ_jgd (show h 408 (-2) = 10 from by rw [k_408 hS]) ?_
    refine EQ_jg ⟨fun ⟨_, _, x0⟩ => (show jI (w32 (w32 (i3 * 400) + a4)) (h (h 408 15) (-1)) ↔ jI (w32 (w32 (i3 * 400) + a4)) 2000 from by rw [r_408_15 hS, l_420 hS]).mp x0, fun x0 => ⟨(show h (h 408 15) (-2) = 102 from by rw [r_408_15 hS, k_420 hS]), (show 200 ≤ h 408 15 from by rw [r_408_15 hS]; exact (by decide)), (show jI (w32 (w32 (i3 * 400) + a4)) (h (h 408 15) (-1)) ↔ jI (w32 (w32 (i3 * 400) + a4)) 2000 from by rw [r_408_15 hS, l_420 hS]).mpr x0⟩⟩ (fun g3 => ?_)
    refine EQ_jl (by rw [r_408_15 hS]) (fun h19 eh19 => ?_)
    have s4 := Sh_of eh19 (Sh_sta hS (by decide +kernel) (jI_nn g3) (fun e => absurd ((k_420 hS).symm.trans e) (by decide)))
    clear eh19
    refine EQ_jl rfl (fun x20 ex20 => ?_)
    clear ex20
    exact EQ_some s4
noncomputable def gX9_count_l54 (i1 : Int) (i3 : Int) (a4 : Int) (h : AH) : Option (AH) := jit (gX9_count_b54 i1 i3) (a4, h)
theorem eX9_count_l54 (i1 : Int) (i3 : Int) (a4 : Int) {h : AH} (hS : Sh S h) : EQ (fX9_count_l54 408 i1 i3 a4 h) (gX9_count_l54 i1 i3 a4 h) (fun r => Sh S r) := EQ_jit (I := (fun r => Sh S r.2)) (fun s hs => eX9_count_b54 i1 i3 hs) hS
noncomputable def gX9_count_b46 (i1 : Int) (s : Int × AH) : Option ((Int × AH) ⊕ (AH)) := jt2 s fun a3 h => if i1 < a3 then (some (.inr h)) else (jb (gX9_count_l54 i1 a3 0 h) fun o13 => jl (w32 (a3 + 1)) fun x15 => some (.inl (x15, o13)))
theorem eX9_count_b46 (i1 : Int) {s : Int × AH} (hS : (fun r => Sh S r.2) s) : EQ (fX9_count_b46 408 i1 s) (gX9_count_b46 i1 s) (Sum.elim (fun r => Sh S r.2) (fun r => Sh S r)) := by
  unfold fX9_count_b46 gX9_count_b46
  obtain ⟨a3, h⟩ := s
  refine EQ_jt2 ?_
  replace hS : Sh S h := hS
  refine EQ_if Iff.rfl (fun c1 => ?_) (fun c1 => ?_)
  · exact EQ_some hS
  · refine EQ_jb (eX9_count_l54 i1 a3 0 hS) (fun o13 r2 => ?_)
    refine EQ_jl rfl (fun x15 ex15 => ?_)
    clear ex15
    exact EQ_some r2
noncomputable def gX9_count_l46 (i1 : Int) (a3 : Int) (h : AH) : Option (AH) := jit (gX9_count_b46 i1) (a3, h)
theorem eX9_count_l46 (i1 : Int) (a3 : Int) {h : AH} (hS : Sh S h) : EQ (fX9_count_l46 408 i1 a3 h) (gX9_count_l46 i1 a3 h) (fun r => Sh S r) := EQ_jit (I := (fun r => Sh S r.2)) (fun s hs => eX9_count_b46 i1 hs) hS
noncomputable def gX9_count (a1 : Int) (h : AH) : Option (Int × AH) := jb (gX9_end h) fun v2 => if v2 = (-1) then (some (0, h)) else (jb (gX9_count_l14 a1 v2 0 h) fun o4 => jb (gX9_count_l46 a1 1 o4) fun o6 => jg (jI (w32 (a1 * 400)) 2000) <| some (o6 420 (w32 (a1 * 400)), o6))
theorem eX9_count (a1 : Int) {h : AH} (hS : Sh S h) : EQ (fX9_count 408 a1 h) (gX9_count a1 h) (fun r => Sh S r.2) := by
  unfold fX9_count gX9_count
  refine EQ_jgd (show h 408 (-2) = 10 from by rw [k_408 hS]) ?_
  refine EQ_jb (eX9_end hS) (fun v2 r1 => ?_)
  refine EQ_if Iff.rfl (fun c2 => ?_) (fun c2 => ?_)
  · exact EQ_some hS
  · refine EQ_jb (eX9_count_l14 a1 v2 0 hS) (fun o4 r3 => ?_)
    refine EQ_jb (eX9_count_l46 a1 1 r3) (fun o6 r4 => ?_)
    refine EQ_jgd (show o6 408 (-2) = 10 from by rw [k_408 r4]) ?_
    refine EQ_jg ⟨fun ⟨_, x0⟩ => (show jI (w32 (a1 * 400)) (o6 (o6 408 15) (-1)) ↔ jI (w32 (a1 * 400)) 2000 from by rw [r_408_15 r4, l_420 r4]).mp x0, fun x0 => ⟨(show o6 (o6 408 15) (-2) = 102 from by rw [r_408_15 r4, k_420 r4]), (show jI (w32 (a1 * 400)) (o6 (o6 408 15) (-1)) ↔ jI (w32 (a1 * 400)) 2000 from by rw [r_408_15 r4, l_420 r4]).mpr x0⟩⟩ (fun g5 => ?_)
    exact EQ_some' (by rw [r_408_15 r4]) r4
noncomputable def gX1_fitting (a1 : Int) (h : AH) : Option (Int × AH) := if h 200 53 = 0 then (jb (gX1_isIn a1 1 4) fun v3 => if v3 = 0 then (some ((-1), h)) else (if h 408 0 = 0 then (some ((-2), h)) else (jb2 (gX9_look h) fun v7 h8 => if v7 = 0 then (some ((-3), h8)) else (jb2 (gX9_count a1 h8) fun v11 h12 => some (v11, h12))))) else (some ((-5), h))
theorem eX1_fitting (a1 : Int) {h : AH} (hS : Sh S h) : EQ (fX1_fitting 200 a1 h) (gX1_fitting a1 h) (fun r => Sh S r.2) := by
  unfold fX1_fitting gX1_fitting
  refine EQ_jgd (show h 200 (-2) = 2 from by rw [k_200 hS]) ?_
  refine EQ_if Iff.rfl (fun c1 => ?_) (fun c1 => ?_)
  · refine EQ_jb (eX1_isIn a1 1 4) (fun v3 r2 => ?_)
    refine EQ_if Iff.rfl (fun c3 => ?_) (fun c3 => ?_)
    · exact EQ_some hS
    · refine EQ_jgd (show h 200 (-2) = 2 from by rw [k_200 hS]) ?_
      refine EQ_jgd (show h (h 200 49) (-2) = 10 from by rw [r_200_49 hS, k_408 hS]) ?_
      refine EQ_if (show h (h 200 49) 0 = 0 ↔ h 408 0 = 0 from by rw [r_200_49 hS]) (fun c4 => ?_) (fun c4 => ?_)
      · exact EQ_some hS
      · refine EQ_jgd (show h 200 (-2) = 2 from by rw [k_200 hS]) ?_
        refine EQ_jgd (show h (h 200 49) (-2) = 10 from by rw [r_200_49 hS, k_408 hS]) ?_
        refine EQ_jb2 (by rw [r_200_49 hS]; exact eX9_look hS) (fun v7 h8 r5 => ?_)
        replace r5 : Sh S h8 := r5
        refine EQ_if Iff.rfl (fun c6 => ?_) (fun c6 => ?_)
        · exact EQ_some r5
        · refine EQ_jgd (show h8 200 (-2) = 2 from by rw [k_200 r5]) ?_
          refine EQ_jgd (show h8 (h8 200 49) (-2) = 10 from by rw [r_200_49 r5, k_408 r5]) ?_
          refine EQ_jb2 (by rw [r_200_49 r5]; exact eX9_count a1 r5) (fun v11 h12 r7 => ?_)
          replace r7 : Sh S h12 := r7
          exact EQ_some r7
  · exact EQ_some hS
noncomputable def gX1_part_j72 (a1 : Int) (a2 : Int) (t0 : Int) (h : AH) : Option (Int) := if a2 = 1 then (if t0 = 0 then (some 0) else (some 1)) else (if a2 = 2 then (jg (jI a1 4) <| some (h 421 a1)) else (if t0 = 0 then (some (-1)) else (if a2 = 3 then (jg (jI a1 4) <| some (h 422 a1)) else (jg (jI a1 4) <| some (h 423 a1)))))
theorem eX1_part_j72 (a1 : Int) (a2 : Int) (t0 : Int) {h : AH} (hS : Sh S h) : EQ (fX1_part_j72 200 a1 a2 t0 h) (gX1_part_j72 a1 a2 t0 h) (fun _ => True) := by
  unfold fX1_part_j72 gX1_part_j72
  refine EQ_if Iff.rfl (fun c1 => ?_) (fun c1 => ?_)
  · refine EQ_if Iff.rfl (fun c2 => ?_) (fun c2 => ?_)
    · exact EQ_some trivial
    · exact EQ_some trivial
  · refine EQ_if Iff.rfl (fun c3 => ?_) (fun c3 => ?_)
    · refine EQ_jgd (show h 200 (-2) = 2 from by rw [k_200 hS]) ?_
      refine EQ_jgd (show h (h 200 49) (-2) = 10 from by rw [r_200_49 hS, k_408 hS]) ?_
      refine EQ_jg ⟨fun ⟨_, x0⟩ => (show jI a1 (h (h (h 200 49) 17) (-1)) ↔ jI a1 4 from by rw [r_200_49 hS, r_408_17 hS, l_421 hS]).mp x0, fun x0 => ⟨(show h (h (h 200 49) 17) (-2) = 101 from by rw [r_200_49 hS, r_408_17 hS, k_421 hS]), (show jI a1 (h (h (h 200 49) 17) (-1)) ↔ jI a1 4 from by rw [r_200_49 hS, r_408_17 hS, l_421 hS]).mpr x0⟩⟩ (fun g4 => ?_)
      exact EQ_some' (by rw [r_200_49 hS, r_408_17 hS]) trivial
    · refine EQ_if Iff.rfl (fun c5 => ?_) (fun c5 => ?_)
      · exact EQ_some trivial
      · refine EQ_if Iff.rfl (fun c6 => ?_) (fun c6 => ?_)
        · refine EQ_jgd (show h 200 (-2) = 2 from by rw [k_200 hS]) ?_
          refine EQ_jgd (show h (h 200 49) (-2) = 10 from by rw [r_200_49 hS, k_408 hS]) ?_
          refine EQ_jg ⟨fun ⟨_, x0⟩ => (show jI a1 (h (h (h 200 49) 18) (-1)) ↔ jI a1 4 from by rw [r_200_49 hS, r_408_18 hS, l_422 hS]).mp x0, fun x0 => ⟨(show h (h (h 200 49) 18) (-2) = 101 from by rw [r_200_49 hS, r_408_18 hS, k_422 hS]), (show jI a1 (h (h (h 200 49) 18) (-1)) ↔ jI a1 4 from by rw [r_200_49 hS, r_408_18 hS, l_422 hS]).mpr x0⟩⟩ (fun g7 => ?_)
          exact EQ_some' (by rw [r_200_49 hS, r_408_18 hS]) trivial
        · refine EQ_jgd (show h 200 (-2) = 2 from by rw [k_200 hS]) ?_
          refine EQ_jgd (show h (h 200 49) (-2) = 10 from by rw [r_200_49 hS, k_408 hS]) ?_
          refine EQ_jg ⟨fun ⟨_, x0⟩ => (show jI a1 (h (h (h 200 49) 19) (-1)) ↔ jI a1 4 from by rw [r_200_49 hS, r_408_19 hS, l_423 hS]).mp x0, fun x0 => ⟨(show h (h (h 200 49) 19) (-2) = 101 from by rw [r_200_49 hS, r_408_19 hS, k_423 hS]), (show jI a1 (h (h (h 200 49) 19) (-1)) ↔ jI a1 4 from by rw [r_200_49 hS, r_408_19 hS, l_423 hS]).mpr x0⟩⟩ (fun g8 => ?_)
          exact EQ_some' (by rw [r_200_49 hS, r_408_19 hS]) trivial
noncomputable def gX1_part (a1 : Int) (a2 : Int) (h : AH) : Option (Int) := if h 200 63 = 0 then (some (-1)) else (if a2 = 0 then (some (h 408 16)) else (jb (gX1_isIn a1 0 (w32 (h 408 16 - 1))) fun v4 => if v4 = 0 then (some (-1)) else (jb (gX1_isIn a2 1 4) fun v7 => if v7 = 0 then (some (-1)) else (jg (jI a1 4) <| if h 421 a1 = (-1) then (gX1_part_j72 a1 a2 1 h) else (gX1_part_j72 a1 a2 0 h)))))
theorem eX1_part (a1 : Int) (a2 : Int) {h : AH} (hS : Sh S h) : EQ (fX1_part 200 a1 a2 h) (gX1_part a1 a2 h) (fun _ => True) := by
  unfold fX1_part gX1_part
  refine EQ_jgd (show h 200 (-2) = 2 from by rw [k_200 hS]) ?_
  refine EQ_if Iff.rfl (fun c1 => ?_) (fun c1 => ?_)
  · exact EQ_some trivial
  · refine EQ_if Iff.rfl (fun c2 => ?_) (fun c2 => ?_)
    · refine EQ_jgd (show h 200 (-2) = 2 from by rw [k_200 hS]) ?_
      refine EQ_jgd (show h (h 200 49) (-2) = 10 from by rw [r_200_49 hS, k_408 hS]) ?_
      exact EQ_some' (by rw [r_200_49 hS]) trivial
    · refine EQ_jgd (show h 200 (-2) = 2 from by rw [k_200 hS]) ?_
      refine EQ_jgd (show h (h 200 49) (-2) = 10 from by rw [r_200_49 hS, k_408 hS]) ?_
      refine EQ_jb (by rw [r_200_49 hS]; exact eX1_isIn a1 0 (w32 (h 408 16 - 1))) (fun v4 r3 => ?_)
      refine EQ_if Iff.rfl (fun c4 => ?_) (fun c4 => ?_)
      · exact EQ_some trivial
      · refine EQ_jb (eX1_isIn a2 1 4) (fun v7 r5 => ?_)
        refine EQ_if Iff.rfl (fun c6 => ?_) (fun c6 => ?_)
        · exact EQ_some trivial
        · refine EQ_jgd (show h 200 (-2) = 2 from by rw [k_200 hS]) ?_
          refine EQ_jgd (show h (h 200 49) (-2) = 10 from by rw [r_200_49 hS, k_408 hS]) ?_
          refine EQ_jg ⟨fun ⟨_, x0⟩ => (show jI a1 (h (h (h 200 49) 17) (-1)) ↔ jI a1 4 from by rw [r_200_49 hS, r_408_17 hS, l_421 hS]).mp x0, fun x0 => ⟨(show h (h (h 200 49) 17) (-2) = 101 from by rw [r_200_49 hS, r_408_17 hS, k_421 hS]), (show jI a1 (h (h (h 200 49) 17) (-1)) ↔ jI a1 4 from by rw [r_200_49 hS, r_408_17 hS, l_421 hS]).mpr x0⟩⟩ (fun g7 => ?_)
          refine EQ_if (show h (h (h 200 49) 17) a1 = (-1) ↔ h 421 a1 = (-1) from by rw [r_200_49 hS, r_408_17 hS]) (fun c8 => ?_) (fun c8 => ?_)
          · exact (eX1_part_j72 a1 a2 1 hS)
          · exact (eX1_part_j72 a1 a2 0 hS)
noncomputable def gX9_apply_j112_8 (a2 : Int) (a4 : Int) (h : AH) : Option ((Int × AH) ⊕ ((AH) ⊕ (AH))) := jl (w32 (a4 + 1)) fun x18 => some (.inl (x18, h))
theorem eX9_apply_j112_8 (a2 : Int) (a4 : Int) {h : AH} (hS : Sh S h) : EQ (fX9_apply_j112_8 408 440 a2 452 a4 h) (gX9_apply_j112_8 a2 a4 h) (Sum.elim (fun r => Sh S r.2) (Sum.elim (fun r => Sh S r) (fun r => Sh S r))) := by
  unfold fX9_apply_j112_8 gX9_apply_j112_8
  refine EQ_jl rfl (fun x18 ex18 => ?_)
  clear ex18
  exact EQ_some hS
noncomputable def gX9_apply_b91 (i2 : Int) (i4 : Int) (i6 : Int) (s : Int × AH) : Option ((Int × AH) ⊕ (AH)) := jt2 s fun a7 h => if i6 ≤ a7 then (some (.inr h)) else (jg (jI a7 2000) <| jb (gX6_put 452 (h 440 a7) h) fun h21 => jl (w32 (a7 + 1)) fun x22 => some (.inl (x22, h21)))
theorem eX9_apply_b91 (i2 : Int) (i4 : Int) (i6 : Int) {s : Int × AH} (hS : (fun r => Sh S r.2) s) : EQ (fX9_apply_b91 408 440 i2 452 i4 i6 s) (gX9_apply_b91 i2 i4 i6 s) (Sum.elim (fun r => Sh S r.2) (fun r => Sh S r)) := by
  unfold fX9_apply_b91 gX9_apply_b91
  obtain ⟨a7, h⟩ := s
  refine EQ_jt2 ?_
  replace hS : Sh S h := hS
  refine EQ_if Iff.rfl (fun c1 => ?_) (fun c1 => ?_)
  · exact EQ_some hS
  · refine EQ_jg ⟨fun ⟨_, x0⟩ => (show jI a7 (h 440 (-1)) ↔ jI a7 2000 from by rw [l_440 hS]).mp x0, fun x0 => ⟨(show h 440 (-2) = 103 from by rw [k_440 hS]), (show jI a7 (h 440 (-1)) ↔ jI a7 2000 from by rw [l_440 hS]).mpr x0⟩⟩ (fun g2 => ?_)
    refine EQ_jgd (show h 452 (-2) = 7 from by rw [k_452 hS]) ?_
    refine EQ_jb (eX6_put 452 (h 440 a7) (by unfold isX6; decide) hS) (fun h21 r3 => ?_)
    refine EQ_jl rfl (fun x22 ex22 => ?_)
    clear ex22
    exact EQ_some r3
noncomputable def gX9_apply_l91 (i2 : Int) (i4 : Int) (i6 : Int) (a7 : Int) (h : AH) : Option (AH) := jit (gX9_apply_b91 i2 i4 i6) (a7, h)
theorem eX9_apply_l91 (i2 : Int) (i4 : Int) (i6 : Int) (a7 : Int) {h : AH} (hS : Sh S h) : EQ (fX9_apply_l91 408 440 i2 452 i4 i6 a7 h) (gX9_apply_l91 i2 i4 i6 a7 h) (fun r => Sh S r) := EQ_jit (I := (fun r => Sh S r.2)) (fun s hs => eX9_apply_b91 i2 i4 i6 hs) hS
noncomputable def gX9_apply_b8 (i2 : Int) (s : Int × AH) : Option ((Int × AH) ⊕ ((AH) ⊕ (AH))) := jt2 s fun a4 h => if h 408 16 ≤ a4 then (some (.inr (.inr h))) else (jg (jI a4 4) <| if h 421 a4 < 0 then (jb (gX9_find (h 422 a4) 440 0 i2 h) fun v9 => jb (gX9_find (h 423 a4) 440 0 i2 h) fun v11 => if v9 < 0 then (some (.inr (.inl h))) else (if v9 < v11 then (jb (gX9_apply_l91 i2 a4 v11 v9 h) fun o14 => gX9_apply_j112_8 i2 a4 o14) else (some (.inr (.inl h))))) else (jb (gX6_letters 452 (h 421 a4) h) fun h17 => gX9_apply_j112_8 i2 a4 h17))
theorem eX9_apply_b8 (i2 : Int) {s : Int × AH} (hS : (fun r => Sh S r.2) s) : EQ (fX9_apply_b8 408 440 i2 452 s) (gX9_apply_b8 i2 s) (Sum.elim (fun r => Sh S r.2) (Sum.elim (fun r => Sh S r) (fun r => Sh S r))) := by
  unfold fX9_apply_b8 gX9_apply_b8
  obtain ⟨a4, h⟩ := s
  refine EQ_jt2 ?_
  replace hS : Sh S h := hS
  refine EQ_jgd (show h 408 (-2) = 10 from by rw [k_408 hS]) ?_
  refine EQ_if Iff.rfl (fun c1 => ?_) (fun c1 => ?_)
  · exact EQ_some hS
  · refine EQ_jgd (show h 408 (-2) = 10 from by rw [k_408 hS]) ?_
    refine EQ_jg ⟨fun ⟨_, x0⟩ => (show jI a4 (h (h 408 17) (-1)) ↔ jI a4 4 from by rw [r_408_17 hS, l_421 hS]).mp x0, fun x0 => ⟨(show h (h 408 17) (-2) = 101 from by rw [r_408_17 hS, k_421 hS]), (show jI a4 (h (h 408 17) (-1)) ↔ jI a4 4 from by rw [r_408_17 hS, l_421 hS]).mpr x0⟩⟩ (fun g2 => ?_)
    refine EQ_if (show h (h 408 17) a4 < 0 ↔ h 421 a4 < 0 from by rw [r_408_17 hS]) (fun c3 => ?_) (fun c3 => ?_)
    · refine EQ_jgd (show h 408 (-2) = 10 from by rw [k_408 hS]) ?_
      refine EQ_jgd ⟨(show h (h 408 18) (-2) = 101 from by rw [r_408_18 hS, k_422 hS]), ((show jI a4 (h (h 408 18) (-1)) ↔ jI a4 4 from by rw [r_408_18 hS, l_422 hS]).mpr g2)⟩ ?_
      refine EQ_jgd (show h 408 (-2) = 10 from by rw [k_408 hS]) ?_
      refine EQ_jb (by rw [r_408_18 hS]; exact eX9_find (h 422 a4) 440 0 i2 hS) (fun v9 r4 => ?_)
      refine EQ_jgd (show h 408 (-2) = 10 from by rw [k_408 hS]) ?_
      refine EQ_jgd ⟨(show h (h 408 19) (-2) = 101 from by rw [r_408_19 hS, k_423 hS]), ((show jI a4 (h (h 408 19) (-1)) ↔ jI a4 4 from by rw [r_408_19 hS, l_423 hS]).mpr g2)⟩ ?_
      refine EQ_jgd (show h 408 (-2) = 10 from by rw [k_408 hS]) ?_
      refine EQ_jb (by rw [r_408_19 hS]; exact eX9_find (h 423 a4) 440 0 i2 hS) (fun v11 r5 => ?_)
      refine EQ_if Iff.rfl (fun c6 => ?_) (fun c6 => ?_)
      · exact EQ_some hS
      · refine EQ_if Iff.rfl (fun c7 => ?_) (fun c7 => ?_)
        · refine EQ_jb (eX9_apply_l91 i2 a4 v11 v9 hS) (fun o14 r8 => ?_)
          exact (eX9_apply_j112_8 i2 a4 r8)
        · exact EQ_some hS
    · refine EQ_jgd (show h 408 (-2) = 10 from by rw [k_408 hS]) ?_
      refine EQ_jgd ⟨(show h (h 408 17) (-2) = 101 from by rw [r_408_17 hS, k_421 hS]), ((show jI a4 (h (h 408 17) (-1)) ↔ jI a4 4 from by rw [r_408_17 hS, l_421 hS]).mpr g2)⟩ ?_
      refine EQ_jgd (show h 452 (-2) = 7 from by rw [k_452 hS]) ?_
      refine EQ_jb (by rw [r_408_17 hS]; exact eX6_letters 452 (h 421 a4) (by unfold isX6; decide) hS) (fun h17 r9 => ?_)
      exact (eX9_apply_j112_8 i2 a4 r9)
noncomputable def gX9_apply_l8 (i2 : Int) (a4 : Int) (h : AH) : Option ((AH) ⊕ (AH)) := jit (gX9_apply_b8 i2) (a4, h)
theorem eX9_apply_l8 (i2 : Int) (a4 : Int) {h : AH} (hS : Sh S h) : EQ (fX9_apply_l8 408 440 i2 452 a4 h) (gX9_apply_l8 i2 a4 h) (Sum.elim (fun r => Sh S r) (fun r => Sh S r)) := EQ_jit (I := (fun r => Sh S r.2)) (fun s hs => eX9_apply_b8 i2 hs) hS
noncomputable def gX9_apply (a2 : Int) (h : AH) : Option (Int × AH) := jl (jst h 452 1 0) fun h1 => jb (gX9_apply_l8 a2 0 h1) fun o2 => jm o2 (fun o4 => some (0, o4)) (fun o5 => some (1, o5))
theorem eX9_apply (a2 : Int) {h : AH} (hS : Sh S h) : EQ (fX9_apply 408 440 a2 452 h) (gX9_apply a2 h) (fun r => Sh S r.2) := by
  unfold fX9_apply gX9_apply
  refine EQ_jgd ⟨(show h 452 (-2) = 7 from by rw [k_452 hS]), (show (200 : Int) ≤ 452 from (by decide))⟩ ?_
  refine EQ_jl rfl (fun h1 eh1 => ?_)
  have s1 := Sh_of eh1 (Sh_sto hS (a := 452) (i := 1) (by decide +kernel))
  clear eh1
  refine EQ_jb (eX9_apply_l8 a2 0 s1) (fun o2 r2 => ?_)
  refine EQ_jm r2 (fun o4 r3 => ?_) (fun o5 r4 => ?_)
  · exact EQ_some r3
  · exact EQ_some r4
noncomputable def gX1_apply_j72 (a1 : Int) (a2 : Int) (h : AH) : Option (Int × AH) := if a2 = 0 then (some ((-1), h)) else (if h 200 63 = 0 then (some ((-2), h)) else (jb2 (gX9_apply a1 h) fun v11 h12 => if v11 = 0 then (some ((-1), h12)) else (jl (jst h12 200 55 (h12 452 1)) fun h14 => jg ((0 : Int) ≤ 0 ∧ (0 : Int) ≤ 0 ∧ (0 : Int) ≤ h14 200 55 ∧ (0 : Int) + h14 200 55 ≤ 100 ∧ (0 : Int) + h14 200 55 ≤ 2000) <| jl (jcpy h14 453 0 440 0 (h14 200 55)) fun h15 => some (h15 200 55, h15))))
theorem eX1_apply_j72 (a1 : Int) (a2 : Int) {h : AH} (hS : Sh S h) : EQ (fX1_apply_j72 200 a1 a2 h) (gX1_apply_j72 a1 a2 h) (fun r => Sh S r.2) := by
  unfold fX1_apply_j72 gX1_apply_j72
  refine EQ_if Iff.rfl (fun c1 => ?_) (fun c1 => ?_)
  · exact EQ_some hS
  · refine EQ_jgd (show h 200 (-2) = 2 from by rw [k_200 hS]) ?_
    refine EQ_if Iff.rfl (fun c2 => ?_) (fun c2 => ?_)
    · exact EQ_some hS
    · refine EQ_jgd (show h 200 (-2) = 2 from by rw [k_200 hS]) ?_
      refine EQ_jgd (show h 200 (-2) = 2 from by rw [k_200 hS]) ?_
      refine EQ_jgd (show h 200 (-2) = 2 from by rw [k_200 hS]) ?_
      refine EQ_jgd (show h (h 200 49) (-2) = 10 from by rw [r_200_49 hS, k_408 hS]) ?_
      refine EQ_jb2 (by rw [r_200_49 hS, r_200_54 hS, r_200_64 hS]; exact eX9_apply a1 hS) (fun v11 h12 r3 => ?_)
      replace r3 : Sh S h12 := r3
      refine EQ_if Iff.rfl (fun c4 => ?_) (fun c4 => ?_)
      · exact EQ_some r3
      · refine EQ_jgd (show h12 200 (-2) = 2 from by rw [k_200 r3]) ?_
        refine EQ_jgd (show h12 (h12 200 64) (-2) = 7 from by rw [r_200_64 r3, k_452 r3]) ?_
        refine EQ_jgd ⟨(show h12 200 (-2) = 2 from by rw [k_200 r3]), (show (200 : Int) ≤ 200 from (by decide))⟩ ?_
        refine EQ_jl (by rw [r_200_64 r3]) (fun h14 eh14 => ?_)
        have s5 := Sh_of eh14 (Sh_sto r3 (a := 200) (i := 55) (by decide +kernel))
        clear eh14
        refine EQ_jgd (show h14 200 (-2) = 2 from by rw [k_200 s5]) ?_
        refine EQ_jgd (show h14 (h14 200 64) (-2) = 7 from by rw [r_200_64 s5, k_452 s5]) ?_
        refine EQ_jgd (show h14 200 (-2) = 2 from by rw [k_200 s5]) ?_
        refine EQ_jgd (show h14 200 (-2) = 2 from by rw [k_200 s5]) ?_
        refine EQ_jg ⟨fun x0 => (show jcpG h14 103 (h14 (h14 200 64) 0) 0 (h14 200 54) 0 (h14 200 55) ↔ (0 : Int) ≤ 0 ∧ (0 : Int) ≤ 0 ∧ (0 : Int) ≤ h14 200 55 ∧ (0 : Int) + h14 200 55 ≤ 100 ∧ (0 : Int) + h14 200 55 ≤ 2000 from by rw [r_200_64 s5, r_452_0 s5, r_200_54 s5]; exact cpg (by rw [k_453 s5]) (by rw [k_440 s5]) ((by decide)) ((by decide)) (l_453 s5) (l_440 s5)).mp x0, fun x0 => (show jcpG h14 103 (h14 (h14 200 64) 0) 0 (h14 200 54) 0 (h14 200 55) ↔ (0 : Int) ≤ 0 ∧ (0 : Int) ≤ 0 ∧ (0 : Int) ≤ h14 200 55 ∧ (0 : Int) + h14 200 55 ≤ 100 ∧ (0 : Int) + h14 200 55 ≤ 2000 from by rw [r_200_64 s5, r_452_0 s5, r_200_54 s5]; exact cpg (by rw [k_453 s5]) (by rw [k_440 s5]) ((by decide)) ((by decide)) (l_453 s5) (l_440 s5)).mpr x0⟩ (fun g6 => ?_)
        refine EQ_jl (by rw [r_200_64 s5, r_452_0 s5, r_200_54 s5]) (fun h15 eh15 => ?_)
        have s7 := Sh_of eh15 (Sh_cpy s5 (by decide +kernel) (by decide) (fun _ => ⟨k_453 s5, (by decide)⟩))
        clear eh15
        refine EQ_jgd (show h15 200 (-2) = 2 from by rw [k_200 s7]) ?_
        exact EQ_some s7
noncomputable def gX1_apply_j65_29 (a1 : Int) (a3 : Int) (t0 : Int) (h : AH) : Option ((Int × Int) ⊕ (Int)) := jl (w32 (a3 + 1)) fun x20 => some (.inl (t0, x20))
theorem eX1_apply_j65_29 (a1 : Int) (a3 : Int) (t0 : Int) {h : AH} (hS : Sh S h) : EQ (fX1_apply_j65_29 200 a1 a3 t0 h) (gX1_apply_j65_29 a1 a3 t0 h) (Sum.elim (fun _ => True) (fun _ => True)) := by
  unfold fX1_apply_j65_29 gX1_apply_j65_29
  refine EQ_jl rfl (fun x20 ex20 => ?_)
  clear ex20
  exact EQ_some trivial
noncomputable def gX1_apply_b29 (i1 : Int) (h : AH) (s : Int × Int) : Option ((Int × Int) ⊕ (Int)) := jt2 s fun a2 a3 => if i1 ≤ a3 then (some (.inr a2)) else (if a2 = 0 then (some (.inr a2)) else (jg (jI a3 2000) <| if h 440 a3 < 97 then (gX1_apply_j65_29 i1 a3 0 h) else (if 122 < h 440 a3 then (gX1_apply_j65_29 i1 a3 0 h) else (gX1_apply_j65_29 i1 a3 1 h))))
theorem eX1_apply_b29 (i1 : Int) (s : Int × Int) {h : AH} (hS : Sh S h) : EQ (fX1_apply_b29 200 i1 h s) (gX1_apply_b29 i1 h s) (Sum.elim (fun _ => True) (fun _ => True)) := by
  unfold fX1_apply_b29 gX1_apply_b29
  obtain ⟨a2, a3⟩ := s
  refine EQ_jt2 ?_
  refine EQ_if Iff.rfl (fun c1 => ?_) (fun c1 => ?_)
  · exact EQ_some trivial
  · refine EQ_if Iff.rfl (fun c2 => ?_) (fun c2 => ?_)
    · exact EQ_some trivial
    · refine EQ_jgd (show h 200 (-2) = 2 from by rw [k_200 hS]) ?_
      refine EQ_jg ⟨fun ⟨_, x0⟩ => (show jI a3 (h (h 200 54) (-1)) ↔ jI a3 2000 from by rw [r_200_54 hS, l_440 hS]).mp x0, fun x0 => ⟨(show h (h 200 54) (-2) = 103 from by rw [r_200_54 hS, k_440 hS]), (show jI a3 (h (h 200 54) (-1)) ↔ jI a3 2000 from by rw [r_200_54 hS, l_440 hS]).mpr x0⟩⟩ (fun g3 => ?_)
      refine EQ_if (show h (h 200 54) a3 < 97 ↔ h 440 a3 < 97 from by rw [r_200_54 hS]) (fun c4 => ?_) (fun c4 => ?_)
      · exact (eX1_apply_j65_29 i1 a3 0 hS)
      · refine EQ_jgd (show h 200 (-2) = 2 from by rw [k_200 hS]) ?_
        refine EQ_jgd ⟨(show h (h 200 54) (-2) = 103 from by rw [r_200_54 hS, k_440 hS]), ((show jI a3 (h (h 200 54) (-1)) ↔ jI a3 2000 from by rw [r_200_54 hS, l_440 hS]).mpr g3)⟩ ?_
        refine EQ_if (show 122 < h (h 200 54) a3 ↔ 122 < h 440 a3 from by rw [r_200_54 hS]) (fun c5 => ?_) (fun c5 => ?_)
        · exact (eX1_apply_j65_29 i1 a3 0 hS)
        · exact (eX1_apply_j65_29 i1 a3 1 hS)
noncomputable def gX1_apply_l29 (i1 : Int) (a2 : Int) (a3 : Int) (h : AH) : Option (Int) := jit (gX1_apply_b29 i1 h) (a2, a3)
theorem eX1_apply_l29 (i1 : Int) (a2 : Int) (a3 : Int) {h : AH} (hS : Sh S h) : EQ (fX1_apply_l29 200 i1 a2 a3 h) (gX1_apply_l29 i1 a2 a3 h) (fun _ => True) := EQ_jit (I := (fun _ => True)) (fun s _ => eX1_apply_b29 i1 s hS) trivial
noncomputable def gX1_apply_j26 (a1 : Int) (t0 : Int) (h : AH) : Option (Int × AH) := jb (gX1_apply_l29 a1 t0 0 h) fun o6 => gX1_apply_j72 a1 o6 h
theorem eX1_apply_j26 (a1 : Int) (t0 : Int) {h : AH} (hS : Sh S h) : EQ (fX1_apply_j26 200 a1 t0 h) (gX1_apply_j26 a1 t0 h) (fun r => Sh S r.2) := by
  unfold fX1_apply_j26 gX1_apply_j26
  refine EQ_jb (eX1_apply_l29 a1 t0 0 hS) (fun o6 r1 => ?_)
  exact (eX1_apply_j72 a1 o6 hS)
noncomputable def gX1_apply (h : AH) : Option (Int × AH) := if h 200 53 = 0 then (jb2 (gX1_takeTape h) fun v3 h4 => if 10 < v3 then (gX1_apply_j26 v3 0 h4) else (gX1_apply_j26 v3 1 h4)) else (some ((-5), h))
theorem eX1_apply {h : AH} (hS : Sh S h) : EQ (fX1_apply 200 h) (gX1_apply h) (fun r => Sh S r.2) := by
  unfold fX1_apply gX1_apply
  refine EQ_jgd (show h 200 (-2) = 2 from by rw [k_200 hS]) ?_
  refine EQ_if Iff.rfl (fun c1 => ?_) (fun c1 => ?_)
  · refine EQ_jgd (show h 200 (-2) = 2 from by rw [k_200 hS]) ?_
    refine EQ_jb2 (eX1_takeTape hS) (fun v3 h4 r2 => ?_)
    replace r2 : Sh S h4 := r2
    refine EQ_if Iff.rfl (fun c3 => ?_) (fun c3 => ?_)
    · exact (eX1_apply_j26 v3 0 r2)
    · exact (eX1_apply_j26 v3 1 r2)
  · exact EQ_some hS
noncomputable def gX1_numberOf_j51_12 (a0 : Int) (a1 : Int) (a3 : Int) (t0 : Int) (t1 : Int) (h : AH) : Option ((Int × Int) ⊕ ((Unit) ⊕ (Int))) := jl (w32 (t0 + t1)) fun x10 => jl (w32 (a3 + 1)) fun x11 => some (.inl (x10, x11))
theorem eX1_numberOf_j51_12 (a0 : Int) (a1 : Int) (a3 : Int) (t0 : Int) (t1 : Int) {h : AH} (hS : Sh S h) : EQ (fX1_numberOf_j51_12 a0 a1 a3 t0 t1 h) (gX1_numberOf_j51_12 a0 a1 a3 t0 t1 h) (Sum.elim (fun _ => True) (Sum.elim (fun _ => True) (fun _ => True))) := by
  unfold fX1_numberOf_j51_12 gX1_numberOf_j51_12
  refine EQ_jl rfl (fun x10 ex10 => ?_)
  clear ex10
  refine EQ_jl rfl (fun x11 ex11 => ?_)
  clear ex11
  exact EQ_some trivial
noncomputable def gX1_numberOf_j35_12 (a0 : Int) (a1 : Int) (a2 : Int) (a3 : Int) (h : AH) : Option ((Int × Int) ⊕ ((Unit) ⊕ (Int))) := jg (h a0 (-2) = 103 ∧ jI a3 (h a0 (-1))) <| if h a0 a3 = 98 then (gX1_numberOf_j51_12 a0 a1 a3 (w32 (2 * a2)) 1 h) else (gX1_numberOf_j51_12 a0 a1 a3 (w32 (2 * a2)) 0 h)
theorem eX1_numberOf_j35_12 (a0 : Int) (a1 : Int) (a2 : Int) (a3 : Int) {h : AH} (hS : Sh S h) : EQ (fX1_numberOf_j35_12 a0 a1 a2 a3 h) (gX1_numberOf_j35_12 a0 a1 a2 a3 h) (Sum.elim (fun _ => True) (Sum.elim (fun _ => True) (fun _ => True))) := by
  unfold fX1_numberOf_j35_12 gX1_numberOf_j35_12
  refine EQ_jg Iff.rfl (fun g1 => ?_)
  refine EQ_if Iff.rfl (fun c2 => ?_) (fun c2 => ?_)
  · exact (eX1_numberOf_j51_12 a0 a1 a3 (w32 (2 * a2)) 1 hS)
  · exact (eX1_numberOf_j51_12 a0 a1 a3 (w32 (2 * a2)) 0 hS)
noncomputable def gX1_numberOf_b12 (i0 : Int) (i1 : Int) (h : AH) (s : Int × Int) : Option ((Int × Int) ⊕ ((Unit) ⊕ (Int))) := jt2 s fun a2 a3 => if i1 ≤ a3 then (some (.inr (.inr a2))) else (jg (h i0 (-2) = 103 ∧ jI a3 (h i0 (-1))) <| if h i0 a3 = 97 then (gX1_numberOf_j35_12 i0 i1 a2 a3 h) else (if h i0 a3 = 98 then (gX1_numberOf_j35_12 i0 i1 a2 a3 h) else (some (.inr (.inl ())))))
theorem eX1_numberOf_b12 (i0 : Int) (i1 : Int) (s : Int × Int) {h : AH} (hS : Sh S h) : EQ (fX1_numberOf_b12 i0 i1 h s) (gX1_numberOf_b12 i0 i1 h s) (Sum.elim (fun _ => True) (Sum.elim (fun _ => True) (fun _ => True))) := by
  unfold fX1_numberOf_b12 gX1_numberOf_b12
  obtain ⟨a2, a3⟩ := s
  refine EQ_jt2 ?_
  refine EQ_if Iff.rfl (fun c1 => ?_) (fun c1 => ?_)
  · exact EQ_some trivial
  · refine EQ_jg Iff.rfl (fun g2 => ?_)
    refine EQ_if Iff.rfl (fun c3 => ?_) (fun c3 => ?_)
    · exact (eX1_numberOf_j35_12 i0 i1 a2 a3 hS)
    · refine EQ_jgd ⟨(g2.1), (g2.2)⟩ ?_
      refine EQ_if Iff.rfl (fun c4 => ?_) (fun c4 => ?_)
      · exact (eX1_numberOf_j35_12 i0 i1 a2 a3 hS)
      · exact EQ_some trivial
noncomputable def gX1_numberOf_l12 (i0 : Int) (i1 : Int) (a2 : Int) (a3 : Int) (h : AH) : Option ((Unit) ⊕ (Int)) := jit (gX1_numberOf_b12 i0 i1 h) (a2, a3)
theorem eX1_numberOf_l12 (i0 : Int) (i1 : Int) (a2 : Int) (a3 : Int) {h : AH} (hS : Sh S h) : EQ (fX1_numberOf_l12 i0 i1 a2 a3 h) (gX1_numberOf_l12 i0 i1 a2 a3 h) (Sum.elim (fun _ => True) (fun _ => True)) := EQ_jit (I := (fun _ => True)) (fun s _ => eX1_numberOf_b12 i0 i1 s hS) trivial
noncomputable def gX1_numberOf (a0 : Int) (a1 : Int) (h : AH) : Option (Int) := if a1 ≤ 8 then (jb (gX1_numberOf_l12 a0 a1 1 0 h) fun o2 => jm o2 (fun o4 => some 0) (fun o5 => some o5)) else (some 0)
theorem eX1_numberOf (a0 : Int) (a1 : Int) {h : AH} (hS : Sh S h) : EQ (fX1_numberOf a0 a1 h) (gX1_numberOf a0 a1 h) (fun _ => True) := by
  unfold fX1_numberOf gX1_numberOf
  refine EQ_if Iff.rfl (fun c1 => ?_) (fun c1 => ?_)
  · refine EQ_jb (eX1_numberOf_l12 a0 a1 1 0 hS) (fun o2 r2 => ?_)
    refine EQ_jm r2 (fun o4 r3 => ?_) (fun o5 r4 => ?_)
    · exact EQ_some trivial
    · exact EQ_some trivial
  · exact EQ_some trivial
noncomputable def gX10_find_b2 (i1 : Int) (h : AH) (a2 : Int) : Option ((Int) ⊕ ((Int) ⊕ (Unit))) := if h 424 0 ≤ a2 then (some (.inr (.inr ()))) else (jg (jI a2 20) <| if h 425 a2 = i1 then (some (.inr (.inl a2))) else (jl (w32 (a2 + 1)) fun x7 => some (.inl x7)))
theorem eX10_find_b2 (i1 : Int) (a2 : Int) {h : AH} (hS : Sh S h) : EQ (fX10_find_b2 424 i1 h a2) (gX10_find_b2 i1 h a2) (Sum.elim (fun _ => True) (Sum.elim (fun _ => True) (fun _ => True))) := by
  unfold fX10_find_b2 gX10_find_b2
  refine EQ_jgd (show h 424 (-2) = 11 from by rw [k_424 hS]) ?_
  refine EQ_if Iff.rfl (fun c1 => ?_) (fun c1 => ?_)
  · exact EQ_some trivial
  · refine EQ_jgd (show h 424 (-2) = 11 from by rw [k_424 hS]) ?_
    refine EQ_jg ⟨fun ⟨_, x0⟩ => (show jI a2 (h (h 424 1) (-1)) ↔ jI a2 20 from by rw [r_424_1 hS, l_425 hS]).mp x0, fun x0 => ⟨(show h (h 424 1) (-2) = 101 from by rw [r_424_1 hS, k_425 hS]), (show jI a2 (h (h 424 1) (-1)) ↔ jI a2 20 from by rw [r_424_1 hS, l_425 hS]).mpr x0⟩⟩ (fun g2 => ?_)
    refine EQ_if (show h (h 424 1) a2 = i1 ↔ h 425 a2 = i1 from by rw [r_424_1 hS]) (fun c3 => ?_) (fun c3 => ?_)
    · exact EQ_some trivial
    · refine EQ_jl rfl (fun x7 ex7 => ?_)
      clear ex7
      exact EQ_some trivial
noncomputable def gX10_find_l2 (i1 : Int) (a2 : Int) (h : AH) : Option ((Int) ⊕ (Unit)) := jit (gX10_find_b2 i1 h) a2
theorem eX10_find_l2 (i1 : Int) (a2 : Int) {h : AH} (hS : Sh S h) : EQ (fX10_find_l2 424 i1 a2 h) (gX10_find_l2 i1 a2 h) (Sum.elim (fun _ => True) (fun _ => True)) := EQ_jit (I := (fun _ => True)) (fun s _ => eX10_find_b2 i1 s hS) trivial
noncomputable def gX10_find (a1 : Int) (h : AH) : Option (Int) := jb (gX10_find_l2 a1 0 h) fun o1 => jm o1 (fun o3 => some o3) (fun o4 => some (-1))
theorem eX10_find (a1 : Int) {h : AH} (hS : Sh S h) : EQ (fX10_find 424 a1 h) (gX10_find a1 h) (fun _ => True) := by
  unfold fX10_find gX10_find
  refine EQ_jb (eX10_find_l2 a1 0 hS) (fun o1 r1 => ?_)
  refine EQ_jm r1 (fun o3 r2 => ?_) (fun o4 r3 => ?_)
  · exact EQ_some trivial
  · exact EQ_some trivial
noncomputable def gX1_wordMay (a1 : Int) (a2 : Int) (a3 : Int) (h : AH) : Option (Int) := jb (gX1_numberOf a1 a2 h) fun v2 => if v2 = 0 then (some (-1)) else (jb (gX10_find v2 h) fun v5 => if v5 < 0 then (if h 424 0 = 20 then (some (-3)) else (some 0)) else (jg (jI v5 20) <| if h 426 v5 = a3 then (some 1) else (some (-2))))
theorem eX1_wordMay (a1 : Int) (a2 : Int) (a3 : Int) {h : AH} (hS : Sh S h) : EQ (fX1_wordMay 200 a1 a2 a3 h) (gX1_wordMay a1 a2 a3 h) (fun _ => True) := by
  unfold fX1_wordMay gX1_wordMay
  refine EQ_jb (eX1_numberOf a1 a2 hS) (fun v2 r1 => ?_)
  refine EQ_if Iff.rfl (fun c2 => ?_) (fun c2 => ?_)
  · exact EQ_some trivial
  · refine EQ_jgd (show h 200 (-2) = 2 from by rw [k_200 hS]) ?_
    refine EQ_jgd (show h (h 200 50) (-2) = 11 from by rw [r_200_50 hS, k_424 hS]) ?_
    refine EQ_jb (by rw [r_200_50 hS]; exact eX10_find v2 hS) (fun v5 r3 => ?_)
    refine EQ_if Iff.rfl (fun c4 => ?_) (fun c4 => ?_)
    · refine EQ_jgd (show h 200 (-2) = 2 from by rw [k_200 hS]) ?_
      refine EQ_jgd (show h (h 200 50) (-2) = 11 from by rw [r_200_50 hS, k_424 hS]) ?_
      refine EQ_if (show h (h 200 50) 0 = 20 ↔ h 424 0 = 20 from by rw [r_200_50 hS]) (fun c5 => ?_) (fun c5 => ?_)
      · exact EQ_some trivial
      · exact EQ_some trivial
    · refine EQ_jgd (show h 200 (-2) = 2 from by rw [k_200 hS]) ?_
      refine EQ_jgd (show h (h 200 50) (-2) = 11 from by rw [r_200_50 hS, k_424 hS]) ?_
      refine EQ_jg ⟨fun ⟨_, x0⟩ => (show jI v5 (h (h (h 200 50) 2) (-1)) ↔ jI v5 20 from by rw [r_200_50 hS, r_424_2 hS, l_426 hS]).mp x0, fun x0 => ⟨(show h (h (h 200 50) 2) (-2) = 104 from by rw [r_200_50 hS, r_424_2 hS, k_426 hS]), (show jI v5 (h (h (h 200 50) 2) (-1)) ↔ jI v5 20 from by rw [r_200_50 hS, r_424_2 hS, l_426 hS]).mpr x0⟩⟩ (fun g6 => ?_)
      refine EQ_if (show h (h (h 200 50) 2) v5 = a3 ↔ h 426 v5 = a3 from by rw [r_200_50 hS, r_424_2 hS]) (fun c7 => ?_) (fun c7 => ?_)
      · exact EQ_some trivial
      · exact EQ_some trivial
noncomputable def gX1_wordOf (a1 : Int) (a2 : Int) (a3 : Int) (h : AH) : Option (Int × AH) := jb (gX1_wordMay a1 a2 a3 h) fun v2 => if v2 = 0 then (jb (gX1_numberOf a1 a2 h) fun v5 => jg (jI (h 424 0) 20) <| jl (jst h 425 (h 424 0) v5) fun h6 => jg (jI (h6 424 0) 20) <| jl (jst h6 426 (h6 424 0) (ji2z a3)) fun h7 => jl (jst h7 424 0 (w32 (h7 424 0 + 1))) fun h8 => some (v2, h8)) else (some (v2, h))
theorem eX1_wordOf (a1 : Int) (a2 : Int) (a3 : Int) {h : AH} (hS : Sh S h) : EQ (fX1_wordOf 200 a1 a2 a3 h) (gX1_wordOf a1 a2 a3 h) (fun r => Sh S r.2) := by
  unfold fX1_wordOf gX1_wordOf
  refine EQ_jgd (show h 200 (-2) = 2 from by rw [k_200 hS]) ?_
  refine EQ_jb (eX1_wordMay a1 a2 a3 hS) (fun v2 r1 => ?_)
  refine EQ_if Iff.rfl (fun c2 => ?_) (fun c2 => ?_)
  · refine EQ_jgd (show h 200 (-2) = 2 from by rw [k_200 hS]) ?_
    refine EQ_jgd (show h (h 200 50) (-2) = 11 from by rw [r_200_50 hS, k_424 hS]) ?_
    refine EQ_jgd (show h 200 (-2) = 2 from by rw [k_200 hS]) ?_
    refine EQ_jgd (show h (h 200 50) (-2) = 11 from by rw [r_200_50 hS, k_424 hS]) ?_
    refine EQ_jb (eX1_numberOf a1 a2 hS) (fun v5 r3 => ?_)
    refine EQ_jg ⟨fun ⟨_, _, x0⟩ => (show jI (h (h 200 50) 0) (h (h (h 200 50) 1) (-1)) ↔ jI (h 424 0) 20 from by rw [r_200_50 hS, r_424_1 hS, l_425 hS]).mp x0, fun x0 => ⟨(show h (h (h 200 50) 1) (-2) = 101 from by rw [r_200_50 hS, r_424_1 hS, k_425 hS]), (show 200 ≤ h (h 200 50) 1 from by rw [r_200_50 hS, r_424_1 hS]; exact (by decide)), (show jI (h (h 200 50) 0) (h (h (h 200 50) 1) (-1)) ↔ jI (h 424 0) 20 from by rw [r_200_50 hS, r_424_1 hS, l_425 hS]).mpr x0⟩⟩ (fun g4 => ?_)
    refine EQ_jl (by rw [r_200_50 hS, r_424_1 hS]) (fun h6 eh6 => ?_)
    have s5 := Sh_of eh6 (Sh_sta hS (by decide +kernel) (jI_nn g4) (fun e => absurd ((k_425 hS).symm.trans e) (by decide)))
    clear eh6
    refine EQ_jgd (show h6 200 (-2) = 2 from by rw [k_200 s5]) ?_
    refine EQ_jgd (show h6 (h6 200 50) (-2) = 11 from by rw [r_200_50 s5, k_424 s5]) ?_
    refine EQ_jgd (show h6 200 (-2) = 2 from by rw [k_200 s5]) ?_
    refine EQ_jgd (show h6 (h6 200 50) (-2) = 11 from by rw [r_200_50 s5, k_424 s5]) ?_
    refine EQ_jg ⟨fun ⟨_, _, x0⟩ => (show jI (h6 (h6 200 50) 0) (h6 (h6 (h6 200 50) 2) (-1)) ↔ jI (h6 424 0) 20 from by rw [r_200_50 s5, r_424_2 s5, l_426 s5]).mp x0, fun x0 => ⟨(show h6 (h6 (h6 200 50) 2) (-2) = 104 from by rw [r_200_50 s5, r_424_2 s5, k_426 s5]), (show 200 ≤ h6 (h6 200 50) 2 from by rw [r_200_50 s5, r_424_2 s5]; exact (by decide)), (show jI (h6 (h6 200 50) 0) (h6 (h6 (h6 200 50) 2) (-1)) ↔ jI (h6 424 0) 20 from by rw [r_200_50 s5, r_424_2 s5, l_426 s5]).mpr x0⟩⟩ (fun g6 => ?_)
    refine EQ_jl (by rw [r_200_50 s5, r_424_2 s5]) (fun h7 eh7 => ?_)
    have s7 := Sh_of eh7 (Sh_sta s5 (by decide +kernel) (jI_nn g6) (fun e => absurd ((k_426 s5).symm.trans e) (by decide)))
    clear eh7
    refine EQ_jgd (show h7 200 (-2) = 2 from by rw [k_200 s7]) ?_
    refine EQ_jgd (show h7 (h7 200 50) (-2) = 11 from by rw [r_200_50 s7, k_424 s7]) ?_
    refine EQ_jgd ⟨(show h7 (h7 200 50) (-2) = 11 from by rw [r_200_50 s7, k_424 s7]), (show 200 ≤ h7 200 50 from by rw [r_200_50 s7]; exact (by decide))⟩ ?_
    refine EQ_jl (by rw [r_200_50 s7]) (fun h8 eh8 => ?_)
    have s8 := Sh_of eh8 (Sh_sto s7 (a := 424) (i := 0) (by decide +kernel))
    clear eh8
    exact EQ_some s8
  · exact EQ_some hS
noncomputable def gX1_word_j75 (a1 : Int) (a2 : Int) (t1 : Int) (h : AH) : Option (Int × AH) := jb (gX12_put t1 h) fun h15 => jb (gX12_put_2 440 a2 h15) fun h17 => jb (gX12_end h17) fun h19 => jb2 (gX1_wordOf 440 a2 a1 h19) fun v21 h22 => some (h22 424 0, h22)
theorem eX1_word_j75 (a1 : Int) (a2 : Int) (t1 : Int) {h : AH} (hS : Sh S h) : EQ (fX1_word_j75 200 a1 a2 434 t1 h) (gX1_word_j75 a1 a2 t1 h) (fun r => Sh S r.2) := by
  unfold fX1_word_j75 gX1_word_j75
  refine EQ_jgd (show h 434 (-2) = 13 from by rw [k_434 hS]) ?_
  refine EQ_jb (eX12_put t1 hS) (fun h15 r1 => ?_)
  refine EQ_jgd (show h15 200 (-2) = 2 from by rw [k_200 r1]) ?_
  refine EQ_jgd (show h15 200 (-2) = 2 from by rw [k_200 r1]) ?_
  refine EQ_jgd (show h15 (h15 200 52) (-2) = 13 from by rw [r_200_52 r1, k_434 r1]) ?_
  refine EQ_jb (by rw [r_200_52 r1, r_200_54 r1]; exact eX12_put_2 440 a2 r1) (fun h17 r2 => ?_)
  refine EQ_jgd (show h17 200 (-2) = 2 from by rw [k_200 r2]) ?_
  refine EQ_jgd (show h17 (h17 200 52) (-2) = 13 from by rw [r_200_52 r2, k_434 r2]) ?_
  refine EQ_jb (by rw [r_200_52 r2]; exact eX12_end r2) (fun h19 r3 => ?_)
  refine EQ_jgd (show h19 200 (-2) = 2 from by rw [k_200 r3]) ?_
  refine EQ_jgd (show h19 200 (-2) = 2 from by rw [k_200 r3]) ?_
  refine EQ_jb2 (by rw [r_200_54 r3]; exact eX1_wordOf 440 a2 a1 r3) (fun v21 h22 r4 => ?_)
  replace r4 : Sh S h22 := r4
  refine EQ_jgd (show h22 200 (-2) = 2 from by rw [k_200 r4]) ?_
  refine EQ_jgd (show h22 (h22 200 50) (-2) = 11 from by rw [r_200_50 r4, k_424 r4]) ?_
  exact EQ_some' (by rw [r_200_50 r4]) r4
noncomputable def gX1_word (a1 : Int) (h : AH) : Option (Int × AH) := if h 200 53 = 0 then (jb2 (gX1_takeTape h) fun v3 h4 => jb (gX1_wordMay 440 v3 a1 h4) fun v6 => if 0 ≤ v6 then (if v6 = 1 then (some (h4 424 0, h4)) else (jb2 (gX12_begin 4 (w32 (v3 + 1)) h4) fun v10 h11 => if v10 = 0 then (some ((-3), h11)) else (if a1 = 0 then (gX1_word_j75 a1 v3 0 h11) else (gX1_word_j75 a1 v3 1 h11)))) else (some (v6, h4))) else (some ((-5), h))
theorem eX1_word (a1 : Int) {h : AH} (hS : Sh S h) : EQ (fX1_word 200 a1 h) (gX1_word a1 h) (fun r => Sh S r.2) := by
  unfold fX1_word gX1_word
  refine EQ_jgd (show h 200 (-2) = 2 from by rw [k_200 hS]) ?_
  refine EQ_if Iff.rfl (fun c1 => ?_) (fun c1 => ?_)
  · refine EQ_jgd (show h 200 (-2) = 2 from by rw [k_200 hS]) ?_
    refine EQ_jb2 (eX1_takeTape hS) (fun v3 h4 r2 => ?_)
    replace r2 : Sh S h4 := r2
    refine EQ_jgd (show h4 200 (-2) = 2 from by rw [k_200 r2]) ?_
    refine EQ_jgd (show h4 200 (-2) = 2 from by rw [k_200 r2]) ?_
    refine EQ_jb (by rw [r_200_54 r2]; exact eX1_wordMay 440 v3 a1 r2) (fun v6 r3 => ?_)
    refine EQ_if Iff.rfl (fun c4 => ?_) (fun c4 => ?_)
    · refine EQ_if Iff.rfl (fun c5 => ?_) (fun c5 => ?_)
      · refine EQ_jgd (show h4 200 (-2) = 2 from by rw [k_200 r2]) ?_
        refine EQ_jgd (show h4 (h4 200 50) (-2) = 11 from by rw [r_200_50 r2, k_424 r2]) ?_
        exact EQ_some' (by rw [r_200_50 r2]) r2
      · refine EQ_jgd (show h4 200 (-2) = 2 from by rw [k_200 r2]) ?_
        refine EQ_jgd (show h4 (h4 200 52) (-2) = 13 from by rw [r_200_52 r2, k_434 r2]) ?_
        refine EQ_jb2 (by rw [r_200_52 r2]; exact eX12_begin 4 (w32 (v3 + 1)) r2) (fun v10 h11 r6 => ?_)
        replace r6 : Sh S h11 := r6
        refine EQ_if Iff.rfl (fun c7 => ?_) (fun c7 => ?_)
        · exact EQ_some r6
        · refine EQ_jgd (show h11 200 (-2) = 2 from by rw [k_200 r6]) ?_
          refine EQ_if Iff.rfl (fun c8 => ?_) (fun c8 => ?_)
          · exact (by rw [r_200_52 r6]; exact eX1_word_j75 a1 v3 0 r6)
          · exact (by rw [r_200_52 r6]; exact eX1_word_j75 a1 v3 1 r6)
    · exact EQ_some r2
  · exact EQ_some hS
noncomputable def gX1_forgetWords (h : AH) : Option (Int × AH) := jl (h 424 0) fun x1 => jl (jst h 424 0 0) fun h2 => some (x1, h2)
theorem eX1_forgetWords {h : AH} (hS : Sh S h) : EQ (fX1_forgetWords 200 h) (gX1_forgetWords h) (fun r => Sh S r.2) := by
  unfold fX1_forgetWords gX1_forgetWords
  refine EQ_jgd (show h 200 (-2) = 2 from by rw [k_200 hS]) ?_
  refine EQ_jgd (show h (h 200 50) (-2) = 11 from by rw [r_200_50 hS, k_424 hS]) ?_
  refine EQ_jl (by rw [r_200_50 hS]) (fun x1 ex1 => ?_)
  clear ex1
  refine EQ_jgd (show h 200 (-2) = 2 from by rw [k_200 hS]) ?_
  refine EQ_jgd ⟨(show h (h 200 50) (-2) = 11 from by rw [r_200_50 hS, k_424 hS]), (show 200 ≤ h 200 50 from by rw [r_200_50 hS]; exact (by decide))⟩ ?_
  refine EQ_jl (by rw [r_200_50 hS]) (fun h2 eh2 => ?_)
  have s1 := Sh_of eh2 (Sh_sto hS (a := 424) (i := 0) (by decide +kernel))
  clear eh2
  exact EQ_some s1
noncomputable def gX1_forget (h : AH) : Option (Int × AH) := if h 200 53 = 0 then (if h 424 0 = 0 then (some (0, h)) else (jb2 (gX12_begin 5 0 h) fun v4 h5 => if v4 = 0 then (some ((-3), h5)) else (jb (gX12_end h5) fun h8 => jb2 (gX1_forgetWords h8) fun v10 h11 => some (v10, h11)))) else (some ((-5), h))
theorem eX1_forget {h : AH} (hS : Sh S h) : EQ (fX1_forget 200 h) (gX1_forget h) (fun r => Sh S r.2) := by
  unfold fX1_forget gX1_forget
  refine EQ_jgd (show h 200 (-2) = 2 from by rw [k_200 hS]) ?_
  refine EQ_if Iff.rfl (fun c1 => ?_) (fun c1 => ?_)
  · refine EQ_jgd (show h 200 (-2) = 2 from by rw [k_200 hS]) ?_
    refine EQ_jgd (show h (h 200 50) (-2) = 11 from by rw [r_200_50 hS, k_424 hS]) ?_
    refine EQ_if (show h (h 200 50) 0 = 0 ↔ h 424 0 = 0 from by rw [r_200_50 hS]) (fun c2 => ?_) (fun c2 => ?_)
    · exact EQ_some hS
    · refine EQ_jgd (show h 200 (-2) = 2 from by rw [k_200 hS]) ?_
      refine EQ_jgd (show h (h 200 52) (-2) = 13 from by rw [r_200_52 hS, k_434 hS]) ?_
      refine EQ_jb2 (by rw [r_200_52 hS]; exact eX12_begin 5 0 hS) (fun v4 h5 r3 => ?_)
      replace r3 : Sh S h5 := r3
      refine EQ_if Iff.rfl (fun c4 => ?_) (fun c4 => ?_)
      · exact EQ_some r3
      · refine EQ_jgd (show h5 200 (-2) = 2 from by rw [k_200 r3]) ?_
        refine EQ_jgd (show h5 (h5 200 52) (-2) = 13 from by rw [r_200_52 r3, k_434 r3]) ?_
        refine EQ_jb (by rw [r_200_52 r3]; exact eX12_end r3) (fun h8 r5 => ?_)
        refine EQ_jgd (show h8 200 (-2) = 2 from by rw [k_200 r5]) ?_
        refine EQ_jb2 (eX1_forgetWords r5) (fun v10 h11 r6 => ?_)
        replace r6 : Sh S h11 := r6
        exact EQ_some r6
  · exact EQ_some hS
noncomputable def gX10_fits_b2 (s : Int × AH) : Option ((Int × AH) ⊕ (AH)) := jt2 s fun a1 h => if 5 ≤ a1 then (some (.inr h)) else (jg (jI a1 5) <| jl (jst h 430 a1 0) fun h8 => jl (w32 (a1 + 1)) fun x9 => some (.inl (x9, h8)))
theorem eX10_fits_b2 {s : Int × AH} (hS : (fun r => Sh S r.2) s) : EQ (fX10_fits_b2 424 s) (gX10_fits_b2 s) (Sum.elim (fun r => Sh S r.2) (fun r => Sh S r)) := by
  unfold fX10_fits_b2 gX10_fits_b2
  obtain ⟨a1, h⟩ := s
  refine EQ_jt2 ?_
  replace hS : Sh S h := hS
  refine EQ_if Iff.rfl (fun c1 => ?_) (fun c1 => ?_)
  · exact EQ_some hS
  · refine EQ_jgd (show h 424 (-2) = 11 from by rw [k_424 hS]) ?_
    refine EQ_jg ⟨fun ⟨_, _, x0⟩ => (show jI a1 (h (h 424 7) (-1)) ↔ jI a1 5 from by rw [r_424_7 hS, l_430 hS]).mp x0, fun x0 => ⟨(show h (h 424 7) (-2) = 101 from by rw [r_424_7 hS, k_430 hS]), (show 200 ≤ h 424 7 from by rw [r_424_7 hS]; exact (by decide)), (show jI a1 (h (h 424 7) (-1)) ↔ jI a1 5 from by rw [r_424_7 hS, l_430 hS]).mpr x0⟩⟩ (fun g2 => ?_)
    refine EQ_jl (by rw [r_424_7 hS]) (fun h8 eh8 => ?_)
    have s3 := Sh_of eh8 (Sh_sta hS (by decide +kernel) (jI_nn g2) (fun e => absurd ((k_430 hS).symm.trans e) (by decide)))
    clear eh8
    refine EQ_jl rfl (fun x9 ex9 => ?_)
    clear ex9
    exact EQ_some s3
noncomputable def gX10_fits_l2 (a1 : Int) (h : AH) : Option (AH) := jit gX10_fits_b2 (a1, h)
theorem eX10_fits_l2 (a1 : Int) {h : AH} (hS : Sh S h) : EQ (fX10_fits_l2 424 a1 h) (gX10_fits_l2 a1 h) (fun r => Sh S r) := EQ_jit (I := (fun r => Sh S r.2)) (fun s hs => eX10_fits_b2 hs) hS
noncomputable def gX10_fits_j96_22 (a1 : Int) (a2 : Int) (t0 : Int) (h : AH) : Option ((Int × AH) ⊕ ((AH) ⊕ (AH))) := jg (jI a2 5) <| if h 430 a2 = w32 (3 - t0) then (some (.inr (.inl h))) else (jl (jst h 430 a2 t0) fun h19 => jl (w32 (a1 + 1)) fun x20 => some (.inl (x20, h19)))
theorem eX10_fits_j96_22 (a1 : Int) (a2 : Int) (t0 : Int) {h : AH} (hS : Sh S h) : EQ (fX10_fits_j96_22 424 a1 a2 t0 h) (gX10_fits_j96_22 a1 a2 t0 h) (Sum.elim (fun r => Sh S r.2) (Sum.elim (fun r => Sh S r) (fun r => Sh S r))) := by
  unfold fX10_fits_j96_22 gX10_fits_j96_22
  refine EQ_jgd (show h 424 (-2) = 11 from by rw [k_424 hS]) ?_
  refine EQ_jg ⟨fun ⟨_, x0⟩ => (show jI a2 (h (h 424 7) (-1)) ↔ jI a2 5 from by rw [r_424_7 hS, l_430 hS]).mp x0, fun x0 => ⟨(show h (h 424 7) (-2) = 101 from by rw [r_424_7 hS, k_430 hS]), (show jI a2 (h (h 424 7) (-1)) ↔ jI a2 5 from by rw [r_424_7 hS, l_430 hS]).mpr x0⟩⟩ (fun g1 => ?_)
  refine EQ_if (show h (h 424 7) a2 = w32 (3 - t0) ↔ h 430 a2 = w32 (3 - t0) from by rw [r_424_7 hS]) (fun c2 => ?_) (fun c2 => ?_)
  · exact EQ_some hS
  · refine EQ_jgd (show h 424 (-2) = 11 from by rw [k_424 hS]) ?_
    refine EQ_jgd ⟨(show h (h 424 7) (-2) = 101 from by rw [r_424_7 hS, k_430 hS]), (show 200 ≤ h 424 7 from by rw [r_424_7 hS]; exact (by decide)), ((show jI a2 (h (h 424 7) (-1)) ↔ jI a2 5 from by rw [r_424_7 hS, l_430 hS]).mpr g1)⟩ ?_
    refine EQ_jl (by rw [r_424_7 hS]) (fun h19 eh19 => ?_)
    have s3 := Sh_of eh19 (Sh_sta hS (by decide +kernel) (jI_nn g1) (fun e => absurd ((k_430 hS).symm.trans e) (by decide)))
    clear eh19
    refine EQ_jl rfl (fun x20 ex20 => ?_)
    clear ex20
    exact EQ_some s3
noncomputable def gX10_fits_b50 (i1 : Int) (h : AH) (s : Int × Int) : Option ((Int × Int) ⊕ (Int)) := jt2 s fun a2 a4 => if a4 < 0 then (some (.inr a2)) else (jg (jI i1 20) <| jg (jI (w32 (w32 (2 * a2) + jand (jshr (h 425 i1) a4) 1)) 10) <| jl (h 429 (w32 (w32 (2 * a2) + jand (jshr (h 425 i1) a4) 1))) fun x22 => jl (w32 (a4 + (-1))) fun x23 => some (.inl (x22, x23)))
theorem eX10_fits_b50 (i1 : Int) (s : Int × Int) {h : AH} (hS : Sh S h) : EQ (fX10_fits_b50 424 i1 h s) (gX10_fits_b50 i1 h s) (Sum.elim (fun _ => True) (fun _ => True)) := by
  unfold fX10_fits_b50 gX10_fits_b50
  obtain ⟨a2, a4⟩ := s
  refine EQ_jt2 ?_
  refine EQ_if Iff.rfl (fun c1 => ?_) (fun c1 => ?_)
  · exact EQ_some trivial
  · refine EQ_jgd (show h 424 (-2) = 11 from by rw [k_424 hS]) ?_
    refine EQ_jgd (show h 424 (-2) = 11 from by rw [k_424 hS]) ?_
    refine EQ_jg ⟨fun ⟨_, x0⟩ => (show jI i1 (h (h 424 1) (-1)) ↔ jI i1 20 from by rw [r_424_1 hS, l_425 hS]).mp x0, fun x0 => ⟨(show h (h 424 1) (-2) = 101 from by rw [r_424_1 hS, k_425 hS]), (show jI i1 (h (h 424 1) (-1)) ↔ jI i1 20 from by rw [r_424_1 hS, l_425 hS]).mpr x0⟩⟩ (fun g2 => ?_)
    refine EQ_jg ⟨fun ⟨_, x0⟩ => (show jI (w32 (w32 (2 * a2) + jand (jshr (h (h 424 1) i1) a4) 1)) (h (h 424 6) (-1)) ↔ jI (w32 (w32 (2 * a2) + jand (jshr (h 425 i1) a4) 1)) 10 from by rw [r_424_1 hS, r_424_6 hS, l_429 hS]).mp x0, fun x0 => ⟨(show h (h 424 6) (-2) = 101 from by rw [r_424_6 hS, k_429 hS]), (show jI (w32 (w32 (2 * a2) + jand (jshr (h (h 424 1) i1) a4) 1)) (h (h 424 6) (-1)) ↔ jI (w32 (w32 (2 * a2) + jand (jshr (h 425 i1) a4) 1)) 10 from by rw [r_424_1 hS, r_424_6 hS, l_429 hS]).mpr x0⟩⟩ (fun g3 => ?_)
    refine EQ_jl (by rw [r_424_6 hS, r_424_1 hS]) (fun x22 ex22 => ?_)
    clear ex22
    refine EQ_jl rfl (fun x23 ex23 => ?_)
    clear ex23
    exact EQ_some trivial
noncomputable def gX10_fits_l50 (i1 : Int) (a2 : Int) (a4 : Int) (h : AH) : Option (Int) := jit (gX10_fits_b50 i1 h) (a2, a4)
theorem eX10_fits_l50 (i1 : Int) (a2 : Int) (a4 : Int) {h : AH} (hS : Sh S h) : EQ (fX10_fits_l50 424 i1 a2 a4 h) (gX10_fits_l50 i1 a2 a4 h) (fun _ => True) := EQ_jit (I := (fun _ => True)) (fun s _ => eX10_fits_b50 i1 s hS) trivial
noncomputable def gX10_fits_b22 (s : Int × AH) : Option ((Int × AH) ⊕ ((AH) ⊕ (AH))) := jt2 s fun a1 h => if h 424 0 ≤ a1 then (some (.inr (.inr h))) else (jg (jI a1 20) <| jb (fJ13_numberOfLeadingZeros (h 425 a1)) fun v12 => jl (w32 (31 - v12)) fun x13 => jl (w32 (x13 - 1)) fun x14 => jb (gX10_fits_l50 a1 0 x14 h) fun o15 => if h 426 a1 = 0 then (gX10_fits_j96_22 a1 o15 2 h) else (gX10_fits_j96_22 a1 o15 1 h))
theorem eX10_fits_b22 {s : Int × AH} (hS : (fun r => Sh S r.2) s) : EQ (fX10_fits_b22 424 s) (gX10_fits_b22 s) (Sum.elim (fun r => Sh S r.2) (Sum.elim (fun r => Sh S r) (fun r => Sh S r))) := by
  unfold fX10_fits_b22 gX10_fits_b22
  obtain ⟨a1, h⟩ := s
  refine EQ_jt2 ?_
  replace hS : Sh S h := hS
  refine EQ_jgd (show h 424 (-2) = 11 from by rw [k_424 hS]) ?_
  refine EQ_if Iff.rfl (fun c1 => ?_) (fun c1 => ?_)
  · exact EQ_some hS
  · refine EQ_jgd (show h 424 (-2) = 11 from by rw [k_424 hS]) ?_
    refine EQ_jg ⟨fun ⟨_, x0⟩ => (show jI a1 (h (h 424 1) (-1)) ↔ jI a1 20 from by rw [r_424_1 hS, l_425 hS]).mp x0, fun x0 => ⟨(show h (h 424 1) (-2) = 101 from by rw [r_424_1 hS, k_425 hS]), (show jI a1 (h (h 424 1) (-1)) ↔ jI a1 20 from by rw [r_424_1 hS, l_425 hS]).mpr x0⟩⟩ (fun g2 => ?_)
    refine EQ_jb (by rw [r_424_1 hS]; exact EQ_refl) (fun v12 r3 => ?_)
    refine EQ_jl rfl (fun x13 ex13 => ?_)
    clear ex13
    refine EQ_jl rfl (fun x14 ex14 => ?_)
    clear ex14
    refine EQ_jb (eX10_fits_l50 a1 0 x14 hS) (fun o15 r4 => ?_)
    refine EQ_jgd (show h 424 (-2) = 11 from by rw [k_424 hS]) ?_
    refine EQ_jgd ⟨(show h (h 424 2) (-2) = 104 from by rw [r_424_2 hS, k_426 hS]), ((show jI a1 (h (h 424 2) (-1)) ↔ jI a1 20 from by rw [r_424_2 hS, l_426 hS]).mpr g2)⟩ ?_
    refine EQ_if (show h (h 424 2) a1 = 0 ↔ h 426 a1 = 0 from by rw [r_424_2 hS]) (fun c5 => ?_) (fun c5 => ?_)
    · exact (eX10_fits_j96_22 a1 o15 2 hS)
    · exact (eX10_fits_j96_22 a1 o15 1 hS)
noncomputable def gX10_fits_l22 (a1 : Int) (h : AH) : Option ((AH) ⊕ (AH)) := jit gX10_fits_b22 (a1, h)
theorem eX10_fits_l22 (a1 : Int) {h : AH} (hS : Sh S h) : EQ (fX10_fits_l22 424 a1 h) (gX10_fits_l22 a1 h) (Sum.elim (fun r => Sh S r) (fun r => Sh S r)) := EQ_jit (I := (fun r => Sh S r.2)) (fun s hs => eX10_fits_b22 hs) hS
noncomputable def gX10_fits (h : AH) : Option (Int × AH) := jb (gX10_fits_l2 0 h) fun o1 => jb (gX10_fits_l22 0 o1) fun o3 => jm o3 (fun o5 => some (0, o5)) (fun o6 => some (1, o6))
theorem eX10_fits {h : AH} (hS : Sh S h) : EQ (fX10_fits 424 h) (gX10_fits h) (fun r => Sh S r.2) := by
  unfold fX10_fits gX10_fits
  refine EQ_jb (eX10_fits_l2 0 hS) (fun o1 r1 => ?_)
  refine EQ_jb (eX10_fits_l22 0 r1) (fun o3 r2 => ?_)
  refine EQ_jm r2 (fun o5 r3 => ?_) (fun o6 r4 => ?_)
  · exact EQ_some r3
  · exact EQ_some r4
noncomputable def gX10_tryFrom_b37 (F : Int → Int → Int → AH → Option (Int × AH)) (i1 : Int) (i2 : Int) (i3 : Int) (s : Int × AH) : Option ((Int × AH) ⊕ ((AH) ⊕ (AH))) := jt2 s fun a4 h => if min i3 (w32 (i2 + 1)) ≤ a4 then (some (.inr (.inr h))) else (jg (jI i1 10) <| jl (jst h 429 i1 a4) fun h13 => jb2 (F (w32 (i1 + 1)) (max i2 (w32 (a4 + 1))) i3 h13) fun v15 h16 => if v15 = 0 then (jl (w32 (a4 + 1)) fun x18 => some (.inl (x18, h16))) else (some (.inr (.inl h16))))
theorem eX10_tryFrom_b37 {F0 : Int → Int → Int → Int → AH → Option (Int × AH)} {F : Int → Int → Int → AH → Option (Int × AH)} (hF : ∀ (b_a1 : Int) (b_a2 : Int) (b_a3 : Int), ∀ {b_h : AH}, Sh S b_h → EQ (F0 424 b_a1 b_a2 b_a3 b_h) (F b_a1 b_a2 b_a3 b_h) (fun r => Sh S r.2)) (i1 : Int) (i2 : Int) (i3 : Int) {s : Int × AH} (hS : (fun r => Sh S r.2) s) : EQ (fX10_tryFrom_b37 F0 424 i1 i2 i3 s) (gX10_tryFrom_b37 F i1 i2 i3 s) (Sum.elim (fun r => Sh S r.2) (Sum.elim (fun r => Sh S r) (fun r => Sh S r))) := by
  unfold fX10_tryFrom_b37 gX10_tryFrom_b37
  obtain ⟨a4, h⟩ := s
  refine EQ_jt2 ?_
  replace hS : Sh S h := hS
  refine EQ_if Iff.rfl (fun c1 => ?_) (fun c1 => ?_)
  · exact EQ_some hS
  · refine EQ_jgd (show h 424 (-2) = 11 from by rw [k_424 hS]) ?_
    refine EQ_jg ⟨fun ⟨_, _, x0⟩ => (show jI i1 (h (h 424 6) (-1)) ↔ jI i1 10 from by rw [r_424_6 hS, l_429 hS]).mp x0, fun x0 => ⟨(show h (h 424 6) (-2) = 101 from by rw [r_424_6 hS, k_429 hS]), (show 200 ≤ h 424 6 from by rw [r_424_6 hS]; exact (by decide)), (show jI i1 (h (h 424 6) (-1)) ↔ jI i1 10 from by rw [r_424_6 hS, l_429 hS]).mpr x0⟩⟩ (fun g2 => ?_)
    refine EQ_jl (by rw [r_424_6 hS]) (fun h13 eh13 => ?_)
    have s3 := Sh_of eh13 (Sh_sta hS (by decide +kernel) (jI_nn g2) (fun e => absurd ((k_429 hS).symm.trans e) (by decide)))
    clear eh13
    refine EQ_jgd (show h13 424 (-2) = 11 from by rw [k_424 s3]) ?_
    refine EQ_jb2 (hF (w32 (i1 + 1)) (max i2 (w32 (a4 + 1))) i3 s3) (fun v15 h16 r4 => ?_)
    replace r4 : Sh S h16 := r4
    refine EQ_if Iff.rfl (fun c5 => ?_) (fun c5 => ?_)
    · refine EQ_jl rfl (fun x18 ex18 => ?_)
      clear ex18
      exact EQ_some r4
    · exact EQ_some r4
noncomputable def gX10_tryFrom_l37 (F : Int → Int → Int → AH → Option (Int × AH)) (i1 : Int) (i2 : Int) (i3 : Int) (a4 : Int) (h : AH) : Option ((AH) ⊕ (AH)) := jit (gX10_tryFrom_b37 F i1 i2 i3) (a4, h)
theorem eX10_tryFrom_l37 {F0 : Int → Int → Int → Int → AH → Option (Int × AH)} {F : Int → Int → Int → AH → Option (Int × AH)} (hF : ∀ (b_a1 : Int) (b_a2 : Int) (b_a3 : Int), ∀ {b_h : AH}, Sh S b_h → EQ (F0 424 b_a1 b_a2 b_a3 b_h) (F b_a1 b_a2 b_a3 b_h) (fun r => Sh S r.2)) (i1 : Int) (i2 : Int) (i3 : Int) (a4 : Int) {h : AH} (hS : Sh S h) : EQ (fX10_tryFrom_l37 F0 424 i1 i2 i3 a4 h) (gX10_tryFrom_l37 F i1 i2 i3 a4 h) (Sum.elim (fun r => Sh S r) (fun r => Sh S r)) := EQ_jit (I := (fun r => Sh S r.2)) (fun s hs => eX10_tryFrom_b37 hF i1 i2 i3 hs) hS
noncomputable def gX10_tryFrom_ (F : Int → Int → Int → AH → Option (Int × AH)) (a1 : Int) (a2 : Int) (a3 : Int) (h : AH) : Option (Int × AH) := if a1 = w32 (2 * a3) then (if a2 = a3 then (jb2 (gX10_fits h) fun v4 h5 => if v4 = 0 then (some (0, h5)) else (some (1, h5))) else (some (0, h))) else (if jdiv a1 2 < a2 then (jb (gX10_tryFrom_l37 F a1 a2 a3 0 h) fun o8 => jm o8 (fun o10 => some (1, o10)) (fun o11 => some (0, o11))) else (some (0, h)))
theorem eX10_tryFrom_ {F0 : Int → Int → Int → Int → AH → Option (Int × AH)} {F : Int → Int → Int → AH → Option (Int × AH)} (hF : ∀ (b_a1 : Int) (b_a2 : Int) (b_a3 : Int), ∀ {b_h : AH}, Sh S b_h → EQ (F0 424 b_a1 b_a2 b_a3 b_h) (F b_a1 b_a2 b_a3 b_h) (fun r => Sh S r.2)) (a1 : Int) (a2 : Int) (a3 : Int) {h : AH} (hS : Sh S h) : EQ (fX10_tryFrom_ F0 424 a1 a2 a3 h) (gX10_tryFrom_ F a1 a2 a3 h) (fun r => Sh S r.2) := by
  unfold fX10_tryFrom_ gX10_tryFrom_
  refine EQ_if Iff.rfl (fun c1 => ?_) (fun c1 => ?_)
  · refine EQ_if Iff.rfl (fun c2 => ?_) (fun c2 => ?_)
    · refine EQ_jgd (show h 424 (-2) = 11 from by rw [k_424 hS]) ?_
      refine EQ_jb2 (eX10_fits hS) (fun v4 h5 r3 => ?_)
      replace r3 : Sh S h5 := r3
      refine EQ_if Iff.rfl (fun c4 => ?_) (fun c4 => ?_)
      · exact EQ_some r3
      · exact EQ_some r3
    · exact EQ_some hS
  · refine EQ_if Iff.rfl (fun c5 => ?_) (fun c5 => ?_)
    · refine EQ_jb (eX10_tryFrom_l37 hF a1 a2 a3 0 hS) (fun o8 r6 => ?_)
      refine EQ_jm r6 (fun o10 r7 => ?_) (fun o11 r8 => ?_)
      · exact EQ_some r7
      · exact EQ_some r8
    · exact EQ_some hS
noncomputable def gX10_tryFromD : Nat → Int → Int → Int → AH → Option (Int × AH)
  | 0 => fun _ _ _ _ => none
  | d + 1 => gX10_tryFrom_ (gX10_tryFromD d)
theorem eX10_tryFromD : ∀ (d : Nat) (a1 : Int) (a2 : Int) (a3 : Int) {h : AH} (hS : Sh S h) , EQ (fX10_tryFromD d 424 a1 a2 a3 h) (gX10_tryFromD d a1 a2 a3 h) (fun r => Sh S r.2) := by
  intro d
  induction d with
  | zero => intro a1 a2 a3 h hS; exact EQ_none
  | succ d ih => intro a1 a2 a3 h hS; exact eX10_tryFrom_ ih a1 a2 a3 hS
noncomputable def gX10_tryFrom : Int → Int → Int → AH → Option (Int × AH) := gX10_tryFromD 40
theorem eX10_tryFrom (a1 : Int) (a2 : Int) (a3 : Int) {h : AH} (hS : Sh S h) : EQ (fX10_tryFrom 424 a1 a2 a3 h) (gX10_tryFrom a1 a2 a3 h) (fun r => Sh S r.2) := eX10_tryFromD 40 a1 a2 a3 hS
noncomputable def gX10_least_b2 (s : Int × AH) : Option ((Int × AH) ⊕ ((Int × AH) ⊕ (AH))) := jt2 s fun a1 h => if 5 < a1 then (some (.inr (.inr h))) else (jb2 (gX10_tryFrom 0 1 a1 h) fun v14 h15 => if v14 = 0 then (jl (w32 (a1 + 1)) fun x17 => some (.inl (x17, h15))) else (some (.inr (.inl (a1, h15)))))
theorem eX10_least_b2 {s : Int × AH} (hS : (fun r => Sh S r.2) s) : EQ (fX10_least_b2 424 s) (gX10_least_b2 s) (Sum.elim (fun r => Sh S r.2) (Sum.elim (fun r => Sh S r.2) (fun r => Sh S r))) := by
  unfold fX10_least_b2 gX10_least_b2
  obtain ⟨a1, h⟩ := s
  refine EQ_jt2 ?_
  replace hS : Sh S h := hS
  refine EQ_if Iff.rfl (fun c1 => ?_) (fun c1 => ?_)
  · exact EQ_some hS
  · refine EQ_jgd (show h 424 (-2) = 11 from by rw [k_424 hS]) ?_
    refine EQ_jb2 (eX10_tryFrom 0 1 a1 hS) (fun v14 h15 r2 => ?_)
    replace r2 : Sh S h15 := r2
    refine EQ_if Iff.rfl (fun c3 => ?_) (fun c3 => ?_)
    · refine EQ_jl rfl (fun x17 ex17 => ?_)
      clear ex17
      exact EQ_some r2
    · exact EQ_some r2
noncomputable def gX10_least_l2 (a1 : Int) (h : AH) : Option ((Int × AH) ⊕ (AH)) := jit gX10_least_b2 (a1, h)
theorem eX10_least_l2 (a1 : Int) {h : AH} (hS : Sh S h) : EQ (fX10_least_l2 424 a1 h) (gX10_least_l2 a1 h) (Sum.elim (fun r => Sh S r.2) (fun r => Sh S r)) := EQ_jit (I := (fun r => Sh S r.2)) (fun s hs => eX10_least_b2 hs) hS
noncomputable def gX10_least_b27 (i1 : Int) (s : Int × AH) : Option ((Int × AH) ⊕ (AH)) := jt2 s fun a2 h => if w32 (2 * i1) ≤ a2 then (some (.inr h)) else (jg (jI a2 10) <| jl (jst h 427 a2 (h 429 a2)) fun h19 => jl (w32 (a2 + 1)) fun x20 => some (.inl (x20, h19)))
theorem eX10_least_b27 (i1 : Int) {s : Int × AH} (hS : (fun r => Sh S r.2) s) : EQ (fX10_least_b27 424 i1 s) (gX10_least_b27 i1 s) (Sum.elim (fun r => Sh S r.2) (fun r => Sh S r)) := by
  unfold fX10_least_b27 gX10_least_b27
  obtain ⟨a2, h⟩ := s
  refine EQ_jt2 ?_
  replace hS : Sh S h := hS
  refine EQ_if Iff.rfl (fun c1 => ?_) (fun c1 => ?_)
  · exact EQ_some hS
  · refine EQ_jgd (show h 424 (-2) = 11 from by rw [k_424 hS]) ?_
    refine EQ_jgd (show h 424 (-2) = 11 from by rw [k_424 hS]) ?_
    refine EQ_jg ⟨fun ⟨_, x0⟩ => (show jI a2 (h (h 424 6) (-1)) ↔ jI a2 10 from by rw [r_424_6 hS, l_429 hS]).mp x0, fun x0 => ⟨(show h (h 424 6) (-2) = 101 from by rw [r_424_6 hS, k_429 hS]), (show jI a2 (h (h 424 6) (-1)) ↔ jI a2 10 from by rw [r_424_6 hS, l_429 hS]).mpr x0⟩⟩ (fun g2 => ?_)
    refine EQ_jgd ⟨(show h (h 424 4) (-2) = 101 from by rw [r_424_4 hS, k_427 hS]), (show 200 ≤ h 424 4 from by rw [r_424_4 hS]; exact (by decide)), ((show jI a2 (h (h 424 4) (-1)) ↔ jI a2 10 from by rw [r_424_4 hS, l_427 hS]).mpr g2)⟩ ?_
    refine EQ_jl (by rw [r_424_4 hS, r_424_6 hS]) (fun h19 eh19 => ?_)
    have s3 := Sh_of eh19 (Sh_sta hS (by decide +kernel) (jI_nn g2) (fun e => absurd ((k_427 hS).symm.trans e) (by decide)))
    clear eh19
    refine EQ_jl rfl (fun x20 ex20 => ?_)
    clear ex20
    exact EQ_some s3
noncomputable def gX10_least_l27 (i1 : Int) (a2 : Int) (h : AH) : Option (AH) := jit (gX10_least_b27 i1) (a2, h)
theorem eX10_least_l27 (i1 : Int) (a2 : Int) {h : AH} (hS : Sh S h) : EQ (fX10_least_l27 424 i1 a2 h) (gX10_least_l27 i1 a2 h) (fun r => Sh S r) := EQ_jit (I := (fun r => Sh S r.2)) (fun s hs => eX10_least_b27 i1 hs) hS
noncomputable def gX10_least_j79_54 (a1 : Int) (a2 : Int) (t1 : Int) (t2 : Int) (h : AH) : Option ((Int × AH) ⊕ (AH)) := jg (jI t1 5) <| jl (jst h 428 t1 (ji2z t2)) fun h23 => jl (w32 (a2 + 1)) fun x24 => some (.inl (x24, h23))
theorem eX10_least_j79_54 (a1 : Int) (a2 : Int) (t1 : Int) (t2 : Int) {h : AH} (hS : Sh S h) : EQ (fX10_least_j79_54 424 a1 a2 428 t1 t2 h) (gX10_least_j79_54 a1 a2 t1 t2 h) (Sum.elim (fun r => Sh S r.2) (fun r => Sh S r)) := by
  unfold fX10_least_j79_54 gX10_least_j79_54
  refine EQ_jg ⟨fun ⟨_, _, x0⟩ => (show jI t1 (h 428 (-1)) ↔ jI t1 5 from by rw [l_428 hS]).mp x0, fun x0 => ⟨(show h 428 (-2) = 104 from by rw [k_428 hS]), (show (200 : Int) ≤ 428 from (by decide)), (show jI t1 (h 428 (-1)) ↔ jI t1 5 from by rw [l_428 hS]).mpr x0⟩⟩ (fun g1 => ?_)
  refine EQ_jl rfl (fun h23 eh23 => ?_)
  have s2 := Sh_of eh23 (Sh_sta hS (by decide +kernel) (jI_nn g1) (fun e => absurd ((k_428 hS).symm.trans e) (by decide)))
  clear eh23
  refine EQ_jl rfl (fun x24 ex24 => ?_)
  clear ex24
  exact EQ_some s2
noncomputable def gX10_least_b54 (i1 : Int) (s : Int × AH) : Option ((Int × AH) ⊕ (AH)) := jt2 s fun a2 h => if i1 ≤ a2 then (some (.inr h)) else (jg (jI a2 5) <| if h 430 a2 = 1 then (gX10_least_j79_54 i1 a2 a2 1 h) else (gX10_least_j79_54 i1 a2 a2 0 h))
theorem eX10_least_b54 (i1 : Int) {s : Int × AH} (hS : (fun r => Sh S r.2) s) : EQ (fX10_least_b54 424 i1 s) (gX10_least_b54 i1 s) (Sum.elim (fun r => Sh S r.2) (fun r => Sh S r)) := by
  unfold fX10_least_b54 gX10_least_b54
  obtain ⟨a2, h⟩ := s
  refine EQ_jt2 ?_
  replace hS : Sh S h := hS
  refine EQ_if Iff.rfl (fun c1 => ?_) (fun c1 => ?_)
  · exact EQ_some hS
  · refine EQ_jgd (show h 424 (-2) = 11 from by rw [k_424 hS]) ?_
    refine EQ_jgd (show h 424 (-2) = 11 from by rw [k_424 hS]) ?_
    refine EQ_jg ⟨fun ⟨_, x0⟩ => (show jI a2 (h (h 424 7) (-1)) ↔ jI a2 5 from by rw [r_424_7 hS, l_430 hS]).mp x0, fun x0 => ⟨(show h (h 424 7) (-2) = 101 from by rw [r_424_7 hS, k_430 hS]), (show jI a2 (h (h 424 7) (-1)) ↔ jI a2 5 from by rw [r_424_7 hS, l_430 hS]).mpr x0⟩⟩ (fun g2 => ?_)
    refine EQ_if (show h (h 424 7) a2 = 1 ↔ h 430 a2 = 1 from by rw [r_424_7 hS]) (fun c3 => ?_) (fun c3 => ?_)
    · exact (by rw [r_424_5 hS]; exact eX10_least_j79_54 i1 a2 a2 1 hS)
    · exact (by rw [r_424_5 hS]; exact eX10_least_j79_54 i1 a2 a2 0 hS)
noncomputable def gX10_least_l54 (i1 : Int) (a2 : Int) (h : AH) : Option (AH) := jit (gX10_least_b54 i1) (a2, h)
theorem eX10_least_l54 (i1 : Int) (a2 : Int) {h : AH} (hS : Sh S h) : EQ (fX10_least_l54 424 i1 a2 h) (gX10_least_l54 i1 a2 h) (fun r => Sh S r) := EQ_jit (I := (fun r => Sh S r.2)) (fun s hs => eX10_least_b54 i1 hs) hS
noncomputable def gX10_least (h : AH) : Option (Int × AH) := jb (gX10_least_l2 1 h) fun o1 => jm o1 (fun o3 => jt2 o3 fun y5 h6 => jl (jst h6 424 3 y5) fun h7 => jb (gX10_least_l27 y5 0 h7) fun o8 => jb (gX10_least_l54 y5 0 o8) fun o10 => some (y5, o10)) (fun o4 => some (0, o4))
theorem eX10_least {h : AH} (hS : Sh S h) : EQ (fX10_least 424 h) (gX10_least h) (fun r => Sh S r.2) := by
  unfold fX10_least gX10_least
  refine EQ_jb (eX10_least_l2 1 hS) (fun o1 r1 => ?_)
  refine EQ_jm r1 (fun o3 r2 => ?_) (fun o4 r3 => ?_)
  · obtain ⟨y5, h6⟩ := o3
    refine EQ_jt2 ?_
    replace r2 : Sh S h6 := r2
    refine EQ_jgd ⟨(show h6 424 (-2) = 11 from by rw [k_424 r2]), (show (200 : Int) ≤ 424 from (by decide))⟩ ?_
    refine EQ_jl rfl (fun h7 eh7 => ?_)
    have s4 := Sh_of eh7 (Sh_sto r2 (a := 424) (i := 3) (by decide +kernel))
    clear eh7
    refine EQ_jb (eX10_least_l27 y5 0 s4) (fun o8 r5 => ?_)
    refine EQ_jb (eX10_least_l54 y5 0 r5) (fun o10 r6 => ?_)
    exact EQ_some r6
  · exact EQ_some r3
noncomputable def gX1_machine (h : AH) : Option (Int × AH) := if h 200 53 = 0 then (jb2 (gX10_least h) fun v3 h4 => some (v3, h4)) else (some ((-5), h))
theorem eX1_machine {h : AH} (hS : Sh S h) : EQ (fX1_machine 200 h) (gX1_machine h) (fun r => Sh S r.2) := by
  unfold fX1_machine gX1_machine
  refine EQ_jgd (show h 200 (-2) = 2 from by rw [k_200 hS]) ?_
  refine EQ_if Iff.rfl (fun c1 => ?_) (fun c1 => ?_)
  · refine EQ_jgd (show h 200 (-2) = 2 from by rw [k_200 hS]) ?_
    refine EQ_jgd (show h (h 200 50) (-2) = 11 from by rw [r_200_50 hS, k_424 hS]) ?_
    refine EQ_jb2 (by rw [r_200_50 hS]; exact eX10_least hS) (fun v3 h4 r2 => ?_)
    replace r2 : Sh S h4 := r2
    exact EQ_some r2
  · exact EQ_some hS
noncomputable def gX1_state (a1 : Int) (a2 : Int) (h : AH) : Option (Int) := jb (gX1_isIn a1 0 (w32 (h 424 3 - 1))) fun v2 => if v2 = 0 then (some (-1)) else (jb (gX1_isIn a2 0 2) fun v5 => if v5 = 0 then (some (-1)) else (if 2 ≤ a2 then (jg (jI a1 5) <| if h 428 a1 = 0 then (some 0) else (some 1)) else (jg (jI (w32 (w32 (2 * a1) + a2)) 10) <| some (h 427 (w32 (w32 (2 * a1) + a2))))))
theorem eX1_state (a1 : Int) (a2 : Int) {h : AH} (hS : Sh S h) : EQ (fX1_state 200 a1 a2 h) (gX1_state a1 a2 h) (fun _ => True) := by
  unfold fX1_state gX1_state
  refine EQ_jgd (show h 200 (-2) = 2 from by rw [k_200 hS]) ?_
  refine EQ_jgd (show h (h 200 50) (-2) = 11 from by rw [r_200_50 hS, k_424 hS]) ?_
  refine EQ_jb (by rw [r_200_50 hS]; exact eX1_isIn a1 0 (w32 (h 424 3 - 1))) (fun v2 r1 => ?_)
  refine EQ_if Iff.rfl (fun c2 => ?_) (fun c2 => ?_)
  · exact EQ_some trivial
  · refine EQ_jb (eX1_isIn a2 0 2) (fun v5 r3 => ?_)
    refine EQ_if Iff.rfl (fun c4 => ?_) (fun c4 => ?_)
    · exact EQ_some trivial
    · refine EQ_if Iff.rfl (fun c5 => ?_) (fun c5 => ?_)
      · refine EQ_jgd (show h 200 (-2) = 2 from by rw [k_200 hS]) ?_
        refine EQ_jgd (show h (h 200 50) (-2) = 11 from by rw [r_200_50 hS, k_424 hS]) ?_
        refine EQ_jg ⟨fun ⟨_, x0⟩ => (show jI a1 (h (h (h 200 50) 5) (-1)) ↔ jI a1 5 from by rw [r_200_50 hS, r_424_5 hS, l_428 hS]).mp x0, fun x0 => ⟨(show h (h (h 200 50) 5) (-2) = 104 from by rw [r_200_50 hS, r_424_5 hS, k_428 hS]), (show jI a1 (h (h (h 200 50) 5) (-1)) ↔ jI a1 5 from by rw [r_200_50 hS, r_424_5 hS, l_428 hS]).mpr x0⟩⟩ (fun g6 => ?_)
        refine EQ_if (show h (h (h 200 50) 5) a1 = 0 ↔ h 428 a1 = 0 from by rw [r_200_50 hS, r_424_5 hS]) (fun c7 => ?_) (fun c7 => ?_)
        · exact EQ_some trivial
        · exact EQ_some trivial
      · refine EQ_jgd (show h 200 (-2) = 2 from by rw [k_200 hS]) ?_
        refine EQ_jgd (show h (h 200 50) (-2) = 11 from by rw [r_200_50 hS, k_424 hS]) ?_
        refine EQ_jg ⟨fun ⟨_, x0⟩ => (show jI (w32 (w32 (2 * a1) + a2)) (h (h (h 200 50) 4) (-1)) ↔ jI (w32 (w32 (2 * a1) + a2)) 10 from by rw [r_200_50 hS, r_424_4 hS, l_427 hS]).mp x0, fun x0 => ⟨(show h (h (h 200 50) 4) (-2) = 101 from by rw [r_200_50 hS, r_424_4 hS, k_427 hS]), (show jI (w32 (w32 (2 * a1) + a2)) (h (h (h 200 50) 4) (-1)) ↔ jI (w32 (w32 (2 * a1) + a2)) 10 from by rw [r_200_50 hS, r_424_4 hS, l_427 hS]).mpr x0⟩⟩ (fun g8 => ?_)
        exact EQ_some' (by rw [r_200_50 hS, r_424_4 hS]) trivial
noncomputable def gX11_add (a0 : Int) (a2 : Int) : Option (Int) := some (jxorL (w64 (jandL a0 8608480567731124087 + jandL a2 8608480567731124087)) (jandL (jxorL a0 a2) (-8608480567731124088)))
theorem eX11_add (a0 : Int) (a2 : Int) : EQ (fX11_add a0 a2) (gX11_add a0 a2) (fun _ => True) := by
  unfold fX11_add gX11_add
  exact EQ_some trivial
noncomputable def gX11_sub (a0 : Int) (a2 : Int) : Option (Int) := some (jxorL (w64 (jorL a0 (-8608480567731124088) - jandL a2 8608480567731124087)) (jandL (jxorL a0 (jxorL a2 (-1))) (-8608480567731124088)))
theorem eX11_sub (a0 : Int) (a2 : Int) : EQ (fX11_sub a0 a2) (gX11_sub a0 a2) (fun _ => True) := by
  unfold fX11_sub gX11_sub
  exact EQ_some trivial
noncomputable def gX11_mul_b9 (i2 : Int) (s : Int × Int × Int) : Option ((Int × Int × Int) ⊕ (Int)) := jt3 s fun a4 a6 a8 => if 4 ≤ a8 then (some (.inr a4)) else (jb (gX11_add a4 (jandL a6 (w64 (jandL (jushrL i2 a8) 1229782938247303441 * 15)))) fun v5 => jb (gX11_add a6 a6) fun v7 => jl (w32 (a8 + 1)) fun x8 => some (.inl (v5, v7, x8)))
theorem eX11_mul_b9 (i2 : Int) (s : Int × Int × Int) : EQ (fX11_mul_b9 i2 s) (gX11_mul_b9 i2 s) (Sum.elim (fun _ => True) (fun _ => True)) := by
  unfold fX11_mul_b9 gX11_mul_b9
  obtain ⟨a4, a6, a8⟩ := s
  refine EQ_jt3 ?_
  refine EQ_if Iff.rfl (fun c1 => ?_) (fun c1 => ?_)
  · exact EQ_some trivial
  · refine EQ_jb (eX11_add a4 (jandL a6 (w64 (jandL (jushrL i2 a8) 1229782938247303441 * 15)))) (fun v5 r2 => ?_)
    refine EQ_jb (eX11_add a6 a6) (fun v7 r3 => ?_)
    refine EQ_jl rfl (fun x8 ex8 => ?_)
    clear ex8
    exact EQ_some trivial
noncomputable def gX11_mul_l9 (i2 : Int) (a4 : Int) (a6 : Int) (a8 : Int) : Option (Int) := jit (gX11_mul_b9 i2) (a4, a6, a8)
theorem eX11_mul_l9 (i2 : Int) (a4 : Int) (a6 : Int) (a8 : Int) : EQ (fX11_mul_l9 i2 a4 a6 a8) (gX11_mul_l9 i2 a4 a6 a8) (fun _ => True) := EQ_jit (I := (fun _ => True)) (fun s _ => eX11_mul_b9 i2 s) trivial
noncomputable def gX11_mul (a0 : Int) (a2 : Int) : Option (Int) := jb (gX11_mul_l9 a2 0 a0 0) fun o1 => some o1
theorem eX11_mul (a0 : Int) (a2 : Int) : EQ (fX11_mul a0 a2) (gX11_mul a0 a2) (fun _ => True) := by
  unfold fX11_mul gX11_mul
  refine EQ_jb (eX11_mul_l9 a2 0 a0 0) (fun o1 r1 => ?_)
  exact EQ_some trivial
noncomputable def gX11_act (a1 : Int) (h : AH) : Option (AH) := jl (h 431 3) fun x1 => if a1 < 0 ∨ 16 < a1 then (jb (gX11_mul (h 431 3) (h 431 4)) fun v4 => jl (jst h 431 3 v4) fun h5 => some h5) else (if a1 = 0 then (jb (gX11_add (h 431 3) (h 431 4)) fun v8 => jl (jst h 431 3 v8) fun h9 => some h9) else (if a1 = 1 then (jb (gX11_add (h 431 3) (h 431 4)) fun v12 => jl (jst h 431 4 v12) fun h13 => some h13) else (if a1 = 2 then (jb (gX11_sub (h 431 3) (h 431 4)) fun v16 => jl (jst h 431 3 v16) fun h17 => some h17) else (if a1 = 3 then (jb (gX11_sub (h 431 4) (h 431 3)) fun v20 => jl (jst h 431 4 v20) fun h21 => some h21) else (if a1 = 4 then (jl (jst h 431 3 (jxorL (h 431 3) (h 431 4))) fun h23 => some h23) else (if a1 = 5 then (jl (jst h 431 4 (jxorL (h 431 4) (h 431 3))) fun h25 => some h25) else (if a1 = 6 then (jl (jst h 431 3 (jandL (h 431 3) (h 431 4))) fun h27 => some h27) else (if a1 = 7 then (jl (jst h 431 4 (jorL (h 431 4) (h 431 3))) fun h29 => some h29) else (if a1 = 8 then (jl (jst h 431 3 (jxorL (h 431 3) (-1))) fun h31 => some h31) else (if a1 = 9 then (jl (jst h 431 4 (h 431 3)) fun h33 => some h33) else (if a1 = 10 then (jl (jst h 431 3 (h 431 4)) fun h35 => some h35) else (if a1 = 11 then (jb (gX11_add (h 431 3) 1229782938247303441) fun v38 => jl (jst h 431 3 v38) fun h39 => some h39) else (if a1 = 12 then (jb (gX11_add (h 431 4) 1229782938247303441) fun v42 => jl (jst h 431 4 v42) fun h43 => some h43) else (if a1 = 13 then (jb (gX11_add (h 431 3) (h 431 3)) fun v46 => jl (jst h 431 3 v46) fun h47 => some h47) else (if a1 = 14 then (jl (jst h 431 3 (jandL (jushrL (h 431 3) 1) 8608480567731124087)) fun h49 => some h49) else (if a1 = 15 then (jl (jst h 431 3 (h 431 4)) fun h51 => jl (jst h51 431 4 x1) fun h52 => some h52) else (jb (gX11_sub 0 (h 431 3)) fun v55 => jl (jst h 431 3 v55) fun h56 => some h56)))))))))))))))))
theorem eX11_act (a1 : Int) {h : AH} (hS : Sh S h) : EQ (fX11_act 431 a1 h) (gX11_act a1 h) (fun r => Sh S r) := by
  unfold fX11_act gX11_act
  refine EQ_jgd (show h 431 (-2) = 12 from by rw [k_431 hS]) ?_
  refine EQ_jl rfl (fun x1 ex1 => ?_)
  clear ex1
  refine EQ_if Iff.rfl (fun c1 => ?_) (fun c1 => ?_)
  · refine EQ_jgd (show h 431 (-2) = 12 from by rw [k_431 hS]) ?_
    refine EQ_jgd (show h 431 (-2) = 12 from by rw [k_431 hS]) ?_
    refine EQ_jb (eX11_mul (h 431 3) (h 431 4)) (fun v4 r2 => ?_)
    refine EQ_jgd ⟨(show h 431 (-2) = 12 from by rw [k_431 hS]), (show (200 : Int) ≤ 431 from (by decide))⟩ ?_
    refine EQ_jl rfl (fun h5 eh5 => ?_)
    have s3 := Sh_of eh5 (Sh_sto hS (a := 431) (i := 3) (by decide +kernel))
    clear eh5
    exact EQ_some s3
  · refine EQ_if Iff.rfl (fun c4 => ?_) (fun c4 => ?_)
    · refine EQ_jgd (show h 431 (-2) = 12 from by rw [k_431 hS]) ?_
      refine EQ_jgd (show h 431 (-2) = 12 from by rw [k_431 hS]) ?_
      refine EQ_jb (eX11_add (h 431 3) (h 431 4)) (fun v8 r5 => ?_)
      refine EQ_jgd ⟨(show h 431 (-2) = 12 from by rw [k_431 hS]), (show (200 : Int) ≤ 431 from (by decide))⟩ ?_
      refine EQ_jl rfl (fun h9 eh9 => ?_)
      have s6 := Sh_of eh9 (Sh_sto hS (a := 431) (i := 3) (by decide +kernel))
      clear eh9
      exact EQ_some s6
    · refine EQ_if Iff.rfl (fun c7 => ?_) (fun c7 => ?_)
      · refine EQ_jgd (show h 431 (-2) = 12 from by rw [k_431 hS]) ?_
        refine EQ_jgd (show h 431 (-2) = 12 from by rw [k_431 hS]) ?_
        refine EQ_jb (eX11_add (h 431 3) (h 431 4)) (fun v12 r8 => ?_)
        refine EQ_jgd ⟨(show h 431 (-2) = 12 from by rw [k_431 hS]), (show (200 : Int) ≤ 431 from (by decide))⟩ ?_
        refine EQ_jl rfl (fun h13 eh13 => ?_)
        have s9 := Sh_of eh13 (Sh_sto hS (a := 431) (i := 4) (by decide +kernel))
        clear eh13
        exact EQ_some s9
      · refine EQ_if Iff.rfl (fun c10 => ?_) (fun c10 => ?_)
        · refine EQ_jgd (show h 431 (-2) = 12 from by rw [k_431 hS]) ?_
          refine EQ_jgd (show h 431 (-2) = 12 from by rw [k_431 hS]) ?_
          refine EQ_jb (eX11_sub (h 431 3) (h 431 4)) (fun v16 r11 => ?_)
          refine EQ_jgd ⟨(show h 431 (-2) = 12 from by rw [k_431 hS]), (show (200 : Int) ≤ 431 from (by decide))⟩ ?_
          refine EQ_jl rfl (fun h17 eh17 => ?_)
          have s12 := Sh_of eh17 (Sh_sto hS (a := 431) (i := 3) (by decide +kernel))
          clear eh17
          exact EQ_some s12
        · refine EQ_if Iff.rfl (fun c13 => ?_) (fun c13 => ?_)
          · refine EQ_jgd (show h 431 (-2) = 12 from by rw [k_431 hS]) ?_
            refine EQ_jgd (show h 431 (-2) = 12 from by rw [k_431 hS]) ?_
            refine EQ_jb (eX11_sub (h 431 4) (h 431 3)) (fun v20 r14 => ?_)
            refine EQ_jgd ⟨(show h 431 (-2) = 12 from by rw [k_431 hS]), (show (200 : Int) ≤ 431 from (by decide))⟩ ?_
            refine EQ_jl rfl (fun h21 eh21 => ?_)
            have s15 := Sh_of eh21 (Sh_sto hS (a := 431) (i := 4) (by decide +kernel))
            clear eh21
            exact EQ_some s15
          · refine EQ_if Iff.rfl (fun c16 => ?_) (fun c16 => ?_)
            · refine EQ_jgd (show h 431 (-2) = 12 from by rw [k_431 hS]) ?_
              refine EQ_jgd (show h 431 (-2) = 12 from by rw [k_431 hS]) ?_
              refine EQ_jgd ⟨(show h 431 (-2) = 12 from by rw [k_431 hS]), (show (200 : Int) ≤ 431 from (by decide))⟩ ?_
              refine EQ_jl rfl (fun h23 eh23 => ?_)
              have s17 := Sh_of eh23 (Sh_sto hS (a := 431) (i := 3) (by decide +kernel))
              clear eh23
              exact EQ_some s17
            · refine EQ_if Iff.rfl (fun c18 => ?_) (fun c18 => ?_)
              · refine EQ_jgd (show h 431 (-2) = 12 from by rw [k_431 hS]) ?_
                refine EQ_jgd (show h 431 (-2) = 12 from by rw [k_431 hS]) ?_
                refine EQ_jgd ⟨(show h 431 (-2) = 12 from by rw [k_431 hS]), (show (200 : Int) ≤ 431 from (by decide))⟩ ?_
                refine EQ_jl rfl (fun h25 eh25 => ?_)
                have s19 := Sh_of eh25 (Sh_sto hS (a := 431) (i := 4) (by decide +kernel))
                clear eh25
                exact EQ_some s19
              · refine EQ_if Iff.rfl (fun c20 => ?_) (fun c20 => ?_)
                · refine EQ_jgd (show h 431 (-2) = 12 from by rw [k_431 hS]) ?_
                  refine EQ_jgd (show h 431 (-2) = 12 from by rw [k_431 hS]) ?_
                  refine EQ_jgd ⟨(show h 431 (-2) = 12 from by rw [k_431 hS]), (show (200 : Int) ≤ 431 from (by decide))⟩ ?_
                  refine EQ_jl rfl (fun h27 eh27 => ?_)
                  have s21 := Sh_of eh27 (Sh_sto hS (a := 431) (i := 3) (by decide +kernel))
                  clear eh27
                  exact EQ_some s21
                · refine EQ_if Iff.rfl (fun c22 => ?_) (fun c22 => ?_)
                  · refine EQ_jgd (show h 431 (-2) = 12 from by rw [k_431 hS]) ?_
                    refine EQ_jgd (show h 431 (-2) = 12 from by rw [k_431 hS]) ?_
                    refine EQ_jgd ⟨(show h 431 (-2) = 12 from by rw [k_431 hS]), (show (200 : Int) ≤ 431 from (by decide))⟩ ?_
                    refine EQ_jl rfl (fun h29 eh29 => ?_)
                    have s23 := Sh_of eh29 (Sh_sto hS (a := 431) (i := 4) (by decide +kernel))
                    clear eh29
                    exact EQ_some s23
                  · refine EQ_if Iff.rfl (fun c24 => ?_) (fun c24 => ?_)
                    · refine EQ_jgd (show h 431 (-2) = 12 from by rw [k_431 hS]) ?_
                      refine EQ_jgd ⟨(show h 431 (-2) = 12 from by rw [k_431 hS]), (show (200 : Int) ≤ 431 from (by decide))⟩ ?_
                      refine EQ_jl rfl (fun h31 eh31 => ?_)
                      have s25 := Sh_of eh31 (Sh_sto hS (a := 431) (i := 3) (by decide +kernel))
                      clear eh31
                      exact EQ_some s25
                    · refine EQ_if Iff.rfl (fun c26 => ?_) (fun c26 => ?_)
                      · refine EQ_jgd (show h 431 (-2) = 12 from by rw [k_431 hS]) ?_
                        refine EQ_jgd ⟨(show h 431 (-2) = 12 from by rw [k_431 hS]), (show (200 : Int) ≤ 431 from (by decide))⟩ ?_
                        refine EQ_jl rfl (fun h33 eh33 => ?_)
                        have s27 := Sh_of eh33 (Sh_sto hS (a := 431) (i := 4) (by decide +kernel))
                        clear eh33
                        exact EQ_some s27
                      · refine EQ_if Iff.rfl (fun c28 => ?_) (fun c28 => ?_)
                        · refine EQ_jgd (show h 431 (-2) = 12 from by rw [k_431 hS]) ?_
                          refine EQ_jgd ⟨(show h 431 (-2) = 12 from by rw [k_431 hS]), (show (200 : Int) ≤ 431 from (by decide))⟩ ?_
                          refine EQ_jl rfl (fun h35 eh35 => ?_)
                          have s29 := Sh_of eh35 (Sh_sto hS (a := 431) (i := 3) (by decide +kernel))
                          clear eh35
                          exact EQ_some s29
                        · refine EQ_if Iff.rfl (fun c30 => ?_) (fun c30 => ?_)
                          · refine EQ_jgd (show h 431 (-2) = 12 from by rw [k_431 hS]) ?_
                            refine EQ_jb (eX11_add (h 431 3) 1229782938247303441) (fun v38 r31 => ?_)
                            refine EQ_jgd ⟨(show h 431 (-2) = 12 from by rw [k_431 hS]), (show (200 : Int) ≤ 431 from (by decide))⟩ ?_
                            refine EQ_jl rfl (fun h39 eh39 => ?_)
                            have s32 := Sh_of eh39 (Sh_sto hS (a := 431) (i := 3) (by decide +kernel))
                            clear eh39
                            exact EQ_some s32
                          · refine EQ_if Iff.rfl (fun c33 => ?_) (fun c33 => ?_)
                            · refine EQ_jgd (show h 431 (-2) = 12 from by rw [k_431 hS]) ?_
                              refine EQ_jb (eX11_add (h 431 4) 1229782938247303441) (fun v42 r34 => ?_)
                              refine EQ_jgd ⟨(show h 431 (-2) = 12 from by rw [k_431 hS]), (show (200 : Int) ≤ 431 from (by decide))⟩ ?_
                              refine EQ_jl rfl (fun h43 eh43 => ?_)
                              have s35 := Sh_of eh43 (Sh_sto hS (a := 431) (i := 4) (by decide +kernel))
                              clear eh43
                              exact EQ_some s35
                            · refine EQ_if Iff.rfl (fun c36 => ?_) (fun c36 => ?_)
                              · refine EQ_jgd (show h 431 (-2) = 12 from by rw [k_431 hS]) ?_
                                refine EQ_jgd (show h 431 (-2) = 12 from by rw [k_431 hS]) ?_
                                refine EQ_jb (eX11_add (h 431 3) (h 431 3)) (fun v46 r37 => ?_)
                                refine EQ_jgd ⟨(show h 431 (-2) = 12 from by rw [k_431 hS]), (show (200 : Int) ≤ 431 from (by decide))⟩ ?_
                                refine EQ_jl rfl (fun h47 eh47 => ?_)
                                have s38 := Sh_of eh47 (Sh_sto hS (a := 431) (i := 3) (by decide +kernel))
                                clear eh47
                                exact EQ_some s38
                              · refine EQ_if Iff.rfl (fun c39 => ?_) (fun c39 => ?_)
                                · refine EQ_jgd (show h 431 (-2) = 12 from by rw [k_431 hS]) ?_
                                  refine EQ_jgd ⟨(show h 431 (-2) = 12 from by rw [k_431 hS]), (show (200 : Int) ≤ 431 from (by decide))⟩ ?_
                                  refine EQ_jl rfl (fun h49 eh49 => ?_)
                                  have s40 := Sh_of eh49 (Sh_sto hS (a := 431) (i := 3) (by decide +kernel))
                                  clear eh49
                                  exact EQ_some s40
                                · refine EQ_if Iff.rfl (fun c41 => ?_) (fun c41 => ?_)
                                  · refine EQ_jgd (show h 431 (-2) = 12 from by rw [k_431 hS]) ?_
                                    refine EQ_jgd ⟨(show h 431 (-2) = 12 from by rw [k_431 hS]), (show (200 : Int) ≤ 431 from (by decide))⟩ ?_
                                    refine EQ_jl rfl (fun h51 eh51 => ?_)
                                    have s42 := Sh_of eh51 (Sh_sto hS (a := 431) (i := 3) (by decide +kernel))
                                    clear eh51
                                    refine EQ_jgd ⟨(show h51 431 (-2) = 12 from by rw [k_431 s42]), (show (200 : Int) ≤ 431 from (by decide))⟩ ?_
                                    refine EQ_jl rfl (fun h52 eh52 => ?_)
                                    have s43 := Sh_of eh52 (Sh_sto s42 (a := 431) (i := 4) (by decide +kernel))
                                    clear eh52
                                    exact EQ_some s43
                                  · refine EQ_jgd (show h 431 (-2) = 12 from by rw [k_431 hS]) ?_
                                    refine EQ_jb (eX11_sub 0 (h 431 3)) (fun v55 r44 => ?_)
                                    refine EQ_jgd ⟨(show h 431 (-2) = 12 from by rw [k_431 hS]), (show (200 : Int) ≤ 431 from (by decide))⟩ ?_
                                    refine EQ_jl rfl (fun h56 eh56 => ?_)
                                    have s45 := Sh_of eh56 (Sh_sto hS (a := 431) (i := 3) (by decide +kernel))
                                    clear eh56
                                    exact EQ_some s45
noncomputable def gX11_tryFrom_j105_35 (F : Int → Int → Int → AH → Option (Int × AH)) (a1 : Int) (a2 : Int) (a3 : Int) (a5 : Int) (a7 : Int) (a9 : Int) (h : AH) : Option ((Int × AH) ⊕ ((AH) ⊕ (AH))) := jl (w32 (a9 + 1)) fun x16 => some (.inl (x16, h))
theorem eX11_tryFrom_j105_35 {F0 : Int → Int → Int → Int → AH → Option (Int × AH)} {F : Int → Int → Int → AH → Option (Int × AH)} (hF : ∀ (b_a1 : Int) (b_a2 : Int) (b_a3 : Int), ∀ {b_h : AH}, Sh S b_h → EQ (F0 431 b_a1 b_a2 b_a3 b_h) (F b_a1 b_a2 b_a3 b_h) (fun r => Sh S r.2)) (a1 : Int) (a2 : Int) (a3 : Int) (a5 : Int) (a7 : Int) (a9 : Int) {h : AH} (hS : Sh S h) : EQ (fX11_tryFrom_j105_35 F0 431 a1 a2 a3 a5 a7 a9 h) (gX11_tryFrom_j105_35 F a1 a2 a3 a5 a7 a9 h) (Sum.elim (fun r => Sh S r.2) (Sum.elim (fun r => Sh S r) (fun r => Sh S r))) := by
  unfold fX11_tryFrom_j105_35 gX11_tryFrom_j105_35
  refine EQ_jl rfl (fun x16 ex16 => ?_)
  clear ex16
  exact EQ_some hS
noncomputable def gX11_tryFrom_j83_35 (F : Int → Int → Int → AH → Option (Int × AH)) (a1 : Int) (a2 : Int) (a3 : Int) (a5 : Int) (a7 : Int) (a9 : Int) (h : AH) : Option ((Int × AH) ⊕ ((AH) ⊕ (AH))) := jg (jI a1 5) <| jl (jst h 433 a1 a9) fun h17 => jb2 (F (w32 (a1 + 1)) a2 a3 h17) fun v19 h20 => if v19 = 0 then (gX11_tryFrom_j105_35 F a1 a2 a3 a5 a7 a9 h20) else (some (.inr (.inl h20)))
theorem eX11_tryFrom_j83_35 {F0 : Int → Int → Int → Int → AH → Option (Int × AH)} {F : Int → Int → Int → AH → Option (Int × AH)} (hF : ∀ (b_a1 : Int) (b_a2 : Int) (b_a3 : Int), ∀ {b_h : AH}, Sh S b_h → EQ (F0 431 b_a1 b_a2 b_a3 b_h) (F b_a1 b_a2 b_a3 b_h) (fun r => Sh S r.2)) (a1 : Int) (a2 : Int) (a3 : Int) (a5 : Int) (a7 : Int) (a9 : Int) {h : AH} (hS : Sh S h) : EQ (fX11_tryFrom_j83_35 F0 431 a1 a2 a3 a5 a7 a9 h) (gX11_tryFrom_j83_35 F a1 a2 a3 a5 a7 a9 h) (Sum.elim (fun r => Sh S r.2) (Sum.elim (fun r => Sh S r) (fun r => Sh S r))) := by
  unfold fX11_tryFrom_j83_35 gX11_tryFrom_j83_35
  refine EQ_jgd (show h 431 (-2) = 12 from by rw [k_431 hS]) ?_
  refine EQ_jg ⟨fun ⟨_, _, x0⟩ => (show jI a1 (h (h 431 2) (-1)) ↔ jI a1 5 from by rw [r_431_2 hS, l_433 hS]).mp x0, fun x0 => ⟨(show h (h 431 2) (-2) = 101 from by rw [r_431_2 hS, k_433 hS]), (show 200 ≤ h 431 2 from by rw [r_431_2 hS]; exact (by decide)), (show jI a1 (h (h 431 2) (-1)) ↔ jI a1 5 from by rw [r_431_2 hS, l_433 hS]).mpr x0⟩⟩ (fun g1 => ?_)
  refine EQ_jl (by rw [r_431_2 hS]) (fun h17 eh17 => ?_)
  have s2 := Sh_of eh17 (Sh_sta hS (by decide +kernel) (jI_nn g1) (fun e => absurd ((k_433 hS).symm.trans e) (by decide)))
  clear eh17
  refine EQ_jgd (show h17 431 (-2) = 12 from by rw [k_431 s2]) ?_
  refine EQ_jb2 (hF (w32 (a1 + 1)) a2 a3 s2) (fun v19 h20 r3 => ?_)
  replace r3 : Sh S h20 := r3
  refine EQ_if Iff.rfl (fun c4 => ?_) (fun c4 => ?_)
  · exact (eX11_tryFrom_j105_35 hF a1 a2 a3 a5 a7 a9 r3)
  · exact EQ_some r3
noncomputable def gX11_tryFrom_b35 (F : Int → Int → Int → AH → Option (Int × AH)) (i1 : Int) (i2 : Int) (i3 : Int) (i5 : Int) (i7 : Int) (s : Int × AH) : Option ((Int × AH) ⊕ ((AH) ⊕ (AH))) := jt2 s fun a9 h => if 18 ≤ a9 then (some (.inr (.inr h))) else (jl (jst h 431 3 i5) fun h10 => jl (jst h10 431 4 i7) fun h11 => jb (gX11_act a9 h11) fun h13 => if jcmp (h13 431 3) i5 = 0 then (if jcmp (h13 431 4) i7 = 0 then (gX11_tryFrom_j105_35 F i1 i2 i3 i5 i7 a9 h13) else (gX11_tryFrom_j83_35 F i1 i2 i3 i5 i7 a9 h13)) else (gX11_tryFrom_j83_35 F i1 i2 i3 i5 i7 a9 h13))
theorem eX11_tryFrom_b35 {F0 : Int → Int → Int → Int → AH → Option (Int × AH)} {F : Int → Int → Int → AH → Option (Int × AH)} (hF : ∀ (b_a1 : Int) (b_a2 : Int) (b_a3 : Int), ∀ {b_h : AH}, Sh S b_h → EQ (F0 431 b_a1 b_a2 b_a3 b_h) (F b_a1 b_a2 b_a3 b_h) (fun r => Sh S r.2)) (i1 : Int) (i2 : Int) (i3 : Int) (i5 : Int) (i7 : Int) {s : Int × AH} (hS : (fun r => Sh S r.2) s) : EQ (fX11_tryFrom_b35 F0 431 i1 i2 i3 i5 i7 s) (gX11_tryFrom_b35 F i1 i2 i3 i5 i7 s) (Sum.elim (fun r => Sh S r.2) (Sum.elim (fun r => Sh S r) (fun r => Sh S r))) := by
  unfold fX11_tryFrom_b35 gX11_tryFrom_b35
  obtain ⟨a9, h⟩ := s
  refine EQ_jt2 ?_
  replace hS : Sh S h := hS
  refine EQ_if Iff.rfl (fun c1 => ?_) (fun c1 => ?_)
  · exact EQ_some hS
  · refine EQ_jgd ⟨(show h 431 (-2) = 12 from by rw [k_431 hS]), (show (200 : Int) ≤ 431 from (by decide))⟩ ?_
    refine EQ_jl rfl (fun h10 eh10 => ?_)
    have s2 := Sh_of eh10 (Sh_sto hS (a := 431) (i := 3) (by decide +kernel))
    clear eh10
    refine EQ_jgd ⟨(show h10 431 (-2) = 12 from by rw [k_431 s2]), (show (200 : Int) ≤ 431 from (by decide))⟩ ?_
    refine EQ_jl rfl (fun h11 eh11 => ?_)
    have s3 := Sh_of eh11 (Sh_sto s2 (a := 431) (i := 4) (by decide +kernel))
    clear eh11
    refine EQ_jgd (show h11 431 (-2) = 12 from by rw [k_431 s3]) ?_
    refine EQ_jb (eX11_act a9 s3) (fun h13 r4 => ?_)
    refine EQ_jgd (show h13 431 (-2) = 12 from by rw [k_431 r4]) ?_
    refine EQ_if Iff.rfl (fun c5 => ?_) (fun c5 => ?_)
    · refine EQ_jgd (show h13 431 (-2) = 12 from by rw [k_431 r4]) ?_
      refine EQ_if Iff.rfl (fun c6 => ?_) (fun c6 => ?_)
      · exact (eX11_tryFrom_j105_35 hF i1 i2 i3 i5 i7 a9 r4)
      · exact (eX11_tryFrom_j83_35 hF i1 i2 i3 i5 i7 a9 r4)
    · exact (eX11_tryFrom_j83_35 hF i1 i2 i3 i5 i7 a9 r4)
noncomputable def gX11_tryFrom_l35 (F : Int → Int → Int → AH → Option (Int × AH)) (i1 : Int) (i2 : Int) (i3 : Int) (i5 : Int) (i7 : Int) (a9 : Int) (h : AH) : Option ((AH) ⊕ (AH)) := jit (gX11_tryFrom_b35 F i1 i2 i3 i5 i7) (a9, h)
theorem eX11_tryFrom_l35 {F0 : Int → Int → Int → Int → AH → Option (Int × AH)} {F : Int → Int → Int → AH → Option (Int × AH)} (hF : ∀ (b_a1 : Int) (b_a2 : Int) (b_a3 : Int), ∀ {b_h : AH}, Sh S b_h → EQ (F0 431 b_a1 b_a2 b_a3 b_h) (F b_a1 b_a2 b_a3 b_h) (fun r => Sh S r.2)) (i1 : Int) (i2 : Int) (i3 : Int) (i5 : Int) (i7 : Int) (a9 : Int) {h : AH} (hS : Sh S h) : EQ (fX11_tryFrom_l35 F0 431 i1 i2 i3 i5 i7 a9 h) (gX11_tryFrom_l35 F i1 i2 i3 i5 i7 a9 h) (Sum.elim (fun r => Sh S r) (fun r => Sh S r)) := EQ_jit (I := (fun r => Sh S r.2)) (fun s hs => eX11_tryFrom_b35 hF i1 i2 i3 i5 i7 hs) hS
noncomputable def gX11_tryFrom_ (F : Int → Int → Int → AH → Option (Int × AH)) (a1 : Int) (a2 : Int) (a3 : Int) (h : AH) : Option (Int × AH) := if a1 = a2 then (if jcmp (h 431 3) a3 = 0 then (some (1, h)) else (some (0, h))) else (jl (h 431 3) fun x3 => jl (h 431 4) fun x4 => jb (gX11_tryFrom_l35 F a1 a2 a3 x3 x4 0 h) fun o5 => jm o5 (fun o7 => some (1, o7)) (fun o8 => some (0, o8)))
theorem eX11_tryFrom_ {F0 : Int → Int → Int → Int → AH → Option (Int × AH)} {F : Int → Int → Int → AH → Option (Int × AH)} (hF : ∀ (b_a1 : Int) (b_a2 : Int) (b_a3 : Int), ∀ {b_h : AH}, Sh S b_h → EQ (F0 431 b_a1 b_a2 b_a3 b_h) (F b_a1 b_a2 b_a3 b_h) (fun r => Sh S r.2)) (a1 : Int) (a2 : Int) (a3 : Int) {h : AH} (hS : Sh S h) : EQ (fX11_tryFrom_ F0 431 a1 a2 a3 h) (gX11_tryFrom_ F a1 a2 a3 h) (fun r => Sh S r.2) := by
  unfold fX11_tryFrom_ gX11_tryFrom_
  refine EQ_if Iff.rfl (fun c1 => ?_) (fun c1 => ?_)
  · refine EQ_jgd (show h 431 (-2) = 12 from by rw [k_431 hS]) ?_
    refine EQ_if Iff.rfl (fun c2 => ?_) (fun c2 => ?_)
    · exact EQ_some hS
    · exact EQ_some hS
  · refine EQ_jgd (show h 431 (-2) = 12 from by rw [k_431 hS]) ?_
    refine EQ_jl rfl (fun x3 ex3 => ?_)
    clear ex3
    refine EQ_jgd (show h 431 (-2) = 12 from by rw [k_431 hS]) ?_
    refine EQ_jl rfl (fun x4 ex4 => ?_)
    clear ex4
    refine EQ_jb (eX11_tryFrom_l35 hF a1 a2 a3 x3 x4 0 hS) (fun o5 r3 => ?_)
    refine EQ_jm r3 (fun o7 r4 => ?_) (fun o8 r5 => ?_)
    · exact EQ_some r4
    · exact EQ_some r5
noncomputable def gX11_tryFromD : Nat → Int → Int → Int → AH → Option (Int × AH)
  | 0 => fun _ _ _ _ => none
  | d + 1 => gX11_tryFrom_ (gX11_tryFromD d)
theorem eX11_tryFromD : ∀ (d : Nat) (a1 : Int) (a2 : Int) (a3 : Int) {h : AH} (hS : Sh S h) , EQ (fX11_tryFromD d 431 a1 a2 a3 h) (gX11_tryFromD d a1 a2 a3 h) (fun r => Sh S r.2) := by
  intro d
  induction d with
  | zero => intro a1 a2 a3 h hS; exact EQ_none
  | succ d ih => intro a1 a2 a3 h hS; exact eX11_tryFrom_ ih a1 a2 a3 hS
noncomputable def gX11_tryFrom : Int → Int → Int → AH → Option (Int × AH) := gX11_tryFromD 40
theorem eX11_tryFrom (a1 : Int) (a2 : Int) (a3 : Int) {h : AH} (hS : Sh S h) : EQ (fX11_tryFrom 431 a1 a2 a3 h) (gX11_tryFrom a1 a2 a3 h) (fun r => Sh S r.2) := eX11_tryFromD 40 a1 a2 a3 hS
noncomputable def gX11_shortest_b3 (i1 : Int) (i3 : Int) (s : Int × AH) : Option ((Int × AH) ⊕ ((Int × AH) ⊕ (AH))) := jt2 s fun a4 h => if i3 < a4 then (some (.inr (.inr h))) else (jl (jst h 431 3 (-81985529216486896)) fun h11 => jl (jst h11 431 4 0) fun h12 => jb2 (gX11_tryFrom 0 a4 i1 h12) fun v14 h15 => if v14 = 0 then (jl (w32 (a4 + 1)) fun x17 => some (.inl (x17, h15))) else (some (.inr (.inl (a4, h15)))))
theorem eX11_shortest_b3 (i1 : Int) (i3 : Int) {s : Int × AH} (hS : (fun r => Sh S r.2) s) : EQ (fX11_shortest_b3 431 i1 i3 s) (gX11_shortest_b3 i1 i3 s) (Sum.elim (fun r => Sh S r.2) (Sum.elim (fun r => Sh S r.2) (fun r => Sh S r))) := by
  unfold fX11_shortest_b3 gX11_shortest_b3
  obtain ⟨a4, h⟩ := s
  refine EQ_jt2 ?_
  replace hS : Sh S h := hS
  refine EQ_if Iff.rfl (fun c1 => ?_) (fun c1 => ?_)
  · exact EQ_some hS
  · refine EQ_jgd ⟨(show h 431 (-2) = 12 from by rw [k_431 hS]), (show (200 : Int) ≤ 431 from (by decide))⟩ ?_
    refine EQ_jl rfl (fun h11 eh11 => ?_)
    have s2 := Sh_of eh11 (Sh_sto hS (a := 431) (i := 3) (by decide +kernel))
    clear eh11
    refine EQ_jgd ⟨(show h11 431 (-2) = 12 from by rw [k_431 s2]), (show (200 : Int) ≤ 431 from (by decide))⟩ ?_
    refine EQ_jl rfl (fun h12 eh12 => ?_)
    have s3 := Sh_of eh12 (Sh_sto s2 (a := 431) (i := 4) (by decide +kernel))
    clear eh12
    refine EQ_jgd (show h12 431 (-2) = 12 from by rw [k_431 s3]) ?_
    refine EQ_jb2 (eX11_tryFrom 0 a4 i1 s3) (fun v14 h15 r4 => ?_)
    replace r4 : Sh S h15 := r4
    refine EQ_if Iff.rfl (fun c5 => ?_) (fun c5 => ?_)
    · refine EQ_jl rfl (fun x17 ex17 => ?_)
      clear ex17
      exact EQ_some r4
    · exact EQ_some r4
noncomputable def gX11_shortest_l3 (i1 : Int) (i3 : Int) (a4 : Int) (h : AH) : Option ((Int × AH) ⊕ (AH)) := jit (gX11_shortest_b3 i1 i3) (a4, h)
theorem eX11_shortest_l3 (i1 : Int) (i3 : Int) (a4 : Int) {h : AH} (hS : Sh S h) : EQ (fX11_shortest_l3 431 i1 i3 a4 h) (gX11_shortest_l3 i1 i3 a4 h) (Sum.elim (fun r => Sh S r.2) (fun r => Sh S r)) := EQ_jit (I := (fun r => Sh S r.2)) (fun s hs => eX11_shortest_b3 i1 i3 hs) hS
noncomputable def gX11_shortest_b44 (i4 : Int) (s : Int × AH) : Option ((Int × AH) ⊕ (AH)) := jt2 s fun a5 h => if i4 ≤ a5 then (some (.inr h)) else (jg (jI a5 5) <| jl (jst h 432 a5 (h 433 a5)) fun h19 => jl (w32 (a5 + 1)) fun x20 => some (.inl (x20, h19)))
theorem eX11_shortest_b44 (i4 : Int) {s : Int × AH} (hS : (fun r => Sh S r.2) s) : EQ (fX11_shortest_b44 431 i4 s) (gX11_shortest_b44 i4 s) (Sum.elim (fun r => Sh S r.2) (fun r => Sh S r)) := by
  unfold fX11_shortest_b44 gX11_shortest_b44
  obtain ⟨a5, h⟩ := s
  refine EQ_jt2 ?_
  replace hS : Sh S h := hS
  refine EQ_if Iff.rfl (fun c1 => ?_) (fun c1 => ?_)
  · exact EQ_some hS
  · refine EQ_jgd (show h 431 (-2) = 12 from by rw [k_431 hS]) ?_
    refine EQ_jgd (show h 431 (-2) = 12 from by rw [k_431 hS]) ?_
    refine EQ_jg ⟨fun ⟨_, x0⟩ => (show jI a5 (h (h 431 2) (-1)) ↔ jI a5 5 from by rw [r_431_2 hS, l_433 hS]).mp x0, fun x0 => ⟨(show h (h 431 2) (-2) = 101 from by rw [r_431_2 hS, k_433 hS]), (show jI a5 (h (h 431 2) (-1)) ↔ jI a5 5 from by rw [r_431_2 hS, l_433 hS]).mpr x0⟩⟩ (fun g2 => ?_)
    refine EQ_jgd ⟨(show h (h 431 1) (-2) = 101 from by rw [r_431_1 hS, k_432 hS]), (show 200 ≤ h 431 1 from by rw [r_431_1 hS]; exact (by decide)), ((show jI a5 (h (h 431 1) (-1)) ↔ jI a5 5 from by rw [r_431_1 hS, l_432 hS]).mpr g2)⟩ ?_
    refine EQ_jl (by rw [r_431_1 hS, r_431_2 hS]) (fun h19 eh19 => ?_)
    have s3 := Sh_of eh19 (Sh_sta hS (by decide +kernel) (jI_nn g2) (fun e => absurd ((k_432 hS).symm.trans e) (by decide)))
    clear eh19
    refine EQ_jl rfl (fun x20 ex20 => ?_)
    clear ex20
    exact EQ_some s3
noncomputable def gX11_shortest_l44 (i4 : Int) (a5 : Int) (h : AH) : Option (AH) := jit (gX11_shortest_b44 i4) (a5, h)
theorem eX11_shortest_l44 (i4 : Int) (a5 : Int) {h : AH} (hS : Sh S h) : EQ (fX11_shortest_l44 431 i4 a5 h) (gX11_shortest_l44 i4 a5 h) (fun r => Sh S r) := EQ_jit (I := (fun r => Sh S r.2)) (fun s hs => eX11_shortest_b44 i4 hs) hS
noncomputable def gX11_shortest (a1 : Int) (a3 : Int) (h : AH) : Option (Int × AH) := jb (gX11_shortest_l3 a1 a3 0 h) fun o1 => jm o1 (fun o3 => jt2 o3 fun y5 h6 => jl (jst h6 431 0 y5) fun h7 => jb (gX11_shortest_l44 y5 0 h7) fun o8 => some (y5, o8)) (fun o4 => some (100, o4))
theorem eX11_shortest (a1 : Int) (a3 : Int) {h : AH} (hS : Sh S h) : EQ (fX11_shortest 431 a1 a3 h) (gX11_shortest a1 a3 h) (fun r => Sh S r.2) := by
  unfold fX11_shortest gX11_shortest
  refine EQ_jb (eX11_shortest_l3 a1 a3 0 hS) (fun o1 r1 => ?_)
  refine EQ_jm r1 (fun o3 r2 => ?_) (fun o4 r3 => ?_)
  · obtain ⟨y5, h6⟩ := o3
    refine EQ_jt2 ?_
    replace r2 : Sh S h6 := r2
    refine EQ_jgd ⟨(show h6 431 (-2) = 12 from by rw [k_431 r2]), (show (200 : Int) ≤ 431 from (by decide))⟩ ?_
    refine EQ_jl rfl (fun h7 eh7 => ?_)
    have s4 := Sh_of eh7 (Sh_sto r2 (a := 431) (i := 0) (by decide +kernel))
    clear eh7
    refine EQ_jb (eX11_shortest_l44 y5 0 s4) (fun o8 r5 => ?_)
    exact EQ_some r5
  · exact EQ_some r3
noncomputable def gX1_shortest (a1 : Int) (a3 : Int) (h : AH) : Option (Int × AH) := if h 200 53 = 0 then (jb (gX1_isIn a3 0 5) fun v3 => if v3 = 0 then (some ((-1), h)) else (jb2 (gX11_shortest a1 a3 h) fun v6 h7 => some (v6, h7))) else (some ((-5), h))
theorem eX1_shortest (a1 : Int) (a3 : Int) {h : AH} (hS : Sh S h) : EQ (fX1_shortest 200 a1 a3 h) (gX1_shortest a1 a3 h) (fun r => Sh S r.2) := by
  unfold fX1_shortest gX1_shortest
  refine EQ_jgd (show h 200 (-2) = 2 from by rw [k_200 hS]) ?_
  refine EQ_if Iff.rfl (fun c1 => ?_) (fun c1 => ?_)
  · refine EQ_jb (eX1_isIn a3 0 5) (fun v3 r2 => ?_)
    refine EQ_if Iff.rfl (fun c3 => ?_) (fun c3 => ?_)
    · exact EQ_some hS
    · refine EQ_jgd (show h 200 (-2) = 2 from by rw [k_200 hS]) ?_
      refine EQ_jgd (show h (h 200 51) (-2) = 12 from by rw [r_200_51 hS, k_431 hS]) ?_
      refine EQ_jb2 (by rw [r_200_51 hS]; exact eX11_shortest a1 a3 hS) (fun v6 h7 r4 => ?_)
      replace r4 : Sh S h7 := r4
      exact EQ_some r4
  · exact EQ_some hS
noncomputable def gX1_step (a1 : Int) (h : AH) : Option (Int) := jb (gX1_isIn a1 0 (w32 (h 431 0 - 1))) fun v2 => if v2 = 0 then (some (-1)) else (jg (jI a1 5) <| some (h 432 a1))
theorem eX1_step (a1 : Int) {h : AH} (hS : Sh S h) : EQ (fX1_step 200 a1 h) (gX1_step a1 h) (fun _ => True) := by
  unfold fX1_step gX1_step
  refine EQ_jgd (show h 200 (-2) = 2 from by rw [k_200 hS]) ?_
  refine EQ_jgd (show h (h 200 51) (-2) = 12 from by rw [r_200_51 hS, k_431 hS]) ?_
  refine EQ_jb (by rw [r_200_51 hS]; exact eX1_isIn a1 0 (w32 (h 431 0 - 1))) (fun v2 r1 => ?_)
  refine EQ_if Iff.rfl (fun c2 => ?_) (fun c2 => ?_)
  · exact EQ_some trivial
  · refine EQ_jgd (show h 200 (-2) = 2 from by rw [k_200 hS]) ?_
    refine EQ_jgd (show h (h 200 51) (-2) = 12 from by rw [r_200_51 hS, k_431 hS]) ?_
    refine EQ_jg ⟨fun ⟨_, x0⟩ => (show jI a1 (h (h (h 200 51) 1) (-1)) ↔ jI a1 5 from by rw [r_200_51 hS, r_431_1 hS, l_432 hS]).mp x0, fun x0 => ⟨(show h (h (h 200 51) 1) (-2) = 101 from by rw [r_200_51 hS, r_431_1 hS, k_432 hS]), (show jI a1 (h (h (h 200 51) 1) (-1)) ↔ jI a1 5 from by rw [r_200_51 hS, r_431_1 hS, l_432 hS]).mpr x0⟩⟩ (fun g3 => ?_)
    exact EQ_some' (by rw [r_200_51 hS, r_431_1 hS]) trivial
noncomputable def gX11_goal_b15 (i1 : Int) (i3 : Int) (s : Int × AH) : Option ((Int × AH) ⊕ ((AH) ⊕ (AH))) := jt2 s fun a4 h => if i3 ≤ a4 then (some (.inr (.inr h))) else (jl (w32 (jandL (jshrL i1 (w32 (5 * a4))) 31)) fun x8 => if x8 < 18 then (jb (gX11_act x8 h) fun h11 => jl (w32 (a4 + 1)) fun x12 => some (.inl (x12, h11))) else (some (.inr (.inl h))))
theorem eX11_goal_b15 (i1 : Int) (i3 : Int) {s : Int × AH} (hS : (fun r => Sh S r.2) s) : EQ (fX11_goal_b15 431 i1 i3 s) (gX11_goal_b15 i1 i3 s) (Sum.elim (fun r => Sh S r.2) (Sum.elim (fun r => Sh S r) (fun r => Sh S r))) := by
  unfold fX11_goal_b15 gX11_goal_b15
  obtain ⟨a4, h⟩ := s
  refine EQ_jt2 ?_
  replace hS : Sh S h := hS
  refine EQ_if Iff.rfl (fun c1 => ?_) (fun c1 => ?_)
  · exact EQ_some hS
  · refine EQ_jl rfl (fun x8 ex8 => ?_)
    clear ex8
    refine EQ_if Iff.rfl (fun c2 => ?_) (fun c2 => ?_)
    · refine EQ_jgd (show h 431 (-2) = 12 from by rw [k_431 hS]) ?_
      refine EQ_jb (eX11_act x8 hS) (fun h11 r3 => ?_)
      refine EQ_jl rfl (fun x12 ex12 => ?_)
      clear ex12
      exact EQ_some r3
    · exact EQ_some hS
noncomputable def gX11_goal_l15 (i1 : Int) (i3 : Int) (a4 : Int) (h : AH) : Option ((AH) ⊕ (AH)) := jit (gX11_goal_b15 i1 i3) (a4, h)
theorem eX11_goal_l15 (i1 : Int) (i3 : Int) (a4 : Int) {h : AH} (hS : Sh S h) : EQ (fX11_goal_l15 431 i1 i3 a4 h) (gX11_goal_l15 i1 i3 a4 h) (Sum.elim (fun r => Sh S r) (fun r => Sh S r)) := EQ_jit (I := (fun r => Sh S r.2)) (fun s hs => eX11_goal_b15 i1 i3 hs) hS
noncomputable def gX11_goal (a1 : Int) (a3 : Int) (h : AH) : Option (Int × AH) := jl (jst h 431 3 (-81985529216486896)) fun h1 => jl (jst h1 431 4 0) fun h2 => jb (gX11_goal_l15 a1 a3 0 h2) fun o3 => jm o3 (fun o5 => some (0, o5)) (fun o6 => some (o6 431 3, o6))
theorem eX11_goal (a1 : Int) (a3 : Int) {h : AH} (hS : Sh S h) : EQ (fX11_goal 431 a1 a3 h) (gX11_goal a1 a3 h) (fun r => Sh S r.2) := by
  unfold fX11_goal gX11_goal
  refine EQ_jgd ⟨(show h 431 (-2) = 12 from by rw [k_431 hS]), (show (200 : Int) ≤ 431 from (by decide))⟩ ?_
  refine EQ_jl rfl (fun h1 eh1 => ?_)
  have s1 := Sh_of eh1 (Sh_sto hS (a := 431) (i := 3) (by decide +kernel))
  clear eh1
  refine EQ_jgd ⟨(show h1 431 (-2) = 12 from by rw [k_431 s1]), (show (200 : Int) ≤ 431 from (by decide))⟩ ?_
  refine EQ_jl rfl (fun h2 eh2 => ?_)
  have s2 := Sh_of eh2 (Sh_sto s1 (a := 431) (i := 4) (by decide +kernel))
  clear eh2
  refine EQ_jb (eX11_goal_l15 a1 a3 0 s2) (fun o3 r3 => ?_)
  refine EQ_jm r3 (fun o5 r4 => ?_) (fun o6 r5 => ?_)
  · exact EQ_some r4
  · refine EQ_jgd (show o6 431 (-2) = 12 from by rw [k_431 r5]) ?_
    exact EQ_some r5
noncomputable def gX1_goal (a1 : Int) (a3 : Int) (h : AH) : Option (Int × AH) := jb (gX1_isIn a3 0 8) fun v2 => if v2 = 0 then (some (0, h)) else (jb2 (gX11_goal a1 a3 h) fun v5 h6 => some (v5, h6))
theorem eX1_goal (a1 : Int) (a3 : Int) {h : AH} (hS : Sh S h) : EQ (fX1_goal 200 a1 a3 h) (gX1_goal a1 a3 h) (fun r => Sh S r.2) := by
  unfold fX1_goal gX1_goal
  refine EQ_jb (eX1_isIn a3 0 8) (fun v2 r1 => ?_)
  refine EQ_if Iff.rfl (fun c2 => ?_) (fun c2 => ?_)
  · exact EQ_some hS
  · refine EQ_jgd (show h 200 (-2) = 2 from by rw [k_200 hS]) ?_
    refine EQ_jgd (show h (h 200 51) (-2) = 12 from by rw [r_200_51 hS, k_431 hS]) ?_
    refine EQ_jb2 (by rw [r_200_51 hS]; exact eX11_goal a1 a3 hS) (fun v5 h6 r3 => ?_)
    replace r3 : Sh S h6 := r3
    exact EQ_some r3
noncomputable def gX12_sum_b5 (i1 : Int) (i2 : Int) (h : AH) (s : Int × Int) : Option ((Int × Int) ⊕ (Int)) := jt2 s fun a3 a4 => if 124 ≤ a4 then (some (.inr a3)) else (jg (h i1 (-2) = 103 ∧ jI (w32 (i2 + a4)) (h i1 (-1))) <| jb (fJ13_rotateLeft (jxor a3 (jand (h i1 (w32 (i2 + a4))) 255)) 5) fun v5 => jl (w32 (v5 * (-1640531535))) fun x6 => jl (w32 (a4 + 1)) fun x7 => some (.inl (x6, x7)))
theorem eX12_sum_b5 (i1 : Int) (i2 : Int) (s : Int × Int) {h : AH} (hS : Sh S h) : EQ (fX12_sum_b5 i1 i2 h s) (gX12_sum_b5 i1 i2 h s) (Sum.elim (fun _ => True) (fun _ => True)) := by
  unfold fX12_sum_b5 gX12_sum_b5
  obtain ⟨a3, a4⟩ := s
  refine EQ_jt2 ?_
  refine EQ_if Iff.rfl (fun c1 => ?_) (fun c1 => ?_)
  · exact EQ_some trivial
  · refine EQ_jg Iff.rfl (fun g2 => ?_)
    refine EQ_jb (EQ_refl) (fun v5 r3 => ?_)
    refine EQ_jl rfl (fun x6 ex6 => ?_)
    clear ex6
    refine EQ_jl rfl (fun x7 ex7 => ?_)
    clear ex7
    exact EQ_some trivial
noncomputable def gX12_sum_l5 (i1 : Int) (i2 : Int) (a3 : Int) (a4 : Int) (h : AH) : Option (Int) := jit (gX12_sum_b5 i1 i2 h) (a3, a4)
theorem eX12_sum_l5 (i1 : Int) (i2 : Int) (a3 : Int) (a4 : Int) {h : AH} (hS : Sh S h) : EQ (fX12_sum_l5 i1 i2 a3 a4 h) (gX12_sum_l5 i1 i2 a3 a4 h) (fun _ => True) := EQ_jit (I := (fun _ => True)) (fun s _ => eX12_sum_b5 i1 i2 s hS) trivial
noncomputable def gX12_sum (a1 : Int) (a2 : Int) (h : AH) : Option (Int) := jb (gX12_sum_l5 a1 a2 0 0 h) fun o1 => some o1
theorem eX12_sum (a1 : Int) (a2 : Int) {h : AH} (hS : Sh S h) : EQ (fX12_sum 434 a1 a2 h) (gX12_sum a1 a2 h) (fun _ => True) := by
  unfold fX12_sum gX12_sum
  refine EQ_jb (eX12_sum_l5 a1 a2 0 0 hS) (fun o1 r1 => ?_)
  exact EQ_some trivial
noncomputable def gX12_write_j235_11 (a1 : Int) (a2 : Int) (h : AH) : Option ((Int × AH) ⊕ ((Int × AH) ⊕ (AH))) := jl (w32 (a2 + 1)) fun x33 => some (.inl (x33, h))
theorem eX12_write_j235_11 (a1 : Int) (a2 : Int) {h : AH} (hS : Sh S h) : EQ (fX12_write_j235_11 434 a1 a2 h) (gX12_write_j235_11 a1 a2 h) (Sum.elim (fun r => Sh S r.2) (Sum.elim (fun r => Sh S r.2) (fun r => Sh S r))) := by
  unfold fX12_write_j235_11 gX12_write_j235_11
  refine EQ_jl rfl (fun x33 ex33 => ?_)
  clear ex33
  exact EQ_some hS
noncomputable def gX12_write_j194_11 (a1 : Int) (a2 : Int) (a3 : Int) (a6 : Int) (t1 : Int) (t3 : Int) (t4 : Int) (h : AH) : Option ((Int × AH) ⊕ ((Int × AH) ⊕ (AH))) := jg ((0 : Int) ≤ t1 ∧ (0 : Int) ≤ t3 ∧ (0 : Int) ≤ t4 ∧ t1 + t4 ≤ 128 ∧ t3 + t4 ≤ 25728) <| jl (jcpy h 437 t1 435 t3 t4) fun h29 => if a6 = 0 then (if h29 434 8 ≤ 0 then (gX12_write_j235_11 a1 a2 h29) else (jl (jst h29 434 8 (w32 (h29 434 8 - 1))) fun h32 => gX12_write_j235_11 a1 a2 h32)) else (some (.inr (.inl (a3, h29))))
theorem eX12_write_j194_11 (a1 : Int) (a2 : Int) (a3 : Int) (a6 : Int) (t1 : Int) (t3 : Int) (t4 : Int) {h : AH} (hS : Sh S h) : EQ (fX12_write_j194_11 434 a1 a2 a3 a6 437 t1 435 t3 t4 h) (gX12_write_j194_11 a1 a2 a3 a6 t1 t3 t4 h) (Sum.elim (fun r => Sh S r.2) (Sum.elim (fun r => Sh S r.2) (fun r => Sh S r))) := by
  unfold fX12_write_j194_11 gX12_write_j194_11
  refine EQ_jg ⟨fun x0 => (show jcpG h 103 437 t1 435 t3 t4 ↔ (0 : Int) ≤ t1 ∧ (0 : Int) ≤ t3 ∧ (0 : Int) ≤ t4 ∧ t1 + t4 ≤ 128 ∧ t3 + t4 ≤ 25728 from cpg (by rw [k_437 hS]) (by rw [k_435 hS]) ((by decide)) ((by decide)) (l_437 hS) (l_435 hS)).mp x0, fun x0 => (show jcpG h 103 437 t1 435 t3 t4 ↔ (0 : Int) ≤ t1 ∧ (0 : Int) ≤ t3 ∧ (0 : Int) ≤ t4 ∧ t1 + t4 ≤ 128 ∧ t3 + t4 ≤ 25728 from cpg (by rw [k_437 hS]) (by rw [k_435 hS]) ((by decide)) ((by decide)) (l_437 hS) (l_435 hS)).mpr x0⟩ (fun g1 => ?_)
  refine EQ_jl rfl (fun h29 eh29 => ?_)
  have s2 := Sh_of eh29 (Sh_cpy hS (by decide +kernel) (g1.2.1) (fun _ => ⟨k_437 hS, g1.1⟩))
  clear eh29
  refine EQ_if Iff.rfl (fun c3 => ?_) (fun c3 => ?_)
  · refine EQ_jgd (show h29 434 (-2) = 13 from by rw [k_434 s2]) ?_
    refine EQ_if Iff.rfl (fun c4 => ?_) (fun c4 => ?_)
    · exact (eX12_write_j235_11 a1 a2 s2)
    · refine EQ_jgd (show h29 434 (-2) = 13 from by rw [k_434 s2]) ?_
      refine EQ_jgd ⟨(show h29 434 (-2) = 13 from by rw [k_434 s2]), (show (200 : Int) ≤ 434 from (by decide))⟩ ?_
      refine EQ_jl rfl (fun h32 eh32 => ?_)
      have s5 := Sh_of eh32 (Sh_sto s2 (a := 434) (i := 8) (by decide +kernel))
      clear eh32
      exact (eX12_write_j235_11 a1 a2 s5)
  · exact EQ_some s2
noncomputable def gX12_write_j163_11 (a1 : Int) (a2 : Int) (a3 : Int) (t0 : Int) (h : AH) : Option ((Int × AH) ⊕ ((Int × AH) ⊕ (AH))) := if t0 = 0 then (gX12_write_j194_11 a1 a2 a3 t0 0 (w32 (a3 * 128)) 128 h) else (gX12_write_j194_11 a1 a2 a3 t0 0 (w32 (a3 * 128)) (h 434 9) h)
theorem eX12_write_j163_11 (a1 : Int) (a2 : Int) (a3 : Int) (t0 : Int) {h : AH} (hS : Sh S h) : EQ (fX12_write_j163_11 434 a1 a2 a3 t0 h) (gX12_write_j163_11 a1 a2 a3 t0 h) (Sum.elim (fun r => Sh S r.2) (Sum.elim (fun r => Sh S r.2) (fun r => Sh S r))) := by
  unfold fX12_write_j163_11 gX12_write_j163_11
  refine EQ_jgd (show h 434 (-2) = 13 from by rw [k_434 hS]) ?_
  refine EQ_jgd (show h 434 (-2) = 13 from by rw [k_434 hS]) ?_
  refine EQ_if Iff.rfl (fun c1 => ?_) (fun c1 => ?_)
  · exact (by rw [r_434_2 hS, r_434_0 hS]; exact eX12_write_j194_11 a1 a2 a3 t0 0 (w32 (a3 * 128)) 128 hS)
  · refine EQ_jgd (show h 434 (-2) = 13 from by rw [k_434 hS]) ?_
    exact (by rw [r_434_2 hS, r_434_0 hS]; exact eX12_write_j194_11 a1 a2 a3 t0 0 (w32 (a3 * 128)) (h 434 9) hS)
noncomputable def gX12_write_b117 (i1 : Int) (i2 : Int) (i3 : Int) (i5 : Int) (s : Int × AH) : Option ((Int × AH) ⊕ (AH)) := jt2 s fun a6 h => if 4 ≤ a6 then (some (.inr h)) else (jg (jI (w32 (124 + a6)) 128) <| jl (jst h 437 (w32 (124 + a6)) (ji2b (ji2b (jshr i5 (w32 (24 - w32 (8 * a6))))))) fun h35 => jl (w32 (a6 + 1)) fun x36 => some (.inl (x36, h35)))
theorem eX12_write_b117 (i1 : Int) (i2 : Int) (i3 : Int) (i5 : Int) {s : Int × AH} (hS : (fun r => Sh S r.2) s) : EQ (fX12_write_b117 434 i1 i2 i3 i5 s) (gX12_write_b117 i1 i2 i3 i5 s) (Sum.elim (fun r => Sh S r.2) (fun r => Sh S r)) := by
  unfold fX12_write_b117 gX12_write_b117
  obtain ⟨a6, h⟩ := s
  refine EQ_jt2 ?_
  replace hS : Sh S h := hS
  refine EQ_if Iff.rfl (fun c1 => ?_) (fun c1 => ?_)
  · exact EQ_some hS
  · refine EQ_jgd (show h 434 (-2) = 13 from by rw [k_434 hS]) ?_
    refine EQ_jg ⟨fun ⟨_, _, x0⟩ => (show jI (w32 (124 + a6)) (h (h 434 2) (-1)) ↔ jI (w32 (124 + a6)) 128 from by rw [r_434_2 hS, l_437 hS]).mp x0, fun x0 => ⟨(show h (h 434 2) (-2) = 103 from by rw [r_434_2 hS, k_437 hS]), (show 200 ≤ h 434 2 from by rw [r_434_2 hS]; exact (by decide)), (show jI (w32 (124 + a6)) (h (h 434 2) (-1)) ↔ jI (w32 (124 + a6)) 128 from by rw [r_434_2 hS, l_437 hS]).mpr x0⟩⟩ (fun g2 => ?_)
    refine EQ_jl (by rw [r_434_2 hS]) (fun h35 eh35 => ?_)
    have s3 := Sh_of eh35 (Sh_sta hS (by decide +kernel) (jI_nn g2) (fun _ => jBy_b _))
    clear eh35
    refine EQ_jl rfl (fun x36 ex36 => ?_)
    clear ex36
    exact EQ_some s3
noncomputable def gX12_write_l117 (i1 : Int) (i2 : Int) (i3 : Int) (i5 : Int) (a6 : Int) (h : AH) : Option (AH) := jit (gX12_write_b117 i1 i2 i3 i5) (a6, h)
theorem eX12_write_l117 (i1 : Int) (i2 : Int) (i3 : Int) (i5 : Int) (a6 : Int) {h : AH} (hS : Sh S h) : EQ (fX12_write_l117 434 i1 i2 i3 i5 a6 h) (gX12_write_l117 i1 i2 i3 i5 a6 h) (fun r => Sh S r) := EQ_jit (I := (fun r => Sh S r.2)) (fun s hs => eX12_write_b117 i1 i2 i3 i5 hs) hS
noncomputable def gX12_write_j74_11 (a1 : Int) (a2 : Int) (a3 : Int) (a4 : Int) (t1 : Int) (t2 : Int) (h : AH) : Option ((Int × AH) ⊕ ((Int × AH) ⊕ (AH))) := jg (jI t1 128) <| jl (jst h 437 t1 (ji2b (ji2b t2))) fun h20 => jl (jst h20 437 2 (ji2b (ji2b a4))) fun h21 => jg ((0 : Int) ≤ w32 (121 * a2) ∧ (0 : Int) ≤ 3 ∧ (0 : Int) ≤ a4 ∧ w32 (121 * a2) + a4 ≤ 28400 ∧ (3 : Int) + a4 ≤ 128) <| jl (jcpy h21 436 (w32 (121 * a2)) 437 3 a4) fun h22 => jb (gX12_sum 437 0 h22) fun v24 => jb (gX12_write_l117 a1 a2 a3 v24 0 h22) fun o25 => if o25 434 8 = 0 then (gX12_write_j163_11 a1 a2 a3 1 o25) else (gX12_write_j163_11 a1 a2 a3 0 o25)
theorem eX12_write_j74_11 (a1 : Int) (a2 : Int) (a3 : Int) (a4 : Int) (t1 : Int) (t2 : Int) {h : AH} (hS : Sh S h) : EQ (fX12_write_j74_11 434 a1 a2 a3 a4 437 t1 t2 h) (gX12_write_j74_11 a1 a2 a3 a4 t1 t2 h) (Sum.elim (fun r => Sh S r.2) (Sum.elim (fun r => Sh S r.2) (fun r => Sh S r))) := by
  unfold fX12_write_j74_11 gX12_write_j74_11
  refine EQ_jg ⟨fun ⟨_, _, x0⟩ => (show jI t1 (h 437 (-1)) ↔ jI t1 128 from by rw [l_437 hS]).mp x0, fun x0 => ⟨(show h 437 (-2) = 103 from by rw [k_437 hS]), (show (200 : Int) ≤ 437 from (by decide)), (show jI t1 (h 437 (-1)) ↔ jI t1 128 from by rw [l_437 hS]).mpr x0⟩⟩ (fun g1 => ?_)
  refine EQ_jl rfl (fun h20 eh20 => ?_)
  have s2 := Sh_of eh20 (Sh_sta hS (by decide +kernel) (jI_nn g1) (fun _ => jBy_b _))
  clear eh20
  refine EQ_jgd (show h20 434 (-2) = 13 from by rw [k_434 s2]) ?_
  refine EQ_jgd ⟨(show h20 (h20 434 2) (-2) = 103 from by rw [r_434_2 s2, k_437 s2]), (show 200 ≤ h20 434 2 from by rw [r_434_2 s2]; exact (by decide)), (show jI 2 (h20 (h20 434 2) (-1)) from by rw [r_434_2 s2, l_437 s2]; unfold jI; decide)⟩ ?_
  refine EQ_jl (by rw [r_434_2 s2]) (fun h21 eh21 => ?_)
  have s3 := Sh_of eh21 (Sh_sta s2 (by decide +kernel) (by decide) (fun _ => jBy_b _))
  clear eh21
  refine EQ_jgd (show h21 434 (-2) = 13 from by rw [k_434 s3]) ?_
  refine EQ_jgd (show h21 434 (-2) = 13 from by rw [k_434 s3]) ?_
  refine EQ_jg ⟨fun x0 => (show jcpG h21 103 (h21 434 1) (w32 (121 * a2)) (h21 434 2) 3 a4 ↔ (0 : Int) ≤ w32 (121 * a2) ∧ (0 : Int) ≤ 3 ∧ (0 : Int) ≤ a4 ∧ w32 (121 * a2) + a4 ≤ 28400 ∧ (3 : Int) + a4 ≤ 128 from by rw [r_434_1 s3, r_434_2 s3]; exact cpg (by rw [k_436 s3]) (by rw [k_437 s3]) ((by decide)) ((by decide)) (l_436 s3) (l_437 s3)).mp x0, fun x0 => (show jcpG h21 103 (h21 434 1) (w32 (121 * a2)) (h21 434 2) 3 a4 ↔ (0 : Int) ≤ w32 (121 * a2) ∧ (0 : Int) ≤ 3 ∧ (0 : Int) ≤ a4 ∧ w32 (121 * a2) + a4 ≤ 28400 ∧ (3 : Int) + a4 ≤ 128 from by rw [r_434_1 s3, r_434_2 s3]; exact cpg (by rw [k_436 s3]) (by rw [k_437 s3]) ((by decide)) ((by decide)) (l_436 s3) (l_437 s3)).mpr x0⟩ (fun g4 => ?_)
  refine EQ_jl (by rw [r_434_1 s3, r_434_2 s3]) (fun h22 eh22 => ?_)
  have s5 := Sh_of eh22 (Sh_cpy s3 (by decide +kernel) (by decide) (fun _ => ⟨k_436 s3, g4.1⟩))
  clear eh22
  refine EQ_jgd (show h22 434 (-2) = 13 from by rw [k_434 s5]) ?_
  refine EQ_jgd (show h22 434 (-2) = 13 from by rw [k_434 s5]) ?_
  refine EQ_jb (by rw [r_434_2 s5]; exact eX12_sum 437 0 s5) (fun v24 r6 => ?_)
  refine EQ_jb (eX12_write_l117 a1 a2 a3 v24 0 s5) (fun o25 r7 => ?_)
  refine EQ_jgd (show o25 434 (-2) = 13 from by rw [k_434 r7]) ?_
  refine EQ_if Iff.rfl (fun c8 => ?_) (fun c8 => ?_)
  · exact (eX12_write_j163_11 a1 a2 a3 1 r7)
  · exact (eX12_write_j163_11 a1 a2 a3 0 r7)
noncomputable def gX12_write_b11 (i1 : Int) (s : Int × AH) : Option ((Int × AH) ⊕ ((Int × AH) ⊕ (AH))) := jt2 s fun a2 h => if i1 ≤ a2 then (some (.inr (.inr h))) else (jl (w32 (w32 (h 434 4 + 1) + a2)) fun x14 => jl (min 121 (w32 (h 434 5 - w32 (121 * a2)))) fun x15 => jb (fJ6_fill 437 0 h) fun h17 => jl (jst h17 437 0 (ji2b (ji2b x14))) fun h18 => if a2 = w32 (i1 - 1) then (gX12_write_j74_11 i1 a2 x14 x15 1 1 h18) else (gX12_write_j74_11 i1 a2 x14 x15 1 0 h18))
theorem eX12_write_b11 (i1 : Int) {s : Int × AH} (hS : (fun r => Sh S r.2) s) : EQ (fX12_write_b11 434 i1 s) (gX12_write_b11 i1 s) (Sum.elim (fun r => Sh S r.2) (Sum.elim (fun r => Sh S r.2) (fun r => Sh S r))) := by
  unfold fX12_write_b11 gX12_write_b11
  obtain ⟨a2, h⟩ := s
  refine EQ_jt2 ?_
  replace hS : Sh S h := hS
  refine EQ_if Iff.rfl (fun c1 => ?_) (fun c1 => ?_)
  · exact EQ_some hS
  · refine EQ_jgd (show h 434 (-2) = 13 from by rw [k_434 hS]) ?_
    refine EQ_jl rfl (fun x14 ex14 => ?_)
    clear ex14
    refine EQ_jgd (show h 434 (-2) = 13 from by rw [k_434 hS]) ?_
    refine EQ_jl rfl (fun x15 ex15 => ?_)
    clear ex15
    refine EQ_jgd (show h 434 (-2) = 13 from by rw [k_434 hS]) ?_
    refine EQ_jb (by rw [r_434_2 hS]; exact wJ6_fill 437 0 hS) (fun h17 r2 => ?_)
    refine EQ_jgd (show h17 434 (-2) = 13 from by rw [k_434 r2]) ?_
    refine EQ_jgd ⟨(show h17 (h17 434 2) (-2) = 103 from by rw [r_434_2 r2, k_437 r2]), (show 200 ≤ h17 434 2 from by rw [r_434_2 r2]; exact (by decide)), (show jI 0 (h17 (h17 434 2) (-1)) from by rw [r_434_2 r2, l_437 r2]; unfold jI; decide)⟩ ?_
    refine EQ_jl (by rw [r_434_2 r2]) (fun h18 eh18 => ?_)
    have s3 := Sh_of eh18 (Sh_sta r2 (by decide +kernel) (by decide) (fun _ => jBy_b _))
    clear eh18
    refine EQ_jgd (show h18 434 (-2) = 13 from by rw [k_434 s3]) ?_
    refine EQ_if Iff.rfl (fun c4 => ?_) (fun c4 => ?_)
    · exact (by rw [r_434_2 s3]; exact eX12_write_j74_11 i1 a2 x14 x15 1 1 s3)
    · exact (by rw [r_434_2 s3]; exact eX12_write_j74_11 i1 a2 x14 x15 1 0 s3)
noncomputable def gX12_write_l11 (i1 : Int) (a2 : Int) (h : AH) : Option ((Int × AH) ⊕ (AH)) := jit (gX12_write_b11 i1) (a2, h)
theorem eX12_write_l11 (i1 : Int) (a2 : Int) {h : AH} (hS : Sh S h) : EQ (fX12_write_l11 434 i1 a2 h) (gX12_write_l11 i1 a2 h) (Sum.elim (fun r => Sh S r.2) (fun r => Sh S r)) := EQ_jit (I := (fun r => Sh S r.2)) (fun s hs => eX12_write_b11 i1 hs) hS
noncomputable def gX12_write (h : AH) : Option (Int × AH) := jb (gX12_blocksFor (h 434 5)) fun v2 => jb (gX12_write_l11 v2 0 h) fun o3 => jm o3 (fun o5 => jt2 o5 fun y7 h8 => jg (jI (w32 (w32 (y7 * 128) + 1)) 25728) <| jl (jst h8 435 (w32 (w32 (y7 * 128) + 1)) (ji2b 2)) fun h9 => some ((-4), h9)) (fun o6 => jl (jst o6 434 4 (w32 (o6 434 4 + v2))) fun h10 => jl (jst h10 434 5 0) fun h11 => jl (jst h11 434 6 0) fun h12 => some (v2, h12))
theorem eX12_write {h : AH} (hS : Sh S h) : EQ (fX12_write 434 h) (gX12_write h) (fun r => Sh S r.2) := by
  unfold fX12_write gX12_write
  refine EQ_jgd (show h 434 (-2) = 13 from by rw [k_434 hS]) ?_
  refine EQ_jgd (show h 434 (-2) = 13 from by rw [k_434 hS]) ?_
  refine EQ_jb (eX12_blocksFor (h 434 5)) (fun v2 r1 => ?_)
  refine EQ_jb (eX12_write_l11 v2 0 hS) (fun o3 r2 => ?_)
  refine EQ_jm r2 (fun o5 r3 => ?_) (fun o6 r4 => ?_)
  · obtain ⟨y7, h8⟩ := o5
    refine EQ_jt2 ?_
    replace r3 : Sh S h8 := r3
    refine EQ_jgd (show h8 434 (-2) = 13 from by rw [k_434 r3]) ?_
    refine EQ_jg ⟨fun ⟨_, _, x0⟩ => (show jI (w32 (w32 (y7 * 128) + 1)) (h8 (h8 434 0) (-1)) ↔ jI (w32 (w32 (y7 * 128) + 1)) 25728 from by rw [r_434_0 r3, l_435 r3]).mp x0, fun x0 => ⟨(show h8 (h8 434 0) (-2) = 103 from by rw [r_434_0 r3, k_435 r3]), (show 200 ≤ h8 434 0 from by rw [r_434_0 r3]; exact (by decide)), (show jI (w32 (w32 (y7 * 128) + 1)) (h8 (h8 434 0) (-1)) ↔ jI (w32 (w32 (y7 * 128) + 1)) 25728 from by rw [r_434_0 r3, l_435 r3]).mpr x0⟩⟩ (fun g5 => ?_)
    refine EQ_jl (by rw [r_434_0 r3]) (fun h9 eh9 => ?_)
    have s6 := Sh_of eh9 (Sh_sta r3 (by decide +kernel) (jI_nn g5) (fun _ => jBy_b _))
    clear eh9
    exact EQ_some s6
  · refine EQ_jgd (show o6 434 (-2) = 13 from by rw [k_434 r4]) ?_
    refine EQ_jgd ⟨(show o6 434 (-2) = 13 from by rw [k_434 r4]), (show (200 : Int) ≤ 434 from (by decide))⟩ ?_
    refine EQ_jl rfl (fun h10 eh10 => ?_)
    have s7 := Sh_of eh10 (Sh_sto r4 (a := 434) (i := 4) (by decide +kernel))
    clear eh10
    refine EQ_jgd ⟨(show h10 434 (-2) = 13 from by rw [k_434 s7]), (show (200 : Int) ≤ 434 from (by decide))⟩ ?_
    refine EQ_jl rfl (fun h11 eh11 => ?_)
    have s8 := Sh_of eh11 (Sh_sto s7 (a := 434) (i := 5) (by decide +kernel))
    clear eh11
    refine EQ_jgd ⟨(show h11 434 (-2) = 13 from by rw [k_434 s8]), (show (200 : Int) ≤ 434 from (by decide))⟩ ?_
    refine EQ_jl rfl (fun h12 eh12 => ?_)
    have s9 := Sh_of eh12 (Sh_sto s8 (a := 434) (i := 6) (by decide +kernel))
    clear eh12
    exact EQ_some s9
noncomputable def gX1_sync_j30 (a1 : Int) (t1 : Int) (h : AH) : Option (Int × AH) := jg (jZ t1) <| jl (jst h 200 53 t1) fun h6 => some (a1, h6)
theorem eX1_sync_j30 (a1 : Int) (t1 : Int) {h : AH} (hS : Sh S h) : EQ (fX1_sync_j30 a1 200 t1 h) (gX1_sync_j30 a1 t1 h) (fun r => Sh S r.2) := by
  unfold fX1_sync_j30 gX1_sync_j30
  refine EQ_jg ⟨fun ⟨_, _, x0⟩ => x0, fun x0 => ⟨(show h 200 (-2) = 2 from by rw [k_200 hS]), (show (200 : Int) ≤ 200 from (by decide)), x0⟩⟩ (fun g1 => ?_)
  refine EQ_jl rfl (fun h6 eh6 => ?_)
  have s2 := Sh_of eh6 (Sh_sto hS (a := 200) (i := 53) (by decide +kernel))
  clear eh6
  exact EQ_some s2
noncomputable def gX1_sync (h : AH) : Option (Int × AH) := if h 200 53 = 0 then (jb2 (gX12_write h) fun v3 h4 => if v3 = (-4) then (gX1_sync_j30 v3 1 h4) else (gX1_sync_j30 v3 0 h4)) else (some ((-5), h))
theorem eX1_sync {h : AH} (hS : Sh S h) : EQ (fX1_sync 200 h) (gX1_sync h) (fun r => Sh S r.2) := by
  unfold fX1_sync gX1_sync
  refine EQ_jgd (show h 200 (-2) = 2 from by rw [k_200 hS]) ?_
  refine EQ_if Iff.rfl (fun c1 => ?_) (fun c1 => ?_)
  · refine EQ_jgd (show h 200 (-2) = 2 from by rw [k_200 hS]) ?_
    refine EQ_jgd (show h (h 200 52) (-2) = 13 from by rw [r_200_52 hS, k_434 hS]) ?_
    refine EQ_jb2 (by rw [r_200_52 hS]; exact eX12_write hS) (fun v3 h4 r2 => ?_)
    replace r2 : Sh S h4 := r2
    refine EQ_if Iff.rfl (fun c3 => ?_) (fun c3 => ?_)
    · exact (eX1_sync_j30 v3 1 r2)
    · exact (eX1_sync_j30 v3 0 r2)
  · exact EQ_some hS
noncomputable def gX1_cut (a1 : Int) (a2 : Int) (h : AH) : Option (Int × AH) := if h 200 53 = 0 then (jb (gX1_isIn a1 (-1) 400) fun v3 => if v3 = 0 then (some ((-1), h)) else (jb (gX1_isIn a2 0 127) fun v6 => if v6 = 0 then (some ((-1), h)) else (jl (jst h 434 8 a1) fun h8 => jl (jst h8 434 9 a2) fun h9 => some (1, h9)))) else (some ((-5), h))
theorem eX1_cut (a1 : Int) (a2 : Int) {h : AH} (hS : Sh S h) : EQ (fX1_cut 200 a1 a2 h) (gX1_cut a1 a2 h) (fun r => Sh S r.2) := by
  unfold fX1_cut gX1_cut
  refine EQ_jgd (show h 200 (-2) = 2 from by rw [k_200 hS]) ?_
  refine EQ_if Iff.rfl (fun c1 => ?_) (fun c1 => ?_)
  · refine EQ_jb (eX1_isIn a1 (-1) 400) (fun v3 r2 => ?_)
    refine EQ_if Iff.rfl (fun c3 => ?_) (fun c3 => ?_)
    · exact EQ_some hS
    · refine EQ_jb (eX1_isIn a2 0 127) (fun v6 r4 => ?_)
      refine EQ_if Iff.rfl (fun c5 => ?_) (fun c5 => ?_)
      · exact EQ_some hS
      · refine EQ_jgd (show h 200 (-2) = 2 from by rw [k_200 hS]) ?_
        refine EQ_jgd ⟨(show h (h 200 52) (-2) = 13 from by rw [r_200_52 hS, k_434 hS]), (show 200 ≤ h 200 52 from by rw [r_200_52 hS]; exact (by decide))⟩ ?_
        refine EQ_jl (by rw [r_200_52 hS]) (fun h8 eh8 => ?_)
        have s6 := Sh_of eh8 (Sh_sto hS (a := 434) (i := 8) (by decide +kernel))
        clear eh8
        refine EQ_jgd (show h8 200 (-2) = 2 from by rw [k_200 s6]) ?_
        refine EQ_jgd ⟨(show h8 (h8 200 52) (-2) = 13 from by rw [r_200_52 s6, k_434 s6]), (show 200 ≤ h8 200 52 from by rw [r_200_52 s6]; exact (by decide))⟩ ?_
        refine EQ_jl (by rw [r_200_52 s6]) (fun h9 eh9 => ?_)
        have s7 := Sh_of eh9 (Sh_sto s6 (a := 434) (i := 9) (by decide +kernel))
        clear eh9
        exact EQ_some s7
  · exact EQ_some hS
noncomputable def gX12_isRight_j117 (a2 : Int) (a5 : Int) (h : AH) : Option (Int) := jb (gX12_sum 435 a2 h) fun v14 => if a5 = v14 then (some 1) else (some 0)
theorem eX12_isRight_j117 (a2 : Int) (a5 : Int) {h : AH} (hS : Sh S h) : EQ (fX12_isRight_j117 434 a2 a5 h) (gX12_isRight_j117 a2 a5 h) (fun _ => True) := by
  unfold fX12_isRight_j117 gX12_isRight_j117
  refine EQ_jgd (show h 434 (-2) = 13 from by rw [k_434 hS]) ?_
  refine EQ_jgd (show h 434 (-2) = 13 from by rw [k_434 hS]) ?_
  refine EQ_jb (by rw [r_434_0 hS]; exact eX12_sum 435 a2 hS) (fun v14 r1 => ?_)
  refine EQ_if Iff.rfl (fun c2 => ?_) (fun c2 => ?_)
  · exact EQ_some trivial
  · exact EQ_some trivial
noncomputable def gX12_isRight_b36 (i1 : Int) (i2 : Int) (i3 : Int) (i4 : Int) (h : AH) (s : Int × Int) : Option ((Int × Int) ⊕ (Int)) := jt2 s fun a5 a6 => if 128 ≤ a6 then (some (.inr a5)) else (jg (jI (w32 (i2 + a6)) 25728) <| jl (jor (jshl a5 8) (jand (h 435 (w32 (i2 + a6))) 255)) fun x17 => jl (w32 (a6 + 1)) fun x18 => some (.inl (x17, x18)))
theorem eX12_isRight_b36 (i1 : Int) (i2 : Int) (i3 : Int) (i4 : Int) (s : Int × Int) {h : AH} (hS : Sh S h) : EQ (fX12_isRight_b36 434 i1 i2 i3 i4 h s) (gX12_isRight_b36 i1 i2 i3 i4 h s) (Sum.elim (fun _ => True) (fun _ => True)) := by
  unfold fX12_isRight_b36 gX12_isRight_b36
  obtain ⟨a5, a6⟩ := s
  refine EQ_jt2 ?_
  refine EQ_if Iff.rfl (fun c1 => ?_) (fun c1 => ?_)
  · exact EQ_some trivial
  · refine EQ_jgd (show h 434 (-2) = 13 from by rw [k_434 hS]) ?_
    refine EQ_jg ⟨fun ⟨_, x0⟩ => (show jI (w32 (i2 + a6)) (h (h 434 0) (-1)) ↔ jI (w32 (i2 + a6)) 25728 from by rw [r_434_0 hS, l_435 hS]).mp x0, fun x0 => ⟨(show h (h 434 0) (-2) = 103 from by rw [r_434_0 hS, k_435 hS]), (show jI (w32 (i2 + a6)) (h (h 434 0) (-1)) ↔ jI (w32 (i2 + a6)) 25728 from by rw [r_434_0 hS, l_435 hS]).mpr x0⟩⟩ (fun g2 => ?_)
    refine EQ_jl (by rw [r_434_0 hS]) (fun x17 ex17 => ?_)
    clear ex17
    refine EQ_jl rfl (fun x18 ex18 => ?_)
    clear ex18
    exact EQ_some trivial
noncomputable def gX12_isRight_l36 (i1 : Int) (i2 : Int) (i3 : Int) (i4 : Int) (a5 : Int) (a6 : Int) (h : AH) : Option (Int) := jit (gX12_isRight_b36 i1 i2 i3 i4 h) (a5, a6)
theorem eX12_isRight_l36 (i1 : Int) (i2 : Int) (i3 : Int) (i4 : Int) (a5 : Int) (a6 : Int) {h : AH} (hS : Sh S h) : EQ (fX12_isRight_l36 434 i1 i2 i3 i4 a5 a6 h) (gX12_isRight_l36 i1 i2 i3 i4 a5 a6 h) (fun _ => True) := EQ_jit (I := (fun _ => True)) (fun s _ => eX12_isRight_b36 i1 i2 i3 i4 s hS) trivial
noncomputable def gX12_isRight (a1 : Int) (h : AH) : Option (Int) := jl (w32 (a1 * 128)) fun x1 => jg (jI (w32 (x1 + 1)) 25728) <| jl (h 435 (w32 (x1 + 1))) fun x2 => jg (jI (w32 (x1 + 2)) 25728) <| jl (jand (h 435 (w32 (x1 + 2))) 255) fun x3 => jb (gX12_isRight_l36 a1 x1 x2 x3 0 124 h) fun o4 => jg (jI x1 25728) <| if jand (h 435 x1) 255 = a1 then (if x2 = 0 then (if x3 = 121 then (gX12_isRight_j117 x1 o4 h) else (some 0)) else (if x2 = 1 then (jb (gX1_isIn x3 1 121) fun v11 => if v11 = 0 then (some 0) else (gX12_isRight_j117 x1 o4 h)) else (some 0))) else (some 0)
theorem eX12_isRight (a1 : Int) {h : AH} (hS : Sh S h) : EQ (fX12_isRight 434 a1 h) (gX12_isRight a1 h) (fun _ => True) := by
  unfold fX12_isRight gX12_isRight
  refine EQ_jl rfl (fun x1 ex1 => ?_)
  clear ex1
  refine EQ_jgd (show h 434 (-2) = 13 from by rw [k_434 hS]) ?_
  refine EQ_jg ⟨fun ⟨_, x0⟩ => (show jI (w32 (x1 + 1)) (h (h 434 0) (-1)) ↔ jI (w32 (x1 + 1)) 25728 from by rw [r_434_0 hS, l_435 hS]).mp x0, fun x0 => ⟨(show h (h 434 0) (-2) = 103 from by rw [r_434_0 hS, k_435 hS]), (show jI (w32 (x1 + 1)) (h (h 434 0) (-1)) ↔ jI (w32 (x1 + 1)) 25728 from by rw [r_434_0 hS, l_435 hS]).mpr x0⟩⟩ (fun g1 => ?_)
  refine EQ_jl (by rw [r_434_0 hS]) (fun x2 ex2 => ?_)
  clear ex2
  refine EQ_jgd (show h 434 (-2) = 13 from by rw [k_434 hS]) ?_
  refine EQ_jg ⟨fun ⟨_, x0⟩ => (show jI (w32 (x1 + 2)) (h (h 434 0) (-1)) ↔ jI (w32 (x1 + 2)) 25728 from by rw [r_434_0 hS, l_435 hS]).mp x0, fun x0 => ⟨(show h (h 434 0) (-2) = 103 from by rw [r_434_0 hS, k_435 hS]), (show jI (w32 (x1 + 2)) (h (h 434 0) (-1)) ↔ jI (w32 (x1 + 2)) 25728 from by rw [r_434_0 hS, l_435 hS]).mpr x0⟩⟩ (fun g2 => ?_)
  refine EQ_jl (by rw [r_434_0 hS]) (fun x3 ex3 => ?_)
  clear ex3
  refine EQ_jb (eX12_isRight_l36 a1 x1 x2 x3 0 124 hS) (fun o4 r3 => ?_)
  refine EQ_jgd (show h 434 (-2) = 13 from by rw [k_434 hS]) ?_
  refine EQ_jg ⟨fun ⟨_, x0⟩ => (show jI x1 (h (h 434 0) (-1)) ↔ jI x1 25728 from by rw [r_434_0 hS, l_435 hS]).mp x0, fun x0 => ⟨(show h (h 434 0) (-2) = 103 from by rw [r_434_0 hS, k_435 hS]), (show jI x1 (h (h 434 0) (-1)) ↔ jI x1 25728 from by rw [r_434_0 hS, l_435 hS]).mpr x0⟩⟩ (fun g4 => ?_)
  refine EQ_if (show jand (h (h 434 0) x1) 255 = a1 ↔ jand (h 435 x1) 255 = a1 from by rw [r_434_0 hS]) (fun c5 => ?_) (fun c5 => ?_)
  · refine EQ_if Iff.rfl (fun c6 => ?_) (fun c6 => ?_)
    · refine EQ_if Iff.rfl (fun c7 => ?_) (fun c7 => ?_)
      · exact (eX12_isRight_j117 x1 o4 hS)
      · exact EQ_some trivial
    · refine EQ_if Iff.rfl (fun c8 => ?_) (fun c8 => ?_)
      · refine EQ_jb (eX1_isIn x3 1 121) (fun v11 r9 => ?_)
        refine EQ_if Iff.rfl (fun c10 => ?_) (fun c10 => ?_)
        · exact EQ_some trivial
        · exact (eX12_isRight_j117 x1 o4 hS)
      · exact EQ_some trivial
  · exact EQ_some trivial
noncomputable def gX12_findUsed_j43_7 (a1 : Int) (h : AH) : Option ((Int × AH) ⊕ (AH)) := jl (w32 (a1 + 1)) fun x10 => some (.inl (x10, h))
theorem eX12_findUsed_j43_7 (a1 : Int) {h : AH} (hS : Sh S h) : EQ (fX12_findUsed_j43_7 434 a1 h) (gX12_findUsed_j43_7 a1 h) (Sum.elim (fun r => Sh S r.2) (fun r => Sh S r)) := by
  unfold fX12_findUsed_j43_7 gX12_findUsed_j43_7
  refine EQ_jl rfl (fun x10 ex10 => ?_)
  clear ex10
  exact EQ_some hS
noncomputable def gX12_findUsed_b7 (s : Int × AH) : Option ((Int × AH) ⊕ (AH)) := jt2 s fun a1 h => if 200 < a1 then (some (.inr h)) else (jb (gX12_isRight a1 h) fun v6 => if v6 = 0 then (some (.inr h)) else (jg (jI (w32 (w32 (a1 * 128) + 1)) 25728) <| if h 435 (w32 (w32 (a1 * 128) + 1)) = 1 then (jl (jst h 434 4 a1) fun h9 => gX12_findUsed_j43_7 a1 h9) else (gX12_findUsed_j43_7 a1 h)))
theorem eX12_findUsed_b7 {s : Int × AH} (hS : (fun r => Sh S r.2) s) : EQ (fX12_findUsed_b7 434 s) (gX12_findUsed_b7 s) (Sum.elim (fun r => Sh S r.2) (fun r => Sh S r)) := by
  unfold fX12_findUsed_b7 gX12_findUsed_b7
  obtain ⟨a1, h⟩ := s
  refine EQ_jt2 ?_
  replace hS : Sh S h := hS
  refine EQ_if Iff.rfl (fun c1 => ?_) (fun c1 => ?_)
  · exact EQ_some hS
  · refine EQ_jgd (show h 434 (-2) = 13 from by rw [k_434 hS]) ?_
    refine EQ_jb (eX12_isRight a1 hS) (fun v6 r2 => ?_)
    refine EQ_if Iff.rfl (fun c3 => ?_) (fun c3 => ?_)
    · exact EQ_some hS
    · refine EQ_jgd (show h 434 (-2) = 13 from by rw [k_434 hS]) ?_
      refine EQ_jg ⟨fun ⟨_, x0⟩ => (show jI (w32 (w32 (a1 * 128) + 1)) (h (h 434 0) (-1)) ↔ jI (w32 (w32 (a1 * 128) + 1)) 25728 from by rw [r_434_0 hS, l_435 hS]).mp x0, fun x0 => ⟨(show h (h 434 0) (-2) = 103 from by rw [r_434_0 hS, k_435 hS]), (show jI (w32 (w32 (a1 * 128) + 1)) (h (h 434 0) (-1)) ↔ jI (w32 (w32 (a1 * 128) + 1)) 25728 from by rw [r_434_0 hS, l_435 hS]).mpr x0⟩⟩ (fun g4 => ?_)
      refine EQ_if (show h (h 434 0) (w32 (w32 (a1 * 128) + 1)) = 1 ↔ h 435 (w32 (w32 (a1 * 128) + 1)) = 1 from by rw [r_434_0 hS]) (fun c5 => ?_) (fun c5 => ?_)
      · refine EQ_jgd ⟨(show h 434 (-2) = 13 from by rw [k_434 hS]), (show (200 : Int) ≤ 434 from (by decide))⟩ ?_
        refine EQ_jl rfl (fun h9 eh9 => ?_)
        have s6 := Sh_of eh9 (Sh_sto hS (a := 434) (i := 4) (by decide +kernel))
        clear eh9
        exact (eX12_findUsed_j43_7 a1 s6)
      · exact (eX12_findUsed_j43_7 a1 hS)
noncomputable def gX12_findUsed_l7 (a1 : Int) (h : AH) : Option (AH) := jit gX12_findUsed_b7 (a1, h)
theorem eX12_findUsed_l7 (a1 : Int) {h : AH} (hS : Sh S h) : EQ (fX12_findUsed_l7 434 a1 h) (gX12_findUsed_l7 a1 h) (fun r => Sh S r) := EQ_jit (I := (fun r => Sh S r.2)) (fun s hs => eX12_findUsed_b7 hs) hS
noncomputable def gX12_findUsed (h : AH) : Option (AH) := jl (jst h 434 4 0) fun h1 => jb (gX12_findUsed_l7 1 h1) fun o2 => some o2
theorem eX12_findUsed {h : AH} (hS : Sh S h) : EQ (fX12_findUsed 434 h) (gX12_findUsed h) (fun r => Sh S r) := by
  unfold fX12_findUsed gX12_findUsed
  refine EQ_jgd ⟨(show h 434 (-2) = 13 from by rw [k_434 hS]), (show (200 : Int) ≤ 434 from (by decide))⟩ ?_
  refine EQ_jl rfl (fun h1 eh1 => ?_)
  have s1 := Sh_of eh1 (Sh_sto hS (a := 434) (i := 4) (by decide +kernel))
  clear eh1
  refine EQ_jb (eX12_findUsed_l7 1 s1) (fun o2 r2 => ?_)
  exact EQ_some r2
noncomputable def gX1_actOf (a2 : Int) (h : AH) : Option (Int × AH) := if a2 ≤ 2000 then (jl (jst h 324 0 0) fun h2 => jb (gX13_begin 439 a2 324 h2) fun h4 => jb (gX13_own h4) fun h6 => jb2 (gX13_result h6) fun v8 h9 => if 0 ≤ v8 then (jb2 (gX13_ownName h9) fun v12 h13 => jb (gX1_addOwn v12 324 (h13 441 23) (h13 441 13) 444 (h13 441 24) h13) fun h15 => some (0, h15)) else (some (v8, h9))) else (some ((-1), h))
theorem eX1_actOf (a2 : Int) {h : AH} (hS : Sh S h) : EQ (fX1_actOf 200 439 a2 h) (gX1_actOf a2 h) (fun r => Sh S r.2) := by
  unfold fX1_actOf gX1_actOf
  refine EQ_jgd (show h 200 (-2) = 2 from by rw [k_200 hS]) ?_
  refine EQ_jgd ⟨(show 101 ≤ h (h 200 54) (-2) from by rw [r_200_54 hS, k_440 hS]; decide), (show h (h 200 54) (-2) ≤ 107 from by rw [r_200_54 hS, k_440 hS]; decide)⟩ ?_
  refine EQ_if (show a2 ≤ h (h 200 54) (-1) ↔ a2 ≤ 2000 from by rw [r_200_54 hS, l_440 hS]) (fun c1 => ?_) (fun c1 => ?_)
  · refine EQ_jgd (show h 200 (-2) = 2 from by rw [k_200 hS]) ?_
    refine EQ_jgd ⟨(show h (h 200 20) (-2) = 4 from by rw [r_200_20 hS, k_324 hS]), (show 200 ≤ h 200 20 from by rw [r_200_20 hS]; exact (by decide))⟩ ?_
    refine EQ_jl (by rw [r_200_20 hS]) (fun h2 eh2 => ?_)
    have s2 := Sh_of eh2 (Sh_sto hS (a := 324) (i := 0) (by decide +kernel))
    clear eh2
    refine EQ_jgd (show h2 200 (-2) = 2 from by rw [k_200 s2]) ?_
    refine EQ_jgd (show h2 200 (-2) = 2 from by rw [k_200 s2]) ?_
    refine EQ_jgd (show h2 (h2 200 57) (-2) = 14 from by rw [r_200_57 s2, k_441 s2]) ?_
    refine EQ_jb (by rw [r_200_57 s2, r_200_20 s2]; exact eX13_begin 439 a2 324 (by unfold isX3; decide) s2) (fun h4 r3 => ?_)
    refine EQ_jgd (show h4 200 (-2) = 2 from by rw [k_200 r3]) ?_
    refine EQ_jgd (show h4 (h4 200 57) (-2) = 14 from by rw [r_200_57 r3, k_441 r3]) ?_
    refine EQ_jb (by rw [r_200_57 r3]; exact eX13_own r3) (fun h6 r4 => ?_)
    refine EQ_jgd (show h6 200 (-2) = 2 from by rw [k_200 r4]) ?_
    refine EQ_jgd (show h6 (h6 200 57) (-2) = 14 from by rw [r_200_57 r4, k_441 r4]) ?_
    refine EQ_jb2 (by rw [r_200_57 r4]; exact eX13_result r4) (fun v8 h9 r5 => ?_)
    replace r5 : Sh S h9 := r5
    refine EQ_if Iff.rfl (fun c6 => ?_) (fun c6 => ?_)
    · refine EQ_jgd (show h9 200 (-2) = 2 from by rw [k_200 r5]) ?_
      refine EQ_jgd (show h9 (h9 200 57) (-2) = 14 from by rw [r_200_57 r5, k_441 r5]) ?_
      refine EQ_jb2 (by rw [r_200_57 r5]; exact eX13_ownName r5) (fun v12 h13 r7 => ?_)
      replace r7 : Sh S h13 := r7
      refine EQ_jgd (show h13 200 (-2) = 2 from by rw [k_200 r7]) ?_
      refine EQ_jgd (show h13 200 (-2) = 2 from by rw [k_200 r7]) ?_
      refine EQ_jgd (show h13 (h13 200 57) (-2) = 14 from by rw [r_200_57 r7, k_441 r7]) ?_
      refine EQ_jgd (show h13 200 (-2) = 2 from by rw [k_200 r7]) ?_
      refine EQ_jgd (show h13 (h13 200 57) (-2) = 14 from by rw [r_200_57 r7, k_441 r7]) ?_
      refine EQ_jgd (show h13 200 (-2) = 2 from by rw [k_200 r7]) ?_
      refine EQ_jgd (show h13 (h13 200 57) (-2) = 14 from by rw [r_200_57 r7, k_441 r7]) ?_
      refine EQ_jgd (show h13 200 (-2) = 2 from by rw [k_200 r7]) ?_
      refine EQ_jgd (show h13 (h13 200 57) (-2) = 14 from by rw [r_200_57 r7, k_441 r7]) ?_
      refine EQ_jgd (show h13 200 (-2) = 2 from by rw [k_200 r7]) ?_
      refine EQ_jb (by rw [r_200_20 r7, r_200_57 r7, r_441_12 r7]; exact eX1_addOwn v12 324 (h13 441 23) (h13 441 13) 444 (h13 441 24) (by unfold isX3; decide) r7) (fun h15 r8 => ?_)
      exact EQ_some r8
    · exact EQ_some r5
  · exact EQ_some hS
noncomputable def gX1_keepOf_b54 (i2 : Int) (i3 : Int) (s : Int × AH) : Option ((Int × AH) ⊕ ((AH) ⊕ (AH))) := jt2 s fun a4 h => if i3 ≤ a4 then (some (.inr (.inr h))) else (jg (jI (w32 (1 + a4)) 24200) <| jb (fJ0_indexOf 28 (h 439 (w32 (1 + a4))) h) fun v36 => jg (jI a4 3) <| jl (jst h 447 a4 v36) fun h37 => if 0 ≤ h37 447 a4 then (jl (w32 (a4 + 1)) fun x39 => some (.inl (x39, h37))) else (some (.inr (.inl h37))))
theorem eX1_keepOf_b54 (i2 : Int) (i3 : Int) {s : Int × AH} (hS : (fun r => Sh S r.2) s) : EQ (fX1_keepOf_b54 200 439 i2 i3 s) (gX1_keepOf_b54 i2 i3 s) (Sum.elim (fun r => Sh S r.2) (Sum.elim (fun r => Sh S r) (fun r => Sh S r))) := by
  unfold fX1_keepOf_b54 gX1_keepOf_b54
  obtain ⟨a4, h⟩ := s
  refine EQ_jt2 ?_
  replace hS : Sh S h := hS
  refine EQ_if Iff.rfl (fun c1 => ?_) (fun c1 => ?_)
  · exact EQ_some hS
  · refine EQ_jgd (show h 200 (-2) = 2 from by rw [k_200 hS]) ?_
    refine EQ_jgd (show h 28 (-2) = 1 from by rw [k_28 hS]) ?_
    refine EQ_jg ⟨fun ⟨_, x0⟩ => (show jI (w32 (1 + a4)) (h 439 (-1)) ↔ jI (w32 (1 + a4)) 24200 from by rw [l_439 hS]).mp x0, fun x0 => ⟨(show h 439 (-2) = 103 from by rw [k_439 hS]), (show jI (w32 (1 + a4)) (h 439 (-1)) ↔ jI (w32 (1 + a4)) 24200 from by rw [l_439 hS]).mpr x0⟩⟩ (fun g2 => ?_)
    refine EQ_jgd (show h 28 (-2) = 1 from by rw [k_28 hS]) ?_
    refine EQ_jb (EQ_refl) (fun v36 r3 => ?_)
    refine EQ_jg ⟨fun ⟨_, _, x0⟩ => (show jI a4 (h (h 200 60) (-1)) ↔ jI a4 3 from by rw [r_200_60 hS, l_447 hS]).mp x0, fun x0 => ⟨(show h (h 200 60) (-2) = 101 from by rw [r_200_60 hS, k_447 hS]), (show 200 ≤ h 200 60 from by rw [r_200_60 hS]; exact (by decide)), (show jI a4 (h (h 200 60) (-1)) ↔ jI a4 3 from by rw [r_200_60 hS, l_447 hS]).mpr x0⟩⟩ (fun g4 => ?_)
    refine EQ_jl (by rw [r_200_60 hS]) (fun h37 eh37 => ?_)
    have s5 := Sh_of eh37 (Sh_sta hS (by decide +kernel) (jI_nn g4) (fun e => absurd ((k_447 hS).symm.trans e) (by decide)))
    clear eh37
    refine EQ_jgd (show h37 200 (-2) = 2 from by rw [k_200 s5]) ?_
    refine EQ_jgd ⟨(show h37 (h37 200 60) (-2) = 101 from by rw [r_200_60 s5, k_447 s5]), ((show jI a4 (h37 (h37 200 60) (-1)) ↔ jI a4 3 from by rw [r_200_60 s5, l_447 s5]).mpr g4)⟩ ?_
    refine EQ_if (show 0 ≤ h37 (h37 200 60) a4 ↔ 0 ≤ h37 447 a4 from by rw [r_200_60 s5]) (fun c6 => ?_) (fun c6 => ?_)
    · refine EQ_jl rfl (fun x39 ex39 => ?_)
      clear ex39
      exact EQ_some s5
    · exact EQ_some s5
noncomputable def gX1_keepOf_l54 (i2 : Int) (i3 : Int) (a4 : Int) (h : AH) : Option ((AH) ⊕ (AH)) := jit (gX1_keepOf_b54 i2 i3) (a4, h)
theorem eX1_keepOf_l54 (i2 : Int) (i3 : Int) (a4 : Int) {h : AH} (hS : Sh S h) : EQ (fX1_keepOf_l54 200 439 i2 i3 a4 h) (gX1_keepOf_l54 i2 i3 a4 h) (Sum.elim (fun r => Sh S r) (fun r => Sh S r)) := EQ_jit (I := (fun r => Sh S r.2)) (fun s hs => eX1_keepOf_b54 i2 i3 hs) hS
noncomputable def gX1_keepOf_b102 (i2 : Int) (i3 : Int) (s : Int × AH) : Option ((Int × AH) ⊕ (AH)) := jt2 s fun a4 h => if i2 ≤ a4 then (some (.inr h)) else (jg (jI a4 24200) <| jg (jI (w32 (w32 (a4 - 1) - i3)) 24200) <| jl (jst h 439 (w32 (w32 (a4 - 1) - i3)) (ji2b (h 439 a4))) fun h41 => jl (w32 (a4 + 1)) fun x42 => some (.inl (x42, h41)))
theorem eX1_keepOf_b102 (i2 : Int) (i3 : Int) {s : Int × AH} (hS : (fun r => Sh S r.2) s) : EQ (fX1_keepOf_b102 200 439 i2 i3 s) (gX1_keepOf_b102 i2 i3 s) (Sum.elim (fun r => Sh S r.2) (fun r => Sh S r)) := by
  unfold fX1_keepOf_b102 gX1_keepOf_b102
  obtain ⟨a4, h⟩ := s
  refine EQ_jt2 ?_
  replace hS : Sh S h := hS
  refine EQ_if Iff.rfl (fun c1 => ?_) (fun c1 => ?_)
  · exact EQ_some hS
  · refine EQ_jg ⟨fun ⟨_, x0⟩ => (show jI a4 (h 439 (-1)) ↔ jI a4 24200 from by rw [l_439 hS]).mp x0, fun x0 => ⟨(show h 439 (-2) = 103 from by rw [k_439 hS]), (show jI a4 (h 439 (-1)) ↔ jI a4 24200 from by rw [l_439 hS]).mpr x0⟩⟩ (fun g2 => ?_)
    refine EQ_jg ⟨fun ⟨_, _, x0⟩ => (show jI (w32 (w32 (a4 - 1) - i3)) (h 439 (-1)) ↔ jI (w32 (w32 (a4 - 1) - i3)) 24200 from by rw [l_439 hS]).mp x0, fun x0 => ⟨(show h 439 (-2) = 103 from by rw [k_439 hS]), (show (200 : Int) ≤ 439 from (by decide)), (show jI (w32 (w32 (a4 - 1) - i3)) (h 439 (-1)) ↔ jI (w32 (w32 (a4 - 1) - i3)) 24200 from by rw [l_439 hS]).mpr x0⟩⟩ (fun g3 => ?_)
    refine EQ_jl rfl (fun h41 eh41 => ?_)
    have s4 := Sh_of eh41 (Sh_sta hS (by decide +kernel) (jI_nn g3) (fun _ => jBy_b _))
    clear eh41
    refine EQ_jl rfl (fun x42 ex42 => ?_)
    clear ex42
    exact EQ_some s4
noncomputable def gX1_keepOf_l102 (i2 : Int) (i3 : Int) (a4 : Int) (h : AH) : Option (AH) := jit (gX1_keepOf_b102 i2 i3) (a4, h)
theorem eX1_keepOf_l102 (i2 : Int) (i3 : Int) (a4 : Int) {h : AH} (hS : Sh S h) : EQ (fX1_keepOf_l102 200 439 i2 i3 a4 h) (gX1_keepOf_l102 i2 i3 a4 h) (fun r => Sh S r) := EQ_jit (I := (fun r => Sh S r.2)) (fun s hs => eX1_keepOf_b102 i2 i3 hs) hS
noncomputable def gX1_keepOf_j11 (a2 : Int) (t0 : Int) (h : AH) : Option (Int × AH) := jb (gX1_isIn t0 1 3) fun v3 => if v3 = 0 then (some (0, h)) else (if a2 < w32 (1 + t0) then (some (0, h)) else (if 2000 < a2 then (some (0, h)) else (if h 200 37 = 12 then (some (0, h)) else (jb (gX1_keepOf_l54 a2 t0 0 h) fun o8 => jm o8 (fun o10 => some (0, o10)) (fun o11 => jl (w32 (1 + t0)) fun x12 => jb (gX1_keepOf_l102 a2 t0 x12 o11) fun o13 => jl (jst o13 324 0 0) fun h15 => jb (gX13_begin 439 (w32 (w32 (a2 - 1) - t0)) 324 h15) fun h17 => jb (gX13_parameters t0 447 h17) fun h19 => jl (h19 200 56) fun x20 => jb2 (gX13_alone (-1) h19) fun v22 h23 => jb2 (gX13_result h23) fun v25 h26 => jl (jst h26 200 56 x20) fun h27 => if v25 < 0 then (some (0, h27)) else (jb (gX3_size 324 v22 h27) fun v30 => if v30 ≤ 30 then (jb (gX1_keepTerm 324 v22 t0 447 h27) fun h33 => some (1, h33)) else (some (0, h27))))))))
theorem eX1_keepOf_j11 (a2 : Int) (t0 : Int) {h : AH} (hS : Sh S h) : EQ (fX1_keepOf_j11 200 439 a2 t0 h) (gX1_keepOf_j11 a2 t0 h) (fun r => Sh S r.2) := by
  unfold fX1_keepOf_j11 gX1_keepOf_j11
  refine EQ_jb (eX1_isIn t0 1 3) (fun v3 r1 => ?_)
  refine EQ_if Iff.rfl (fun c2 => ?_) (fun c2 => ?_)
  · exact EQ_some hS
  · refine EQ_if Iff.rfl (fun c3 => ?_) (fun c3 => ?_)
    · exact EQ_some hS
    · refine EQ_jgd (show h 200 (-2) = 2 from by rw [k_200 hS]) ?_
      refine EQ_jgd ⟨(show 101 ≤ h (h 200 54) (-2) from by rw [r_200_54 hS, k_440 hS]; decide), (show h (h 200 54) (-2) ≤ 107 from by rw [r_200_54 hS, k_440 hS]; decide)⟩ ?_
      refine EQ_if (show h (h 200 54) (-1) < a2 ↔ 2000 < a2 from by rw [r_200_54 hS, l_440 hS]) (fun c4 => ?_) (fun c4 => ?_)
      · exact EQ_some hS
      · refine EQ_jgd (show h 200 (-2) = 2 from by rw [k_200 hS]) ?_
        refine EQ_if Iff.rfl (fun c5 => ?_) (fun c5 => ?_)
        · exact EQ_some hS
        · refine EQ_jb (eX1_keepOf_l54 a2 t0 0 hS) (fun o8 r6 => ?_)
          refine EQ_jm r6 (fun o10 r7 => ?_) (fun o11 r8 => ?_)
          · exact EQ_some r7
          · refine EQ_jl rfl (fun x12 ex12 => ?_)
            clear ex12
            refine EQ_jb (eX1_keepOf_l102 a2 t0 x12 r8) (fun o13 r9 => ?_)
            refine EQ_jgd (show o13 200 (-2) = 2 from by rw [k_200 r9]) ?_
            refine EQ_jgd ⟨(show o13 (o13 200 20) (-2) = 4 from by rw [r_200_20 r9, k_324 r9]), (show 200 ≤ o13 200 20 from by rw [r_200_20 r9]; exact (by decide))⟩ ?_
            refine EQ_jl (by rw [r_200_20 r9]) (fun h15 eh15 => ?_)
            have s10 := Sh_of eh15 (Sh_sto r9 (a := 324) (i := 0) (by decide +kernel))
            clear eh15
            refine EQ_jgd (show h15 200 (-2) = 2 from by rw [k_200 s10]) ?_
            refine EQ_jgd (show h15 200 (-2) = 2 from by rw [k_200 s10]) ?_
            refine EQ_jgd (show h15 (h15 200 57) (-2) = 14 from by rw [r_200_57 s10, k_441 s10]) ?_
            refine EQ_jb (by rw [r_200_57 s10, r_200_20 s10]; exact eX13_begin 439 (w32 (w32 (a2 - 1) - t0)) 324 (by unfold isX3; decide) s10) (fun h17 r11 => ?_)
            refine EQ_jgd (show h17 200 (-2) = 2 from by rw [k_200 r11]) ?_
            refine EQ_jgd (show h17 200 (-2) = 2 from by rw [k_200 r11]) ?_
            refine EQ_jgd (show h17 (h17 200 57) (-2) = 14 from by rw [r_200_57 r11, k_441 r11]) ?_
            refine EQ_jb (by rw [r_200_57 r11, r_200_60 r11]; exact eX13_parameters t0 447 r11) (fun h19 r12 => ?_)
            refine EQ_jgd (show h19 200 (-2) = 2 from by rw [k_200 r12]) ?_
            refine EQ_jl rfl (fun x20 ex20 => ?_)
            clear ex20
            refine EQ_jgd (show h19 200 (-2) = 2 from by rw [k_200 r12]) ?_
            refine EQ_jgd (show h19 (h19 200 57) (-2) = 14 from by rw [r_200_57 r12, k_441 r12]) ?_
            refine EQ_jb2 (by rw [r_200_57 r12]; exact eX13_alone (-1) r12) (fun v22 h23 r13 => ?_)
            replace r13 : Sh S h23 := r13
            refine EQ_jgd (show h23 200 (-2) = 2 from by rw [k_200 r13]) ?_
            refine EQ_jgd (show h23 (h23 200 57) (-2) = 14 from by rw [r_200_57 r13, k_441 r13]) ?_
            refine EQ_jb2 (by rw [r_200_57 r13]; exact eX13_result r13) (fun v25 h26 r14 => ?_)
            replace r14 : Sh S h26 := r14
            refine EQ_jgd ⟨(show h26 200 (-2) = 2 from by rw [k_200 r14]), (show (200 : Int) ≤ 200 from (by decide))⟩ ?_
            refine EQ_jl rfl (fun h27 eh27 => ?_)
            have s15 := Sh_of eh27 (Sh_sto r14 (a := 200) (i := 56) (by decide +kernel))
            clear eh27
            refine EQ_if Iff.rfl (fun c16 => ?_) (fun c16 => ?_)
            · exact EQ_some s15
            · refine EQ_jgd (show h27 200 (-2) = 2 from by rw [k_200 s15]) ?_
              refine EQ_jgd (show h27 (h27 200 20) (-2) = 4 from by rw [r_200_20 s15, k_324 s15]) ?_
              refine EQ_jb (by rw [r_200_20 s15]; exact eX3_size 324 v22 (by unfold isX3; decide) s15) (fun v30 r17 => ?_)
              refine EQ_if Iff.rfl (fun c18 => ?_) (fun c18 => ?_)
              · refine EQ_jgd (show h27 200 (-2) = 2 from by rw [k_200 s15]) ?_
                refine EQ_jgd (show h27 200 (-2) = 2 from by rw [k_200 s15]) ?_
                refine EQ_jgd (show h27 200 (-2) = 2 from by rw [k_200 s15]) ?_
                refine EQ_jb (by rw [r_200_20 s15, r_200_60 s15]; exact eX1_keepTerm 324 v22 t0 447 (by unfold isX3; decide) s15) (fun h33 r19 => ?_)
                exact EQ_some r19
              · exact EQ_some s15
noncomputable def gX1_keepOf (a2 : Int) (h : AH) : Option (Int × AH) := if a2 ≤ 0 then (gX1_keepOf_j11 a2 0 h) else (gX1_keepOf_j11 a2 (h 439 0) h)
theorem eX1_keepOf (a2 : Int) {h : AH} (hS : Sh S h) : EQ (fX1_keepOf 200 439 a2 h) (gX1_keepOf a2 h) (fun r => Sh S r.2) := by
  unfold fX1_keepOf gX1_keepOf
  refine EQ_if Iff.rfl (fun c1 => ?_) (fun c1 => ?_)
  · exact (eX1_keepOf_j11 a2 0 hS)
  · refine EQ_jgd ⟨(show h 439 (-2) = 103 from by rw [k_439 hS]), (show jI 0 (h 439 (-1)) from by rw [l_439 hS]; unfold jI; decide)⟩ ?_
    exact (eX1_keepOf_j11 a2 (h 439 0) hS)
noncomputable def gX1_learnOf (a2 : Int) (h : AH) : Option (Int × AH) := jb2 (gX1_findPattern 439 a2 h) fun v2 h3 => if v2 ≤ 0 then (some (v2, h3)) else (jg (jroom h3 4) <| jl (jnew h3 1 4) fun h5 => jg (¬ h3 0 0 = 0) <| jb (fJ0_init_4 (h3 0 0) 439 0 0 a2 h5) fun h7 => jb (gX7_put (h3 0 0) h7) fun h9 => some (v2, h9))
theorem eX1_learnOf (a2 : Int) {h : AH} (hS : Sh S h) : EQ (fX1_learnOf 200 439 a2 h) (gX1_learnOf a2 h) (fun r => Sh S r.2) := by
  unfold fX1_learnOf gX1_learnOf
  refine EQ_jgd (show h 200 (-2) = 2 from by rw [k_200 hS]) ?_
  refine EQ_jb2 (eX1_findPattern 439 a2 hS) (fun v2 h3 r1 => ?_)
  replace r1 : Sh S h3 := r1
  refine EQ_if Iff.rfl (fun c2 => ?_) (fun c2 => ?_)
  · exact EQ_some r1
  · refine EQ_jgd (show h3 200 (-2) = 2 from by rw [k_200 r1]) ?_
    refine EQ_jg Iff.rfl (fun g3 => ?_)
    refine EQ_jl rfl (fun h5 eh5 => ?_)
    have s4 := Sh_of eh5 (Sh_new r1 (by decide))
    clear eh5
    refine EQ_jg Iff.rfl (fun g5 => ?_)
    refine EQ_jb (wJ0_init_4 (h3 0 0) 439 0 0 a2 s4) (fun h7 r6 => ?_)
    refine EQ_jgd (show h7 (h3 200 38) (-2) = 8 from by rw [r_200_38 r1, k_356 r6]) ?_
    refine EQ_jb (by rw [r_200_38 r1]; exact eX7_put (h3 0 0) r6) (fun h9 r7 => ?_)
    exact EQ_some r7
noncomputable def gX12_wordAgain_j56 (t2 : Int) (t3 : Int) (h : AH) : Option (Int × AH) := jb2 (gX1_wordOf 437 t2 t3 h) fun v5 h6 => if v5 < 0 then (some (0, h6)) else (some (1, h6))
theorem eX12_wordAgain_j56 (t2 : Int) (t3 : Int) {h : AH} (hS : Sh S h) : EQ (fX12_wordAgain_j56 200 437 t2 t3 h) (gX12_wordAgain_j56 t2 t3 h) (fun r => Sh S r.2) := by
  unfold fX12_wordAgain_j56 gX12_wordAgain_j56
  refine EQ_jgd (show h 200 (-2) = 2 from by rw [k_200 hS]) ?_
  refine EQ_jb2 (eX1_wordOf 437 t2 t3 hS) (fun v5 h6 r1 => ?_)
  replace r1 : Sh S h6 := r1
  refine EQ_if Iff.rfl (fun c2 => ?_) (fun c2 => ?_)
  · exact EQ_some r1
  · exact EQ_some r1
noncomputable def gX12_wordAgain (a1 : Int) (h : AH) : Option (Int × AH) := jg ((0 : Int) ≤ 1 ∧ (0 : Int) ≤ 0 ∧ (0 : Int) ≤ min 128 (w32 (a1 - 1)) ∧ (1 : Int) + min 128 (w32 (a1 - 1)) ≤ 24200 ∧ (0 : Int) + min 128 (w32 (a1 - 1)) ≤ 128) <| jl (jcpy h 439 1 437 0 (min 128 (w32 (a1 - 1)))) fun h1 => if 8 < w32 (a1 - 1) then (some (0, h1)) else (if h1 439 0 = 1 then (gX12_wordAgain_j56 (w32 (a1 - 1)) 1 h1) else (gX12_wordAgain_j56 (w32 (a1 - 1)) 0 h1))
theorem eX12_wordAgain (a1 : Int) {h : AH} (hS : Sh S h) : EQ (fX12_wordAgain 434 a1 h) (gX12_wordAgain a1 h) (fun r => Sh S r.2) := by
  unfold fX12_wordAgain gX12_wordAgain
  refine EQ_jgd (show h 434 (-2) = 13 from by rw [k_434 hS]) ?_
  refine EQ_jgd (show h 434 (-2) = 13 from by rw [k_434 hS]) ?_
  refine EQ_jg ⟨fun x0 => (show jcpG h 103 (h 434 10) 1 (h 434 2) 0 (min 128 (w32 (a1 - 1))) ↔ (0 : Int) ≤ 1 ∧ (0 : Int) ≤ 0 ∧ (0 : Int) ≤ min 128 (w32 (a1 - 1)) ∧ (1 : Int) + min 128 (w32 (a1 - 1)) ≤ 24200 ∧ (0 : Int) + min 128 (w32 (a1 - 1)) ≤ 128 from by rw [r_434_10 hS, r_434_2 hS]; exact cpg (by rw [k_439 hS]) (by rw [k_437 hS]) ((by decide)) ((by decide)) (l_439 hS) (l_437 hS)).mp x0, fun x0 => (show jcpG h 103 (h 434 10) 1 (h 434 2) 0 (min 128 (w32 (a1 - 1))) ↔ (0 : Int) ≤ 1 ∧ (0 : Int) ≤ 0 ∧ (0 : Int) ≤ min 128 (w32 (a1 - 1)) ∧ (1 : Int) + min 128 (w32 (a1 - 1)) ≤ 24200 ∧ (0 : Int) + min 128 (w32 (a1 - 1)) ≤ 128 from by rw [r_434_10 hS, r_434_2 hS]; exact cpg (by rw [k_439 hS]) (by rw [k_437 hS]) ((by decide)) ((by decide)) (l_439 hS) (l_437 hS)).mpr x0⟩ (fun g1 => ?_)
  refine EQ_jl (by rw [r_434_10 hS, r_434_2 hS]) (fun h1 eh1 => ?_)
  have s2 := Sh_of eh1 (Sh_cpy hS (by decide +kernel) (by decide) (fun _ => ⟨k_439 hS, (by decide)⟩))
  clear eh1
  refine EQ_if Iff.rfl (fun c3 => ?_) (fun c3 => ?_)
  · exact EQ_some s2
  · refine EQ_jgd (show h1 434 (-2) = 13 from by rw [k_434 s2]) ?_
    refine EQ_jgd (show h1 434 (-2) = 13 from by rw [k_434 s2]) ?_
    refine EQ_jgd (show h1 434 (-2) = 13 from by rw [k_434 s2]) ?_
    refine EQ_jgd ⟨(show h1 (h1 434 10) (-2) = 103 from by rw [r_434_10 s2, k_439 s2]), (show jI 0 (h1 (h1 434 10) (-1)) from by rw [r_434_10 s2, l_439 s2]; unfold jI; decide)⟩ ?_
    refine EQ_if (show h1 (h1 434 10) 0 = 1 ↔ h1 439 0 = 1 from by rw [r_434_10 s2]) (fun c4 => ?_) (fun c4 => ?_)
    · exact (by rw [r_434_11 s2, r_434_2 s2]; exact eX12_wordAgain_j56 (w32 (a1 - 1)) 1 s2)
    · exact (by rw [r_434_11 s2, r_434_2 s2]; exact eX12_wordAgain_j56 (w32 (a1 - 1)) 0 s2)
noncomputable def gX1_exampleOf (a2 : Int) (a3 : Int) (h : AH) : Option (Int × AH) := jb (gX1_exampleMay 439 a2 a3 h) fun v2 => if v2 = 0 then (jb (gX9_add 439 a2 a3 h) fun h5 => some (v2, h5)) else (some (v2, h))
theorem eX1_exampleOf (a2 : Int) (a3 : Int) {h : AH} (hS : Sh S h) : EQ (fX1_exampleOf 200 439 a2 a3 h) (gX1_exampleOf a2 a3 h) (fun r => Sh S r.2) := by
  unfold fX1_exampleOf gX1_exampleOf
  refine EQ_jgd (show h 200 (-2) = 2 from by rw [k_200 hS]) ?_
  refine EQ_jb (eX1_exampleMay 439 a2 a3 hS) (fun v2 r1 => ?_)
  refine EQ_if Iff.rfl (fun c2 => ?_) (fun c2 => ?_)
  · refine EQ_jgd (show h 200 (-2) = 2 from by rw [k_200 hS]) ?_
    refine EQ_jgd (show h (h 200 49) (-2) = 10 from by rw [r_200_49 hS, k_408 hS]) ?_
    refine EQ_jb (by rw [r_200_49 hS]; exact eX9_add 439 a2 a3 hS) (fun h5 r3 => ?_)
    exact EQ_some r3
  · exact EQ_some hS
noncomputable def gX12_exampleAgain_b9 (i1 : Int) (i2 : Int) (s : Int × AH) : Option ((Int × AH) ⊕ (AH)) := jt2 s fun a3 h => if i1 ≤ a3 then (some (.inr h)) else (jg (jI a3 24200) <| jg (jI (w32 (a3 - 1)) 24200) <| jl (jst h 439 (w32 (a3 - 1)) (ji2b (h 439 a3))) fun h9 => jl (w32 (a3 + 1)) fun x10 => some (.inl (x10, h9)))
theorem eX12_exampleAgain_b9 (i1 : Int) (i2 : Int) {s : Int × AH} (hS : (fun r => Sh S r.2) s) : EQ (fX12_exampleAgain_b9 434 i1 i2 s) (gX12_exampleAgain_b9 i1 i2 s) (Sum.elim (fun r => Sh S r.2) (fun r => Sh S r)) := by
  unfold fX12_exampleAgain_b9 gX12_exampleAgain_b9
  obtain ⟨a3, h⟩ := s
  refine EQ_jt2 ?_
  replace hS : Sh S h := hS
  refine EQ_if Iff.rfl (fun c1 => ?_) (fun c1 => ?_)
  · exact EQ_some hS
  · refine EQ_jgd (show h 434 (-2) = 13 from by rw [k_434 hS]) ?_
    refine EQ_jgd (show h 434 (-2) = 13 from by rw [k_434 hS]) ?_
    refine EQ_jg ⟨fun ⟨_, x0⟩ => (show jI a3 (h (h 434 10) (-1)) ↔ jI a3 24200 from by rw [r_434_10 hS, l_439 hS]).mp x0, fun x0 => ⟨(show h (h 434 10) (-2) = 103 from by rw [r_434_10 hS, k_439 hS]), (show jI a3 (h (h 434 10) (-1)) ↔ jI a3 24200 from by rw [r_434_10 hS, l_439 hS]).mpr x0⟩⟩ (fun g2 => ?_)
    refine EQ_jg ⟨fun ⟨_, _, x0⟩ => (show jI (w32 (a3 - 1)) (h (h 434 10) (-1)) ↔ jI (w32 (a3 - 1)) 24200 from by rw [r_434_10 hS, l_439 hS]).mp x0, fun x0 => ⟨(show h (h 434 10) (-2) = 103 from by rw [r_434_10 hS, k_439 hS]), (show 200 ≤ h 434 10 from by rw [r_434_10 hS]; exact (by decide)), (show jI (w32 (a3 - 1)) (h (h 434 10) (-1)) ↔ jI (w32 (a3 - 1)) 24200 from by rw [r_434_10 hS, l_439 hS]).mpr x0⟩⟩ (fun g3 => ?_)
    refine EQ_jl (by rw [r_434_10 hS]) (fun h9 eh9 => ?_)
    have s4 := Sh_of eh9 (Sh_sta hS (by decide +kernel) (jI_nn g3) (fun _ => jBy_b _))
    clear eh9
    refine EQ_jl rfl (fun x10 ex10 => ?_)
    clear ex10
    exact EQ_some s4
noncomputable def gX12_exampleAgain_l9 (i1 : Int) (i2 : Int) (a3 : Int) (h : AH) : Option (AH) := jit (gX12_exampleAgain_b9 i1 i2) (a3, h)
theorem eX12_exampleAgain_l9 (i1 : Int) (i2 : Int) (a3 : Int) {h : AH} (hS : Sh S h) : EQ (fX12_exampleAgain_l9 434 i1 i2 a3 h) (gX12_exampleAgain_l9 i1 i2 a3 h) (fun r => Sh S r) := EQ_jit (I := (fun r => Sh S r.2)) (fun s hs => eX12_exampleAgain_b9 i1 i2 hs) hS
noncomputable def gX12_exampleAgain (a1 : Int) (h : AH) : Option (Int × AH) := jl (h 439 0) fun x1 => jb (gX12_exampleAgain_l9 a1 x1 1 h) fun o2 => jb2 (gX1_exampleOf x1 (w32 (a1 - 1)) o2) fun v5 h6 => if v5 = 0 then (some (1, h6)) else (some (0, h6))
theorem eX12_exampleAgain (a1 : Int) {h : AH} (hS : Sh S h) : EQ (fX12_exampleAgain 434 a1 h) (gX12_exampleAgain a1 h) (fun r => Sh S r.2) := by
  unfold fX12_exampleAgain gX12_exampleAgain
  refine EQ_jgd (show h 434 (-2) = 13 from by rw [k_434 hS]) ?_
  refine EQ_jgd ⟨(show h (h 434 10) (-2) = 103 from by rw [r_434_10 hS, k_439 hS]), (show jI 0 (h (h 434 10) (-1)) from by rw [r_434_10 hS, l_439 hS]; unfold jI; decide)⟩ ?_
  refine EQ_jl (by rw [r_434_10 hS]) (fun x1 ex1 => ?_)
  clear ex1
  refine EQ_jb (eX12_exampleAgain_l9 a1 x1 1 hS) (fun o2 r1 => ?_)
  refine EQ_jgd (show o2 434 (-2) = 13 from by rw [k_434 r1]) ?_
  refine EQ_jgd (show o2 434 (-2) = 13 from by rw [k_434 r1]) ?_
  refine EQ_jgd (show o2 (o2 434 11) (-2) = 2 from by rw [r_434_11 r1, k_200 r1]) ?_
  refine EQ_jb2 (by rw [r_434_11 r1, r_434_10 r1]; exact eX1_exampleOf x1 (w32 (a1 - 1)) r1) (fun v5 h6 r2 => ?_)
  replace r2 : Sh S h6 := r2
  refine EQ_if Iff.rfl (fun c3 => ?_) (fun c3 => ?_)
  · exact EQ_some r2
  · exact EQ_some r2
noncomputable def gX12_doAgain (a1 : Int) (a2 : Int) (a3 : Int) (h : AH) : Option (Int × AH) := jg ((0 : Int) ≤ a2 ∧ (0 : Int) ≤ 0 ∧ (0 : Int) ≤ a3 ∧ a2 + a3 ≤ 24200 ∧ (0 : Int) + a3 ≤ 24200) <| jl (jcpy h 438 a2 439 0 a3) fun h1 => if a1 < 1 ∨ 6 < a1 then (if a3 = 0 then (jb2 (gX1_clearRows h1) fun v5 h6 => if v5 < 0 then (some (0, h6)) else (some (1, h6))) else (some (0, h1))) else (if a1 = 1 then (jb2 (gX1_actOf a3 h1) fun v10 h11 => if v10 = 0 then (some (1, h11)) else (some (0, h11))) else (if a1 = 2 then (jb2 (gX1_keepOf a3 h1) fun v15 h16 => jg (jZ v15) <| some (v15, h16)) else (if a1 = 3 then (jb2 (gX1_learnOf a3 h1) fun v19 h20 => if v19 ≤ 0 then (some (0, h20)) else (some (1, h20))) else (if a1 = 4 then (if a3 ≤ 0 then (some (0, h1)) else (jb (gX1_isIn (h1 439 0) 0 1) fun v25 => if v25 = 0 then (some (0, h1)) else (jb2 (gX12_wordAgain a3 h1) fun v28 h29 => if v28 = 0 then (some (0, h29)) else (some (1, h29))))) else (if a1 = 5 then (if a3 = 0 then (jb2 (gX1_forgetWords h1) fun v34 h35 => if v34 < 0 then (some (0, h35)) else (some (1, h35))) else (some (0, h1))) else (if a3 ≤ 0 then (some (0, h1)) else (jb2 (gX12_exampleAgain a3 h1) fun v40 h41 => if v40 = 0 then (some (0, h41)) else (some (1, h41)))))))))
theorem eX12_doAgain (a1 : Int) (a2 : Int) (a3 : Int) {h : AH} (hS : Sh S h) : EQ (fX12_doAgain 434 a1 a2 a3 h) (gX12_doAgain a1 a2 a3 h) (fun r => Sh S r.2) := by
  unfold fX12_doAgain gX12_doAgain
  refine EQ_jgd (show h 434 (-2) = 13 from by rw [k_434 hS]) ?_
  refine EQ_jgd (show h 434 (-2) = 13 from by rw [k_434 hS]) ?_
  refine EQ_jg ⟨fun x0 => (show jcpG h 103 (h 434 3) a2 (h 434 10) 0 a3 ↔ (0 : Int) ≤ a2 ∧ (0 : Int) ≤ 0 ∧ (0 : Int) ≤ a3 ∧ a2 + a3 ≤ 24200 ∧ (0 : Int) + a3 ≤ 24200 from by rw [r_434_3 hS, r_434_10 hS]; exact cpg (by rw [k_438 hS]) (by rw [k_439 hS]) ((by decide)) ((by decide)) (l_438 hS) (l_439 hS)).mp x0, fun x0 => (show jcpG h 103 (h 434 3) a2 (h 434 10) 0 a3 ↔ (0 : Int) ≤ a2 ∧ (0 : Int) ≤ 0 ∧ (0 : Int) ≤ a3 ∧ a2 + a3 ≤ 24200 ∧ (0 : Int) + a3 ≤ 24200 from by rw [r_434_3 hS, r_434_10 hS]; exact cpg (by rw [k_438 hS]) (by rw [k_439 hS]) ((by decide)) ((by decide)) (l_438 hS) (l_439 hS)).mpr x0⟩ (fun g1 => ?_)
  refine EQ_jl (by rw [r_434_3 hS, r_434_10 hS]) (fun h1 eh1 => ?_)
  have s2 := Sh_of eh1 (Sh_cpy hS (by decide +kernel) (by decide) (fun _ => ⟨k_438 hS, g1.1⟩))
  clear eh1
  refine EQ_if Iff.rfl (fun c3 => ?_) (fun c3 => ?_)
  · refine EQ_if Iff.rfl (fun c4 => ?_) (fun c4 => ?_)
    · refine EQ_jgd (show h1 434 (-2) = 13 from by rw [k_434 s2]) ?_
      refine EQ_jgd (show h1 (h1 434 11) (-2) = 2 from by rw [r_434_11 s2, k_200 s2]) ?_
      refine EQ_jb2 (by rw [r_434_11 s2]; exact eX1_clearRows s2) (fun v5 h6 r5 => ?_)
      replace r5 : Sh S h6 := r5
      refine EQ_if Iff.rfl (fun c6 => ?_) (fun c6 => ?_)
      · exact EQ_some r5
      · exact EQ_some r5
    · exact EQ_some s2
  · refine EQ_if Iff.rfl (fun c7 => ?_) (fun c7 => ?_)
    · refine EQ_jgd (show h1 434 (-2) = 13 from by rw [k_434 s2]) ?_
      refine EQ_jgd (show h1 434 (-2) = 13 from by rw [k_434 s2]) ?_
      refine EQ_jgd (show h1 (h1 434 11) (-2) = 2 from by rw [r_434_11 s2, k_200 s2]) ?_
      refine EQ_jb2 (by rw [r_434_11 s2, r_434_10 s2]; exact eX1_actOf a3 s2) (fun v10 h11 r8 => ?_)
      replace r8 : Sh S h11 := r8
      refine EQ_if Iff.rfl (fun c9 => ?_) (fun c9 => ?_)
      · exact EQ_some r8
      · exact EQ_some r8
    · refine EQ_if Iff.rfl (fun c10 => ?_) (fun c10 => ?_)
      · refine EQ_jgd (show h1 434 (-2) = 13 from by rw [k_434 s2]) ?_
        refine EQ_jgd (show h1 434 (-2) = 13 from by rw [k_434 s2]) ?_
        refine EQ_jgd (show h1 (h1 434 11) (-2) = 2 from by rw [r_434_11 s2, k_200 s2]) ?_
        refine EQ_jb2 (by rw [r_434_11 s2, r_434_10 s2]; exact eX1_keepOf a3 s2) (fun v15 h16 r11 => ?_)
        replace r11 : Sh S h16 := r11
        refine EQ_jg Iff.rfl (fun g12 => ?_)
        exact EQ_some r11
      · refine EQ_if Iff.rfl (fun c13 => ?_) (fun c13 => ?_)
        · refine EQ_jgd (show h1 434 (-2) = 13 from by rw [k_434 s2]) ?_
          refine EQ_jgd (show h1 434 (-2) = 13 from by rw [k_434 s2]) ?_
          refine EQ_jgd (show h1 (h1 434 11) (-2) = 2 from by rw [r_434_11 s2, k_200 s2]) ?_
          refine EQ_jb2 (by rw [r_434_11 s2, r_434_10 s2]; exact eX1_learnOf a3 s2) (fun v19 h20 r14 => ?_)
          replace r14 : Sh S h20 := r14
          refine EQ_if Iff.rfl (fun c15 => ?_) (fun c15 => ?_)
          · exact EQ_some r14
          · exact EQ_some r14
        · refine EQ_if Iff.rfl (fun c16 => ?_) (fun c16 => ?_)
          · refine EQ_if Iff.rfl (fun c17 => ?_) (fun c17 => ?_)
            · exact EQ_some s2
            · refine EQ_jgd (show h1 434 (-2) = 13 from by rw [k_434 s2]) ?_
              refine EQ_jgd ⟨(show h1 (h1 434 10) (-2) = 103 from by rw [r_434_10 s2, k_439 s2]), (show jI 0 (h1 (h1 434 10) (-1)) from by rw [r_434_10 s2, l_439 s2]; unfold jI; decide)⟩ ?_
              refine EQ_jb (by rw [r_434_10 s2]; exact eX1_isIn (h1 439 0) 0 1) (fun v25 r18 => ?_)
              refine EQ_if Iff.rfl (fun c19 => ?_) (fun c19 => ?_)
              · exact EQ_some s2
              · refine EQ_jgd (show h1 434 (-2) = 13 from by rw [k_434 s2]) ?_
                refine EQ_jb2 (eX12_wordAgain a3 s2) (fun v28 h29 r20 => ?_)
                replace r20 : Sh S h29 := r20
                refine EQ_if Iff.rfl (fun c21 => ?_) (fun c21 => ?_)
                · exact EQ_some r20
                · exact EQ_some r20
          · refine EQ_if Iff.rfl (fun c22 => ?_) (fun c22 => ?_)
            · refine EQ_if Iff.rfl (fun c23 => ?_) (fun c23 => ?_)
              · refine EQ_jgd (show h1 434 (-2) = 13 from by rw [k_434 s2]) ?_
                refine EQ_jgd (show h1 (h1 434 11) (-2) = 2 from by rw [r_434_11 s2, k_200 s2]) ?_
                refine EQ_jb2 (by rw [r_434_11 s2]; exact eX1_forgetWords s2) (fun v34 h35 r24 => ?_)
                replace r24 : Sh S h35 := r24
                refine EQ_if Iff.rfl (fun c25 => ?_) (fun c25 => ?_)
                · exact EQ_some r24
                · exact EQ_some r24
              · exact EQ_some s2
            · refine EQ_if Iff.rfl (fun c26 => ?_) (fun c26 => ?_)
              · exact EQ_some s2
              · refine EQ_jgd (show h1 434 (-2) = 13 from by rw [k_434 s2]) ?_
                refine EQ_jb2 (eX12_exampleAgain a3 s2) (fun v40 h41 r27 => ?_)
                replace r27 : Sh S h41 := r27
                refine EQ_if Iff.rfl (fun c28 => ?_) (fun c28 => ?_)
                · exact EQ_some r27
                · exact EQ_some r27
noncomputable def gX12_again_2_j95_4 (a1 : Int) (a2 : Int) (a3 : Int) (a5 : Int) (h : AH) : Option ((Int × Int × AH) ⊕ ((Int × AH) ⊕ (Int × AH))) := jl (w32 (a3 + w32 (3 + a5))) fun x21 => some (.inl (a2, x21, h))
theorem eX12_again_2_j95_4 (a1 : Int) (a2 : Int) (a3 : Int) (a5 : Int) {h : AH} (hS : Sh S h) : EQ (fX12_again_2_j95_4 434 a1 a2 a3 a5 h) (gX12_again_2_j95_4 a1 a2 a3 a5 h) (Sum.elim (fun r => Sh S r.2.2) (Sum.elim (fun r => Sh S r.2) (fun r => Sh S r.2))) := by
  unfold fX12_again_2_j95_4 gX12_again_2_j95_4
  refine EQ_jl rfl (fun x21 ex21 => ?_)
  clear ex21
  exact EQ_some hS
noncomputable def gX12_again_2_b4 (i1 : Int) (s : Int × Int × AH) : Option ((Int × Int × AH) ⊕ ((Int × AH) ⊕ (Int × AH))) := jt3 s fun a2 a3 h => if i1 < w32 (a3 + 3) then (some (.inr (.inr (a2, h)))) else (jg (jI a3 24200) <| jl (jand (h 438 a3) 255) fun x10 => jg (jI (w32 (a3 + 1)) 24200) <| jg (jI (w32 (a3 + 2)) 24200) <| jl (jor (jshl (jand (h 438 (w32 (a3 + 1))) 255) 8) (jand (h 438 (w32 (a3 + 2))) 255)) fun x11 => jb (gX1_isIn x10 1 7) fun v13 => if v13 = 0 then (some (.inr (.inl (a2, h)))) else (if w32 (w32 (a3 + 3) + x11) ≤ i1 then (jb2 (gX12_doAgain x10 (w32 (a3 + 3)) x11 h) fun v17 h18 => if v17 = 0 then (gX12_again_2_j95_4 i1 a2 a3 x11 h18) else (jl (w32 (a2 + 1)) fun x20 => gX12_again_2_j95_4 i1 x20 a3 x11 h18)) else (some (.inr (.inl (a2, h))))))
theorem eX12_again_2_b4 (i1 : Int) {s : Int × Int × AH} (hS : (fun r => Sh S r.2.2) s) : EQ (fX12_again_2_b4 434 i1 s) (gX12_again_2_b4 i1 s) (Sum.elim (fun r => Sh S r.2.2) (Sum.elim (fun r => Sh S r.2) (fun r => Sh S r.2))) := by
  unfold fX12_again_2_b4 gX12_again_2_b4
  obtain ⟨a2, a3, h⟩ := s
  refine EQ_jt3 ?_
  replace hS : Sh S h := hS
  refine EQ_if Iff.rfl (fun c1 => ?_) (fun c1 => ?_)
  · exact EQ_some hS
  · refine EQ_jgd (show h 434 (-2) = 13 from by rw [k_434 hS]) ?_
    refine EQ_jg ⟨fun ⟨_, x0⟩ => (show jI a3 (h (h 434 3) (-1)) ↔ jI a3 24200 from by rw [r_434_3 hS, l_438 hS]).mp x0, fun x0 => ⟨(show h (h 434 3) (-2) = 103 from by rw [r_434_3 hS, k_438 hS]), (show jI a3 (h (h 434 3) (-1)) ↔ jI a3 24200 from by rw [r_434_3 hS, l_438 hS]).mpr x0⟩⟩ (fun g2 => ?_)
    refine EQ_jl (by rw [r_434_3 hS]) (fun x10 ex10 => ?_)
    clear ex10
    refine EQ_jgd (show h 434 (-2) = 13 from by rw [k_434 hS]) ?_
    refine EQ_jg ⟨fun ⟨_, x0⟩ => (show jI (w32 (a3 + 1)) (h (h 434 3) (-1)) ↔ jI (w32 (a3 + 1)) 24200 from by rw [r_434_3 hS, l_438 hS]).mp x0, fun x0 => ⟨(show h (h 434 3) (-2) = 103 from by rw [r_434_3 hS, k_438 hS]), (show jI (w32 (a3 + 1)) (h (h 434 3) (-1)) ↔ jI (w32 (a3 + 1)) 24200 from by rw [r_434_3 hS, l_438 hS]).mpr x0⟩⟩ (fun g3 => ?_)
    refine EQ_jgd (show h 434 (-2) = 13 from by rw [k_434 hS]) ?_
    refine EQ_jg ⟨fun ⟨_, x0⟩ => (show jI (w32 (a3 + 2)) (h (h 434 3) (-1)) ↔ jI (w32 (a3 + 2)) 24200 from by rw [r_434_3 hS, l_438 hS]).mp x0, fun x0 => ⟨(show h (h 434 3) (-2) = 103 from by rw [r_434_3 hS, k_438 hS]), (show jI (w32 (a3 + 2)) (h (h 434 3) (-1)) ↔ jI (w32 (a3 + 2)) 24200 from by rw [r_434_3 hS, l_438 hS]).mpr x0⟩⟩ (fun g4 => ?_)
    refine EQ_jl (by rw [r_434_3 hS]) (fun x11 ex11 => ?_)
    clear ex11
    refine EQ_jb (eX1_isIn x10 1 7) (fun v13 r5 => ?_)
    refine EQ_if Iff.rfl (fun c6 => ?_) (fun c6 => ?_)
    · exact EQ_some hS
    · refine EQ_if Iff.rfl (fun c7 => ?_) (fun c7 => ?_)
      · refine EQ_jgd (show h 434 (-2) = 13 from by rw [k_434 hS]) ?_
        refine EQ_jb2 (eX12_doAgain x10 (w32 (a3 + 3)) x11 hS) (fun v17 h18 r8 => ?_)
        replace r8 : Sh S h18 := r8
        refine EQ_if Iff.rfl (fun c9 => ?_) (fun c9 => ?_)
        · exact (eX12_again_2_j95_4 i1 a2 a3 x11 r8)
        · refine EQ_jl rfl (fun x20 ex20 => ?_)
          clear ex20
          exact (eX12_again_2_j95_4 i1 x20 a3 x11 r8)
      · exact EQ_some hS
noncomputable def gX12_again_2_l4 (i1 : Int) (a2 : Int) (a3 : Int) (h : AH) : Option ((Int × AH) ⊕ (Int × AH)) := jit (gX12_again_2_b4 i1) (a2, a3, h)
theorem eX12_again_2_l4 (i1 : Int) (a2 : Int) (a3 : Int) {h : AH} (hS : Sh S h) : EQ (fX12_again_2_l4 434 i1 a2 a3 h) (gX12_again_2_l4 i1 a2 a3 h) (Sum.elim (fun r => Sh S r.2) (fun r => Sh S r.2)) := EQ_jit (I := (fun r => Sh S r.2.2)) (fun s hs => eX12_again_2_b4 i1 hs) hS
noncomputable def gX12_again_2 (a1 : Int) (h : AH) : Option (Int × AH) := jb (gX12_again_2_l4 a1 0 0 h) fun o1 => jm o1 (fun o3 => jt2 o3 fun y5 h6 => some (y5, h6)) (fun o4 => jt2 o4 fun y7 h8 => some (y7, h8))
theorem eX12_again_2 (a1 : Int) {h : AH} (hS : Sh S h) : EQ (fX12_again_2 434 a1 h) (gX12_again_2 a1 h) (fun r => Sh S r.2) := by
  unfold fX12_again_2 gX12_again_2
  refine EQ_jb (eX12_again_2_l4 a1 0 0 hS) (fun o1 r1 => ?_)
  refine EQ_jm r1 (fun o3 r2 => ?_) (fun o4 r3 => ?_)
  · obtain ⟨y5, h6⟩ := o3
    refine EQ_jt2 ?_
    replace r2 : Sh S h6 := r2
    exact EQ_some r2
  · obtain ⟨y7, h8⟩ := o4
    refine EQ_jt2 ?_
    replace r3 : Sh S h8 := r3
    exact EQ_some r3
noncomputable def gX12_again_j86_17 (a1 : Int) (a2 : Int) (a3 : Int) (t0 : Int) (h : AH) : Option ((Int × Int × Int × AH) ⊕ (Int × Int × AH)) := jl (w32 (a2 + 1)) fun x20 => some (.inl (x20, a3, t0, h))
theorem eX12_again_j86_17 (a1 : Int) (a2 : Int) (a3 : Int) (t0 : Int) {h : AH} (hS : Sh S h) : EQ (fX12_again_j86_17 434 a1 a2 a3 t0 h) (gX12_again_j86_17 a1 a2 a3 t0 h) (Sum.elim (fun r => Sh S r.2.2.2) (fun r => Sh S r.2.2)) := by
  unfold fX12_again_j86_17 gX12_again_j86_17
  refine EQ_jl rfl (fun x20 ex20 => ?_)
  clear ex20
  exact EQ_some hS
noncomputable def gX12_again_b17 (i1 : Int) (s : Int × Int × Int × AH) : Option ((Int × Int × Int × AH) ⊕ (Int × Int × AH)) := jt4 s fun a2 a3 a4 h => if a4 = 0 then (some (.inr (a2, a3, h))) else (jg (jI (w32 (w32 (a2 * 128) + 2)) 25728) <| jl (jand (h 435 (w32 (w32 (a2 * 128) + 2))) 255) fun x16 => jg ((0 : Int) ≤ w32 (w32 (a2 * 128) + 3) ∧ (0 : Int) ≤ a3 ∧ (0 : Int) ≤ x16 ∧ w32 (w32 (a2 * 128) + 3) + x16 ≤ 25728 ∧ a3 + x16 ≤ 24200) <| jl (jcpy h 435 (w32 (w32 (a2 * 128) + 3)) 438 a3 x16) fun h17 => jl (w32 (a3 + x16)) fun x18 => jg (jI (w32 (w32 (a2 * 128) + 1)) 25728) <| if h17 435 (w32 (w32 (a2 * 128) + 1)) = 0 then (gX12_again_j86_17 i1 a2 x18 1 h17) else (gX12_again_j86_17 i1 a2 x18 0 h17))
theorem eX12_again_b17 (i1 : Int) {s : Int × Int × Int × AH} (hS : (fun r => Sh S r.2.2.2) s) : EQ (fX12_again_b17 434 i1 s) (gX12_again_b17 i1 s) (Sum.elim (fun r => Sh S r.2.2.2) (fun r => Sh S r.2.2)) := by
  unfold fX12_again_b17 gX12_again_b17
  obtain ⟨a2, a3, a4, h⟩ := s
  refine EQ_jt4 ?_
  replace hS : Sh S h := hS
  refine EQ_if Iff.rfl (fun c1 => ?_) (fun c1 => ?_)
  · exact EQ_some hS
  · refine EQ_jgd (show h 434 (-2) = 13 from by rw [k_434 hS]) ?_
    refine EQ_jg ⟨fun ⟨_, x0⟩ => (show jI (w32 (w32 (a2 * 128) + 2)) (h (h 434 0) (-1)) ↔ jI (w32 (w32 (a2 * 128) + 2)) 25728 from by rw [r_434_0 hS, l_435 hS]).mp x0, fun x0 => ⟨(show h (h 434 0) (-2) = 103 from by rw [r_434_0 hS, k_435 hS]), (show jI (w32 (w32 (a2 * 128) + 2)) (h (h 434 0) (-1)) ↔ jI (w32 (w32 (a2 * 128) + 2)) 25728 from by rw [r_434_0 hS, l_435 hS]).mpr x0⟩⟩ (fun g2 => ?_)
    refine EQ_jl (by rw [r_434_0 hS]) (fun x16 ex16 => ?_)
    clear ex16
    refine EQ_jgd (show h 434 (-2) = 13 from by rw [k_434 hS]) ?_
    refine EQ_jgd (show h 434 (-2) = 13 from by rw [k_434 hS]) ?_
    refine EQ_jg ⟨fun x0 => (show jcpG h 103 (h 434 0) (w32 (w32 (a2 * 128) + 3)) (h 434 3) a3 x16 ↔ (0 : Int) ≤ w32 (w32 (a2 * 128) + 3) ∧ (0 : Int) ≤ a3 ∧ (0 : Int) ≤ x16 ∧ w32 (w32 (a2 * 128) + 3) + x16 ≤ 25728 ∧ a3 + x16 ≤ 24200 from by rw [r_434_0 hS, r_434_3 hS]; exact cpg (by rw [k_435 hS]) (by rw [k_438 hS]) ((by decide)) ((by decide)) (l_435 hS) (l_438 hS)).mp x0, fun x0 => (show jcpG h 103 (h 434 0) (w32 (w32 (a2 * 128) + 3)) (h 434 3) a3 x16 ↔ (0 : Int) ≤ w32 (w32 (a2 * 128) + 3) ∧ (0 : Int) ≤ a3 ∧ (0 : Int) ≤ x16 ∧ w32 (w32 (a2 * 128) + 3) + x16 ≤ 25728 ∧ a3 + x16 ≤ 24200 from by rw [r_434_0 hS, r_434_3 hS]; exact cpg (by rw [k_435 hS]) (by rw [k_438 hS]) ((by decide)) ((by decide)) (l_435 hS) (l_438 hS)).mpr x0⟩ (fun g3 => ?_)
    refine EQ_jl (by rw [r_434_0 hS, r_434_3 hS]) (fun h17 eh17 => ?_)
    have s4 := Sh_of eh17 (Sh_cpy hS (by decide +kernel) (g3.2.1) (fun _ => ⟨k_435 hS, g3.1⟩))
    clear eh17
    refine EQ_jl rfl (fun x18 ex18 => ?_)
    clear ex18
    refine EQ_jgd (show h17 434 (-2) = 13 from by rw [k_434 s4]) ?_
    refine EQ_jg ⟨fun ⟨_, x0⟩ => (show jI (w32 (w32 (a2 * 128) + 1)) (h17 (h17 434 0) (-1)) ↔ jI (w32 (w32 (a2 * 128) + 1)) 25728 from by rw [r_434_0 s4, l_435 s4]).mp x0, fun x0 => ⟨(show h17 (h17 434 0) (-2) = 103 from by rw [r_434_0 s4, k_435 s4]), (show jI (w32 (w32 (a2 * 128) + 1)) (h17 (h17 434 0) (-1)) ↔ jI (w32 (w32 (a2 * 128) + 1)) 25728 from by rw [r_434_0 s4, l_435 s4]).mpr x0⟩⟩ (fun g5 => ?_)
    refine EQ_if (show h17 (h17 434 0) (w32 (w32 (a2 * 128) + 1)) = 0 ↔ h17 435 (w32 (w32 (a2 * 128) + 1)) = 0 from by rw [r_434_0 s4]) (fun c6 => ?_) (fun c6 => ?_)
    · exact (eX12_again_j86_17 i1 a2 x18 1 s4)
    · exact (eX12_again_j86_17 i1 a2 x18 0 s4)
noncomputable def gX12_again_l17 (i1 : Int) (a2 : Int) (a3 : Int) (a4 : Int) (h : AH) : Option (Int × Int × AH) := jit (gX12_again_b17 i1) (a2, a3, a4, h)
theorem eX12_again_l17 (i1 : Int) (a2 : Int) (a3 : Int) (a4 : Int) {h : AH} (hS : Sh S h) : EQ (fX12_again_l17 434 i1 a2 a3 a4 h) (gX12_again_l17 i1 a2 a3 a4 h) (fun r => Sh S r.2.2) := EQ_jit (I := (fun r => Sh S r.2.2.2)) (fun s hs => eX12_again_b17 i1 hs) hS
noncomputable def gX12_again_b4 (s : Int × Int × AH) : Option ((Int × Int × AH) ⊕ (Int × AH)) := jt3 s fun a1 a2 h => if h 434 4 < a2 then (some (.inr (a1, h))) else (jb (gX12_again_l17 a1 a2 0 1 h) fun o6 => jt3 o6 fun y8 y9 h10 => jb2 (gX12_again_2 y9 h10) fun v12 h13 => jl (w32 (a1 + v12)) fun x14 => some (.inl (x14, y8, h13)))
theorem eX12_again_b4 {s : Int × Int × AH} (hS : (fun r => Sh S r.2.2) s) : EQ (fX12_again_b4 434 s) (gX12_again_b4 s) (Sum.elim (fun r => Sh S r.2.2) (fun r => Sh S r.2)) := by
  unfold fX12_again_b4 gX12_again_b4
  obtain ⟨a1, a2, h⟩ := s
  refine EQ_jt3 ?_
  replace hS : Sh S h := hS
  refine EQ_jgd (show h 434 (-2) = 13 from by rw [k_434 hS]) ?_
  refine EQ_if Iff.rfl (fun c1 => ?_) (fun c1 => ?_)
  · exact EQ_some hS
  · refine EQ_jb (eX12_again_l17 a1 a2 0 1 hS) (fun o6 r2 => ?_)
    obtain ⟨y8, y9, h10⟩ := o6
    refine EQ_jt3 ?_
    replace r2 : Sh S h10 := r2
    refine EQ_jgd (show h10 434 (-2) = 13 from by rw [k_434 r2]) ?_
    refine EQ_jb2 (eX12_again_2 y9 r2) (fun v12 h13 r3 => ?_)
    replace r3 : Sh S h13 := r3
    refine EQ_jl rfl (fun x14 ex14 => ?_)
    clear ex14
    exact EQ_some r3
noncomputable def gX12_again_l4 (a1 : Int) (a2 : Int) (h : AH) : Option (Int × AH) := jit gX12_again_b4 (a1, a2, h)
theorem eX12_again_l4 (a1 : Int) (a2 : Int) {h : AH} (hS : Sh S h) : EQ (fX12_again_l4 434 a1 a2 h) (gX12_again_l4 a1 a2 h) (fun r => Sh S r.2) := EQ_jit (I := (fun r => Sh S r.2.2)) (fun s hs => eX12_again_b4 hs) hS
noncomputable def gX12_again (h : AH) : Option (Int × AH) := jb (gX12_again_l4 0 1 h) fun o1 => jt2 o1 fun y3 h4 => some (y3, h4)
theorem eX12_again {h : AH} (hS : Sh S h) : EQ (fX12_again 434 h) (gX12_again h) (fun r => Sh S r.2) := by
  unfold fX12_again gX12_again
  refine EQ_jb (eX12_again_l4 0 1 hS) (fun o1 r1 => ?_)
  obtain ⟨y3, h4⟩ := o1
  refine EQ_jt2 ?_
  replace r1 : Sh S h4 := r1
  exact EQ_some r1
noncomputable def gX1_start (h : AH) : Option (Int × AH) := if h 200 53 = 0 then (some ((-2), h)) else (jl (jst h 200 53 0) fun h2 => jl (jst h2 434 8 (-1)) fun h3 => jl (jst h3 434 5 0) fun h4 => jl (jst h4 434 6 0) fun h5 => jl (jst h5 200 7 0) fun h6 => jl (jst h6 258 0 0) fun h7 => jl (jst h7 200 37 0) fun h8 => jl (jst h8 (h8 200 32) 0 0) fun h9 => jb (gX9_clear h9) fun h11 => jl (jst h11 424 0 0) fun h12 => jb (gX4_clear (h12 200 16) h12) fun h14 => jb (gX8_clear (h14 200 39) h14) fun h16 => jl (jst h16 200 23 0) fun h17 => jb (gX12_findUsed h17) fun h19 => jl (h19 200 56) fun x20 => jb2 (gX12_again h19) fun v22 h23 => jl (jst h23 200 56 x20) fun h24 => some (v22, h24))
theorem eX1_start {h : AH} (hS : Sh S h) : EQ (fX1_start 200 h) (gX1_start h) (fun r => Sh S r.2) := by
  unfold fX1_start gX1_start
  refine EQ_jgd (show h 200 (-2) = 2 from by rw [k_200 hS]) ?_
  refine EQ_if Iff.rfl (fun c1 => ?_) (fun c1 => ?_)
  · exact EQ_some hS
  · refine EQ_jgd ⟨(show h 200 (-2) = 2 from by rw [k_200 hS]), (show (200 : Int) ≤ 200 from (by decide)), (show jZ 0 from by unfold jZ; decide)⟩ ?_
    refine EQ_jl rfl (fun h2 eh2 => ?_)
    have s2 := Sh_of eh2 (Sh_sto hS (a := 200) (i := 53) (by decide +kernel))
    clear eh2
    refine EQ_jgd (show h2 200 (-2) = 2 from by rw [k_200 s2]) ?_
    refine EQ_jgd ⟨(show h2 (h2 200 52) (-2) = 13 from by rw [r_200_52 s2, k_434 s2]), (show 200 ≤ h2 200 52 from by rw [r_200_52 s2]; exact (by decide))⟩ ?_
    refine EQ_jl (by rw [r_200_52 s2]) (fun h3 eh3 => ?_)
    have s3 := Sh_of eh3 (Sh_sto s2 (a := 434) (i := 8) (by decide +kernel))
    clear eh3
    refine EQ_jgd (show h3 200 (-2) = 2 from by rw [k_200 s3]) ?_
    refine EQ_jgd ⟨(show h3 (h3 200 52) (-2) = 13 from by rw [r_200_52 s3, k_434 s3]), (show 200 ≤ h3 200 52 from by rw [r_200_52 s3]; exact (by decide))⟩ ?_
    refine EQ_jl (by rw [r_200_52 s3]) (fun h4 eh4 => ?_)
    have s4 := Sh_of eh4 (Sh_sto s3 (a := 434) (i := 5) (by decide +kernel))
    clear eh4
    refine EQ_jgd (show h4 200 (-2) = 2 from by rw [k_200 s4]) ?_
    refine EQ_jgd ⟨(show h4 (h4 200 52) (-2) = 13 from by rw [r_200_52 s4, k_434 s4]), (show 200 ≤ h4 200 52 from by rw [r_200_52 s4]; exact (by decide))⟩ ?_
    refine EQ_jl (by rw [r_200_52 s4]) (fun h5 eh5 => ?_)
    have s5 := Sh_of eh5 (Sh_sto s4 (a := 434) (i := 6) (by decide +kernel))
    clear eh5
    refine EQ_jgd ⟨(show h5 200 (-2) = 2 from by rw [k_200 s5]), (show (200 : Int) ≤ 200 from (by decide))⟩ ?_
    refine EQ_jl rfl (fun h6 eh6 => ?_)
    have s6 := Sh_of eh6 (Sh_sto s5 (a := 200) (i := 7) (by decide +kernel))
    clear eh6
    refine EQ_jgd (show h6 200 (-2) = 2 from by rw [k_200 s6]) ?_
    refine EQ_jgd ⟨(show h6 (h6 200 1) (-2) = 4 from by rw [r_200_1 s6, k_258 s6]), (show 200 ≤ h6 200 1 from by rw [r_200_1 s6]; exact (by decide))⟩ ?_
    refine EQ_jl (by rw [r_200_1 s6]) (fun h7 eh7 => ?_)
    have s7 := Sh_of eh7 (Sh_sto s6 (a := 258) (i := 0) (by decide +kernel))
    clear eh7
    refine EQ_jgd ⟨(show h7 200 (-2) = 2 from by rw [k_200 s7]), (show (200 : Int) ≤ 200 from (by decide))⟩ ?_
    refine EQ_jl rfl (fun h8 eh8 => ?_)
    have s8 := Sh_of eh8 (Sh_sto s7 (a := 200) (i := 37) (by decide +kernel))
    clear eh8
    refine EQ_jgd (show h8 200 (-2) = 2 from by rw [k_200 s8]) ?_
    refine EQ_jgd ⟨(show h8 (h8 200 32) (-2) = 4 from by rw [kd_X3 s8 (dy_200_32 s8)]), (show 200 ≤ h8 200 32 from ge_X3 (dy_200_32 s8))⟩ ?_
    refine EQ_jl rfl (fun h9 eh9 => ?_)
    have s9 := Sh_of eh9 (Sh_sto_X3_0 s8 (dy_200_32 s8))
    clear eh9
    refine EQ_jgd (show h9 200 (-2) = 2 from by rw [k_200 s9]) ?_
    refine EQ_jgd (show h9 (h9 200 49) (-2) = 10 from by rw [r_200_49 s9, k_408 s9]) ?_
    refine EQ_jb (by rw [r_200_49 s9]; exact eX9_clear s9) (fun h11 r10 => ?_)
    refine EQ_jgd (show h11 200 (-2) = 2 from by rw [k_200 r10]) ?_
    refine EQ_jgd ⟨(show h11 (h11 200 50) (-2) = 11 from by rw [r_200_50 r10, k_424 r10]), (show 200 ≤ h11 200 50 from by rw [r_200_50 r10]; exact (by decide))⟩ ?_
    refine EQ_jl (by rw [r_200_50 r10]) (fun h12 eh12 => ?_)
    have s11 := Sh_of eh12 (Sh_sto r10 (a := 424) (i := 0) (by decide +kernel))
    clear eh12
    refine EQ_jgd (show h12 200 (-2) = 2 from by rw [k_200 s11]) ?_
    refine EQ_jgd (show h12 (h12 200 16) (-2) = 5 from by rw [kd_X4 s11 (dy_200_16 s11)]) ?_
    refine EQ_jb (eX4_clear (h12 200 16) (dy_200_16 s11) s11) (fun h14 r12 => ?_)
    refine EQ_jgd (show h14 200 (-2) = 2 from by rw [k_200 r12]) ?_
    refine EQ_jgd (show h14 (h14 200 39) (-2) = 9 from by rw [kd_X8 r12 (dy_200_39 r12)]) ?_
    refine EQ_jb (eX8_clear (h14 200 39) (dy_200_39 r12) r12) (fun h16 r13 => ?_)
    refine EQ_jgd ⟨(show h16 200 (-2) = 2 from by rw [k_200 r13]), (show (200 : Int) ≤ 200 from (by decide)), (show jZ 0 from by unfold jZ; decide)⟩ ?_
    refine EQ_jl rfl (fun h17 eh17 => ?_)
    have s14 := Sh_of eh17 (Sh_sto r13 (a := 200) (i := 23) (by decide +kernel))
    clear eh17
    refine EQ_jgd (show h17 200 (-2) = 2 from by rw [k_200 s14]) ?_
    refine EQ_jgd (show h17 (h17 200 52) (-2) = 13 from by rw [r_200_52 s14, k_434 s14]) ?_
    refine EQ_jb (by rw [r_200_52 s14]; exact eX12_findUsed s14) (fun h19 r15 => ?_)
    refine EQ_jgd (show h19 200 (-2) = 2 from by rw [k_200 r15]) ?_
    refine EQ_jl rfl (fun x20 ex20 => ?_)
    clear ex20
    refine EQ_jgd (show h19 200 (-2) = 2 from by rw [k_200 r15]) ?_
    refine EQ_jgd (show h19 (h19 200 52) (-2) = 13 from by rw [r_200_52 r15, k_434 r15]) ?_
    refine EQ_jb2 (by rw [r_200_52 r15]; exact eX12_again r15) (fun v22 h23 r16 => ?_)
    replace r16 : Sh S h23 := r16
    refine EQ_jgd ⟨(show h23 200 (-2) = 2 from by rw [k_200 r16]), (show (200 : Int) ≤ 200 from (by decide))⟩ ?_
    refine EQ_jl rfl (fun h24 eh24 => ?_)
    have s17 := Sh_of eh24 (Sh_sto r16 (a := 200) (i := 56) (by decide +kernel))
    clear eh24
    exact EQ_some s17
noncomputable def gX14_thrown (h : AH) : Option (Int) := some (h 454 51)
theorem eX14_thrown {h : AH} (hS : Sh S h) : EQ (fX14_thrown 454 h) (gX14_thrown h) (fun _ => True) := by
  unfold fX14_thrown gX14_thrown
  refine EQ_jgd (show h 454 (-2) = 15 from by rw [k_454 hS]) ?_
  exact EQ_some trivial
noncomputable def gX14_feed_2_b3 (i1 : Int) (s : Int × AH) : Option ((Int × AH) ⊕ (AH)) := jt2 s fun a2 h => if a2 < 0 then (some (.inr h)) else (jg (jI (h 454 53) 2000) <| jl (jst h 790 (h 454 53) (jand (jshr i1 a2) 255)) fun h4 => jl (jst h4 454 53 (w32 (h4 454 53 + 1))) fun h5 => jl (w32 (a2 + (-8))) fun x6 => some (.inl (x6, h5)))
theorem eX14_feed_2_b3 (i1 : Int) {s : Int × AH} (hS : (fun r => Sh S r.2) s) : EQ (fX14_feed_2_b3 454 i1 s) (gX14_feed_2_b3 i1 s) (Sum.elim (fun r => Sh S r.2) (fun r => Sh S r)) := by
  unfold fX14_feed_2_b3 gX14_feed_2_b3
  obtain ⟨a2, h⟩ := s
  refine EQ_jt2 ?_
  replace hS : Sh S h := hS
  refine EQ_if Iff.rfl (fun c1 => ?_) (fun c1 => ?_)
  · exact EQ_some hS
  · refine EQ_jgd (show h 454 (-2) = 15 from by rw [k_454 hS]) ?_
    refine EQ_jgd (show h 454 (-2) = 15 from by rw [k_454 hS]) ?_
    refine EQ_jg ⟨fun ⟨_, _, x0⟩ => (show jI (h 454 53) (h (h 454 52) (-1)) ↔ jI (h 454 53) 2000 from by rw [r_454_52 hS, l_790 hS]).mp x0, fun x0 => ⟨(show h (h 454 52) (-2) = 101 from by rw [r_454_52 hS, k_790 hS]), (show 200 ≤ h 454 52 from by rw [r_454_52 hS]; exact (by decide)), (show jI (h 454 53) (h (h 454 52) (-1)) ↔ jI (h 454 53) 2000 from by rw [r_454_52 hS, l_790 hS]).mpr x0⟩⟩ (fun g2 => ?_)
    refine EQ_jl (by rw [r_454_52 hS]) (fun h4 eh4 => ?_)
    have s3 := Sh_of eh4 (Sh_sta hS (by decide +kernel) (jI_nn g2) (fun e => absurd ((k_790 hS).symm.trans e) (by decide)))
    clear eh4
    refine EQ_jgd (show h4 454 (-2) = 15 from by rw [k_454 s3]) ?_
    refine EQ_jgd ⟨(show h4 454 (-2) = 15 from by rw [k_454 s3]), (show (200 : Int) ≤ 454 from (by decide))⟩ ?_
    refine EQ_jl rfl (fun h5 eh5 => ?_)
    have s4 := Sh_of eh5 (Sh_sto s3 (a := 454) (i := 53) (by decide +kernel))
    clear eh5
    refine EQ_jl rfl (fun x6 ex6 => ?_)
    clear ex6
    exact EQ_some s4
noncomputable def gX14_feed_2_l3 (i1 : Int) (a2 : Int) (h : AH) : Option (AH) := jit (gX14_feed_2_b3 i1) (a2, h)
theorem eX14_feed_2_l3 (i1 : Int) (a2 : Int) {h : AH} (hS : Sh S h) : EQ (fX14_feed_2_l3 454 i1 a2 h) (gX14_feed_2_l3 i1 a2 h) (fun r => Sh S r) := EQ_jit (I := (fun r => Sh S r.2)) (fun s hs => eX14_feed_2_b3 i1 hs) hS
noncomputable def gX14_feed_2 (a1 : Int) (h : AH) : Option (AH) := jb (gX14_feed_2_l3 a1 24 h) fun o1 => some o1
theorem eX14_feed_2 (a1 : Int) {h : AH} (hS : Sh S h) : EQ (fX14_feed_2 454 a1 h) (gX14_feed_2 a1 h) (fun r => Sh S r) := by
  unfold fX14_feed_2 gX14_feed_2
  refine EQ_jb (eX14_feed_2_l3 a1 24 hS) (fun o1 r1 => ?_)
  exact EQ_some r1
noncomputable def gX14_feed_j19 (a1 : Int) (a2 : Int) (a3 : Int) (a4 : Int) (a5 : Int) (t1 : Int) (h : AH) : Option (Int × AH) := jl (jst h 454 51 t1) fun h2 => if h2 454 51 ≤ 0 then (jb (gX14_feed_2 a1 h2) fun h5 => jb (gX14_feed_2 a2 h5) fun h7 => jb (gX14_feed_2 a3 h7) fun h9 => jb (gX14_feed_2 a4 h9) fun h11 => jb (gX14_feed_2 a5 h11) fun h13 => some (h13 454 53, h13)) else (some (0, h2))
theorem eX14_feed_j19 (a1 : Int) (a2 : Int) (a3 : Int) (a4 : Int) (a5 : Int) (t1 : Int) {h : AH} (hS : Sh S h) : EQ (fX14_feed_j19 454 a1 a2 a3 a4 a5 454 t1 h) (gX14_feed_j19 a1 a2 a3 a4 a5 t1 h) (fun r => Sh S r.2) := by
  unfold fX14_feed_j19 gX14_feed_j19
  refine EQ_jgd ⟨(show h 454 (-2) = 15 from by rw [k_454 hS]), (show (200 : Int) ≤ 454 from (by decide))⟩ ?_
  refine EQ_jl rfl (fun h2 eh2 => ?_)
  have s1 := Sh_of eh2 (Sh_sto hS (a := 454) (i := 51) (by decide +kernel))
  clear eh2
  refine EQ_jgd (show h2 454 (-2) = 15 from by rw [k_454 s1]) ?_
  refine EQ_if Iff.rfl (fun c2 => ?_) (fun c2 => ?_)
  · refine EQ_jgd (show h2 454 (-2) = 15 from by rw [k_454 s1]) ?_
    refine EQ_jb (eX14_feed_2 a1 s1) (fun h5 r3 => ?_)
    refine EQ_jgd (show h5 454 (-2) = 15 from by rw [k_454 r3]) ?_
    refine EQ_jb (eX14_feed_2 a2 r3) (fun h7 r4 => ?_)
    refine EQ_jgd (show h7 454 (-2) = 15 from by rw [k_454 r4]) ?_
    refine EQ_jb (eX14_feed_2 a3 r4) (fun h9 r5 => ?_)
    refine EQ_jgd (show h9 454 (-2) = 15 from by rw [k_454 r5]) ?_
    refine EQ_jb (eX14_feed_2 a4 r5) (fun h11 r6 => ?_)
    refine EQ_jgd (show h11 454 (-2) = 15 from by rw [k_454 r6]) ?_
    refine EQ_jb (eX14_feed_2 a5 r6) (fun h13 r7 => ?_)
    refine EQ_jgd (show h13 454 (-2) = 15 from by rw [k_454 r7]) ?_
    exact EQ_some r7
  · exact EQ_some s1
noncomputable def gX14_feed (a1 : Int) (a2 : Int) (a3 : Int) (a4 : Int) (a5 : Int) (h : AH) : Option (Int × AH) := if w32 (h 454 53 + 20) ≤ 2000 then (gX14_feed_j19 a1 a2 a3 a4 a5 0 h) else (gX14_feed_j19 a1 a2 a3 a4 a5 1 h)
theorem eX14_feed (a1 : Int) (a2 : Int) (a3 : Int) (a4 : Int) (a5 : Int) {h : AH} (hS : Sh S h) : EQ (fX14_feed 454 a1 a2 a3 a4 a5 h) (gX14_feed a1 a2 a3 a4 a5 h) (fun r => Sh S r.2) := by
  unfold fX14_feed gX14_feed
  refine EQ_jgd (show h 454 (-2) = 15 from by rw [k_454 hS]) ?_
  refine EQ_if Iff.rfl (fun c1 => ?_) (fun c1 => ?_)
  · exact (eX14_feed_j19 a1 a2 a3 a4 a5 0 hS)
  · exact (eX14_feed_j19 a1 a2 a3 a4 a5 1 hS)
noncomputable def gX14_in (a0 : Int) (a2 : Int) (a4 : Int) : Option (Int) := if jcmp a0 a2 < 0 then (some 0) else (if 0 < jcmp a0 a4 then (some 0) else (some 1))
theorem eX14_in (a0 : Int) (a2 : Int) (a4 : Int) : EQ (fX14_in a0 a2 a4) (gX14_in a0 a2 a4) (fun _ => True) := by
  unfold fX14_in gX14_in
  refine EQ_if Iff.rfl (fun c1 => ?_) (fun c1 => ?_)
  · exact EQ_some trivial
  · refine EQ_if Iff.rfl (fun c2 => ?_) (fun c2 => ?_)
    · exact EQ_some trivial
    · exact EQ_some trivial
noncomputable def gX14_end_j20 (a1 : Int) (t1 : Int) (h : AH) : Option (AH) := jl (jst h 454 51 t1) fun h4 => if h4 454 51 = 0 then (jl (jst h4 454 53 a1) fun h6 => some h6) else (some h4)
theorem eX14_end_j20 (a1 : Int) (t1 : Int) {h : AH} (hS : Sh S h) : EQ (fX14_end_j20 454 a1 454 t1 h) (gX14_end_j20 a1 t1 h) (fun r => Sh S r) := by
  unfold fX14_end_j20 gX14_end_j20
  refine EQ_jgd ⟨(show h 454 (-2) = 15 from by rw [k_454 hS]), (show (200 : Int) ≤ 454 from (by decide))⟩ ?_
  refine EQ_jl rfl (fun h4 eh4 => ?_)
  have s1 := Sh_of eh4 (Sh_sto hS (a := 454) (i := 51) (by decide +kernel))
  clear eh4
  refine EQ_jgd (show h4 454 (-2) = 15 from by rw [k_454 s1]) ?_
  refine EQ_if Iff.rfl (fun c2 => ?_) (fun c2 => ?_)
  · refine EQ_jgd ⟨(show h4 454 (-2) = 15 from by rw [k_454 s1]), (show (200 : Int) ≤ 454 from (by decide))⟩ ?_
    refine EQ_jl rfl (fun h6 eh6 => ?_)
    have s3 := Sh_of eh6 (Sh_sto s1 (a := 454) (i := 53) (by decide +kernel))
    clear eh6
    exact EQ_some s3
  · exact EQ_some s1
noncomputable def gX14_end (a1 : Int) (h : AH) : Option (AH) := jb (gX14_in a1 0 (h 454 53)) fun v2 => if v2 = 0 then (gX14_end_j20 a1 1 h) else (gX14_end_j20 a1 0 h)
theorem eX14_end (a1 : Int) {h : AH} (hS : Sh S h) : EQ (fX14_end 454 a1 h) (gX14_end a1 h) (fun r => Sh S r) := by
  unfold fX14_end gX14_end
  refine EQ_jgd (show h 454 (-2) = 15 from by rw [k_454 hS]) ?_
  refine EQ_jb (eX14_in a1 0 (h 454 53)) (fun v2 r1 => ?_)
  refine EQ_if Iff.rfl (fun c2 => ?_) (fun c2 => ?_)
  · exact (eX14_end_j20 a1 1 hS)
  · exact (eX14_end_j20 a1 0 hS)
noncomputable def gX14_place (h : AH) : Option (Int × AH) := jl (jst h 454 51 0) fun h1 => some (h1 454 55, h1)
theorem eX14_place {h : AH} (hS : Sh S h) : EQ (fX14_place 454 h) (gX14_place h) (fun r => Sh S r.2) := by
  unfold fX14_place gX14_place
  refine EQ_jgd ⟨(show h 454 (-2) = 15 from by rw [k_454 hS]), (show (200 : Int) ≤ 454 from (by decide))⟩ ?_
  refine EQ_jl rfl (fun h1 eh1 => ?_)
  have s1 := Sh_of eh1 (Sh_sto hS (a := 454) (i := 51) (by decide +kernel))
  clear eh1
  refine EQ_jgd (show h1 454 (-2) = 15 from by rw [k_454 s1]) ?_
  exact EQ_some s1
noncomputable def gX14_isDown (h : AH) : Option (Int × AH) := jl (jst h 454 51 0) fun h1 => jg (jZ (h1 454 54)) <| some (h1 454 54, h1)
theorem eX14_isDown {h : AH} (hS : Sh S h) : EQ (fX14_isDown 454 h) (gX14_isDown h) (fun r => Sh S r.2) := by
  unfold fX14_isDown gX14_isDown
  refine EQ_jgd ⟨(show h 454 (-2) = 15 from by rw [k_454 hS]), (show (200 : Int) ≤ 454 from (by decide))⟩ ?_
  refine EQ_jl rfl (fun h1 eh1 => ?_)
  have s1 := Sh_of eh1 (Sh_sto hS (a := 454) (i := 51) (by decide +kernel))
  clear eh1
  refine EQ_jgd (show h1 454 (-2) = 15 from by rw [k_454 s1]) ?_
  refine EQ_jg Iff.rfl (fun g2 => ?_)
  exact EQ_some s1
noncomputable def gX14_told_j40 (a1 : Int) (h : AH) : Option (Int × AH) := if a1 < 0 ∨ 11 < a1 then (jg (isX16 (h 454 38)) <| some (h (h 454 38) 18, h)) else (if a1 = 0 then (some (w32 (h 454 5 - 26), h)) else (if a1 = 1 then (some (h 454 77, h)) else (if a1 = 2 then (some (h 454 109, h)) else (if a1 = 3 then (some (h 454 128, h)) else (if a1 = 4 then (some (h 454 154, h)) else (if a1 = 5 then (some (h 454 156, h)) else (if a1 = 6 then (some (h 454 160, h)) else (if a1 = 7 then (some (h 454 53, h)) else (if a1 = 8 then (jg (isX16 (h 454 38)) <| some (h (h 454 38) 3, h)) else (if a1 = 9 then (jg (isX16 (h 454 38)) <| some (h (h 454 38) 5, h)) else (if a1 = 10 then (jg (isX16 (h 454 38)) <| some (h (h 454 38) 9, h)) else (jg (isX16 (h 454 38)) <| some (h (h 454 38) 12, h)))))))))))))
theorem eX14_told_j40 (a1 : Int) {h : AH} (hS : Sh S h) : EQ (fX14_told_j40 454 a1 h) (gX14_told_j40 a1 h) (fun r => Sh S r.2) := by
  unfold fX14_told_j40 gX14_told_j40
  refine EQ_if Iff.rfl (fun c1 => ?_) (fun c1 => ?_)
  · refine EQ_jgd (show h 454 (-2) = 15 from by rw [k_454 hS]) ?_
    refine EQ_jg ⟨fun x0 => (ik_X16 hS).mp x0, fun x0 => (ik_X16 hS).mpr x0⟩ (fun g2 => ?_)
    exact EQ_some hS
  · refine EQ_if Iff.rfl (fun c3 => ?_) (fun c3 => ?_)
    · refine EQ_jgd (show h 454 (-2) = 15 from by rw [k_454 hS]) ?_
      exact EQ_some hS
    · refine EQ_if Iff.rfl (fun c4 => ?_) (fun c4 => ?_)
      · refine EQ_jgd (show h 454 (-2) = 15 from by rw [k_454 hS]) ?_
        exact EQ_some hS
      · refine EQ_if Iff.rfl (fun c5 => ?_) (fun c5 => ?_)
        · refine EQ_jgd (show h 454 (-2) = 15 from by rw [k_454 hS]) ?_
          exact EQ_some hS
        · refine EQ_if Iff.rfl (fun c6 => ?_) (fun c6 => ?_)
          · refine EQ_jgd (show h 454 (-2) = 15 from by rw [k_454 hS]) ?_
            exact EQ_some hS
          · refine EQ_if Iff.rfl (fun c7 => ?_) (fun c7 => ?_)
            · refine EQ_jgd (show h 454 (-2) = 15 from by rw [k_454 hS]) ?_
              exact EQ_some hS
            · refine EQ_if Iff.rfl (fun c8 => ?_) (fun c8 => ?_)
              · refine EQ_jgd (show h 454 (-2) = 15 from by rw [k_454 hS]) ?_
                exact EQ_some hS
              · refine EQ_if Iff.rfl (fun c9 => ?_) (fun c9 => ?_)
                · refine EQ_jgd (show h 454 (-2) = 15 from by rw [k_454 hS]) ?_
                  exact EQ_some hS
                · refine EQ_if Iff.rfl (fun c10 => ?_) (fun c10 => ?_)
                  · refine EQ_jgd (show h 454 (-2) = 15 from by rw [k_454 hS]) ?_
                    exact EQ_some hS
                  · refine EQ_if Iff.rfl (fun c11 => ?_) (fun c11 => ?_)
                    · refine EQ_jgd (show h 454 (-2) = 15 from by rw [k_454 hS]) ?_
                      refine EQ_jg ⟨fun x0 => (ik_X16 hS).mp x0, fun x0 => (ik_X16 hS).mpr x0⟩ (fun g12 => ?_)
                      exact EQ_some hS
                    · refine EQ_if Iff.rfl (fun c13 => ?_) (fun c13 => ?_)
                      · refine EQ_jgd (show h 454 (-2) = 15 from by rw [k_454 hS]) ?_
                        refine EQ_jg ⟨fun x0 => (ik_X16 hS).mp x0, fun x0 => (ik_X16 hS).mpr x0⟩ (fun g14 => ?_)
                        exact EQ_some hS
                      · refine EQ_if Iff.rfl (fun c15 => ?_) (fun c15 => ?_)
                        · refine EQ_jgd (show h 454 (-2) = 15 from by rw [k_454 hS]) ?_
                          refine EQ_jg ⟨fun x0 => (ik_X16 hS).mp x0, fun x0 => (ik_X16 hS).mpr x0⟩ (fun g16 => ?_)
                          exact EQ_some hS
                        · refine EQ_jgd (show h 454 (-2) = 15 from by rw [k_454 hS]) ?_
                          refine EQ_jg ⟨fun x0 => (ik_X16 hS).mp x0, fun x0 => (ik_X16 hS).mpr x0⟩ (fun g17 => ?_)
                          exact EQ_some hS
noncomputable def gX14_told (a1 : Int) (h : AH) : Option (Int × AH) := jb2 (gX14_isDown h) fun v2 h3 => if v2 = 0 then (jb (gX14_in a1 0 12) fun v6 => if v6 = 0 then (some ((-1), h3)) else (if a1 ≤ 7 then (gX14_told_j40 a1 h3) else (if h3 454 38 = 0 then (some ((-2), h3)) else (gX14_told_j40 a1 h3)))) else (some ((-5), h3))
theorem eX14_told (a1 : Int) {h : AH} (hS : Sh S h) : EQ (fX14_told 454 a1 h) (gX14_told a1 h) (fun r => Sh S r.2) := by
  unfold fX14_told gX14_told
  refine EQ_jgd (show h 454 (-2) = 15 from by rw [k_454 hS]) ?_
  refine EQ_jb2 (eX14_isDown hS) (fun v2 h3 r1 => ?_)
  replace r1 : Sh S h3 := r1
  refine EQ_if Iff.rfl (fun c2 => ?_) (fun c2 => ?_)
  · refine EQ_jb (eX14_in a1 0 12) (fun v6 r3 => ?_)
    refine EQ_if Iff.rfl (fun c4 => ?_) (fun c4 => ?_)
    · exact EQ_some r1
    · refine EQ_if Iff.rfl (fun c5 => ?_) (fun c5 => ?_)
      · exact (eX14_told_j40 a1 r1)
      · refine EQ_jgd (show h3 454 (-2) = 15 from by rw [k_454 r1]) ?_
        refine EQ_if Iff.rfl (fun c6 => ?_) (fun c6 => ?_)
        · exact EQ_some r1
        · exact (eX14_told_j40 a1 r1)
  · exact EQ_some r1
noncomputable def gX14_takeTape_b7 (s : Int × AH) : Option ((Int × AH) ⊕ (AH)) := jt2 s fun a1 h => if h 454 53 ≤ a1 then (some (.inr h)) else (jg (jI a1 2000) <| jl (jst h 473 a1 (h 790 a1)) fun h7 => jl (w32 (a1 + 1)) fun x8 => some (.inl (x8, h7)))
theorem eX14_takeTape_b7 {s : Int × AH} (hS : (fun r => Sh S r.2) s) : EQ (fX14_takeTape_b7 454 s) (gX14_takeTape_b7 s) (Sum.elim (fun r => Sh S r.2) (fun r => Sh S r)) := by
  unfold fX14_takeTape_b7 gX14_takeTape_b7
  obtain ⟨a1, h⟩ := s
  refine EQ_jt2 ?_
  replace hS : Sh S h := hS
  refine EQ_jgd (show h 454 (-2) = 15 from by rw [k_454 hS]) ?_
  refine EQ_if Iff.rfl (fun c1 => ?_) (fun c1 => ?_)
  · exact EQ_some hS
  · refine EQ_jgd (show h 454 (-2) = 15 from by rw [k_454 hS]) ?_
    refine EQ_jgd (show h 454 (-2) = 15 from by rw [k_454 hS]) ?_
    refine EQ_jg ⟨fun ⟨_, x0⟩ => (show jI a1 (h (h 454 52) (-1)) ↔ jI a1 2000 from by rw [r_454_52 hS, l_790 hS]).mp x0, fun x0 => ⟨(show h (h 454 52) (-2) = 101 from by rw [r_454_52 hS, k_790 hS]), (show jI a1 (h (h 454 52) (-1)) ↔ jI a1 2000 from by rw [r_454_52 hS, l_790 hS]).mpr x0⟩⟩ (fun g2 => ?_)
    refine EQ_jgd ⟨(show h (h 454 24) (-2) = 101 from by rw [r_454_24 hS, k_473 hS]), (show 200 ≤ h 454 24 from by rw [r_454_24 hS]; exact (by decide)), ((show jI a1 (h (h 454 24) (-1)) ↔ jI a1 2000 from by rw [r_454_24 hS, l_473 hS]).mpr g2)⟩ ?_
    refine EQ_jl (by rw [r_454_24 hS, r_454_52 hS]) (fun h7 eh7 => ?_)
    have s3 := Sh_of eh7 (Sh_sta hS (by decide +kernel) (jI_nn g2) (fun e => absurd ((k_473 hS).symm.trans e) (by decide)))
    clear eh7
    refine EQ_jl rfl (fun x8 ex8 => ?_)
    clear ex8
    exact EQ_some s3
noncomputable def gX14_takeTape_l7 (a1 : Int) (h : AH) : Option (AH) := jit gX14_takeTape_b7 (a1, h)
theorem eX14_takeTape_l7 (a1 : Int) {h : AH} (hS : Sh S h) : EQ (fX14_takeTape_l7 454 a1 h) (gX14_takeTape_l7 a1 h) (fun r => Sh S r) := EQ_jit (I := (fun r => Sh S r.2)) (fun s hs => eX14_takeTape_b7 hs) hS
noncomputable def gX14_takeTape (h : AH) : Option (AH) := jl (jst h 454 51 0) fun h1 => jb (gX14_takeTape_l7 0 h1) fun o2 => jl (jst o2 454 25 (o2 454 53)) fun h4 => jl (jst h4 454 53 0) fun h5 => some h5
theorem eX14_takeTape {h : AH} (hS : Sh S h) : EQ (fX14_takeTape 454 h) (gX14_takeTape h) (fun r => Sh S r) := by
  unfold fX14_takeTape gX14_takeTape
  refine EQ_jgd ⟨(show h 454 (-2) = 15 from by rw [k_454 hS]), (show (200 : Int) ≤ 454 from (by decide))⟩ ?_
  refine EQ_jl rfl (fun h1 eh1 => ?_)
  have s1 := Sh_of eh1 (Sh_sto hS (a := 454) (i := 51) (by decide +kernel))
  clear eh1
  refine EQ_jb (eX14_takeTape_l7 0 s1) (fun o2 r2 => ?_)
  refine EQ_jgd (show o2 454 (-2) = 15 from by rw [k_454 r2]) ?_
  refine EQ_jgd ⟨(show o2 454 (-2) = 15 from by rw [k_454 r2]), (show (200 : Int) ≤ 454 from (by decide))⟩ ?_
  refine EQ_jl rfl (fun h4 eh4 => ?_)
  have s3 := Sh_of eh4 (Sh_sto r2 (a := 454) (i := 25) (by decide +kernel))
  clear eh4
  refine EQ_jgd ⟨(show h4 454 (-2) = 15 from by rw [k_454 s3]), (show (200 : Int) ≤ 454 from (by decide))⟩ ?_
  refine EQ_jl rfl (fun h5 eh5 => ?_)
  have s4 := Sh_of eh5 (Sh_sto s3 (a := 454) (i := 53) (by decide +kernel))
  clear eh5
  exact EQ_some s4
noncomputable def gX14_byteAt (a1 : Int) (h : AH) : Option (Int) := if h 454 25 ≤ a1 then (some (-1)) else (jg (jI a1 2000) <| some (h 473 a1))
theorem eX14_byteAt (a1 : Int) {h : AH} (hS : Sh S h) : EQ (fX14_byteAt 454 a1 h) (gX14_byteAt a1 h) (fun _ => True) := by
  unfold fX14_byteAt gX14_byteAt
  refine EQ_jgd (show h 454 (-2) = 15 from by rw [k_454 hS]) ?_
  refine EQ_if Iff.rfl (fun c1 => ?_) (fun c1 => ?_)
  · exact EQ_some trivial
  · refine EQ_jgd (show h 454 (-2) = 15 from by rw [k_454 hS]) ?_
    refine EQ_jg ⟨fun ⟨_, x0⟩ => (show jI a1 (h (h 454 24) (-1)) ↔ jI a1 2000 from by rw [r_454_24 hS, l_473 hS]).mp x0, fun x0 => ⟨(show h (h 454 24) (-2) = 101 from by rw [r_454_24 hS, k_473 hS]), (show jI a1 (h (h 454 24) (-1)) ↔ jI a1 2000 from by rw [r_454_24 hS, l_473 hS]).mpr x0⟩⟩ (fun g2 => ?_)
    exact EQ_some' (by rw [r_454_24 hS]) trivial
noncomputable def gX14_isLetter (a0 : Int) : Option (Int) := if a0 < 97 then (some 0) else (if 122 < a0 then (some 0) else (some 1))
theorem eX14_isLetter (a0 : Int) : EQ (fX14_isLetter a0) (gX14_isLetter a0) (fun _ => True) := by
  unfold fX14_isLetter gX14_isLetter
  refine EQ_if Iff.rfl (fun c1 => ?_) (fun c1 => ?_)
  · exact EQ_some trivial
  · refine EQ_if Iff.rfl (fun c2 => ?_) (fun c2 => ?_)
    · exact EQ_some trivial
    · exact EQ_some trivial
noncomputable def gX14_letters_j58_7 (a1 : Int) (a2 : Int) (t1 : Int) (h : AH) : Option ((Int × AH) ⊕ (Int × AH)) := jl (jst h 454 28 t1) fun h14 => jl (w32 (a2 + 1)) fun x15 => jl (jst h14 454 26 (w32 (h14 454 26 + 1))) fun h16 => some (.inl (x15, h16))
theorem eX14_letters_j58_7 (a1 : Int) (a2 : Int) (t1 : Int) {h : AH} (hS : Sh S h) : EQ (fX14_letters_j58_7 454 a1 a2 454 t1 h) (gX14_letters_j58_7 a1 a2 t1 h) (Sum.elim (fun r => Sh S r.2) (fun r => Sh S r.2)) := by
  unfold fX14_letters_j58_7 gX14_letters_j58_7
  refine EQ_jgd ⟨(show h 454 (-2) = 15 from by rw [k_454 hS]), (show (200 : Int) ≤ 454 from (by decide))⟩ ?_
  refine EQ_jl rfl (fun h14 eh14 => ?_)
  have s1 := Sh_of eh14 (Sh_sto hS (a := 454) (i := 28) (by decide +kernel))
  clear eh14
  refine EQ_jl rfl (fun x15 ex15 => ?_)
  clear ex15
  refine EQ_jgd (show h14 454 (-2) = 15 from by rw [k_454 s1]) ?_
  refine EQ_jgd ⟨(show h14 454 (-2) = 15 from by rw [k_454 s1]), (show (200 : Int) ≤ 454 from (by decide))⟩ ?_
  refine EQ_jl rfl (fun h16 eh16 => ?_)
  have s2 := Sh_of eh16 (Sh_sto s1 (a := 454) (i := 26) (by decide +kernel))
  clear eh16
  exact EQ_some s2
noncomputable def gX14_letters_b7 (i1 : Int) (s : Int × AH) : Option ((Int × AH) ⊕ (Int × AH)) := jt2 s fun a2 h => jb (gX14_byteAt (h 454 26) h) fun v7 => jb (gX14_isLetter v7) fun v9 => if v9 = 0 then (some (.inr (a2, h))) else (if i1 ≤ a2 then (gX14_letters_j58_7 i1 a2 (h 454 28) h) else (jb (gX14_byteAt (h 454 26) h) fun v13 => gX14_letters_j58_7 i1 a2 (w64 (w64 (w64 (w64 (h 454 28 * 27) + v13) - 97) + 1)) h))
theorem eX14_letters_b7 (i1 : Int) {s : Int × AH} (hS : (fun r => Sh S r.2) s) : EQ (fX14_letters_b7 454 i1 s) (gX14_letters_b7 i1 s) (Sum.elim (fun r => Sh S r.2) (fun r => Sh S r.2)) := by
  unfold fX14_letters_b7 gX14_letters_b7
  obtain ⟨a2, h⟩ := s
  refine EQ_jt2 ?_
  replace hS : Sh S h := hS
  refine EQ_jgd (show h 454 (-2) = 15 from by rw [k_454 hS]) ?_
  refine EQ_jgd (show h 454 (-2) = 15 from by rw [k_454 hS]) ?_
  refine EQ_jb (eX14_byteAt (h 454 26) hS) (fun v7 r1 => ?_)
  refine EQ_jb (eX14_isLetter v7) (fun v9 r2 => ?_)
  refine EQ_if Iff.rfl (fun c3 => ?_) (fun c3 => ?_)
  · exact EQ_some hS
  · refine EQ_if Iff.rfl (fun c4 => ?_) (fun c4 => ?_)
    · refine EQ_jgd (show h 454 (-2) = 15 from by rw [k_454 hS]) ?_
      exact (eX14_letters_j58_7 i1 a2 (h 454 28) hS)
    · refine EQ_jgd (show h 454 (-2) = 15 from by rw [k_454 hS]) ?_
      refine EQ_jgd (show h 454 (-2) = 15 from by rw [k_454 hS]) ?_
      refine EQ_jgd (show h 454 (-2) = 15 from by rw [k_454 hS]) ?_
      refine EQ_jb (eX14_byteAt (h 454 26) hS) (fun v13 r5 => ?_)
      exact (eX14_letters_j58_7 i1 a2 (w64 (w64 (w64 (w64 (h 454 28 * 27) + v13) - 97) + 1)) hS)
noncomputable def gX14_letters_l7 (i1 : Int) (a2 : Int) (h : AH) : Option (Int × AH) := jit (gX14_letters_b7 i1) (a2, h)
theorem eX14_letters_l7 (i1 : Int) (a2 : Int) {h : AH} (hS : Sh S h) : EQ (fX14_letters_l7 454 i1 a2 h) (gX14_letters_l7 i1 a2 h) (fun r => Sh S r.2) := EQ_jit (I := (fun r => Sh S r.2)) (fun s hs => eX14_letters_b7 i1 hs) hS
noncomputable def gX14_letters (a1 : Int) (h : AH) : Option (Int × AH) := jl (jst h 454 28 0) fun h1 => jb (gX14_letters_l7 a1 0 h1) fun o2 => jt2 o2 fun y4 h5 => some (y4, h5)
theorem eX14_letters (a1 : Int) {h : AH} (hS : Sh S h) : EQ (fX14_letters 454 a1 h) (gX14_letters a1 h) (fun r => Sh S r.2) := by
  unfold fX14_letters gX14_letters
  refine EQ_jgd ⟨(show h 454 (-2) = 15 from by rw [k_454 hS]), (show (200 : Int) ≤ 454 from (by decide))⟩ ?_
  refine EQ_jl rfl (fun h1 eh1 => ?_)
  have s1 := Sh_of eh1 (Sh_sto hS (a := 454) (i := 28) (by decide +kernel))
  clear eh1
  refine EQ_jb (eX14_letters_l7 a1 0 s1) (fun o2 r2 => ?_)
  obtain ⟨y4, h5⟩ := o2
  refine EQ_jt2 ?_
  replace r2 : Sh S h5 := r2
  exact EQ_some r2
noncomputable def gX14_fail (a1 : Int) (a2 : Int) (h : AH) : Option (Int × AH) := jl (jst h 472 6 a1) fun h1 => jl (jst h1 472 7 a2) fun h2 => some (472, h2)
theorem eX14_fail (a1 : Int) (a2 : Int) {h : AH} (hS : Sh S h) : EQ (fX14_fail 454 a1 a2 h) (gX14_fail a1 a2 h) (fun r => Sh S r.2) := by
  unfold fX14_fail gX14_fail
  refine EQ_jgd (show h 454 (-2) = 15 from by rw [k_454 hS]) ?_
  refine EQ_jgd ⟨(show h (h 454 23) (-2) = 16 from by rw [r_454_23 hS, k_472 hS]), (show 200 ≤ h 454 23 from by rw [r_454_23 hS]; exact (by decide))⟩ ?_
  refine EQ_jl (by rw [r_454_23 hS]) (fun h1 eh1 => ?_)
  have s1 := Sh_of eh1 (Sh_sto hS (a := 472) (i := 6) (by decide +kernel))
  clear eh1
  refine EQ_jgd (show h1 454 (-2) = 15 from by rw [k_454 s1]) ?_
  refine EQ_jgd ⟨(show h1 (h1 454 23) (-2) = 16 from by rw [r_454_23 s1, k_472 s1]), (show 200 ≤ h1 454 23 from by rw [r_454_23 s1]; exact (by decide))⟩ ?_
  refine EQ_jl (by rw [r_454_23 s1]) (fun h2 eh2 => ?_)
  have s2 := Sh_of eh2 (Sh_sto s1 (a := 472) (i := 7) (by decide +kernel))
  clear eh2
  refine EQ_jgd (show h2 454 (-2) = 15 from by rw [k_454 s2]) ?_
  exact EQ_some' (by rw [r_454_23 s2]) s2
noncomputable def gX14_isDigit (a0 : Int) : Option (Int) := if a0 < 48 then (some 0) else (if 57 < a0 then (some 0) else (some 1))
theorem eX14_isDigit (a0 : Int) : EQ (fX14_isDigit a0) (gX14_isDigit a0) (fun _ => True) := by
  unfold fX14_isDigit gX14_isDigit
  refine EQ_if Iff.rfl (fun c1 => ?_) (fun c1 => ?_)
  · exact EQ_some trivial
  · refine EQ_if Iff.rfl (fun c2 => ?_) (fun c2 => ?_)
    · exact EQ_some trivial
    · exact EQ_some trivial
noncomputable def gX14_next_j246 (h : AH) : Option (Int × AH) := jb2 (gX14_fail 1 (h 454 29) h) fun v50 h51 => jg (¬ v50 = 0 ∧ v50 = 472) <| some (472, h51)
theorem eX14_next_j246 {h : AH} (hS : Sh S h) : EQ (fX14_next_j246 454 h) (gX14_next_j246 h) (fun r => Sh S r.2) := by
  unfold fX14_next_j246 gX14_next_j246
  refine EQ_jgd (show h 454 (-2) = 15 from by rw [k_454 hS]) ?_
  refine EQ_jgd (show h 454 (-2) = 15 from by rw [k_454 hS]) ?_
  refine EQ_jb2 (eX14_fail 1 (h 454 29) hS) (fun v50 h51 r1 => ?_)
  replace r1 : Sh S h51 := r1
  refine EQ_jg ⟨fun ⟨x0, x1⟩ => ⟨x0, (ik_X15 r1).mp x1⟩, fun ⟨x0, x1⟩ => ⟨x0, (ik_X15 r1).mpr x1⟩⟩ (fun g2 => ?_)
  exact EQ_some' (by rw [g2.2]) r1
noncomputable def gX14_next_j362 (a1 : Int) (h : AH) : Option (Int × AH) := jl (jst h 454 26 (w32 (h 454 26 + 1))) fun h62 => jl (jst h62 454 27 4) fun h63 => jl (jst h63 454 28 a1) fun h64 => some (0, h64)
theorem eX14_next_j362 (a1 : Int) {h : AH} (hS : Sh S h) : EQ (fX14_next_j362 454 a1 h) (gX14_next_j362 a1 h) (fun r => Sh S r.2) := by
  unfold fX14_next_j362 gX14_next_j362
  refine EQ_jgd (show h 454 (-2) = 15 from by rw [k_454 hS]) ?_
  refine EQ_jgd ⟨(show h 454 (-2) = 15 from by rw [k_454 hS]), (show (200 : Int) ≤ 454 from (by decide))⟩ ?_
  refine EQ_jl rfl (fun h62 eh62 => ?_)
  have s1 := Sh_of eh62 (Sh_sto hS (a := 454) (i := 26) (by decide +kernel))
  clear eh62
  refine EQ_jgd ⟨(show h62 454 (-2) = 15 from by rw [k_454 s1]), (show (200 : Int) ≤ 454 from (by decide))⟩ ?_
  refine EQ_jl rfl (fun h63 eh63 => ?_)
  have s2 := Sh_of eh63 (Sh_sto s1 (a := 454) (i := 27) (by decide +kernel))
  clear eh63
  refine EQ_jgd ⟨(show h63 454 (-2) = 15 from by rw [k_454 s2]), (show (200 : Int) ≤ 454 from (by decide))⟩ ?_
  refine EQ_jl rfl (fun h64 eh64 => ?_)
  have s3 := Sh_of eh64 (Sh_sto s2 (a := 454) (i := 28) (by decide +kernel))
  clear eh64
  exact EQ_some s3
noncomputable def gX14_next_j320 (a1 : Int) (h : AH) : Option (Int × AH) := if a1 = 40 then (gX14_next_j362 a1 h) else (if a1 = 41 then (gX14_next_j362 a1 h) else (if a1 = 44 then (gX14_next_j362 a1 h) else (if a1 = 59 then (gX14_next_j362 a1 h) else (if a1 = 58 then (gX14_next_j362 a1 h) else (if a1 = 61 then (gX14_next_j362 a1 h) else (if a1 = 63 then (gX14_next_j362 a1 h) else (jb2 (gX14_fail 1 (h 454 29) h) fun v60 h61 => jg (¬ v60 = 0 ∧ v60 = 472) <| some (472, h61))))))))
theorem eX14_next_j320 (a1 : Int) {h : AH} (hS : Sh S h) : EQ (fX14_next_j320 454 a1 h) (gX14_next_j320 a1 h) (fun r => Sh S r.2) := by
  unfold fX14_next_j320 gX14_next_j320
  refine EQ_if Iff.rfl (fun c1 => ?_) (fun c1 => ?_)
  · exact (eX14_next_j362 a1 hS)
  · refine EQ_if Iff.rfl (fun c2 => ?_) (fun c2 => ?_)
    · exact (eX14_next_j362 a1 hS)
    · refine EQ_if Iff.rfl (fun c3 => ?_) (fun c3 => ?_)
      · exact (eX14_next_j362 a1 hS)
      · refine EQ_if Iff.rfl (fun c4 => ?_) (fun c4 => ?_)
        · exact (eX14_next_j362 a1 hS)
        · refine EQ_if Iff.rfl (fun c5 => ?_) (fun c5 => ?_)
          · exact (eX14_next_j362 a1 hS)
          · refine EQ_if Iff.rfl (fun c6 => ?_) (fun c6 => ?_)
            · exact (eX14_next_j362 a1 hS)
            · refine EQ_if Iff.rfl (fun c7 => ?_) (fun c7 => ?_)
              · exact (eX14_next_j362 a1 hS)
              · refine EQ_jgd (show h 454 (-2) = 15 from by rw [k_454 hS]) ?_
                refine EQ_jgd (show h 454 (-2) = 15 from by rw [k_454 hS]) ?_
                refine EQ_jb2 (eX14_fail 1 (h 454 29) hS) (fun v60 h61 r8 => ?_)
                replace r8 : Sh S h61 := r8
                refine EQ_jg ⟨fun ⟨x0, x1⟩ => ⟨x0, (ik_X15 r8).mp x1⟩, fun ⟨x0, x1⟩ => ⟨x0, (ik_X15 r8).mpr x1⟩⟩ (fun g9 => ?_)
                exact EQ_some' (by rw [g9.2]) r8
noncomputable def gX14_next_j180 (h : AH) : Option (Int × AH) := jb2 (gX14_fail 1 (h 454 29) h) fun v66 h67 => jg (¬ v66 = 0 ∧ v66 = 472) <| some (472, h67)
theorem eX14_next_j180 {h : AH} (hS : Sh S h) : EQ (fX14_next_j180 454 h) (gX14_next_j180 h) (fun r => Sh S r.2) := by
  unfold fX14_next_j180 gX14_next_j180
  refine EQ_jgd (show h 454 (-2) = 15 from by rw [k_454 hS]) ?_
  refine EQ_jgd (show h 454 (-2) = 15 from by rw [k_454 hS]) ?_
  refine EQ_jb2 (eX14_fail 1 (h 454 29) hS) (fun v66 h67 r1 => ?_)
  replace r1 : Sh S h67 := r1
  refine EQ_jg ⟨fun ⟨x0, x1⟩ => ⟨x0, (ik_X15 r1).mp x1⟩, fun ⟨x0, x1⟩ => ⟨x0, (ik_X15 r1).mpr x1⟩⟩ (fun g2 => ?_)
  exact EQ_some' (by rw [g2.2]) r1
noncomputable def gX14_next_j26_0 (h : AH) : Option ((AH) ⊕ (AH)) := jl (jst h 454 26 (w32 (h 454 26 + 1))) fun h74 => some (.inl h74)
theorem eX14_next_j26_0 {h : AH} (hS : Sh S h) : EQ (fX14_next_j26_0 454 h) (gX14_next_j26_0 h) (Sum.elim (fun r => Sh S r) (fun r => Sh S r)) := by
  unfold fX14_next_j26_0 gX14_next_j26_0
  refine EQ_jgd (show h 454 (-2) = 15 from by rw [k_454 hS]) ?_
  refine EQ_jgd ⟨(show h 454 (-2) = 15 from by rw [k_454 hS]), (show (200 : Int) ≤ 454 from (by decide))⟩ ?_
  refine EQ_jl rfl (fun h74 eh74 => ?_)
  have s1 := Sh_of eh74 (Sh_sto hS (a := 454) (i := 26) (by decide +kernel))
  clear eh74
  exact EQ_some s1
noncomputable def gX14_next_b0 (h : AH) : Option ((AH) ⊕ (AH)) := jb (gX14_byteAt (h 454 26) h) fun v69 => if v69 = 32 then (gX14_next_j26_0 h) else (jb (gX14_byteAt (h 454 26) h) fun v72 => if v72 = 10 then (gX14_next_j26_0 h) else (some (.inr h)))
theorem eX14_next_b0 {h : AH} (hS : Sh S h) : EQ (fX14_next_b0 454 h) (gX14_next_b0 h) (Sum.elim (fun r => Sh S r) (fun r => Sh S r)) := by
  unfold fX14_next_b0 gX14_next_b0
  refine EQ_jgd (show h 454 (-2) = 15 from by rw [k_454 hS]) ?_
  refine EQ_jgd (show h 454 (-2) = 15 from by rw [k_454 hS]) ?_
  refine EQ_jb (eX14_byteAt (h 454 26) hS) (fun v69 r1 => ?_)
  refine EQ_if Iff.rfl (fun c2 => ?_) (fun c2 => ?_)
  · exact (eX14_next_j26_0 hS)
  · refine EQ_jgd (show h 454 (-2) = 15 from by rw [k_454 hS]) ?_
    refine EQ_jgd (show h 454 (-2) = 15 from by rw [k_454 hS]) ?_
    refine EQ_jb (eX14_byteAt (h 454 26) hS) (fun v72 r3 => ?_)
    refine EQ_if Iff.rfl (fun c4 => ?_) (fun c4 => ?_)
    · exact (eX14_next_j26_0 hS)
    · exact EQ_some hS
noncomputable def gX14_next_l0 (h : AH) : Option (AH) := jit gX14_next_b0 h
theorem eX14_next_l0 {h : AH} (hS : Sh S h) : EQ (fX14_next_l0 454 h) (gX14_next_l0 h) (fun r => Sh S r) := EQ_jit (I := (fun r => Sh S r)) (fun s hs => eX14_next_b0 hs) hS
noncomputable def gX14_next_b116 (s : Int × Int × AH) : Option ((Int × Int × AH) ⊕ (Int × Int × AH)) := jt3 s fun a2 a3 h => jb (gX14_byteAt (h 454 26) h) fun v76 => jb (gX14_isDigit v76) fun v78 => if v78 = 0 then (some (.inr (a2, a3, h))) else (jb (gX14_byteAt (h 454 26) h) fun v81 => jl (min 1000 (w32 (w32 (w32 (10 * a3) + v81) - 48))) fun x82 => jl (w32 (a2 + 1)) fun x83 => jl (jst h 454 26 (w32 (h 454 26 + 1))) fun h84 => some (.inl (x83, x82, h84)))
theorem eX14_next_b116 {s : Int × Int × AH} (hS : (fun r => Sh S r.2.2) s) : EQ (fX14_next_b116 454 s) (gX14_next_b116 s) (Sum.elim (fun r => Sh S r.2.2) (fun r => Sh S r.2.2)) := by
  unfold fX14_next_b116 gX14_next_b116
  obtain ⟨a2, a3, h⟩ := s
  refine EQ_jt3 ?_
  replace hS : Sh S h := hS
  refine EQ_jgd (show h 454 (-2) = 15 from by rw [k_454 hS]) ?_
  refine EQ_jgd (show h 454 (-2) = 15 from by rw [k_454 hS]) ?_
  refine EQ_jb (eX14_byteAt (h 454 26) hS) (fun v76 r1 => ?_)
  refine EQ_jb (eX14_isDigit v76) (fun v78 r2 => ?_)
  refine EQ_if Iff.rfl (fun c3 => ?_) (fun c3 => ?_)
  · exact EQ_some hS
  · refine EQ_jgd (show h 454 (-2) = 15 from by rw [k_454 hS]) ?_
    refine EQ_jgd (show h 454 (-2) = 15 from by rw [k_454 hS]) ?_
    refine EQ_jb (eX14_byteAt (h 454 26) hS) (fun v81 r4 => ?_)
    refine EQ_jl rfl (fun x82 ex82 => ?_)
    clear ex82
    refine EQ_jl rfl (fun x83 ex83 => ?_)
    clear ex83
    refine EQ_jgd (show h 454 (-2) = 15 from by rw [k_454 hS]) ?_
    refine EQ_jgd ⟨(show h 454 (-2) = 15 from by rw [k_454 hS]), (show (200 : Int) ≤ 454 from (by decide))⟩ ?_
    refine EQ_jl rfl (fun h84 eh84 => ?_)
    have s5 := Sh_of eh84 (Sh_sto hS (a := 454) (i := 26) (by decide +kernel))
    clear eh84
    exact EQ_some s5
noncomputable def gX14_next_l116 (a2 : Int) (a3 : Int) (h : AH) : Option (Int × Int × AH) := jit gX14_next_b116 (a2, a3, h)
theorem eX14_next_l116 (a2 : Int) (a3 : Int) {h : AH} (hS : Sh S h) : EQ (fX14_next_l116 454 a2 a3 h) (gX14_next_l116 a2 a3 h) (fun r => Sh S r.2.2) := EQ_jit (I := (fun r => Sh S r.2.2)) (fun s hs => eX14_next_b116 hs) hS
noncomputable def gX14_next (h : AH) : Option (Int × AH) := jb (gX14_next_l0 h) fun o1 => jl (jst o1 454 29 (o1 454 26)) fun h3 => jb (gX14_byteAt (h3 454 26) h3) fun v5 => if v5 = (-1) then (jl (jst h3 454 27 0) fun h7 => some (0, h7)) else (jb (gX14_isLetter v5) fun v9 => if v9 = 0 then (jb (gX14_isDigit v5) fun v12 => if v12 = 0 then (if v5 = 34 then (jl (jst h3 454 26 (w32 (h3 454 26 + 1))) fun h15 => jb2 (gX14_letters 6 h15) fun v17 h18 => jb (gX14_byteAt (h18 454 26) h18) fun v20 => if v20 = 34 then (if v17 ≤ 6 then (jl (jst h18 454 26 (w32 (h18 454 26 + 1))) fun h23 => jl (jst h23 454 27 3) fun h24 => some (0, h24)) else (gX14_next_j246 h18)) else (gX14_next_j246 h18)) else (if v5 = 45 then (jb (gX14_byteAt (w32 (h3 454 26 + 1)) h3) fun v27 => if v27 = 62 then (jl (jst h3 454 26 (w32 (h3 454 26 + 2))) fun h29 => jl (jst h29 454 27 4) fun h30 => jl (jst h30 454 28 256) fun h31 => some (0, h31)) else (gX14_next_j320 v5 h3)) else (gX14_next_j320 v5 h3))) else (jb (gX14_next_l116 0 0 h3) fun o32 => jt3 o32 fun y34 y35 h36 => if 2 < y34 then (gX14_next_j180 h36) else (if y35 ≤ 15 then (jl (jst h36 454 28 y35) fun h39 => jl (jst h39 454 27 2) fun h40 => some (0, h40)) else (gX14_next_j180 h36)))) else (jb2 (gX14_letters 8 h3) fun v42 h43 => if v42 ≤ 8 then (jl (jst h43 454 27 1) fun h45 => some (0, h45)) else (jb2 (gX14_fail 1 (h43 454 29) h43) fun v47 h48 => jg (¬ v47 = 0 ∧ v47 = 472) <| some (472, h48))))
theorem eX14_next {h : AH} (hS : Sh S h) : EQ (fX14_next 454 h) (gX14_next h) (fun r => Sh S r.2) := by
  unfold fX14_next gX14_next
  refine EQ_jb (eX14_next_l0 hS) (fun o1 r1 => ?_)
  refine EQ_jgd (show o1 454 (-2) = 15 from by rw [k_454 r1]) ?_
  refine EQ_jgd ⟨(show o1 454 (-2) = 15 from by rw [k_454 r1]), (show (200 : Int) ≤ 454 from (by decide))⟩ ?_
  refine EQ_jl rfl (fun h3 eh3 => ?_)
  have s2 := Sh_of eh3 (Sh_sto r1 (a := 454) (i := 29) (by decide +kernel))
  clear eh3
  refine EQ_jgd (show h3 454 (-2) = 15 from by rw [k_454 s2]) ?_
  refine EQ_jgd (show h3 454 (-2) = 15 from by rw [k_454 s2]) ?_
  refine EQ_jb (eX14_byteAt (h3 454 26) s2) (fun v5 r3 => ?_)
  refine EQ_if Iff.rfl (fun c4 => ?_) (fun c4 => ?_)
  · refine EQ_jgd ⟨(show h3 454 (-2) = 15 from by rw [k_454 s2]), (show (200 : Int) ≤ 454 from (by decide))⟩ ?_
    refine EQ_jl rfl (fun h7 eh7 => ?_)
    have s5 := Sh_of eh7 (Sh_sto s2 (a := 454) (i := 27) (by decide +kernel))
    clear eh7
    exact EQ_some s5
  · refine EQ_jb (eX14_isLetter v5) (fun v9 r6 => ?_)
    refine EQ_if Iff.rfl (fun c7 => ?_) (fun c7 => ?_)
    · refine EQ_jb (eX14_isDigit v5) (fun v12 r8 => ?_)
      refine EQ_if Iff.rfl (fun c9 => ?_) (fun c9 => ?_)
      · refine EQ_if Iff.rfl (fun c10 => ?_) (fun c10 => ?_)
        · refine EQ_jgd (show h3 454 (-2) = 15 from by rw [k_454 s2]) ?_
          refine EQ_jgd ⟨(show h3 454 (-2) = 15 from by rw [k_454 s2]), (show (200 : Int) ≤ 454 from (by decide))⟩ ?_
          refine EQ_jl rfl (fun h15 eh15 => ?_)
          have s11 := Sh_of eh15 (Sh_sto s2 (a := 454) (i := 26) (by decide +kernel))
          clear eh15
          refine EQ_jgd (show h15 454 (-2) = 15 from by rw [k_454 s11]) ?_
          refine EQ_jb2 (eX14_letters 6 s11) (fun v17 h18 r12 => ?_)
          replace r12 : Sh S h18 := r12
          refine EQ_jgd (show h18 454 (-2) = 15 from by rw [k_454 r12]) ?_
          refine EQ_jgd (show h18 454 (-2) = 15 from by rw [k_454 r12]) ?_
          refine EQ_jb (eX14_byteAt (h18 454 26) r12) (fun v20 r13 => ?_)
          refine EQ_if Iff.rfl (fun c14 => ?_) (fun c14 => ?_)
          · refine EQ_if Iff.rfl (fun c15 => ?_) (fun c15 => ?_)
            · refine EQ_jgd (show h18 454 (-2) = 15 from by rw [k_454 r12]) ?_
              refine EQ_jgd ⟨(show h18 454 (-2) = 15 from by rw [k_454 r12]), (show (200 : Int) ≤ 454 from (by decide))⟩ ?_
              refine EQ_jl rfl (fun h23 eh23 => ?_)
              have s16 := Sh_of eh23 (Sh_sto r12 (a := 454) (i := 26) (by decide +kernel))
              clear eh23
              refine EQ_jgd ⟨(show h23 454 (-2) = 15 from by rw [k_454 s16]), (show (200 : Int) ≤ 454 from (by decide))⟩ ?_
              refine EQ_jl rfl (fun h24 eh24 => ?_)
              have s17 := Sh_of eh24 (Sh_sto s16 (a := 454) (i := 27) (by decide +kernel))
              clear eh24
              exact EQ_some s17
            · exact (eX14_next_j246 r12)
          · exact (eX14_next_j246 r12)
        · refine EQ_if Iff.rfl (fun c18 => ?_) (fun c18 => ?_)
          · refine EQ_jgd (show h3 454 (-2) = 15 from by rw [k_454 s2]) ?_
            refine EQ_jgd (show h3 454 (-2) = 15 from by rw [k_454 s2]) ?_
            refine EQ_jb (eX14_byteAt (w32 (h3 454 26 + 1)) s2) (fun v27 r19 => ?_)
            refine EQ_if Iff.rfl (fun c20 => ?_) (fun c20 => ?_)
            · refine EQ_jgd (show h3 454 (-2) = 15 from by rw [k_454 s2]) ?_
              refine EQ_jgd ⟨(show h3 454 (-2) = 15 from by rw [k_454 s2]), (show (200 : Int) ≤ 454 from (by decide))⟩ ?_
              refine EQ_jl rfl (fun h29 eh29 => ?_)
              have s21 := Sh_of eh29 (Sh_sto s2 (a := 454) (i := 26) (by decide +kernel))
              clear eh29
              refine EQ_jgd ⟨(show h29 454 (-2) = 15 from by rw [k_454 s21]), (show (200 : Int) ≤ 454 from (by decide))⟩ ?_
              refine EQ_jl rfl (fun h30 eh30 => ?_)
              have s22 := Sh_of eh30 (Sh_sto s21 (a := 454) (i := 27) (by decide +kernel))
              clear eh30
              refine EQ_jgd ⟨(show h30 454 (-2) = 15 from by rw [k_454 s22]), (show (200 : Int) ≤ 454 from (by decide))⟩ ?_
              refine EQ_jl rfl (fun h31 eh31 => ?_)
              have s23 := Sh_of eh31 (Sh_sto s22 (a := 454) (i := 28) (by decide +kernel))
              clear eh31
              exact EQ_some s23
            · exact (eX14_next_j320 v5 s2)
          · exact (eX14_next_j320 v5 s2)
      · refine EQ_jb (eX14_next_l116 0 0 s2) (fun o32 r24 => ?_)
        obtain ⟨y34, y35, h36⟩ := o32
        refine EQ_jt3 ?_
        replace r24 : Sh S h36 := r24
        refine EQ_if Iff.rfl (fun c25 => ?_) (fun c25 => ?_)
        · exact (eX14_next_j180 r24)
        · refine EQ_if Iff.rfl (fun c26 => ?_) (fun c26 => ?_)
          · refine EQ_jgd ⟨(show h36 454 (-2) = 15 from by rw [k_454 r24]), (show (200 : Int) ≤ 454 from (by decide))⟩ ?_
            refine EQ_jl rfl (fun h39 eh39 => ?_)
            have s27 := Sh_of eh39 (Sh_sto r24 (a := 454) (i := 28) (by decide +kernel))
            clear eh39
            refine EQ_jgd ⟨(show h39 454 (-2) = 15 from by rw [k_454 s27]), (show (200 : Int) ≤ 454 from (by decide))⟩ ?_
            refine EQ_jl rfl (fun h40 eh40 => ?_)
            have s28 := Sh_of eh40 (Sh_sto s27 (a := 454) (i := 27) (by decide +kernel))
            clear eh40
            exact EQ_some s28
          · exact (eX14_next_j180 r24)
    · refine EQ_jgd (show h3 454 (-2) = 15 from by rw [k_454 s2]) ?_
      refine EQ_jb2 (eX14_letters 8 s2) (fun v42 h43 r29 => ?_)
      replace r29 : Sh S h43 := r29
      refine EQ_if Iff.rfl (fun c30 => ?_) (fun c30 => ?_)
      · refine EQ_jgd ⟨(show h43 454 (-2) = 15 from by rw [k_454 r29]), (show (200 : Int) ≤ 454 from (by decide))⟩ ?_
        refine EQ_jl rfl (fun h45 eh45 => ?_)
        have s31 := Sh_of eh45 (Sh_sto r29 (a := 454) (i := 27) (by decide +kernel))
        clear eh45
        exact EQ_some s31
      · refine EQ_jgd (show h43 454 (-2) = 15 from by rw [k_454 r29]) ?_
        refine EQ_jgd (show h43 454 (-2) = 15 from by rw [k_454 r29]) ?_
        refine EQ_jb2 (eX14_fail 1 (h43 454 29) r29) (fun v47 h48 r32 => ?_)
        replace r32 : Sh S h48 := r32
        refine EQ_jg ⟨fun ⟨x0, x1⟩ => ⟨x0, (ik_X15 r32).mp x1⟩, fun ⟨x0, x1⟩ => ⟨x0, (ik_X15 r32).mpr x1⟩⟩ (fun g33 => ?_)
        exact EQ_some' (by rw [g33.2]) r32
noncomputable def gX14_begin (h : AH) : Option (Int × AH) := jl (jst h 454 26 0) fun h1 => jl (jst h1 454 30 0) fun h2 => jl (jst h2 454 31 2147483647) fun h3 => jb2 (gX14_next h3) fun t5 h7 => jq t5 (some (t5, h7)) <| some (0, h7)
theorem eX14_begin {h : AH} (hS : Sh S h) : EQ (fX14_begin 454 h) (gX14_begin h) (fun r => Sh S r.2) := by
  unfold fX14_begin gX14_begin
  refine EQ_jgd ⟨(show h 454 (-2) = 15 from by rw [k_454 hS]), (show (200 : Int) ≤ 454 from (by decide))⟩ ?_
  refine EQ_jl rfl (fun h1 eh1 => ?_)
  have s1 := Sh_of eh1 (Sh_sto hS (a := 454) (i := 26) (by decide +kernel))
  clear eh1
  refine EQ_jgd ⟨(show h1 454 (-2) = 15 from by rw [k_454 s1]), (show (200 : Int) ≤ 454 from (by decide))⟩ ?_
  refine EQ_jl rfl (fun h2 eh2 => ?_)
  have s2 := Sh_of eh2 (Sh_sto s1 (a := 454) (i := 30) (by decide +kernel))
  clear eh2
  refine EQ_jgd ⟨(show h2 454 (-2) = 15 from by rw [k_454 s2]), (show (200 : Int) ≤ 454 from (by decide))⟩ ?_
  refine EQ_jl rfl (fun h3 eh3 => ?_)
  have s3 := Sh_of eh3 (Sh_sto s2 (a := 454) (i := 31) (by decide +kernel))
  clear eh3
  refine EQ_jgd (show h3 454 (-2) = 15 from by rw [k_454 s3]) ?_
  refine EQ_jb2 (eX14_next s3) (fun t5 h7 r4 => ?_)
  replace r4 : Sh S h7 := r4
  refine EQ_jq (fun _ => ?_) (fun _ => ?_)
  · exact EQ_some r4
  · exact EQ_some r4
noncomputable def gX14_isName (a1 : Int) (h : AH) : Option (Int) := if h 454 27 = 1 then (if jcmp (h 454 28) a1 = 0 then (some 1) else (some 0)) else (some 0)
theorem eX14_isName (a1 : Int) {h : AH} (hS : Sh S h) : EQ (fX14_isName 454 a1 h) (gX14_isName a1 h) (fun _ => True) := by
  unfold fX14_isName gX14_isName
  refine EQ_jgd (show h 454 (-2) = 15 from by rw [k_454 hS]) ?_
  refine EQ_if Iff.rfl (fun c1 => ?_) (fun c1 => ?_)
  · refine EQ_jgd (show h 454 (-2) = 15 from by rw [k_454 hS]) ?_
    refine EQ_if Iff.rfl (fun c2 => ?_) (fun c2 => ?_)
    · exact EQ_some trivial
    · exact EQ_some trivial
  · exact EQ_some trivial
noncomputable def gX14_passName (a1 : Int) (h : AH) : Option (Int × AH) := jb (gX14_isName a1 h) fun v2 => if v2 = 0 then (jb2 (gX14_fail 1 (h 454 29) h) fun v5 h6 => jg (¬ v5 = 0 ∧ v5 = 472) <| some (472, h6)) else (jb2 (gX14_next h) fun t8 h10 => jq t8 (some (t8, h10)) <| some (0, h10))
theorem eX14_passName (a1 : Int) {h : AH} (hS : Sh S h) : EQ (fX14_passName 454 a1 h) (gX14_passName a1 h) (fun r => Sh S r.2) := by
  unfold fX14_passName gX14_passName
  refine EQ_jgd (show h 454 (-2) = 15 from by rw [k_454 hS]) ?_
  refine EQ_jb (eX14_isName a1 hS) (fun v2 r1 => ?_)
  refine EQ_if Iff.rfl (fun c2 => ?_) (fun c2 => ?_)
  · refine EQ_jgd (show h 454 (-2) = 15 from by rw [k_454 hS]) ?_
    refine EQ_jgd (show h 454 (-2) = 15 from by rw [k_454 hS]) ?_
    refine EQ_jb2 (eX14_fail 1 (h 454 29) hS) (fun v5 h6 r3 => ?_)
    replace r3 : Sh S h6 := r3
    refine EQ_jg ⟨fun ⟨x0, x1⟩ => ⟨x0, (ik_X15 r3).mp x1⟩, fun ⟨x0, x1⟩ => ⟨x0, (ik_X15 r3).mpr x1⟩⟩ (fun g4 => ?_)
    exact EQ_some' (by rw [g4.2]) r3
  · refine EQ_jgd (show h 454 (-2) = 15 from by rw [k_454 hS]) ?_
    refine EQ_jb2 (eX14_next hS) (fun t8 h10 r5 => ?_)
    replace r5 : Sh S h10 := r5
    refine EQ_jq (fun _ => ?_) (fun _ => ?_)
    · exact EQ_some r5
    · exact EQ_some r5
noncomputable def gX14_isKind (h : AH) : Option (Int) := jb (gX14_isName 14 h) fun v2 => if v2 = 0 then (jb (gX14_isName 19 h) fun v5 => if v5 = 0 then (jb (gX14_isName 20 h) fun v8 => if v8 = 0 then (some 0) else (some 1)) else (some 1)) else (some 1)
theorem eX14_isKind {h : AH} (hS : Sh S h) : EQ (fX14_isKind 454 h) (gX14_isKind h) (fun _ => True) := by
  unfold fX14_isKind gX14_isKind
  refine EQ_jgd (show h 454 (-2) = 15 from by rw [k_454 hS]) ?_
  refine EQ_jb (eX14_isName 14 hS) (fun v2 r1 => ?_)
  refine EQ_if Iff.rfl (fun c2 => ?_) (fun c2 => ?_)
  · refine EQ_jgd (show h 454 (-2) = 15 from by rw [k_454 hS]) ?_
    refine EQ_jb (eX14_isName 19 hS) (fun v5 r3 => ?_)
    refine EQ_if Iff.rfl (fun c4 => ?_) (fun c4 => ?_)
    · refine EQ_jgd (show h 454 (-2) = 15 from by rw [k_454 hS]) ?_
      refine EQ_jb (eX14_isName 20 hS) (fun v8 r5 => ?_)
      refine EQ_if Iff.rfl (fun c6 => ?_) (fun c6 => ?_)
      · exact EQ_some trivial
      · exact EQ_some trivial
    · exact EQ_some trivial
  · exact EQ_some trivial
noncomputable def gX14_takeKind (h : AH) : Option (Int × Int × AH) := jb (gX14_isKind h) fun v2 => if v2 = 0 then (jb2 (gX14_fail 1 (h 454 29) h) fun v5 h6 => jg (¬ v5 = 0 ∧ v5 = 472) <| some (472, 0, h6)) else (jl (w32 (w32 (w32 (h 454 28) + 97) - 1)) fun x7 => jb2 (gX14_next h) fun t9 h11 => jq t9 (some (t9, 0, h11)) <| some (0, x7, h11))
theorem eX14_takeKind {h : AH} (hS : Sh S h) : EQ (fX14_takeKind 454 h) (gX14_takeKind h) (fun r => Sh S r.2.2) := by
  unfold fX14_takeKind gX14_takeKind
  refine EQ_jgd (show h 454 (-2) = 15 from by rw [k_454 hS]) ?_
  refine EQ_jb (eX14_isKind hS) (fun v2 r1 => ?_)
  refine EQ_if Iff.rfl (fun c2 => ?_) (fun c2 => ?_)
  · refine EQ_jgd (show h 454 (-2) = 15 from by rw [k_454 hS]) ?_
    refine EQ_jgd (show h 454 (-2) = 15 from by rw [k_454 hS]) ?_
    refine EQ_jb2 (eX14_fail 1 (h 454 29) hS) (fun v5 h6 r3 => ?_)
    replace r3 : Sh S h6 := r3
    refine EQ_jg ⟨fun ⟨x0, x1⟩ => ⟨x0, (ik_X15 r3).mp x1⟩, fun ⟨x0, x1⟩ => ⟨x0, (ik_X15 r3).mpr x1⟩⟩ (fun g4 => ?_)
    exact EQ_some' (by rw [g4.2]) r3
  · refine EQ_jgd (show h 454 (-2) = 15 from by rw [k_454 hS]) ?_
    refine EQ_jl rfl (fun x7 ex7 => ?_)
    clear ex7
    refine EQ_jgd (show h 454 (-2) = 15 from by rw [k_454 hS]) ?_
    refine EQ_jb2 (eX14_next hS) (fun t9 h11 r5 => ?_)
    replace r5 : Sh S h11 := r5
    refine EQ_jq (fun _ => ?_) (fun _ => ?_)
    · exact EQ_some r5
    · exact EQ_some r5
noncomputable def gX14_takeKinds_j27_3 (a1 : Int) (a2 : Int) (a3 : Int) (a4 : Int) (h : AH) : Option ((Int × AH) ⊕ ((AH) ⊕ ((Int × AH) ⊕ ((Int × AH))))) := jb3 (gX14_takeKind h) fun t19 v20 h21 => jq t19 (some (.inr (.inr (.inr (t19, h21))))) <| jg (h21 a1 (-2) = 101 ∧ 200 ≤ a1 ∧ jI a4 (h21 a1 (-1))) <| jl (jst h21 a1 a4 v20) fun h23 => jl (w32 (a4 + 1)) fun x24 => if a2 ≤ x24 then (some (.inr (.inr (.inl (x24, h23))))) else (jb (gX14_isKind h23) fun v27 => if v27 = 0 then (some (.inr (.inr (.inl (x24, h23))))) else (some (.inl (x24, h23))))
theorem eX14_takeKinds_j27_3 (a1 : Int) (a2 : Int) (a3 : Int) (a4 : Int) {h : AH} (hS : Sh S h) : EQ (fX14_takeKinds_j27_3 454 a1 a2 a3 a4 h) (gX14_takeKinds_j27_3 a1 a2 a3 a4 h) (Sum.elim (fun r => Sh S r.2) (Sum.elim (fun r => Sh S r) (Sum.elim (fun r => Sh S r.2) (fun r => Sh S r.2)))) := by
  unfold fX14_takeKinds_j27_3 gX14_takeKinds_j27_3
  refine EQ_jgd (show h 454 (-2) = 15 from by rw [k_454 hS]) ?_
  refine EQ_jb3 (eX14_takeKind hS) (fun t19 v20 h21 r1 => ?_)
  replace r1 : Sh S h21 := r1
  refine EQ_jq (fun _ => ?_) (fun _ => ?_)
  · exact EQ_some r1
  · refine EQ_jg Iff.rfl (fun g2 => ?_)
    refine EQ_jl rfl (fun h23 eh23 => ?_)
    have s3 := Sh_of eh23 (Sh_stk r1 (Or.inl (g2.1)) (g2.2.1) (jI_nn (g2.2.2)) (fun e => absurd (((g2.1)).symm.trans e) (by decide)))
    clear eh23
    refine EQ_jl rfl (fun x24 ex24 => ?_)
    clear ex24
    refine EQ_if Iff.rfl (fun c4 => ?_) (fun c4 => ?_)
    · exact EQ_some s3
    · refine EQ_jgd (show h23 454 (-2) = 15 from by rw [k_454 s3]) ?_
      refine EQ_jb (eX14_isKind s3) (fun v27 r5 => ?_)
      refine EQ_if Iff.rfl (fun c6 => ?_) (fun c6 => ?_)
      · exact EQ_some s3
      · exact EQ_some s3
noncomputable def gX14_takeKinds_b3 (i1 : Int) (i2 : Int) (i3 : Int) (s : Int × AH) : Option ((Int × AH) ⊕ ((AH) ⊕ ((Int × AH) ⊕ ((Int × AH))))) := jt2 s fun a4 h => if i3 = 0 then (jb (gX14_isName 19 h) fun v16 => if v16 = 0 then (gX14_takeKinds_j27_3 i1 i2 i3 a4 h) else (some (.inr (.inl h)))) else (gX14_takeKinds_j27_3 i1 i2 i3 a4 h)
theorem eX14_takeKinds_b3 (i1 : Int) (i2 : Int) (i3 : Int) {s : Int × AH} (hS : (fun r => Sh S r.2) s) : EQ (fX14_takeKinds_b3 454 i1 i2 i3 s) (gX14_takeKinds_b3 i1 i2 i3 s) (Sum.elim (fun r => Sh S r.2) (Sum.elim (fun r => Sh S r) (Sum.elim (fun r => Sh S r.2) (fun r => Sh S r.2)))) := by
  unfold fX14_takeKinds_b3 gX14_takeKinds_b3
  obtain ⟨a4, h⟩ := s
  refine EQ_jt2 ?_
  replace hS : Sh S h := hS
  refine EQ_if Iff.rfl (fun c1 => ?_) (fun c1 => ?_)
  · refine EQ_jgd (show h 454 (-2) = 15 from by rw [k_454 hS]) ?_
    refine EQ_jb (eX14_isName 19 hS) (fun v16 r2 => ?_)
    refine EQ_if Iff.rfl (fun c3 => ?_) (fun c3 => ?_)
    · exact (eX14_takeKinds_j27_3 i1 i2 i3 a4 hS)
    · exact EQ_some hS
  · exact (eX14_takeKinds_j27_3 i1 i2 i3 a4 hS)
noncomputable def gX14_takeKinds_l3 (i1 : Int) (i2 : Int) (i3 : Int) (a4 : Int) (h : AH) : Option ((AH) ⊕ ((Int × AH) ⊕ ((Int × AH)))) := jit (gX14_takeKinds_b3 i1 i2 i3) (a4, h)
theorem eX14_takeKinds_l3 (i1 : Int) (i2 : Int) (i3 : Int) (a4 : Int) {h : AH} (hS : Sh S h) : EQ (fX14_takeKinds_l3 454 i1 i2 i3 a4 h) (gX14_takeKinds_l3 i1 i2 i3 a4 h) (Sum.elim (fun r => Sh S r) (Sum.elim (fun r => Sh S r.2) (fun r => Sh S r.2))) := EQ_jit (I := (fun r => Sh S r.2)) (fun s hs => eX14_takeKinds_b3 i1 i2 i3 hs) hS
noncomputable def gX14_takeKinds (a1 : Int) (a2 : Int) (a3 : Int) (h : AH) : Option (Int × Int × AH) := jb (gX14_takeKinds_l3 a1 a2 a3 0 h) fun o1 => jm o1 (fun o3 => jb2 (gX14_fail 1 (o3 454 29) o3) fun v6 h7 => jg (¬ v6 = 0 ∧ v6 = 472) <| some (472, 0, h7)) (fun o4 => jm o4 (fun o8 => jt2 o8 fun y10 h11 => some (0, y10, h11)) (fun o9 => jt2 o9 fun y12 h13 => jg (¬ y12 = 0) <| some (y12, 0, h13)))
theorem eX14_takeKinds (a1 : Int) (a2 : Int) (a3 : Int) {h : AH} (hS : Sh S h) : EQ (fX14_takeKinds 454 a1 a2 a3 h) (gX14_takeKinds a1 a2 a3 h) (fun r => Sh S r.2.2) := by
  unfold fX14_takeKinds gX14_takeKinds
  refine EQ_jb (eX14_takeKinds_l3 a1 a2 a3 0 hS) (fun o1 r1 => ?_)
  refine EQ_jm r1 (fun o3 r2 => ?_) (fun o4 r3 => ?_)
  · refine EQ_jgd (show o3 454 (-2) = 15 from by rw [k_454 r2]) ?_
    refine EQ_jgd (show o3 454 (-2) = 15 from by rw [k_454 r2]) ?_
    refine EQ_jb2 (eX14_fail 1 (o3 454 29) r2) (fun v6 h7 r4 => ?_)
    replace r4 : Sh S h7 := r4
    refine EQ_jg ⟨fun ⟨x0, x1⟩ => ⟨x0, (ik_X15 r4).mp x1⟩, fun ⟨x0, x1⟩ => ⟨x0, (ik_X15 r4).mpr x1⟩⟩ (fun g5 => ?_)
    exact EQ_some' (by rw [g5.2]) r4
  · refine EQ_jm r3 (fun o8 r6 => ?_) (fun o9 r7 => ?_)
    · obtain ⟨y10, h11⟩ := o8
      refine EQ_jt2 ?_
      replace r6 : Sh S h11 := r6
      exact EQ_some r6
    · obtain ⟨y12, h13⟩ := o9
      refine EQ_jt2 ?_
      replace r7 : Sh S h13 := r7
      refine EQ_jg Iff.rfl (fun g8 => ?_)
      exact EQ_some r7
noncomputable def gX14_isSign (a1 : Int) (h : AH) : Option (Int) := if h 454 27 = 4 then (if jcmp (h 454 28) a1 = 0 then (some 1) else (some 0)) else (some 0)
theorem eX14_isSign (a1 : Int) {h : AH} (hS : Sh S h) : EQ (fX14_isSign 454 a1 h) (gX14_isSign a1 h) (fun _ => True) := by
  unfold fX14_isSign gX14_isSign
  refine EQ_jgd (show h 454 (-2) = 15 from by rw [k_454 hS]) ?_
  refine EQ_if Iff.rfl (fun c1 => ?_) (fun c1 => ?_)
  · refine EQ_jgd (show h 454 (-2) = 15 from by rw [k_454 hS]) ?_
    refine EQ_if Iff.rfl (fun c2 => ?_) (fun c2 => ?_)
    · exact EQ_some trivial
    · exact EQ_some trivial
  · exact EQ_some trivial
noncomputable def gX14_passSign (a1 : Int) (h : AH) : Option (Int × AH) := jb (gX14_isSign a1 h) fun v2 => if v2 = 0 then (jb2 (gX14_fail 1 (h 454 29) h) fun v5 h6 => jg (¬ v5 = 0 ∧ v5 = 472) <| some (472, h6)) else (jb2 (gX14_next h) fun t8 h10 => jq t8 (some (t8, h10)) <| some (0, h10))
theorem eX14_passSign (a1 : Int) {h : AH} (hS : Sh S h) : EQ (fX14_passSign 454 a1 h) (gX14_passSign a1 h) (fun r => Sh S r.2) := by
  unfold fX14_passSign gX14_passSign
  refine EQ_jgd (show h 454 (-2) = 15 from by rw [k_454 hS]) ?_
  refine EQ_jb (eX14_isSign a1 hS) (fun v2 r1 => ?_)
  refine EQ_if Iff.rfl (fun c2 => ?_) (fun c2 => ?_)
  · refine EQ_jgd (show h 454 (-2) = 15 from by rw [k_454 hS]) ?_
    refine EQ_jgd (show h 454 (-2) = 15 from by rw [k_454 hS]) ?_
    refine EQ_jb2 (eX14_fail 1 (h 454 29) hS) (fun v5 h6 r3 => ?_)
    replace r3 : Sh S h6 := r3
    refine EQ_jg ⟨fun ⟨x0, x1⟩ => ⟨x0, (ik_X15 r3).mp x1⟩, fun ⟨x0, x1⟩ => ⟨x0, (ik_X15 r3).mpr x1⟩⟩ (fun g4 => ?_)
    exact EQ_some' (by rw [g4.2]) r3
  · refine EQ_jgd (show h 454 (-2) = 15 from by rw [k_454 hS]) ?_
    refine EQ_jb2 (eX14_next hS) (fun t8 h10 r5 => ?_)
    replace r5 : Sh S h10 := r5
    refine EQ_jq (fun _ => ?_) (fun _ => ?_)
    · exact EQ_some r5
    · exact EQ_some r5
noncomputable def gX14_note_j24 (a1 : Int) (a2 : Int) (h : AH) : Option (AH) := jl (jst h 454 30 a1) fun h4 => jl (jst h4 454 31 a2) fun h5 => some h5
theorem eX14_note_j24 (a1 : Int) (a2 : Int) {h : AH} (hS : Sh S h) : EQ (fX14_note_j24 454 a1 a2 h) (gX14_note_j24 a1 a2 h) (fun r => Sh S r) := by
  unfold fX14_note_j24 gX14_note_j24
  refine EQ_jgd ⟨(show h 454 (-2) = 15 from by rw [k_454 hS]), (show (200 : Int) ≤ 454 from (by decide))⟩ ?_
  refine EQ_jl rfl (fun h4 eh4 => ?_)
  have s1 := Sh_of eh4 (Sh_sto hS (a := 454) (i := 30) (by decide +kernel))
  clear eh4
  refine EQ_jgd ⟨(show h4 454 (-2) = 15 from by rw [k_454 s1]), (show (200 : Int) ≤ 454 from (by decide))⟩ ?_
  refine EQ_jl rfl (fun h5 eh5 => ?_)
  have s2 := Sh_of eh5 (Sh_sto s1 (a := 454) (i := 31) (by decide +kernel))
  clear eh5
  exact EQ_some s2
noncomputable def gX14_note (a1 : Int) (a2 : Int) (h : AH) : Option (AH) := if a2 < h 454 31 then (gX14_note_j24 a1 a2 h) else (if a2 = h 454 31 then (if h 454 30 ≤ a1 then (some h) else (gX14_note_j24 a1 a2 h)) else (some h))
theorem eX14_note (a1 : Int) (a2 : Int) {h : AH} (hS : Sh S h) : EQ (fX14_note 454 a1 a2 h) (gX14_note a1 a2 h) (fun r => Sh S r) := by
  unfold fX14_note gX14_note
  refine EQ_jgd (show h 454 (-2) = 15 from by rw [k_454 hS]) ?_
  refine EQ_if Iff.rfl (fun c1 => ?_) (fun c1 => ?_)
  · exact (eX14_note_j24 a1 a2 hS)
  · refine EQ_jgd (show h 454 (-2) = 15 from by rw [k_454 hS]) ?_
    refine EQ_if Iff.rfl (fun c2 => ?_) (fun c2 => ?_)
    · refine EQ_jgd (show h 454 (-2) = 15 from by rw [k_454 hS]) ?_
      refine EQ_if Iff.rfl (fun c3 => ?_) (fun c3 => ?_)
      · exact EQ_some hS
      · exact (eX14_note_j24 a1 a2 hS)
    · exact EQ_some hS
noncomputable def gX14_isValue (h : AH) : Option (Int) := if h 454 27 = 2 then (some 1) else (if h 454 27 = 3 then (some 1) else (jb (gX14_isName 407354 h) fun v4 => if v4 = 0 then (jb (gX14_isName 3217595 h) fun v7 => if v7 = 0 then (some 0) else (some 1)) else (some 1)))
theorem eX14_isValue {h : AH} (hS : Sh S h) : EQ (fX14_isValue 454 h) (gX14_isValue h) (fun _ => True) := by
  unfold fX14_isValue gX14_isValue
  refine EQ_jgd (show h 454 (-2) = 15 from by rw [k_454 hS]) ?_
  refine EQ_if Iff.rfl (fun c1 => ?_) (fun c1 => ?_)
  · exact EQ_some trivial
  · refine EQ_jgd (show h 454 (-2) = 15 from by rw [k_454 hS]) ?_
    refine EQ_if Iff.rfl (fun c2 => ?_) (fun c2 => ?_)
    · exact EQ_some trivial
    · refine EQ_jgd (show h 454 (-2) = 15 from by rw [k_454 hS]) ?_
      refine EQ_jb (eX14_isName 407354 hS) (fun v4 r3 => ?_)
      refine EQ_if Iff.rfl (fun c4 => ?_) (fun c4 => ?_)
      · refine EQ_jgd (show h 454 (-2) = 15 from by rw [k_454 hS]) ?_
        refine EQ_jb (eX14_isName 3217595 hS) (fun v7 r5 => ?_)
        refine EQ_if Iff.rfl (fun c6 => ?_) (fun c6 => ?_)
        · exact EQ_some trivial
        · exact EQ_some trivial
      · exact EQ_some trivial
noncomputable def gX14_node (a1 : Int) (a2 : Int) (a3 : Int) (h : AH) : Option (Int × AH) := jl (h 454 17) fun x1 => jl (jst h 454 17 (w32 (h 454 17 + 1))) fun h2 => jg (jI x1 8800) <| jl (jst h2 460 x1 a1) fun h3 => jl (jst h3 461 x1 a2) fun h4 => jl (jst h4 462 x1 a3) fun h5 => jl (jst h5 463 x1 (-1)) fun h6 => jl (jst h6 465 x1 0) fun h7 => jl (jst h7 466 x1 (-1)) fun h8 => jl (jst h8 467 x1 (-1)) fun h9 => jl (jst h9 468 x1 0) fun h10 => jl (jst h10 469 x1 0) fun h11 => some (x1, h11)
theorem eX14_node (a1 : Int) (a2 : Int) (a3 : Int) {h : AH} (hS : Sh S h) : EQ (fX14_node 454 a1 a2 a3 h) (gX14_node a1 a2 a3 h) (fun r => Sh S r.2) := by
  unfold fX14_node gX14_node
  refine EQ_jgd (show h 454 (-2) = 15 from by rw [k_454 hS]) ?_
  refine EQ_jl rfl (fun x1 ex1 => ?_)
  clear ex1
  refine EQ_jgd (show h 454 (-2) = 15 from by rw [k_454 hS]) ?_
  refine EQ_jgd ⟨(show h 454 (-2) = 15 from by rw [k_454 hS]), (show (200 : Int) ≤ 454 from (by decide))⟩ ?_
  refine EQ_jl rfl (fun h2 eh2 => ?_)
  have s1 := Sh_of eh2 (Sh_sto hS (a := 454) (i := 17) (by decide +kernel))
  clear eh2
  refine EQ_jgd (show h2 454 (-2) = 15 from by rw [k_454 s1]) ?_
  refine EQ_jg ⟨fun ⟨_, _, x0⟩ => (show jI x1 (h2 (h2 454 6) (-1)) ↔ jI x1 8800 from by rw [r_454_6 s1, l_460 s1]).mp x0, fun x0 => ⟨(show h2 (h2 454 6) (-2) = 101 from by rw [r_454_6 s1, k_460 s1]), (show 200 ≤ h2 454 6 from by rw [r_454_6 s1]; exact (by decide)), (show jI x1 (h2 (h2 454 6) (-1)) ↔ jI x1 8800 from by rw [r_454_6 s1, l_460 s1]).mpr x0⟩⟩ (fun g2 => ?_)
  refine EQ_jl (by rw [r_454_6 s1]) (fun h3 eh3 => ?_)
  have s3 := Sh_of eh3 (Sh_sta s1 (by decide +kernel) (jI_nn g2) (fun e => absurd ((k_460 s1).symm.trans e) (by decide)))
  clear eh3
  refine EQ_jgd (show h3 454 (-2) = 15 from by rw [k_454 s3]) ?_
  refine EQ_jgd ⟨(show h3 (h3 454 7) (-2) = 101 from by rw [r_454_7 s3, k_461 s3]), (show 200 ≤ h3 454 7 from by rw [r_454_7 s3]; exact (by decide)), ((show jI x1 (h3 (h3 454 7) (-1)) ↔ jI x1 8800 from by rw [r_454_7 s3, l_461 s3]).mpr g2)⟩ ?_
  refine EQ_jl (by rw [r_454_7 s3]) (fun h4 eh4 => ?_)
  have s4 := Sh_of eh4 (Sh_sta s3 (by decide +kernel) (jI_nn g2) (fun e => absurd ((k_461 s3).symm.trans e) (by decide)))
  clear eh4
  refine EQ_jgd (show h4 454 (-2) = 15 from by rw [k_454 s4]) ?_
  refine EQ_jgd ⟨(show h4 (h4 454 8) (-2) = 101 from by rw [r_454_8 s4, k_462 s4]), (show 200 ≤ h4 454 8 from by rw [r_454_8 s4]; exact (by decide)), ((show jI x1 (h4 (h4 454 8) (-1)) ↔ jI x1 8800 from by rw [r_454_8 s4, l_462 s4]).mpr g2)⟩ ?_
  refine EQ_jl (by rw [r_454_8 s4]) (fun h5 eh5 => ?_)
  have s5 := Sh_of eh5 (Sh_sta s4 (by decide +kernel) (jI_nn g2) (fun e => absurd ((k_462 s4).symm.trans e) (by decide)))
  clear eh5
  refine EQ_jgd (show h5 454 (-2) = 15 from by rw [k_454 s5]) ?_
  refine EQ_jgd ⟨(show h5 (h5 454 9) (-2) = 101 from by rw [r_454_9 s5, k_463 s5]), (show 200 ≤ h5 454 9 from by rw [r_454_9 s5]; exact (by decide)), ((show jI x1 (h5 (h5 454 9) (-1)) ↔ jI x1 8800 from by rw [r_454_9 s5, l_463 s5]).mpr g2)⟩ ?_
  refine EQ_jl (by rw [r_454_9 s5]) (fun h6 eh6 => ?_)
  have s6 := Sh_of eh6 (Sh_sta s5 (by decide +kernel) (jI_nn g2) (fun e => absurd ((k_463 s5).symm.trans e) (by decide)))
  clear eh6
  refine EQ_jgd (show h6 454 (-2) = 15 from by rw [k_454 s6]) ?_
  refine EQ_jgd ⟨(show h6 (h6 454 11) (-2) = 101 from by rw [r_454_11 s6, k_465 s6]), (show 200 ≤ h6 454 11 from by rw [r_454_11 s6]; exact (by decide)), ((show jI x1 (h6 (h6 454 11) (-1)) ↔ jI x1 8800 from by rw [r_454_11 s6, l_465 s6]).mpr g2)⟩ ?_
  refine EQ_jl (by rw [r_454_11 s6]) (fun h7 eh7 => ?_)
  have s7 := Sh_of eh7 (Sh_sta s6 (by decide +kernel) (jI_nn g2) (fun e => absurd ((k_465 s6).symm.trans e) (by decide)))
  clear eh7
  refine EQ_jgd (show h7 454 (-2) = 15 from by rw [k_454 s7]) ?_
  refine EQ_jgd ⟨(show h7 (h7 454 12) (-2) = 101 from by rw [r_454_12 s7, k_466 s7]), (show 200 ≤ h7 454 12 from by rw [r_454_12 s7]; exact (by decide)), ((show jI x1 (h7 (h7 454 12) (-1)) ↔ jI x1 8800 from by rw [r_454_12 s7, l_466 s7]).mpr g2)⟩ ?_
  refine EQ_jl (by rw [r_454_12 s7]) (fun h8 eh8 => ?_)
  have s8 := Sh_of eh8 (Sh_sta s7 (by decide +kernel) (jI_nn g2) (fun e => absurd ((k_466 s7).symm.trans e) (by decide)))
  clear eh8
  refine EQ_jgd (show h8 454 (-2) = 15 from by rw [k_454 s8]) ?_
  refine EQ_jgd ⟨(show h8 (h8 454 13) (-2) = 101 from by rw [r_454_13 s8, k_467 s8]), (show 200 ≤ h8 454 13 from by rw [r_454_13 s8]; exact (by decide)), ((show jI x1 (h8 (h8 454 13) (-1)) ↔ jI x1 8800 from by rw [r_454_13 s8, l_467 s8]).mpr g2)⟩ ?_
  refine EQ_jl (by rw [r_454_13 s8]) (fun h9 eh9 => ?_)
  have s9 := Sh_of eh9 (Sh_sta s8 (by decide +kernel) (jI_nn g2) (fun e => absurd ((k_467 s8).symm.trans e) (by decide)))
  clear eh9
  refine EQ_jgd (show h9 454 (-2) = 15 from by rw [k_454 s9]) ?_
  refine EQ_jgd ⟨(show h9 (h9 454 14) (-2) = 101 from by rw [r_454_14 s9, k_468 s9]), (show 200 ≤ h9 454 14 from by rw [r_454_14 s9]; exact (by decide)), ((show jI x1 (h9 (h9 454 14) (-1)) ↔ jI x1 8800 from by rw [r_454_14 s9, l_468 s9]).mpr g2)⟩ ?_
  refine EQ_jl (by rw [r_454_14 s9]) (fun h10 eh10 => ?_)
  have s10 := Sh_of eh10 (Sh_sta s9 (by decide +kernel) (jI_nn g2) (fun e => absurd ((k_468 s9).symm.trans e) (by decide)))
  clear eh10
  refine EQ_jgd (show h10 454 (-2) = 15 from by rw [k_454 s10]) ?_
  refine EQ_jgd ⟨(show h10 (h10 454 15) (-2) = 101 from by rw [r_454_15 s10, k_469 s10]), (show 200 ≤ h10 454 15 from by rw [r_454_15 s10]; exact (by decide)), ((show jI x1 (h10 (h10 454 15) (-1)) ↔ jI x1 8800 from by rw [r_454_15 s10, l_469 s10]).mpr g2)⟩ ?_
  refine EQ_jl (by rw [r_454_15 s10]) (fun h11 eh11 => ?_)
  have s11 := Sh_of eh11 (Sh_sta s10 (by decide +kernel) (jI_nn g2) (fun e => absurd ((k_469 s10).symm.trans e) (by decide)))
  clear eh11
  exact EQ_some s11
noncomputable def gX14_takeValue_j86 (t0 : Int) (h : AH) : Option (Int × Int × AH) := jg (jI t0 8800) <| jl (jst h 468 t0 (h 454 29)) fun h16 => jb2 (gX14_next h16) fun t18 h20 => jq t18 (some (t18, 0, h20)) <| some (0, t0, h20)
theorem eX14_takeValue_j86 (t0 : Int) {h : AH} (hS : Sh S h) : EQ (fX14_takeValue_j86 454 t0 h) (gX14_takeValue_j86 t0 h) (fun r => Sh S r.2.2) := by
  unfold fX14_takeValue_j86 gX14_takeValue_j86
  refine EQ_jgd (show h 454 (-2) = 15 from by rw [k_454 hS]) ?_
  refine EQ_jgd (show h 454 (-2) = 15 from by rw [k_454 hS]) ?_
  refine EQ_jg ⟨fun ⟨_, _, x0⟩ => (show jI t0 (h (h 454 14) (-1)) ↔ jI t0 8800 from by rw [r_454_14 hS, l_468 hS]).mp x0, fun x0 => ⟨(show h (h 454 14) (-2) = 101 from by rw [r_454_14 hS, k_468 hS]), (show 200 ≤ h 454 14 from by rw [r_454_14 hS]; exact (by decide)), (show jI t0 (h (h 454 14) (-1)) ↔ jI t0 8800 from by rw [r_454_14 hS, l_468 hS]).mpr x0⟩⟩ (fun g1 => ?_)
  refine EQ_jl (by rw [r_454_14 hS]) (fun h16 eh16 => ?_)
  have s2 := Sh_of eh16 (Sh_sta hS (by decide +kernel) (jI_nn g1) (fun e => absurd ((k_468 hS).symm.trans e) (by decide)))
  clear eh16
  refine EQ_jgd (show h16 454 (-2) = 15 from by rw [k_454 s2]) ?_
  refine EQ_jb2 (eX14_next s2) (fun t18 h20 r3 => ?_)
  replace r3 : Sh S h20 := r3
  refine EQ_jq (fun _ => ?_) (fun _ => ?_)
  · exact EQ_some r3
  · exact EQ_some r3
noncomputable def gX14_takeValue_j83 (t1 : Int) (t2 : Int) (t3 : Int) (h : AH) : Option (Int × Int × AH) := jb2 (gX14_node t1 t2 t3 h) fun v23 h24 => gX14_takeValue_j86 v23 h24
theorem eX14_takeValue_j83 (t1 : Int) (t2 : Int) (t3 : Int) {h : AH} (hS : Sh S h) : EQ (fX14_takeValue_j83 454 454 t1 t2 t3 h) (gX14_takeValue_j83 t1 t2 t3 h) (fun r => Sh S r.2.2) := by
  unfold fX14_takeValue_j83 gX14_takeValue_j83
  refine EQ_jgd (show h 454 (-2) = 15 from by rw [k_454 hS]) ?_
  refine EQ_jb2 (eX14_node t1 t2 t3 hS) (fun v23 h24 r1 => ?_)
  replace r1 : Sh S h24 := r1
  exact (eX14_takeValue_j86 v23 r1)
noncomputable def gX14_takeValue (h : AH) : Option (Int × Int × AH) := jb (gX14_isValue h) fun v2 => if v2 = 0 then (jb2 (gX14_fail 1 (h 454 29) h) fun v5 h6 => jg (¬ v5 = 0 ∧ v5 = 472) <| some (472, 0, h6)) else (if h 454 27 = 2 then (jb2 (gX14_node 0 110 (w32 (h 454 28)) h) fun v9 h10 => gX14_takeValue_j86 v9 h10) else (if h 454 27 = 3 then (jb2 (gX14_node 0 115 (w32 (h 454 28)) h) fun v13 h14 => gX14_takeValue_j86 v13 h14) else (if jcmp (h 454 28) 407354 = 0 then (gX14_takeValue_j83 0 116 1 h) else (gX14_takeValue_j83 0 116 0 h))))
theorem eX14_takeValue {h : AH} (hS : Sh S h) : EQ (fX14_takeValue 454 h) (gX14_takeValue h) (fun r => Sh S r.2.2) := by
  unfold fX14_takeValue gX14_takeValue
  refine EQ_jgd (show h 454 (-2) = 15 from by rw [k_454 hS]) ?_
  refine EQ_jb (eX14_isValue hS) (fun v2 r1 => ?_)
  refine EQ_if Iff.rfl (fun c2 => ?_) (fun c2 => ?_)
  · refine EQ_jgd (show h 454 (-2) = 15 from by rw [k_454 hS]) ?_
    refine EQ_jgd (show h 454 (-2) = 15 from by rw [k_454 hS]) ?_
    refine EQ_jb2 (eX14_fail 1 (h 454 29) hS) (fun v5 h6 r3 => ?_)
    replace r3 : Sh S h6 := r3
    refine EQ_jg ⟨fun ⟨x0, x1⟩ => ⟨x0, (ik_X15 r3).mp x1⟩, fun ⟨x0, x1⟩ => ⟨x0, (ik_X15 r3).mpr x1⟩⟩ (fun g4 => ?_)
    exact EQ_some' (by rw [g4.2]) r3
  · refine EQ_jgd (show h 454 (-2) = 15 from by rw [k_454 hS]) ?_
    refine EQ_if Iff.rfl (fun c5 => ?_) (fun c5 => ?_)
    · refine EQ_jgd (show h 454 (-2) = 15 from by rw [k_454 hS]) ?_
      refine EQ_jgd (show h 454 (-2) = 15 from by rw [k_454 hS]) ?_
      refine EQ_jb2 (eX14_node 0 110 (w32 (h 454 28)) hS) (fun v9 h10 r6 => ?_)
      replace r6 : Sh S h10 := r6
      exact (eX14_takeValue_j86 v9 r6)
    · refine EQ_jgd (show h 454 (-2) = 15 from by rw [k_454 hS]) ?_
      refine EQ_if Iff.rfl (fun c7 => ?_) (fun c7 => ?_)
      · refine EQ_jgd (show h 454 (-2) = 15 from by rw [k_454 hS]) ?_
        refine EQ_jgd (show h 454 (-2) = 15 from by rw [k_454 hS]) ?_
        refine EQ_jb2 (eX14_node 0 115 (w32 (h 454 28)) hS) (fun v13 h14 r8 => ?_)
        replace r8 : Sh S h14 := r8
        exact (eX14_takeValue_j86 v13 r8)
      · refine EQ_jgd (show h 454 (-2) = 15 from by rw [k_454 hS]) ?_
        refine EQ_if Iff.rfl (fun c9 => ?_) (fun c9 => ?_)
        · exact (eX14_takeValue_j83 0 116 1 hS)
        · exact (eX14_takeValue_j83 0 116 0 hS)
noncomputable def gX14_takeName (h : AH) : Option (Int × Int × AH) := if h 454 27 = 1 then (jl (h 454 28) fun x2 => jb2 (gX14_next h) fun t4 h6 => jq t4 (some (t4, 0, h6)) <| some (0, x2, h6)) else (jb2 (gX14_fail 1 (h 454 29) h) fun v9 h10 => jg (¬ v9 = 0 ∧ v9 = 472) <| some (472, 0, h10))
theorem eX14_takeName {h : AH} (hS : Sh S h) : EQ (fX14_takeName 454 h) (gX14_takeName h) (fun r => Sh S r.2.2) := by
  unfold fX14_takeName gX14_takeName
  refine EQ_jgd (show h 454 (-2) = 15 from by rw [k_454 hS]) ?_
  refine EQ_if Iff.rfl (fun c1 => ?_) (fun c1 => ?_)
  · refine EQ_jgd (show h 454 (-2) = 15 from by rw [k_454 hS]) ?_
    refine EQ_jl rfl (fun x2 ex2 => ?_)
    clear ex2
    refine EQ_jgd (show h 454 (-2) = 15 from by rw [k_454 hS]) ?_
    refine EQ_jb2 (eX14_next hS) (fun t4 h6 r2 => ?_)
    replace r2 : Sh S h6 := r2
    refine EQ_jq (fun _ => ?_) (fun _ => ?_)
    · exact EQ_some r2
    · exact EQ_some r2
  · refine EQ_jgd (show h 454 (-2) = 15 from by rw [k_454 hS]) ?_
    refine EQ_jgd (show h 454 (-2) = 15 from by rw [k_454 hS]) ?_
    refine EQ_jb2 (eX14_fail 1 (h 454 29) hS) (fun v9 h10 r3 => ?_)
    replace r3 : Sh S h10 := r3
    refine EQ_jg ⟨fun ⟨x0, x1⟩ => ⟨x0, (ik_X15 r3).mp x1⟩, fun ⟨x0, x1⟩ => ⟨x0, (ik_X15 r3).mpr x1⟩⟩ (fun g4 => ?_)
    exact EQ_some' (by rw [g4.2]) r3
noncomputable def gX14_actOf_b2 (i1 : Int) (h : AH) (a3 : Int) : Option ((Int) ⊕ ((Int) ⊕ (Unit))) := if h 454 5 ≤ a3 then (some (.inr (.inr ()))) else (jg (jI a3 36) <| if jcmp (h 455 a3) i1 = 0 then (some (.inr (.inl a3))) else (jl (w32 (a3 + 1)) fun x7 => some (.inl x7)))
theorem eX14_actOf_b2 (i1 : Int) (a3 : Int) {h : AH} (hS : Sh S h) : EQ (fX14_actOf_b2 454 i1 h a3) (gX14_actOf_b2 i1 h a3) (Sum.elim (fun _ => True) (Sum.elim (fun _ => True) (fun _ => True))) := by
  unfold fX14_actOf_b2 gX14_actOf_b2
  refine EQ_jgd (show h 454 (-2) = 15 from by rw [k_454 hS]) ?_
  refine EQ_if Iff.rfl (fun c1 => ?_) (fun c1 => ?_)
  · exact EQ_some trivial
  · refine EQ_jgd (show h 454 (-2) = 15 from by rw [k_454 hS]) ?_
    refine EQ_jg ⟨fun ⟨_, x0⟩ => (show jI a3 (h (h 454 0) (-1)) ↔ jI a3 36 from by rw [r_454_0 hS, l_455 hS]).mp x0, fun x0 => ⟨(show h (h 454 0) (-2) = 102 from by rw [r_454_0 hS, k_455 hS]), (show jI a3 (h (h 454 0) (-1)) ↔ jI a3 36 from by rw [r_454_0 hS, l_455 hS]).mpr x0⟩⟩ (fun g2 => ?_)
    refine EQ_if (show jcmp (h (h 454 0) a3) i1 = 0 ↔ jcmp (h 455 a3) i1 = 0 from by rw [r_454_0 hS]) (fun c3 => ?_) (fun c3 => ?_)
    · exact EQ_some trivial
    · refine EQ_jl rfl (fun x7 ex7 => ?_)
      clear ex7
      exact EQ_some trivial
noncomputable def gX14_actOf_l2 (i1 : Int) (a3 : Int) (h : AH) : Option ((Int) ⊕ (Unit)) := jit (gX14_actOf_b2 i1 h) a3
theorem eX14_actOf_l2 (i1 : Int) (a3 : Int) {h : AH} (hS : Sh S h) : EQ (fX14_actOf_l2 454 i1 a3 h) (gX14_actOf_l2 i1 a3 h) (Sum.elim (fun _ => True) (fun _ => True)) := EQ_jit (I := (fun _ => True)) (fun s _ => eX14_actOf_b2 i1 s hS) trivial
noncomputable def gX14_actOf (a1 : Int) (h : AH) : Option (Int) := jb (gX14_actOf_l2 a1 0 h) fun o1 => jm o1 (fun o3 => some o3) (fun o4 => some (-1))
theorem eX14_actOf (a1 : Int) {h : AH} (hS : Sh S h) : EQ (fX14_actOf 454 a1 h) (gX14_actOf a1 h) (fun _ => True) := by
  unfold fX14_actOf gX14_actOf
  refine EQ_jb (eX14_actOf_l2 a1 0 hS) (fun o1 r1 => ?_)
  refine EQ_jm r1 (fun o3 r2 => ?_) (fun o4 r3 => ?_)
  · exact EQ_some trivial
  · exact EQ_some trivial
noncomputable def gX14_isLike_b87 (F : Int → Int → AH → Option (Int)) (i1 : Int) (i2 : Int) (h : AH) (s : Int × Int) : Option ((Int × Int) ⊕ (Int)) := jt2 s fun a3 a4 => jg (jI i1 8800) <| if h 465 i1 ≤ a4 then (some (.inr a3)) else (if a3 = 0 then (some (.inr a3)) else (jg (jI (w32 (w32 (3 * i1) + a4)) 26400) <| jg (jI (w32 (w32 (3 * i2) + a4)) 26400) <| jb (F (h 464 (w32 (w32 (3 * i1) + a4))) (h 464 (w32 (w32 (3 * i2) + a4))) h) fun v12 => jl (w32 (a4 + 1)) fun x13 => some (.inl (v12, x13))))
theorem eX14_isLike_b87 {F0 : Int → Int → Int → AH → Option (Int)} {F : Int → Int → AH → Option (Int)} (hF : ∀ (b_a1 : Int) (b_a2 : Int), ∀ {b_h : AH}, Sh S b_h → EQ (F0 454 b_a1 b_a2 b_h) (F b_a1 b_a2 b_h) (fun _ => True)) (i1 : Int) (i2 : Int) (s : Int × Int) {h : AH} (hS : Sh S h) : EQ (fX14_isLike_b87 F0 454 i1 i2 h s) (gX14_isLike_b87 F i1 i2 h s) (Sum.elim (fun _ => True) (fun _ => True)) := by
  unfold fX14_isLike_b87 gX14_isLike_b87
  obtain ⟨a3, a4⟩ := s
  refine EQ_jt2 ?_
  refine EQ_jgd (show h 454 (-2) = 15 from by rw [k_454 hS]) ?_
  refine EQ_jg ⟨fun ⟨_, x0⟩ => (show jI i1 (h (h 454 11) (-1)) ↔ jI i1 8800 from by rw [r_454_11 hS, l_465 hS]).mp x0, fun x0 => ⟨(show h (h 454 11) (-2) = 101 from by rw [r_454_11 hS, k_465 hS]), (show jI i1 (h (h 454 11) (-1)) ↔ jI i1 8800 from by rw [r_454_11 hS, l_465 hS]).mpr x0⟩⟩ (fun g1 => ?_)
  refine EQ_if (show h (h 454 11) i1 ≤ a4 ↔ h 465 i1 ≤ a4 from by rw [r_454_11 hS]) (fun c2 => ?_) (fun c2 => ?_)
  · exact EQ_some trivial
  · refine EQ_if Iff.rfl (fun c3 => ?_) (fun c3 => ?_)
    · exact EQ_some trivial
    · refine EQ_jgd (show h 454 (-2) = 15 from by rw [k_454 hS]) ?_
      refine EQ_jg ⟨fun ⟨_, x0⟩ => (show jI (w32 (w32 (3 * i1) + a4)) (h (h 454 10) (-1)) ↔ jI (w32 (w32 (3 * i1) + a4)) 26400 from by rw [r_454_10 hS, l_464 hS]).mp x0, fun x0 => ⟨(show h (h 454 10) (-2) = 101 from by rw [r_454_10 hS, k_464 hS]), (show jI (w32 (w32 (3 * i1) + a4)) (h (h 454 10) (-1)) ↔ jI (w32 (w32 (3 * i1) + a4)) 26400 from by rw [r_454_10 hS, l_464 hS]).mpr x0⟩⟩ (fun g4 => ?_)
      refine EQ_jgd (show h 454 (-2) = 15 from by rw [k_454 hS]) ?_
      refine EQ_jg ⟨fun ⟨_, x0⟩ => (show jI (w32 (w32 (3 * i2) + a4)) (h (h 454 10) (-1)) ↔ jI (w32 (w32 (3 * i2) + a4)) 26400 from by rw [r_454_10 hS, l_464 hS]).mp x0, fun x0 => ⟨(show h (h 454 10) (-2) = 101 from by rw [r_454_10 hS, k_464 hS]), (show jI (w32 (w32 (3 * i2) + a4)) (h (h 454 10) (-1)) ↔ jI (w32 (w32 (3 * i2) + a4)) 26400 from by rw [r_454_10 hS, l_464 hS]).mpr x0⟩⟩ (fun g5 => ?_)
      refine EQ_jgd (show h 454 (-2) = 15 from by rw [k_454 hS]) ?_
      refine EQ_jb (by rw [r_454_10 hS]; exact hF (h 464 (w32 (w32 (3 * i1) + a4))) (h 464 (w32 (w32 (3 * i2) + a4))) hS) (fun v12 r6 => ?_)
      refine EQ_jl rfl (fun x13 ex13 => ?_)
      clear ex13
      exact EQ_some trivial
noncomputable def gX14_isLike_l87 (F : Int → Int → AH → Option (Int)) (i1 : Int) (i2 : Int) (a3 : Int) (a4 : Int) (h : AH) : Option (Int) := jit (gX14_isLike_b87 F i1 i2 h) (a3, a4)
theorem eX14_isLike_l87 {F0 : Int → Int → Int → AH → Option (Int)} {F : Int → Int → AH → Option (Int)} (hF : ∀ (b_a1 : Int) (b_a2 : Int), ∀ {b_h : AH}, Sh S b_h → EQ (F0 454 b_a1 b_a2 b_h) (F b_a1 b_a2 b_h) (fun _ => True)) (i1 : Int) (i2 : Int) (a3 : Int) (a4 : Int) {h : AH} (hS : Sh S h) : EQ (fX14_isLike_l87 F0 454 i1 i2 a3 a4 h) (gX14_isLike_l87 F i1 i2 a3 a4 h) (fun _ => True) := EQ_jit (I := (fun _ => True)) (fun s _ => eX14_isLike_b87 hF i1 i2 s hS) trivial
noncomputable def gX14_isLike_j82 (F : Int → Int → AH → Option (Int)) (a1 : Int) (a2 : Int) (h : AH) : Option (Int) := jb (gX14_isLike_l87 F a1 a2 1 0 h) fun o7 => jg (jZ o7) <| some o7
theorem eX14_isLike_j82 {F0 : Int → Int → Int → AH → Option (Int)} {F : Int → Int → AH → Option (Int)} (hF : ∀ (b_a1 : Int) (b_a2 : Int), ∀ {b_h : AH}, Sh S b_h → EQ (F0 454 b_a1 b_a2 b_h) (F b_a1 b_a2 b_h) (fun _ => True)) (a1 : Int) (a2 : Int) {h : AH} (hS : Sh S h) : EQ (fX14_isLike_j82 F0 454 a1 a2 h) (gX14_isLike_j82 F a1 a2 h) (fun _ => True) := by
  unfold fX14_isLike_j82 gX14_isLike_j82
  refine EQ_jb (eX14_isLike_l87 hF a1 a2 1 0 hS) (fun o7 r1 => ?_)
  refine EQ_jg Iff.rfl (fun g2 => ?_)
  exact EQ_some trivial
noncomputable def gX14_isLike_j55 (F : Int → Int → AH → Option (Int)) (a1 : Int) (a2 : Int) (h : AH) : Option (Int) := jg (jI a1 8800) <| if h 460 a1 = 2 then (jg (jI a2 8800) <| if h 463 a1 = h 463 a2 then (gX14_isLike_j82 F a1 a2 h) else (some 0)) else (gX14_isLike_j82 F a1 a2 h)
theorem eX14_isLike_j55 {F0 : Int → Int → Int → AH → Option (Int)} {F : Int → Int → AH → Option (Int)} (hF : ∀ (b_a1 : Int) (b_a2 : Int), ∀ {b_h : AH}, Sh S b_h → EQ (F0 454 b_a1 b_a2 b_h) (F b_a1 b_a2 b_h) (fun _ => True)) (a1 : Int) (a2 : Int) {h : AH} (hS : Sh S h) : EQ (fX14_isLike_j55 F0 454 a1 a2 h) (gX14_isLike_j55 F a1 a2 h) (fun _ => True) := by
  unfold fX14_isLike_j55 gX14_isLike_j55
  refine EQ_jgd (show h 454 (-2) = 15 from by rw [k_454 hS]) ?_
  refine EQ_jg ⟨fun ⟨_, x0⟩ => (show jI a1 (h (h 454 6) (-1)) ↔ jI a1 8800 from by rw [r_454_6 hS, l_460 hS]).mp x0, fun x0 => ⟨(show h (h 454 6) (-2) = 101 from by rw [r_454_6 hS, k_460 hS]), (show jI a1 (h (h 454 6) (-1)) ↔ jI a1 8800 from by rw [r_454_6 hS, l_460 hS]).mpr x0⟩⟩ (fun g1 => ?_)
  refine EQ_if (show h (h 454 6) a1 = 2 ↔ h 460 a1 = 2 from by rw [r_454_6 hS]) (fun c2 => ?_) (fun c2 => ?_)
  · refine EQ_jgd (show h 454 (-2) = 15 from by rw [k_454 hS]) ?_
    refine EQ_jgd ⟨(show h (h 454 9) (-2) = 101 from by rw [r_454_9 hS, k_463 hS]), ((show jI a1 (h (h 454 9) (-1)) ↔ jI a1 8800 from by rw [r_454_9 hS, l_463 hS]).mpr g1)⟩ ?_
    refine EQ_jgd (show h 454 (-2) = 15 from by rw [k_454 hS]) ?_
    refine EQ_jg ⟨fun ⟨_, x0⟩ => (show jI a2 (h (h 454 9) (-1)) ↔ jI a2 8800 from by rw [r_454_9 hS, l_463 hS]).mp x0, fun x0 => ⟨(show h (h 454 9) (-2) = 101 from by rw [r_454_9 hS, k_463 hS]), (show jI a2 (h (h 454 9) (-1)) ↔ jI a2 8800 from by rw [r_454_9 hS, l_463 hS]).mpr x0⟩⟩ (fun g3 => ?_)
    refine EQ_if (show h (h 454 9) a1 = h (h 454 9) a2 ↔ h 463 a1 = h 463 a2 from by rw [r_454_9 hS]) (fun c4 => ?_) (fun c4 => ?_)
    · exact (eX14_isLike_j82 hF a1 a2 hS)
    · exact EQ_some trivial
  · exact (eX14_isLike_j82 hF a1 a2 hS)
noncomputable def gX14_isLike_ (F : Int → Int → AH → Option (Int)) (a1 : Int) (a2 : Int) (h : AH) : Option (Int) := jg (jI a1 8800) <| jg (jI a2 8800) <| if h 460 a1 = h 460 a2 then (if 2 ≤ h 460 a1 then (gX14_isLike_j55 F a1 a2 h) else (if h 461 a1 = h 461 a2 then (if h 462 a1 = h 462 a2 then (gX14_isLike_j55 F a1 a2 h) else (some 0)) else (some 0))) else (some 0)
theorem eX14_isLike_ {F0 : Int → Int → Int → AH → Option (Int)} {F : Int → Int → AH → Option (Int)} (hF : ∀ (b_a1 : Int) (b_a2 : Int), ∀ {b_h : AH}, Sh S b_h → EQ (F0 454 b_a1 b_a2 b_h) (F b_a1 b_a2 b_h) (fun _ => True)) (a1 : Int) (a2 : Int) {h : AH} (hS : Sh S h) : EQ (fX14_isLike_ F0 454 a1 a2 h) (gX14_isLike_ F a1 a2 h) (fun _ => True) := by
  unfold fX14_isLike_ gX14_isLike_
  refine EQ_jgd (show h 454 (-2) = 15 from by rw [k_454 hS]) ?_
  refine EQ_jg ⟨fun ⟨_, x0⟩ => (show jI a1 (h (h 454 6) (-1)) ↔ jI a1 8800 from by rw [r_454_6 hS, l_460 hS]).mp x0, fun x0 => ⟨(show h (h 454 6) (-2) = 101 from by rw [r_454_6 hS, k_460 hS]), (show jI a1 (h (h 454 6) (-1)) ↔ jI a1 8800 from by rw [r_454_6 hS, l_460 hS]).mpr x0⟩⟩ (fun g1 => ?_)
  refine EQ_jgd (show h 454 (-2) = 15 from by rw [k_454 hS]) ?_
  refine EQ_jg ⟨fun ⟨_, x0⟩ => (show jI a2 (h (h 454 6) (-1)) ↔ jI a2 8800 from by rw [r_454_6 hS, l_460 hS]).mp x0, fun x0 => ⟨(show h (h 454 6) (-2) = 101 from by rw [r_454_6 hS, k_460 hS]), (show jI a2 (h (h 454 6) (-1)) ↔ jI a2 8800 from by rw [r_454_6 hS, l_460 hS]).mpr x0⟩⟩ (fun g2 => ?_)
  refine EQ_if (show h (h 454 6) a1 = h (h 454 6) a2 ↔ h 460 a1 = h 460 a2 from by rw [r_454_6 hS]) (fun c3 => ?_) (fun c3 => ?_)
  · refine EQ_jgd (show h 454 (-2) = 15 from by rw [k_454 hS]) ?_
    refine EQ_jgd ⟨(show h (h 454 6) (-2) = 101 from by rw [r_454_6 hS, k_460 hS]), ((show jI a1 (h (h 454 6) (-1)) ↔ jI a1 8800 from by rw [r_454_6 hS, l_460 hS]).mpr g1)⟩ ?_
    refine EQ_if (show 2 ≤ h (h 454 6) a1 ↔ 2 ≤ h 460 a1 from by rw [r_454_6 hS]) (fun c4 => ?_) (fun c4 => ?_)
    · exact (eX14_isLike_j55 hF a1 a2 hS)
    · refine EQ_jgd (show h 454 (-2) = 15 from by rw [k_454 hS]) ?_
      refine EQ_jgd ⟨(show h (h 454 7) (-2) = 101 from by rw [r_454_7 hS, k_461 hS]), ((show jI a1 (h (h 454 7) (-1)) ↔ jI a1 8800 from by rw [r_454_7 hS, l_461 hS]).mpr g1)⟩ ?_
      refine EQ_jgd (show h 454 (-2) = 15 from by rw [k_454 hS]) ?_
      refine EQ_jgd ⟨(show h (h 454 7) (-2) = 101 from by rw [r_454_7 hS, k_461 hS]), ((show jI a2 (h (h 454 7) (-1)) ↔ jI a2 8800 from by rw [r_454_7 hS, l_461 hS]).mpr g2)⟩ ?_
      refine EQ_if (show h (h 454 7) a1 = h (h 454 7) a2 ↔ h 461 a1 = h 461 a2 from by rw [r_454_7 hS]) (fun c5 => ?_) (fun c5 => ?_)
      · refine EQ_jgd (show h 454 (-2) = 15 from by rw [k_454 hS]) ?_
        refine EQ_jgd ⟨(show h (h 454 8) (-2) = 101 from by rw [r_454_8 hS, k_462 hS]), ((show jI a1 (h (h 454 8) (-1)) ↔ jI a1 8800 from by rw [r_454_8 hS, l_462 hS]).mpr g1)⟩ ?_
        refine EQ_jgd (show h 454 (-2) = 15 from by rw [k_454 hS]) ?_
        refine EQ_jgd ⟨(show h (h 454 8) (-2) = 101 from by rw [r_454_8 hS, k_462 hS]), ((show jI a2 (h (h 454 8) (-1)) ↔ jI a2 8800 from by rw [r_454_8 hS, l_462 hS]).mpr g2)⟩ ?_
        refine EQ_if (show h (h 454 8) a1 = h (h 454 8) a2 ↔ h 462 a1 = h 462 a2 from by rw [r_454_8 hS]) (fun c6 => ?_) (fun c6 => ?_)
        · exact (eX14_isLike_j55 hF a1 a2 hS)
        · exact EQ_some trivial
      · exact EQ_some trivial
  · exact EQ_some trivial
noncomputable def gX14_isLikeD : Nat → Int → Int → AH → Option (Int)
  | 0 => fun _ _ _ => none
  | d + 1 => gX14_isLike_ (gX14_isLikeD d)
theorem eX14_isLikeD : ∀ (d : Nat) (a1 : Int) (a2 : Int) {h : AH} (hS : Sh S h) , EQ (fX14_isLikeD d 454 a1 a2 h) (gX14_isLikeD d a1 a2 h) (fun _ => True) := by
  intro d
  induction d with
  | zero => intro a1 a2 h hS; exact EQ_none
  | succ d ih => intro a1 a2 h hS; exact eX14_isLike_ ih a1 a2 hS
noncomputable def gX14_isLike : Int → Int → AH → Option (Int) := gX14_isLikeD 40
theorem eX14_isLike (a1 : Int) (a2 : Int) {h : AH} (hS : Sh S h) : EQ (fX14_isLike 454 a1 a2 h) (gX14_isLike a1 a2 h) (fun _ => True) := eX14_isLikeD 40 a1 a2 hS
noncomputable def gX14_skipSign (a1 : Int) (h : AH) : Option (Int × Int × AH) := jb (gX14_isSign a1 h) fun v2 => if v2 = 0 then (jg (jZ v2) <| some (0, v2, h)) else (jb2 (gX14_next h) fun t5 h7 => jq t5 (some (t5, 0, h7)) <| jg (jZ v2) <| some (0, v2, h7))
theorem eX14_skipSign (a1 : Int) {h : AH} (hS : Sh S h) : EQ (fX14_skipSign 454 a1 h) (gX14_skipSign a1 h) (fun r => Sh S r.2.2) := by
  unfold fX14_skipSign gX14_skipSign
  refine EQ_jgd (show h 454 (-2) = 15 from by rw [k_454 hS]) ?_
  refine EQ_jb (eX14_isSign a1 hS) (fun v2 r1 => ?_)
  refine EQ_if Iff.rfl (fun c2 => ?_) (fun c2 => ?_)
  · refine EQ_jg Iff.rfl (fun g3 => ?_)
    exact EQ_some hS
  · refine EQ_jgd (show h 454 (-2) = 15 from by rw [k_454 hS]) ?_
    refine EQ_jb2 (eX14_next hS) (fun t5 h7 r4 => ?_)
    replace r4 : Sh S h7 := r4
    refine EQ_jq (fun _ => ?_) (fun _ => ?_)
    · exact EQ_some r4
    · refine EQ_jg Iff.rfl (fun g5 => ?_)
      exact EQ_some r4
noncomputable def gX14_piece_j205 (a1 : Int) (a3 : Int) (a4 : Int) (a5 : Int) (h : AH) : Option (Int × AH) := jl (min (h a1 5) 12) fun x41 => jg (jI x41 13) <| jl (jst h (a1 + 2) x41 a3) fun h42 => jl (jst h42 (a1 + 3) x41 a4) fun h43 => jl (jst h43 (a1 + 4) x41 a5) fun h44 => jl (jst h44 a1 5 (w32 (h44 a1 5 + 1))) fun h45 => some (0, h45)
theorem eX14_piece_j205 (a1 : Int) (a3 : Int) (a4 : Int) (a5 : Int) (hT_a1 : isX16 a1) {h : AH} (hS : Sh S h) : EQ (fX14_piece_j205 a1 a3 a4 a5 h) (gX14_piece_j205 a1 a3 a4 a5 h) (fun r => Sh S r.2) := by
  unfold fX14_piece_j205 gX14_piece_j205
  refine EQ_jgd (show h a1 (-2) = 17 from by rw [kd_X16 hS hT_a1]) ?_
  refine EQ_jl rfl (fun x41 ex41 => ?_)
  clear ex41
  refine EQ_jgd (show h a1 (-2) = 17 from by rw [kd_X16 hS hT_a1]) ?_
  refine EQ_jg ⟨fun ⟨_, _, x0⟩ => (show jI x41 (h (h a1 6) (-1)) ↔ jI x41 13 from by rw [ft_X16_6 hS hT_a1, la_X16_6 hS hT_a1]).mp x0, fun x0 => ⟨(show h (h a1 6) (-2) = 101 from by rw [ft_X16_6 hS hT_a1, ka_X16_6 hS hT_a1]), (show 200 ≤ h a1 6 from by rw [ft_X16_6 hS hT_a1]; exact gea_X16_6 hT_a1), (show jI x41 (h (h a1 6) (-1)) ↔ jI x41 13 from by rw [ft_X16_6 hS hT_a1, la_X16_6 hS hT_a1]).mpr x0⟩⟩ (fun g1 => ?_)
  refine EQ_jl (by rw [ft_X16_6 hS hT_a1]) (fun h42 eh42 => ?_)
  have s2 := Sh_of eh42 (Sh_sta hS (ara_X16_6 hT_a1) (jI_nn g1) (fun e => absurd ((ka_X16_6 hS hT_a1).symm.trans e) (by decide)))
  clear eh42
  refine EQ_jgd (show h42 a1 (-2) = 17 from by rw [kd_X16 s2 hT_a1]) ?_
  refine EQ_jgd ⟨(show h42 (h42 a1 7) (-2) = 101 from by rw [ft_X16_7 s2 hT_a1, ka_X16_7 s2 hT_a1]), (show 200 ≤ h42 a1 7 from by rw [ft_X16_7 s2 hT_a1]; exact gea_X16_7 hT_a1), ((show jI x41 (h42 (h42 a1 7) (-1)) ↔ jI x41 13 from by rw [ft_X16_7 s2 hT_a1, la_X16_7 s2 hT_a1]).mpr g1)⟩ ?_
  refine EQ_jl (by rw [ft_X16_7 s2 hT_a1]) (fun h43 eh43 => ?_)
  have s3 := Sh_of eh43 (Sh_sta s2 (ara_X16_7 hT_a1) (jI_nn g1) (fun e => absurd ((ka_X16_7 s2 hT_a1).symm.trans e) (by decide)))
  clear eh43
  refine EQ_jgd (show h43 a1 (-2) = 17 from by rw [kd_X16 s3 hT_a1]) ?_
  refine EQ_jgd ⟨(show h43 (h43 a1 8) (-2) = 101 from by rw [ft_X16_8 s3 hT_a1, ka_X16_8 s3 hT_a1]), (show 200 ≤ h43 a1 8 from by rw [ft_X16_8 s3 hT_a1]; exact gea_X16_8 hT_a1), ((show jI x41 (h43 (h43 a1 8) (-1)) ↔ jI x41 13 from by rw [ft_X16_8 s3 hT_a1, la_X16_8 s3 hT_a1]).mpr g1)⟩ ?_
  refine EQ_jl (by rw [ft_X16_8 s3 hT_a1]) (fun h44 eh44 => ?_)
  have s4 := Sh_of eh44 (Sh_sta s3 (ara_X16_8 hT_a1) (jI_nn g1) (fun e => absurd ((ka_X16_8 s3 hT_a1).symm.trans e) (by decide)))
  clear eh44
  refine EQ_jgd (show h44 a1 (-2) = 17 from by rw [kd_X16 s4 hT_a1]) ?_
  refine EQ_jgd ⟨(show h44 a1 (-2) = 17 from by rw [kd_X16 s4 hT_a1]), (show 200 ≤ a1 from ge_X16 hT_a1)⟩ ?_
  refine EQ_jl rfl (fun h45 eh45 => ?_)
  have s5 := Sh_of eh45 (Sh_sto_X16_5 s4 hT_a1)
  clear eh45
  exact EQ_some s5
noncomputable def gX14_piece_j184 (h : AH) : Option (Int × AH) := jb2 (gX14_fail 1 (h 454 29) h) fun v47 h48 => jg (¬ v47 = 0 ∧ v47 = 472) <| some (472, h48)
theorem eX14_piece_j184 {h : AH} (hS : Sh S h) : EQ (fX14_piece_j184 454 h) (gX14_piece_j184 h) (fun r => Sh S r.2) := by
  unfold fX14_piece_j184 gX14_piece_j184
  refine EQ_jgd (show h 454 (-2) = 15 from by rw [k_454 hS]) ?_
  refine EQ_jgd (show h 454 (-2) = 15 from by rw [k_454 hS]) ?_
  refine EQ_jb2 (eX14_fail 1 (h 454 29) hS) (fun v47 h48 r1 => ?_)
  replace r1 : Sh S h48 := r1
  refine EQ_jg ⟨fun ⟨x0, x1⟩ => ⟨x0, (ik_X15 r1).mp x1⟩, fun ⟨x0, x1⟩ => ⟨x0, (ik_X15 r1).mpr x1⟩⟩ (fun g2 => ?_)
  exact EQ_some' (by rw [g2.2]) r1
noncomputable def gX14_piece_j150 (a1 : Int) (a3 : Int) (a4 : Int) (h : AH) : Option (Int × AH) := jb3 (gX14_skipSign 58 h) fun t26 v27 h28 => jq t26 (some (t26, h28)) <| if v27 = 0 then (gX14_piece_j205 a1 a3 a4 1 h28) else (if h28 454 27 = 2 then (jb (gX14_in (h28 454 28) 1 9) fun v33 => if v33 = 0 then (gX14_piece_j184 h28) else (jl (w32 (h28 454 28)) fun x35 => jb2 (gX14_next h28) fun t37 h39 => jq t37 (some (t37, h39)) <| gX14_piece_j205 a1 a3 a4 x35 h39)) else (gX14_piece_j184 h28))
theorem eX14_piece_j150 (a1 : Int) (a3 : Int) (a4 : Int) (hT_a1 : isX16 a1) {h : AH} (hS : Sh S h) : EQ (fX14_piece_j150 454 a1 a3 a4 h) (gX14_piece_j150 a1 a3 a4 h) (fun r => Sh S r.2) := by
  unfold fX14_piece_j150 gX14_piece_j150
  refine EQ_jgd (show h 454 (-2) = 15 from by rw [k_454 hS]) ?_
  refine EQ_jb3 (eX14_skipSign 58 hS) (fun t26 v27 h28 r1 => ?_)
  replace r1 : Sh S h28 := r1
  refine EQ_jq (fun _ => ?_) (fun _ => ?_)
  · exact EQ_some r1
  · refine EQ_if Iff.rfl (fun c2 => ?_) (fun c2 => ?_)
    · exact (eX14_piece_j205 a1 a3 a4 1 hT_a1 r1)
    · refine EQ_jgd (show h28 454 (-2) = 15 from by rw [k_454 r1]) ?_
      refine EQ_if Iff.rfl (fun c3 => ?_) (fun c3 => ?_)
      · refine EQ_jgd (show h28 454 (-2) = 15 from by rw [k_454 r1]) ?_
        refine EQ_jb (eX14_in (h28 454 28) 1 9) (fun v33 r4 => ?_)
        refine EQ_if Iff.rfl (fun c5 => ?_) (fun c5 => ?_)
        · exact (eX14_piece_j184 r1)
        · refine EQ_jgd (show h28 454 (-2) = 15 from by rw [k_454 r1]) ?_
          refine EQ_jl rfl (fun x35 ex35 => ?_)
          clear ex35
          refine EQ_jgd (show h28 454 (-2) = 15 from by rw [k_454 r1]) ?_
          refine EQ_jb2 (eX14_next r1) (fun t37 h39 r6 => ?_)
          replace r6 : Sh S h39 := r6
          refine EQ_jq (fun _ => ?_) (fun _ => ?_)
          · exact EQ_some r6
          · exact (eX14_piece_j205 a1 a3 a4 x35 hT_a1 r6)
      · exact (eX14_piece_j184 r1)
