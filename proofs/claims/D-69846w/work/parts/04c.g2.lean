set_option maxRecDepth 100000
variable {S : Nat → Nat}
noncomputable def gX1_numberD : Nat → Int → Int → AH → Option (Int × AH)
  | 0 => fun _ _ _ => none
  | d + 1 => gX1_number_ (gX1_numberD d)
theorem eX1_numberD : ∀ (d : Nat) (a2 : Int) (a3 : Int) {h : AH} (hS : Sh S h) , EQ (fX1_numberD d 200 324 a2 a3 h) (gX1_numberD d a2 a3 h) (fun r => Sh S r.2) := by
  intro d
  induction d with
  | zero => intro a2 a3 h hS; exact EQ_none
  | succ d ih => intro a2 a3 h hS; exact eX1_number_ ih a2 a3 hS
noncomputable def gX1_number : Int → Int → AH → Option (Int × AH) := gX1_numberD 40
theorem eX1_number (a2 : Int) (a3 : Int) {h : AH} (hS : Sh S h) : EQ (fX1_number 200 324 a2 a3 h) (gX1_number a2 a3 h) (fun r => Sh S r.2) := eX1_numberD 40 a2 a3 hS
noncomputable def gX1_isTooMuch (a1 : Int) (h : AH) : Option (Int × AH) := if jcmp (w64 (h 200 58 + a1)) 1000000000 ≤ 0 then (jl (jst h 200 58 (w64 (h 200 58 + a1))) fun h2 => some (0, h2)) else (some (1, h))
theorem eX1_isTooMuch (a1 : Int) {h : AH} (hS : Sh S h) : EQ (fX1_isTooMuch 200 a1 h) (gX1_isTooMuch a1 h) (fun r => Sh S r.2) := by
  unfold fX1_isTooMuch gX1_isTooMuch
  refine EQ_jgd (show h 200 (-2) = 2 from by rw [k_200 hS]) ?_
  refine EQ_if Iff.rfl (fun c1 => ?_) (fun c1 => ?_)
  · refine EQ_jgd (show h 200 (-2) = 2 from by rw [k_200 hS]) ?_
    refine EQ_jgd ⟨(show h 200 (-2) = 2 from by rw [k_200 hS]), (show (200 : Int) ≤ 200 from (by decide))⟩ ?_
    refine EQ_jl rfl (fun h2 eh2 => ?_)
    have s2 := Sh_of eh2 (Sh_sto hS (a := 200) (i := 58) (by decide +kernel))
    clear eh2
    exact EQ_some s2
  · exact EQ_some hS
noncomputable def gX1_sketch_b101 (i1 : Int) (i2 : Int) (i3 : Int) (s : Int × AH) : Option ((Int × AH) ⊕ (AH)) := jt2 s fun a4 h => if h 441 16 ≤ a4 then (some (.inr h)) else (jg (jI a4 3) <| jl (jst h 270 a4 (jand (jshr i3 (w32 (4 * w32 (w32 (h 441 16 - 1) - a4)))) 15)) fun h35 => jl (w32 (a4 + 1)) fun x36 => some (.inl (x36, h35)))
theorem eX1_sketch_b101 (i1 : Int) (i2 : Int) (i3 : Int) {s : Int × AH} (hS : (fun r => Sh S r.2) s) : EQ (fX1_sketch_b101 200 i1 i2 i3 s) (gX1_sketch_b101 i1 i2 i3 s) (Sum.elim (fun r => Sh S r.2) (fun r => Sh S r)) := by
  unfold fX1_sketch_b101 gX1_sketch_b101
  obtain ⟨a4, h⟩ := s
  refine EQ_jt2 ?_
  replace hS : Sh S h := hS
  refine EQ_jgd (show h 200 (-2) = 2 from by rw [k_200 hS]) ?_
  refine EQ_jgd (show h (h 200 57) (-2) = 14 from by rw [r_200_57 hS, k_441 hS]) ?_
  refine EQ_if (show h (h 200 57) 16 ≤ a4 ↔ h 441 16 ≤ a4 from by rw [r_200_57 hS]) (fun c1 => ?_) (fun c1 => ?_)
  · exact EQ_some hS
  · refine EQ_jgd (show h 200 (-2) = 2 from by rw [k_200 hS]) ?_
    refine EQ_jgd (show h 200 (-2) = 2 from by rw [k_200 hS]) ?_
    refine EQ_jgd (show h (h 200 57) (-2) = 14 from by rw [r_200_57 hS, k_441 hS]) ?_
    refine EQ_jg ⟨fun ⟨_, _, x0⟩ => (show jI a4 (h (h 200 13) (-1)) ↔ jI a4 3 from by rw [r_200_13 hS, l_270 hS]).mp x0, fun x0 => ⟨(show h (h 200 13) (-2) = 101 from by rw [r_200_13 hS, k_270 hS]), (show 200 ≤ h 200 13 from by rw [r_200_13 hS]; exact (by decide)), (show jI a4 (h (h 200 13) (-1)) ↔ jI a4 3 from by rw [r_200_13 hS, l_270 hS]).mpr x0⟩⟩ (fun g2 => ?_)
    refine EQ_jl (by rw [r_200_13 hS, r_200_57 hS]) (fun h35 eh35 => ?_)
    have s3 := Sh_of eh35 (Sh_sta hS (by decide +kernel) (jI_nn g2) (fun e => absurd ((k_270 hS).symm.trans e) (by decide)))
    clear eh35
    refine EQ_jl rfl (fun x36 ex36 => ?_)
    clear ex36
    exact EQ_some s3
noncomputable def gX1_sketch_l101 (i1 : Int) (i2 : Int) (i3 : Int) (a4 : Int) (h : AH) : Option (AH) := jit (gX1_sketch_b101 i1 i2 i3) (a4, h)
theorem eX1_sketch_l101 (i1 : Int) (i2 : Int) (i3 : Int) (a4 : Int) {h : AH} (hS : Sh S h) : EQ (fX1_sketch_l101 200 i1 i2 i3 a4 h) (gX1_sketch_l101 i1 i2 i3 a4 h) (fun r => Sh S r) := EQ_jit (I := (fun r => Sh S r.2)) (fun s hs => eX1_sketch_b101 i1 i2 i3 hs) hS
noncomputable def gX1_sketch_b93 (i1 : Int) (i2 : Int) (s : Int × AH) : Option ((Int × AH) ⊕ ((Int × AH) ⊕ (AH))) := jt2 s fun a3 h => if i2 ≤ a3 then (some (.inr (.inr h))) else (jb (gX1_sketch_l101 i1 i2 a3 0 h) fun o25 => jb (gX1_answer 324 i1 o25) fun h28 => jb2 (gX1_meet 323 0 h28) fun v30 h31 => if v30 = 0 then (jl (w32 (a3 + 1)) fun x33 => some (.inl (x33, h31))) else (some (.inr (.inl (a3, h31)))))
theorem eX1_sketch_b93 (i1 : Int) (i2 : Int) {s : Int × AH} (hS : (fun r => Sh S r.2) s) : EQ (fX1_sketch_b93 200 i1 i2 s) (gX1_sketch_b93 i1 i2 s) (Sum.elim (fun r => Sh S r.2) (Sum.elim (fun r => Sh S r.2) (fun r => Sh S r))) := by
  unfold fX1_sketch_b93 gX1_sketch_b93
  obtain ⟨a3, h⟩ := s
  refine EQ_jt2 ?_
  replace hS : Sh S h := hS
  refine EQ_if Iff.rfl (fun c1 => ?_) (fun c1 => ?_)
  · exact EQ_some hS
  · refine EQ_jb (eX1_sketch_l101 i1 i2 a3 0 hS) (fun o25 r2 => ?_)
    refine EQ_jgd (show o25 200 (-2) = 2 from by rw [k_200 r2]) ?_
    refine EQ_jgd (show o25 200 (-2) = 2 from by rw [k_200 r2]) ?_
    refine EQ_jb (by rw [r_200_20 r2]; exact eX1_answer 324 i1 (by unfold isX3; decide) r2) (fun h28 r3 => ?_)
    refine EQ_jgd (show h28 200 (-2) = 2 from by rw [k_200 r3]) ?_
    refine EQ_jgd (show h28 200 (-2) = 2 from by rw [k_200 r3]) ?_
    refine EQ_jb2 (by rw [r_200_19 r3]; exact eX1_meet 323 0 r3) (fun v30 h31 r4 => ?_)
    replace r4 : Sh S h31 := r4
    refine EQ_if Iff.rfl (fun c5 => ?_) (fun c5 => ?_)
    · refine EQ_jl rfl (fun x33 ex33 => ?_)
      clear ex33
      exact EQ_some r4
    · exact EQ_some r4
noncomputable def gX1_sketch_l93 (i1 : Int) (i2 : Int) (a3 : Int) (h : AH) : Option ((Int × AH) ⊕ (AH)) := jit (gX1_sketch_b93 i1 i2) (a3, h)
theorem eX1_sketch_l93 (i1 : Int) (i2 : Int) (a3 : Int) {h : AH} (hS : Sh S h) : EQ (fX1_sketch_l93 200 i1 i2 a3 h) (gX1_sketch_l93 i1 i2 a3 h) (Sum.elim (fun r => Sh S r.2) (fun r => Sh S r)) := EQ_jit (I := (fun r => Sh S r.2)) (fun s hs => eX1_sketch_b93 i1 i2 hs) hS
noncomputable def gX1_sketch (h : AH) : Option (Int × AH) := if h 200 53 = 0 then (jb2 (gX1_readTerm 1 1 h) fun v3 h4 => if 0 ≤ v3 then (if h4 (h4 200 16) 19 = 0 then (some ((-2), h4)) else (if h4 441 16 = 0 then (some ((-2), h4)) else (jl (jshl 1 (w32 (4 * h4 441 16))) fun x8 => jb2 (gX1_number v3 0 h4) fun v10 h11 => jb2 (gX1_isTooMuch (w64 (w64 (x8 * h4 (h4 200 16) 18) * v10)) h11) fun v13 h14 => if v13 = 0 then (jb (gX1_sketch_l93 v3 x8 0 h14) fun o16 => jm o16 (fun o18 => jt2 o18 fun y20 h21 => jb (gX1_become v3 h21) fun h23 => some (y20, h23)) (fun o19 => some (4096, o19))) else (some ((-3), h14))))) else (some (v3, h4))) else (some ((-5), h))
theorem eX1_sketch {h : AH} (hS : Sh S h) : EQ (fX1_sketch 200 h) (gX1_sketch h) (fun r => Sh S r.2) := by
  unfold fX1_sketch gX1_sketch
  refine EQ_jgd (show h 200 (-2) = 2 from by rw [k_200 hS]) ?_
  refine EQ_if Iff.rfl (fun c1 => ?_) (fun c1 => ?_)
  · refine EQ_jgd (show h 200 (-2) = 2 from by rw [k_200 hS]) ?_
    refine EQ_jb2 (eX1_readTerm 1 1 hS) (fun v3 h4 r2 => ?_)
    replace r2 : Sh S h4 := r2
    refine EQ_if Iff.rfl (fun c3 => ?_) (fun c3 => ?_)
    · refine EQ_jgd (show h4 200 (-2) = 2 from by rw [k_200 r2]) ?_
      refine EQ_jgd (show h4 (h4 200 16) (-2) = 5 from by rw [kd_X4 r2 (dy_200_16 r2)]) ?_
      refine EQ_if Iff.rfl (fun c4 => ?_) (fun c4 => ?_)
      · exact EQ_some r2
      · refine EQ_jgd (show h4 200 (-2) = 2 from by rw [k_200 r2]) ?_
        refine EQ_jgd (show h4 (h4 200 57) (-2) = 14 from by rw [r_200_57 r2, k_441 r2]) ?_
        refine EQ_if (show h4 (h4 200 57) 16 = 0 ↔ h4 441 16 = 0 from by rw [r_200_57 r2]) (fun c5 => ?_) (fun c5 => ?_)
        · exact EQ_some r2
        · refine EQ_jgd (show h4 200 (-2) = 2 from by rw [k_200 r2]) ?_
          refine EQ_jgd (show h4 (h4 200 57) (-2) = 14 from by rw [r_200_57 r2, k_441 r2]) ?_
          refine EQ_jl (by rw [r_200_57 r2]) (fun x8 ex8 => ?_)
          clear ex8
          refine EQ_jgd (show h4 200 (-2) = 2 from by rw [k_200 r2]) ?_
          refine EQ_jgd (show h4 (h4 200 16) (-2) = 5 from by rw [kd_X4 r2 (dy_200_16 r2)]) ?_
          refine EQ_jgd (show h4 200 (-2) = 2 from by rw [k_200 r2]) ?_
          refine EQ_jgd (show h4 200 (-2) = 2 from by rw [k_200 r2]) ?_
          refine EQ_jb2 (by rw [r_200_20 r2]; exact eX1_number v3 0 r2) (fun v10 h11 r6 => ?_)
          replace r6 : Sh S h11 := r6
          refine EQ_jgd (show h11 200 (-2) = 2 from by rw [k_200 r6]) ?_
          refine EQ_jb2 (eX1_isTooMuch (w64 (w64 (x8 * h4 (h4 200 16) 18) * v10)) r6) (fun v13 h14 r7 => ?_)
          replace r7 : Sh S h14 := r7
          refine EQ_if Iff.rfl (fun c8 => ?_) (fun c8 => ?_)
          · refine EQ_jb (eX1_sketch_l93 v3 x8 0 r7) (fun o16 r9 => ?_)
            refine EQ_jm r9 (fun o18 r10 => ?_) (fun o19 r11 => ?_)
            · obtain ⟨y20, h21⟩ := o18
              refine EQ_jt2 ?_
              replace r10 : Sh S h21 := r10
              refine EQ_jgd (show h21 200 (-2) = 2 from by rw [k_200 r10]) ?_
              refine EQ_jb (eX1_become v3 r10) (fun h23 r12 => ?_)
              exact EQ_some r12
            · exact EQ_some r11
          · exact EQ_some r7
    · exact EQ_some r2
  · exact EQ_some hS
noncomputable def gX1_meetsWith_b18 (i1 : Int) (i2 : Int) (i3 : Int) (i4 : Int) (s : Int × AH) : Option ((Int × AH) ⊕ (AH)) := jt2 s fun a5 h => if h (h 200 16) 1 ≤ a5 then (some (.inr h)) else (jb (gX4_valueAt (h 200 16) i4 a5 h) fun v21 => jg (jI a5 1000) <| jl (jst h 269 a5 v21) fun h22 => jl (w32 (a5 + 1)) fun x23 => some (.inl (x23, h22)))
theorem eX1_meetsWith_b18 (i1 : Int) (i2 : Int) (i3 : Int) (i4 : Int) {s : Int × AH} (hS : (fun r => Sh S r.2) s) : EQ (fX1_meetsWith_b18 200 i1 i2 i3 i4 s) (gX1_meetsWith_b18 i1 i2 i3 i4 s) (Sum.elim (fun r => Sh S r.2) (fun r => Sh S r)) := by
  unfold fX1_meetsWith_b18 gX1_meetsWith_b18
  obtain ⟨a5, h⟩ := s
  refine EQ_jt2 ?_
  replace hS : Sh S h := hS
  refine EQ_jgd (show h 200 (-2) = 2 from by rw [k_200 hS]) ?_
  refine EQ_jgd (show h (h 200 16) (-2) = 5 from by rw [kd_X4 hS (dy_200_16 hS)]) ?_
  refine EQ_if Iff.rfl (fun c1 => ?_) (fun c1 => ?_)
  · exact EQ_some hS
  · refine EQ_jgd (show h 200 (-2) = 2 from by rw [k_200 hS]) ?_
    refine EQ_jgd (show h 200 (-2) = 2 from by rw [k_200 hS]) ?_
    refine EQ_jgd (show h (h 200 16) (-2) = 5 from by rw [kd_X4 hS (dy_200_16 hS)]) ?_
    refine EQ_jb (eX4_valueAt (h 200 16) i4 a5 (dy_200_16 hS) hS) (fun v21 r2 => ?_)
    refine EQ_jg ⟨fun ⟨_, _, x0⟩ => (show jI a5 (h (h 200 8) (-1)) ↔ jI a5 1000 from by rw [r_200_8 hS, l_269 hS]).mp x0, fun x0 => ⟨(show h (h 200 8) (-2) = 101 from by rw [r_200_8 hS, k_269 hS]), (show 200 ≤ h 200 8 from by rw [r_200_8 hS]; exact (by decide)), (show jI a5 (h (h 200 8) (-1)) ↔ jI a5 1000 from by rw [r_200_8 hS, l_269 hS]).mpr x0⟩⟩ (fun g3 => ?_)
    refine EQ_jl (by rw [r_200_8 hS]) (fun h22 eh22 => ?_)
    have s4 := Sh_of eh22 (Sh_sta hS (by decide +kernel) (jI_nn g3) (fun e => absurd ((k_269 hS).symm.trans e) (by decide)))
    clear eh22
    refine EQ_jl rfl (fun x23 ex23 => ?_)
    clear ex23
    exact EQ_some s4
noncomputable def gX1_meetsWith_l18 (i1 : Int) (i2 : Int) (i3 : Int) (i4 : Int) (a5 : Int) (h : AH) : Option (AH) := jit (gX1_meetsWith_b18 i1 i2 i3 i4) (a5, h)
theorem eX1_meetsWith_l18 (i1 : Int) (i2 : Int) (i3 : Int) (i4 : Int) (a5 : Int) {h : AH} (hS : Sh S h) : EQ (fX1_meetsWith_l18 200 i1 i2 i3 i4 a5 h) (gX1_meetsWith_l18 i1 i2 i3 i4 a5 h) (fun r => Sh S r) := EQ_jit (I := (fun r => Sh S r.2)) (fun s hs => eX1_meetsWith_b18 i1 i2 i3 i4 hs) hS
noncomputable def gX1_meetsWith_b3 (i1 : Int) (i2 : Int) (i3 : Int) (s : Int × AH) : Option ((Int × AH) ⊕ (AH)) := jt2 s fun a4 h => if h (h 200 16) 18 ≤ a4 then (some (.inr h)) else (jb (gX1_meetsWith_l18 i1 i2 i3 a4 0 h) fun o9 => jl (jst o9 200 9 (o9 (o9 200 16) 1)) fun h11 => jl (jst h11 200 11 i2) fun h12 => jg (jI (w32 (w32 (i3 * 256) + a4)) 30976) <| jl (jst h12 200 12 (h12 312 (w32 (w32 (i3 * 256) + a4)))) fun h13 => jb2 (gX1_work 324 i1 0 h13) fun v15 h16 => jg (jI a4 256) <| jl (jst h16 323 a4 v15) fun h17 => jl (w32 (a4 + 1)) fun x18 => some (.inl (x18, h17)))
theorem eX1_meetsWith_b3 (i1 : Int) (i2 : Int) (i3 : Int) {s : Int × AH} (hS : (fun r => Sh S r.2) s) : EQ (fX1_meetsWith_b3 200 i1 i2 i3 s) (gX1_meetsWith_b3 i1 i2 i3 s) (Sum.elim (fun r => Sh S r.2) (fun r => Sh S r)) := by
  unfold fX1_meetsWith_b3 gX1_meetsWith_b3
  obtain ⟨a4, h⟩ := s
  refine EQ_jt2 ?_
  replace hS : Sh S h := hS
  refine EQ_jgd (show h 200 (-2) = 2 from by rw [k_200 hS]) ?_
  refine EQ_jgd (show h (h 200 16) (-2) = 5 from by rw [kd_X4 hS (dy_200_16 hS)]) ?_
  refine EQ_if Iff.rfl (fun c1 => ?_) (fun c1 => ?_)
  · exact EQ_some hS
  · refine EQ_jb (eX1_meetsWith_l18 i1 i2 i3 a4 0 hS) (fun o9 r2 => ?_)
    refine EQ_jgd (show o9 200 (-2) = 2 from by rw [k_200 r2]) ?_
    refine EQ_jgd (show o9 (o9 200 16) (-2) = 5 from by rw [kd_X4 r2 (dy_200_16 r2)]) ?_
    refine EQ_jgd ⟨(show o9 200 (-2) = 2 from by rw [k_200 r2]), (show (200 : Int) ≤ 200 from (by decide))⟩ ?_
    refine EQ_jl rfl (fun h11 eh11 => ?_)
    have s3 := Sh_of eh11 (Sh_sto r2 (a := 200) (i := 9) (by decide +kernel))
    clear eh11
    refine EQ_jgd ⟨(show h11 200 (-2) = 2 from by rw [k_200 s3]), (show (200 : Int) ≤ 200 from (by decide))⟩ ?_
    refine EQ_jl rfl (fun h12 eh12 => ?_)
    have s4 := Sh_of eh12 (Sh_sto s3 (a := 200) (i := 11) (by decide +kernel))
    clear eh12
    refine EQ_jgd (show h12 200 (-2) = 2 from by rw [k_200 s4]) ?_
    refine EQ_jgd (show h12 (h12 200 18) (-2) = 6 from by rw [r_200_18 s4, k_307 s4]) ?_
    refine EQ_jg ⟨fun ⟨_, x0⟩ => (show jI (w32 (w32 (i3 * 256) + a4)) (h12 (h12 (h12 200 18) 5) (-1)) ↔ jI (w32 (w32 (i3 * 256) + a4)) 30976 from by rw [r_200_18 s4, r_307_5 s4, l_312 s4]).mp x0, fun x0 => ⟨(show h12 (h12 (h12 200 18) 5) (-2) = 101 from by rw [r_200_18 s4, r_307_5 s4, k_312 s4]), (show jI (w32 (w32 (i3 * 256) + a4)) (h12 (h12 (h12 200 18) 5) (-1)) ↔ jI (w32 (w32 (i3 * 256) + a4)) 30976 from by rw [r_200_18 s4, r_307_5 s4, l_312 s4]).mpr x0⟩⟩ (fun g5 => ?_)
    refine EQ_jgd ⟨(show h12 200 (-2) = 2 from by rw [k_200 s4]), (show (200 : Int) ≤ 200 from (by decide))⟩ ?_
    refine EQ_jl (by rw [r_200_18 s4, r_307_5 s4]) (fun h13 eh13 => ?_)
    have s6 := Sh_of eh13 (Sh_sto s4 (a := 200) (i := 12) (by decide +kernel))
    clear eh13
    refine EQ_jgd (show h13 200 (-2) = 2 from by rw [k_200 s6]) ?_
    refine EQ_jgd (show h13 200 (-2) = 2 from by rw [k_200 s6]) ?_
    refine EQ_jgd (show h13 200 (-2) = 2 from by rw [k_200 s6]) ?_
    refine EQ_jb2 (by rw [r_200_20 s6]; exact eX1_work 324 i1 0 s6) (fun v15 h16 r7 => ?_)
    replace r7 : Sh S h16 := r7
    refine EQ_jg ⟨fun ⟨_, _, x0⟩ => (show jI a4 (h16 (h13 200 19) (-1)) ↔ jI a4 256 from by rw [r_200_19 s6, l_323 r7]).mp x0, fun x0 => ⟨(show h16 (h13 200 19) (-2) = 101 from by rw [r_200_19 s6, k_323 r7]), (show 200 ≤ h13 200 19 from by rw [r_200_19 s6]; exact (by decide)), (show jI a4 (h16 (h13 200 19) (-1)) ↔ jI a4 256 from by rw [r_200_19 s6, l_323 r7]).mpr x0⟩⟩ (fun g8 => ?_)
    refine EQ_jl (by rw [r_200_19 s6]) (fun h17 eh17 => ?_)
    have s9 := Sh_of eh17 (Sh_sta r7 (by decide +kernel) (jI_nn g8) (fun e => absurd ((k_323 r7).symm.trans e) (by decide)))
    clear eh17
    refine EQ_jl rfl (fun x18 ex18 => ?_)
    clear ex18
    exact EQ_some s9
noncomputable def gX1_meetsWith_l3 (i1 : Int) (i2 : Int) (i3 : Int) (a4 : Int) (h : AH) : Option (AH) := jit (gX1_meetsWith_b3 i1 i2 i3) (a4, h)
theorem eX1_meetsWith_l3 (i1 : Int) (i2 : Int) (i3 : Int) (a4 : Int) {h : AH} (hS : Sh S h) : EQ (fX1_meetsWith_l3 200 i1 i2 i3 a4 h) (gX1_meetsWith_l3 i1 i2 i3 a4 h) (fun r => Sh S r) := EQ_jit (I := (fun r => Sh S r.2)) (fun s hs => eX1_meetsWith_b3 i1 i2 i3 hs) hS
noncomputable def gX1_meetsWith (a1 : Int) (a2 : Int) (a3 : Int) (h : AH) : Option (Int × AH) := jb (gX1_meetsWith_l3 a1 a2 a3 0 h) fun o1 => jl (jst o1 200 11 (-1)) fun h3 => jl (jst h3 200 9 0) fun h4 => jb2 (gX1_meet 323 0 h4) fun v6 h7 => jg (jZ v6) <| some (v6, h7)
theorem eX1_meetsWith (a1 : Int) (a2 : Int) (a3 : Int) {h : AH} (hS : Sh S h) : EQ (fX1_meetsWith 200 a1 a2 a3 h) (gX1_meetsWith a1 a2 a3 h) (fun r => Sh S r.2) := by
  unfold fX1_meetsWith gX1_meetsWith
  refine EQ_jb (eX1_meetsWith_l3 a1 a2 a3 0 hS) (fun o1 r1 => ?_)
  refine EQ_jgd ⟨(show o1 200 (-2) = 2 from by rw [k_200 r1]), (show (200 : Int) ≤ 200 from (by decide))⟩ ?_
  refine EQ_jl rfl (fun h3 eh3 => ?_)
  have s2 := Sh_of eh3 (Sh_sto r1 (a := 200) (i := 11) (by decide +kernel))
  clear eh3
  refine EQ_jgd ⟨(show h3 200 (-2) = 2 from by rw [k_200 s2]), (show (200 : Int) ≤ 200 from (by decide))⟩ ?_
  refine EQ_jl rfl (fun h4 eh4 => ?_)
  have s3 := Sh_of eh4 (Sh_sto s2 (a := 200) (i := 9) (by decide +kernel))
  clear eh4
  refine EQ_jgd (show h4 200 (-2) = 2 from by rw [k_200 s3]) ?_
  refine EQ_jgd (show h4 200 (-2) = 2 from by rw [k_200 s3]) ?_
  refine EQ_jb2 (by rw [r_200_19 s3]; exact eX1_meet 323 0 s3) (fun v6 h7 r4 => ?_)
  replace r4 : Sh S h7 := r4
  refine EQ_jg Iff.rfl (fun g5 => ?_)
  exact EQ_some r4
noncomputable def gX1_replaced_j55_10 (F : Int → Int → Int → AH → Option (Int × AH)) (a1 : Int) (a2 : Int) (a3 : Int) (a4 : Int) (h : AH) : Option ((Int × AH) ⊕ (AH)) := jl (w32 (a4 + 1)) fun x15 => some (.inl (x15, h))
theorem eX1_replaced_j55_10 {F0 : Int → Int → Int → Int → AH → Option (Int × AH)} {F : Int → Int → Int → AH → Option (Int × AH)} (hF : ∀ (b_a1 : Int) (b_a2 : Int) (b_a3 : Int), ∀ {b_h : AH}, Sh S b_h → EQ (F0 200 b_a1 b_a2 b_a3 b_h) (F b_a1 b_a2 b_a3 b_h) (fun r => Sh S r.2)) (a1 : Int) (a2 : Int) (a3 : Int) (a4 : Int) {h : AH} (hS : Sh S h) : EQ (fX1_replaced_j55_10 F0 200 a1 a2 a3 a4 h) (gX1_replaced_j55_10 F a1 a2 a3 a4 h) (Sum.elim (fun r => Sh S r.2) (fun r => Sh S r)) := by
  unfold fX1_replaced_j55_10 gX1_replaced_j55_10
  refine EQ_jl rfl (fun x15 ex15 => ?_)
  clear ex15
  exact EQ_some hS
noncomputable def gX1_replaced_b10 (F : Int → Int → Int → AH → Option (Int × AH)) (i1 : Int) (i2 : Int) (i3 : Int) (s : Int × AH) : Option ((Int × AH) ⊕ (AH)) := jt2 s fun a4 h => if 3 ≤ a4 then (some (.inr h)) else (jb (gX3_part 324 i1 a4 h) fun v6 => if v6 < 0 then (gX1_replaced_j55_10 F i1 i2 i3 a4 h) else (jb (gX3_part 324 i1 a4 h) fun v9 => jb2 (F v9 i2 i3 h) fun v11 h12 => jb (gX3_join 324 i1 a4 v11 h12) fun h14 => gX1_replaced_j55_10 F i1 i2 i3 a4 h14))
theorem eX1_replaced_b10 {F0 : Int → Int → Int → Int → AH → Option (Int × AH)} {F : Int → Int → Int → AH → Option (Int × AH)} (hF : ∀ (b_a1 : Int) (b_a2 : Int) (b_a3 : Int), ∀ {b_h : AH}, Sh S b_h → EQ (F0 200 b_a1 b_a2 b_a3 b_h) (F b_a1 b_a2 b_a3 b_h) (fun r => Sh S r.2)) (i1 : Int) (i2 : Int) (i3 : Int) {s : Int × AH} (hS : (fun r => Sh S r.2) s) : EQ (fX1_replaced_b10 F0 200 i1 i2 i3 s) (gX1_replaced_b10 F i1 i2 i3 s) (Sum.elim (fun r => Sh S r.2) (fun r => Sh S r)) := by
  unfold fX1_replaced_b10 gX1_replaced_b10
  obtain ⟨a4, h⟩ := s
  refine EQ_jt2 ?_
  replace hS : Sh S h := hS
  refine EQ_if Iff.rfl (fun c1 => ?_) (fun c1 => ?_)
  · exact EQ_some hS
  · refine EQ_jgd (show h 200 (-2) = 2 from by rw [k_200 hS]) ?_
    refine EQ_jgd (show h (h 200 20) (-2) = 4 from by rw [r_200_20 hS, k_324 hS]) ?_
    refine EQ_jb (by rw [r_200_20 hS]; exact eX3_part 324 i1 a4 (by unfold isX3; decide) hS) (fun v6 r2 => ?_)
    refine EQ_if Iff.rfl (fun c3 => ?_) (fun c3 => ?_)
    · exact (eX1_replaced_j55_10 hF i1 i2 i3 a4 hS)
    · refine EQ_jgd (show h 200 (-2) = 2 from by rw [k_200 hS]) ?_
      refine EQ_jgd (show h 200 (-2) = 2 from by rw [k_200 hS]) ?_
      refine EQ_jgd (show h (h 200 20) (-2) = 4 from by rw [r_200_20 hS, k_324 hS]) ?_
      refine EQ_jb (by rw [r_200_20 hS]; exact eX3_part 324 i1 a4 (by unfold isX3; decide) hS) (fun v9 r4 => ?_)
      refine EQ_jgd (show h 200 (-2) = 2 from by rw [k_200 hS]) ?_
      refine EQ_jb2 (hF v9 i2 i3 hS) (fun v11 h12 r5 => ?_)
      replace r5 : Sh S h12 := r5
      refine EQ_jgd (show h12 (h 200 20) (-2) = 4 from by rw [r_200_20 hS, k_324 r5]) ?_
      refine EQ_jb (by rw [r_200_20 hS]; exact eX3_join 324 i1 a4 v11 (by unfold isX3; decide) r5) (fun h14 r6 => ?_)
      exact (eX1_replaced_j55_10 hF i1 i2 i3 a4 r6)
noncomputable def gX1_replaced_l10 (F : Int → Int → Int → AH → Option (Int × AH)) (i1 : Int) (i2 : Int) (i3 : Int) (a4 : Int) (h : AH) : Option (AH) := jit (gX1_replaced_b10 F i1 i2 i3) (a4, h)
theorem eX1_replaced_l10 {F0 : Int → Int → Int → Int → AH → Option (Int × AH)} {F : Int → Int → Int → AH → Option (Int × AH)} (hF : ∀ (b_a1 : Int) (b_a2 : Int) (b_a3 : Int), ∀ {b_h : AH}, Sh S b_h → EQ (F0 200 b_a1 b_a2 b_a3 b_h) (F b_a1 b_a2 b_a3 b_h) (fun r => Sh S r.2)) (i1 : Int) (i2 : Int) (i3 : Int) (a4 : Int) {h : AH} (hS : Sh S h) : EQ (fX1_replaced_l10 F0 200 i1 i2 i3 a4 h) (gX1_replaced_l10 F i1 i2 i3 a4 h) (fun r => Sh S r) := EQ_jit (I := (fun r => Sh S r.2)) (fun s hs => eX1_replaced_b10 hF i1 i2 i3 hs) hS
noncomputable def gX1_replaced_ (F : Int → Int → Int → AH → Option (Int × AH)) (a1 : Int) (a2 : Int) (a3 : Int) (h : AH) : Option (Int × AH) := if a1 = a2 then (some (a3, h)) else (jb (gX1_replaced_l10 F a1 a2 a3 0 h) fun o2 => some (a1, o2))
theorem eX1_replaced_ {F0 : Int → Int → Int → Int → AH → Option (Int × AH)} {F : Int → Int → Int → AH → Option (Int × AH)} (hF : ∀ (b_a1 : Int) (b_a2 : Int) (b_a3 : Int), ∀ {b_h : AH}, Sh S b_h → EQ (F0 200 b_a1 b_a2 b_a3 b_h) (F b_a1 b_a2 b_a3 b_h) (fun r => Sh S r.2)) (a1 : Int) (a2 : Int) (a3 : Int) {h : AH} (hS : Sh S h) : EQ (fX1_replaced_ F0 200 a1 a2 a3 h) (gX1_replaced_ F a1 a2 a3 h) (fun r => Sh S r.2) := by
  unfold fX1_replaced_ gX1_replaced_
  refine EQ_if Iff.rfl (fun c1 => ?_) (fun c1 => ?_)
  · exact EQ_some hS
  · refine EQ_jb (eX1_replaced_l10 hF a1 a2 a3 0 hS) (fun o2 r2 => ?_)
    exact EQ_some r2
noncomputable def gX1_replacedD : Nat → Int → Int → Int → AH → Option (Int × AH)
  | 0 => fun _ _ _ _ => none
  | d + 1 => gX1_replaced_ (gX1_replacedD d)
theorem eX1_replacedD : ∀ (d : Nat) (a1 : Int) (a2 : Int) (a3 : Int) {h : AH} (hS : Sh S h) , EQ (fX1_replacedD d 200 a1 a2 a3 h) (gX1_replacedD d a1 a2 a3 h) (fun r => Sh S r.2) := by
  intro d
  induction d with
  | zero => intro a1 a2 a3 h hS; exact EQ_none
  | succ d ih => intro a1 a2 a3 h hS; exact eX1_replaced_ ih a1 a2 a3 hS
noncomputable def gX1_replaced : Int → Int → Int → AH → Option (Int × AH) := gX1_replacedD 40
theorem eX1_replaced (a1 : Int) (a2 : Int) (a3 : Int) {h : AH} (hS : Sh S h) : EQ (fX1_replaced 200 a1 a2 a3 h) (gX1_replaced a1 a2 a3 h) (fun r => Sh S r.2) := eX1_replacedD 40 a1 a2 a3 hS
noncomputable def gX1_mendBy_j221_116 (a1 : Int) (a2 : Int) (a3 : Int) (a4 : Int) (a5 : Int) (a6 : Int) (a7 : Int) (h : AH) : Option ((Int × AH) ⊕ ((Int × AH) ⊕ (AH))) := jl (w32 (a7 + 1)) fun x52 => some (.inl (x52, h))
theorem eX1_mendBy_j221_116 (a1 : Int) (a2 : Int) (a3 : Int) (a4 : Int) (a5 : Int) (a6 : Int) (a7 : Int) {h : AH} (hS : Sh S h) : EQ (fX1_mendBy_j221_116 200 a1 a2 a3 a4 a5 a6 a7 h) (gX1_mendBy_j221_116 a1 a2 a3 a4 a5 a6 a7 h) (Sum.elim (fun r => Sh S r.2) (Sum.elim (fun r => Sh S r.2) (fun r => Sh S r))) := by
  unfold fX1_mendBy_j221_116 gX1_mendBy_j221_116
  refine EQ_jl rfl (fun x52 ex52 => ?_)
  clear ex52
  exact EQ_some hS
noncomputable def gX1_mendBy_b116 (i1 : Int) (i2 : Int) (i3 : Int) (i4 : Int) (i5 : Int) (i6 : Int) (s : Int × AH) : Option ((Int × AH) ⊕ ((Int × AH) ⊕ (AH))) := jt2 s fun a7 h => if i5 ≤ a7 then (some (.inr (.inr h))) else (jg (jI a7 121) <| jg (jI i6 800) <| jg (jI (h 340 i6) 2200) <| if h 308 a7 = h 327 (h 340 i6) then (jb2 (gX1_meetsWith i1 (h 340 i6) a7 h) fun v49 h50 => if v49 = 0 then (gX1_mendBy_j221_116 i1 i2 i3 i4 i5 i6 a7 h50) else (some (.inr (.inl (a7, h50))))) else (gX1_mendBy_j221_116 i1 i2 i3 i4 i5 i6 a7 h))
theorem eX1_mendBy_b116 (i1 : Int) (i2 : Int) (i3 : Int) (i4 : Int) (i5 : Int) (i6 : Int) {s : Int × AH} (hS : (fun r => Sh S r.2) s) : EQ (fX1_mendBy_b116 200 i1 i2 i3 i4 i5 i6 s) (gX1_mendBy_b116 i1 i2 i3 i4 i5 i6 s) (Sum.elim (fun r => Sh S r.2) (Sum.elim (fun r => Sh S r.2) (fun r => Sh S r))) := by
  unfold fX1_mendBy_b116 gX1_mendBy_b116
  obtain ⟨a7, h⟩ := s
  refine EQ_jt2 ?_
  replace hS : Sh S h := hS
  refine EQ_if Iff.rfl (fun c1 => ?_) (fun c1 => ?_)
  · exact EQ_some hS
  · refine EQ_jgd (show h 200 (-2) = 2 from by rw [k_200 hS]) ?_
    refine EQ_jgd (show h (h 200 18) (-2) = 6 from by rw [r_200_18 hS, k_307 hS]) ?_
    refine EQ_jg ⟨fun ⟨_, x0⟩ => (show jI a7 (h (h (h 200 18) 1) (-1)) ↔ jI a7 121 from by rw [r_200_18 hS, r_307_1 hS, l_308 hS]).mp x0, fun x0 => ⟨(show h (h (h 200 18) 1) (-2) = 101 from by rw [r_200_18 hS, r_307_1 hS, k_308 hS]), (show jI a7 (h (h (h 200 18) 1) (-1)) ↔ jI a7 121 from by rw [r_200_18 hS, r_307_1 hS, l_308 hS]).mpr x0⟩⟩ (fun g2 => ?_)
    refine EQ_jgd (show h 200 (-2) = 2 from by rw [k_200 hS]) ?_
    refine EQ_jgd (show h (h 200 20) (-2) = 4 from by rw [r_200_20 hS, k_324 hS]) ?_
    refine EQ_jgd (show h 200 (-2) = 2 from by rw [k_200 hS]) ?_
    refine EQ_jg ⟨fun ⟨_, x0⟩ => (show jI i6 (h (h 200 30) (-1)) ↔ jI i6 800 from by rw [r_200_30 hS, l_340 hS]).mp x0, fun x0 => ⟨(show h (h 200 30) (-2) = 101 from by rw [r_200_30 hS, k_340 hS]), (show jI i6 (h (h 200 30) (-1)) ↔ jI i6 800 from by rw [r_200_30 hS, l_340 hS]).mpr x0⟩⟩ (fun g3 => ?_)
    refine EQ_jg ⟨fun ⟨_, x0⟩ => (show jI (h (h 200 30) i6) (h (h (h 200 20) 3) (-1)) ↔ jI (h 340 i6) 2200 from by rw [r_200_30 hS, r_200_20 hS, r_324_3 hS, l_327 hS]).mp x0, fun x0 => ⟨(show h (h (h 200 20) 3) (-2) = 101 from by rw [r_200_20 hS, r_324_3 hS, k_327 hS]), (show jI (h (h 200 30) i6) (h (h (h 200 20) 3) (-1)) ↔ jI (h 340 i6) 2200 from by rw [r_200_30 hS, r_200_20 hS, r_324_3 hS, l_327 hS]).mpr x0⟩⟩ (fun g4 => ?_)
    refine EQ_if (show h (h (h 200 18) 1) a7 = h (h (h 200 20) 3) (h (h 200 30) i6) ↔ h 308 a7 = h 327 (h 340 i6) from by rw [r_200_18 hS, r_307_1 hS, r_200_20 hS, r_324_3 hS, r_200_30 hS]) (fun c5 => ?_) (fun c5 => ?_)
    · refine EQ_jgd (show h 200 (-2) = 2 from by rw [k_200 hS]) ?_
      refine EQ_jgd ⟨(show h (h 200 30) (-2) = 101 from by rw [r_200_30 hS, k_340 hS]), ((show jI i6 (h (h 200 30) (-1)) ↔ jI i6 800 from by rw [r_200_30 hS, l_340 hS]).mpr g3)⟩ ?_
      refine EQ_jgd (show h 200 (-2) = 2 from by rw [k_200 hS]) ?_
      refine EQ_jb2 (by rw [r_200_30 hS]; exact eX1_meetsWith i1 (h 340 i6) a7 hS) (fun v49 h50 r6 => ?_)
      replace r6 : Sh S h50 := r6
      refine EQ_if Iff.rfl (fun c7 => ?_) (fun c7 => ?_)
      · exact (eX1_mendBy_j221_116 i1 i2 i3 i4 i5 i6 a7 r6)
      · exact EQ_some r6
    · exact (eX1_mendBy_j221_116 i1 i2 i3 i4 i5 i6 a7 hS)
noncomputable def gX1_mendBy_l116 (i1 : Int) (i2 : Int) (i3 : Int) (i4 : Int) (i5 : Int) (i6 : Int) (a7 : Int) (h : AH) : Option ((Int × AH) ⊕ (AH)) := jit (gX1_mendBy_b116 i1 i2 i3 i4 i5 i6) (a7, h)
theorem eX1_mendBy_l116 (i1 : Int) (i2 : Int) (i3 : Int) (i4 : Int) (i5 : Int) (i6 : Int) (a7 : Int) {h : AH} (hS : Sh S h) : EQ (fX1_mendBy_l116 200 i1 i2 i3 i4 i5 i6 a7 h) (gX1_mendBy_l116 i1 i2 i3 i4 i5 i6 a7 h) (Sum.elim (fun r => Sh S r.2) (fun r => Sh S r)) := EQ_jit (I := (fun r => Sh S r.2)) (fun s hs => eX1_mendBy_b116 i1 i2 i3 i4 i5 i6 hs) hS
noncomputable def gX1_mendBy_b106 (i1 : Int) (i2 : Int) (i3 : Int) (i4 : Int) (i5 : Int) (s : Int × AH) : Option ((Int × AH) ⊕ ((Int × Int × AH) ⊕ (AH))) := jt2 s fun a6 h => if i3 ≤ a6 then (some (.inr (.inr h))) else (jb (gX1_mendBy_l116 i1 i2 i3 i4 i5 a6 i4 h) fun o39 => jm o39 (fun o41 => jt2 o41 fun y43 h44 => some (.inr (.inl (a6, y43, h44)))) (fun o42 => jl (w32 (a6 + 1)) fun x45 => some (.inl (x45, o42))))
theorem eX1_mendBy_b106 (i1 : Int) (i2 : Int) (i3 : Int) (i4 : Int) (i5 : Int) {s : Int × AH} (hS : (fun r => Sh S r.2) s) : EQ (fX1_mendBy_b106 200 i1 i2 i3 i4 i5 s) (gX1_mendBy_b106 i1 i2 i3 i4 i5 s) (Sum.elim (fun r => Sh S r.2) (Sum.elim (fun r => Sh S r.2.2) (fun r => Sh S r))) := by
  unfold fX1_mendBy_b106 gX1_mendBy_b106
  obtain ⟨a6, h⟩ := s
  refine EQ_jt2 ?_
  replace hS : Sh S h := hS
  refine EQ_if Iff.rfl (fun c1 => ?_) (fun c1 => ?_)
  · exact EQ_some hS
  · refine EQ_jb (eX1_mendBy_l116 i1 i2 i3 i4 i5 a6 i4 hS) (fun o39 r2 => ?_)
    refine EQ_jm r2 (fun o41 r3 => ?_) (fun o42 r4 => ?_)
    · obtain ⟨y43, h44⟩ := o41
      refine EQ_jt2 ?_
      replace r3 : Sh S h44 := r3
      exact EQ_some r3
    · refine EQ_jl rfl (fun x45 ex45 => ?_)
      clear ex45
      exact EQ_some r4
noncomputable def gX1_mendBy_l106 (i1 : Int) (i2 : Int) (i3 : Int) (i4 : Int) (i5 : Int) (a6 : Int) (h : AH) : Option ((Int × Int × AH) ⊕ (AH)) := jit (gX1_mendBy_b106 i1 i2 i3 i4 i5) (a6, h)
theorem eX1_mendBy_l106 (i1 : Int) (i2 : Int) (i3 : Int) (i4 : Int) (i5 : Int) (a6 : Int) {h : AH} (hS : Sh S h) : EQ (fX1_mendBy_l106 200 i1 i2 i3 i4 i5 a6 h) (gX1_mendBy_l106 i1 i2 i3 i4 i5 a6 h) (Sum.elim (fun r => Sh S r.2.2) (fun r => Sh S r)) := EQ_jit (I := (fun r => Sh S r.2)) (fun s hs => eX1_mendBy_b106 i1 i2 i3 i4 i5 hs) hS
noncomputable def gX1_mendBy_j103_42 (a1 : Int) (a2 : Int) (a3 : Int) (a4 : Int) (a5 : Int) (h : AH) : Option ((Int × AH) ⊕ ((Int × Int × AH) ⊕ (AH))) := jb (gX1_mendBy_l106 a1 a2 a3 a4 a5 0 h) fun o31 => jm o31 (fun o33 => jt3 o33 fun y35 y36 h37 => some (.inr (.inl (y35, y36, h37)))) (fun o34 => some (.inl (a5, o34)))
theorem eX1_mendBy_j103_42 (a1 : Int) (a2 : Int) (a3 : Int) (a4 : Int) (a5 : Int) {h : AH} (hS : Sh S h) : EQ (fX1_mendBy_j103_42 200 a1 a2 a3 a4 a5 h) (gX1_mendBy_j103_42 a1 a2 a3 a4 a5 h) (Sum.elim (fun r => Sh S r.2) (Sum.elim (fun r => Sh S r.2.2) (fun r => Sh S r))) := by
  unfold fX1_mendBy_j103_42 gX1_mendBy_j103_42
  refine EQ_jb (eX1_mendBy_l106 a1 a2 a3 a4 a5 0 hS) (fun o31 r1 => ?_)
  refine EQ_jm r1 (fun o33 r2 => ?_) (fun o34 r3 => ?_)
  · obtain ⟨y35, y36, h37⟩ := o33
    refine EQ_jt3 ?_
    replace r2 : Sh S h37 := r2
    exact EQ_some r2
  · exact EQ_some r3
noncomputable def gX1_mendBy_b60 (i1 : Int) (i2 : Int) (i3 : Int) (i4 : Int) (h : AH) (a5 : Int) : Option ((Int) ⊕ (Int)) := jg (jI i2 13) <| if h 314 i2 ≤ a5 then (some (.inr a5)) else (jg (jI a5 121) <| jg (jI i4 121) <| if h 309 a5 = h 309 i4 then (jl (w32 (a5 + 1)) fun x55 => some (.inl x55)) else (some (.inr a5)))
theorem eX1_mendBy_b60 (i1 : Int) (i2 : Int) (i3 : Int) (i4 : Int) (a5 : Int) {h : AH} (hS : Sh S h) : EQ (fX1_mendBy_b60 200 i1 i2 i3 i4 h a5) (gX1_mendBy_b60 i1 i2 i3 i4 h a5) (Sum.elim (fun _ => True) (fun _ => True)) := by
  unfold fX1_mendBy_b60 gX1_mendBy_b60
  refine EQ_jgd (show h 200 (-2) = 2 from by rw [k_200 hS]) ?_
  refine EQ_jgd (show h (h 200 18) (-2) = 6 from by rw [r_200_18 hS, k_307 hS]) ?_
  refine EQ_jg ⟨fun ⟨_, x0⟩ => (show jI i2 (h (h (h 200 18) 9) (-1)) ↔ jI i2 13 from by rw [r_200_18 hS, r_307_9 hS, l_314 hS]).mp x0, fun x0 => ⟨(show h (h (h 200 18) 9) (-2) = 101 from by rw [r_200_18 hS, r_307_9 hS, k_314 hS]), (show jI i2 (h (h (h 200 18) 9) (-1)) ↔ jI i2 13 from by rw [r_200_18 hS, r_307_9 hS, l_314 hS]).mpr x0⟩⟩ (fun g1 => ?_)
  refine EQ_if (show h (h (h 200 18) 9) i2 ≤ a5 ↔ h 314 i2 ≤ a5 from by rw [r_200_18 hS, r_307_9 hS]) (fun c2 => ?_) (fun c2 => ?_)
  · exact EQ_some trivial
  · refine EQ_jgd (show h 200 (-2) = 2 from by rw [k_200 hS]) ?_
    refine EQ_jgd (show h (h 200 18) (-2) = 6 from by rw [r_200_18 hS, k_307 hS]) ?_
    refine EQ_jg ⟨fun ⟨_, x0⟩ => (show jI a5 (h (h (h 200 18) 2) (-1)) ↔ jI a5 121 from by rw [r_200_18 hS, r_307_2 hS, l_309 hS]).mp x0, fun x0 => ⟨(show h (h (h 200 18) 2) (-2) = 101 from by rw [r_200_18 hS, r_307_2 hS, k_309 hS]), (show jI a5 (h (h (h 200 18) 2) (-1)) ↔ jI a5 121 from by rw [r_200_18 hS, r_307_2 hS, l_309 hS]).mpr x0⟩⟩ (fun g3 => ?_)
    refine EQ_jgd (show h 200 (-2) = 2 from by rw [k_200 hS]) ?_
    refine EQ_jgd (show h (h 200 18) (-2) = 6 from by rw [r_200_18 hS, k_307 hS]) ?_
    refine EQ_jg ⟨fun ⟨_, x0⟩ => (show jI i4 (h (h (h 200 18) 2) (-1)) ↔ jI i4 121 from by rw [r_200_18 hS, r_307_2 hS, l_309 hS]).mp x0, fun x0 => ⟨(show h (h (h 200 18) 2) (-2) = 101 from by rw [r_200_18 hS, r_307_2 hS, k_309 hS]), (show jI i4 (h (h (h 200 18) 2) (-1)) ↔ jI i4 121 from by rw [r_200_18 hS, r_307_2 hS, l_309 hS]).mpr x0⟩⟩ (fun g4 => ?_)
    refine EQ_if (show h (h (h 200 18) 2) a5 = h (h (h 200 18) 2) i4 ↔ h 309 a5 = h 309 i4 from by rw [r_200_18 hS, r_307_2 hS]) (fun c5 => ?_) (fun c5 => ?_)
    · refine EQ_jl rfl (fun x55 ex55 => ?_)
      clear ex55
      exact EQ_some trivial
    · exact EQ_some trivial
noncomputable def gX1_mendBy_l60 (i1 : Int) (i2 : Int) (i3 : Int) (i4 : Int) (a5 : Int) (h : AH) : Option (Int) := jit (gX1_mendBy_b60 i1 i2 i3 i4 h) a5
theorem eX1_mendBy_l60 (i1 : Int) (i2 : Int) (i3 : Int) (i4 : Int) (a5 : Int) {h : AH} (hS : Sh S h) : EQ (fX1_mendBy_l60 200 i1 i2 i3 i4 a5 h) (gX1_mendBy_l60 i1 i2 i3 i4 a5 h) (fun _ => True) := EQ_jit (I := (fun _ => True)) (fun s _ => eX1_mendBy_b60 i1 i2 i3 i4 s hS) trivial
noncomputable def gX1_mendBy_b42 (i1 : Int) (i2 : Int) (i3 : Int) (s : Int × AH) : Option ((Int × AH) ⊕ ((Int × Int × AH) ⊕ (AH))) := jt2 s fun a4 h => jg (jI i2 13) <| if h 314 i2 ≤ a4 then (some (.inr (.inr h))) else (jb (gX1_mendBy_l60 i1 i2 i3 a4 a4 h) fun o29 => gX1_mendBy_j103_42 i1 i2 i3 a4 o29 h)
theorem eX1_mendBy_b42 (i1 : Int) (i2 : Int) (i3 : Int) {s : Int × AH} (hS : (fun r => Sh S r.2) s) : EQ (fX1_mendBy_b42 200 i1 i2 i3 s) (gX1_mendBy_b42 i1 i2 i3 s) (Sum.elim (fun r => Sh S r.2) (Sum.elim (fun r => Sh S r.2.2) (fun r => Sh S r))) := by
  unfold fX1_mendBy_b42 gX1_mendBy_b42
  obtain ⟨a4, h⟩ := s
  refine EQ_jt2 ?_
  replace hS : Sh S h := hS
  refine EQ_jgd (show h 200 (-2) = 2 from by rw [k_200 hS]) ?_
  refine EQ_jgd (show h (h 200 18) (-2) = 6 from by rw [r_200_18 hS, k_307 hS]) ?_
  refine EQ_jg ⟨fun ⟨_, x0⟩ => (show jI i2 (h (h (h 200 18) 9) (-1)) ↔ jI i2 13 from by rw [r_200_18 hS, r_307_9 hS, l_314 hS]).mp x0, fun x0 => ⟨(show h (h (h 200 18) 9) (-2) = 101 from by rw [r_200_18 hS, r_307_9 hS, k_314 hS]), (show jI i2 (h (h (h 200 18) 9) (-1)) ↔ jI i2 13 from by rw [r_200_18 hS, r_307_9 hS, l_314 hS]).mpr x0⟩⟩ (fun g1 => ?_)
  refine EQ_if (show h (h (h 200 18) 9) i2 ≤ a4 ↔ h 314 i2 ≤ a4 from by rw [r_200_18 hS, r_307_9 hS]) (fun c2 => ?_) (fun c2 => ?_)
  · exact EQ_some hS
  · refine EQ_jb (eX1_mendBy_l60 i1 i2 i3 a4 a4 hS) (fun o29 r3 => ?_)
    exact (eX1_mendBy_j103_42 i1 i2 i3 a4 o29 hS)
noncomputable def gX1_mendBy_l42 (i1 : Int) (i2 : Int) (i3 : Int) (a4 : Int) (h : AH) : Option ((Int × Int × AH) ⊕ (AH)) := jit (gX1_mendBy_b42 i1 i2 i3) (a4, h)
theorem eX1_mendBy_l42 (i1 : Int) (i2 : Int) (i3 : Int) (a4 : Int) {h : AH} (hS : Sh S h) : EQ (fX1_mendBy_l42 200 i1 i2 i3 a4 h) (gX1_mendBy_l42 i1 i2 i3 a4 h) (Sum.elim (fun r => Sh S r.2.2) (fun r => Sh S r)) := EQ_jit (I := (fun r => Sh S r.2)) (fun s hs => eX1_mendBy_b42 i1 i2 i3 hs) hS
noncomputable def gX1_mendBy (a1 : Int) (a2 : Int) (h : AH) : Option (Int × AH) := jb (gX1_answer 324 a1 h) fun h2 => jb2 (gX1_meet 323 0 h2) fun v4 h5 => if v4 = 0 then (jb2 (gX1_number a1 0 h5) fun v8 h9 => jb (gX1_mendBy_l42 a1 a2 v8 0 h9) fun o10 => jm o10 (fun o12 => jt3 o12 fun y14 y15 h16 => jl (jst h16 200 31 y14) fun h17 => jb2 (gX5_term y15 h17) fun v19 h20 => jg (jI y14 800) <| jb2 (gX1_replaced a1 (h20 340 y14) v19 h20) fun v22 h23 => jb (gX1_become v22 h23) fun h25 => jg (jI y15 121) <| some (h25 309 y15, h25)) (fun o13 => some (100, o13))) else (jb (gX1_become a1 h5) fun h27 => some (0, h27))
theorem eX1_mendBy (a1 : Int) (a2 : Int) {h : AH} (hS : Sh S h) : EQ (fX1_mendBy 200 a1 a2 h) (gX1_mendBy a1 a2 h) (fun r => Sh S r.2) := by
  unfold fX1_mendBy gX1_mendBy
  refine EQ_jgd (show h 200 (-2) = 2 from by rw [k_200 hS]) ?_
  refine EQ_jgd (show h 200 (-2) = 2 from by rw [k_200 hS]) ?_
  refine EQ_jb (by rw [r_200_20 hS]; exact eX1_answer 324 a1 (by unfold isX3; decide) hS) (fun h2 r1 => ?_)
  refine EQ_jgd (show h2 200 (-2) = 2 from by rw [k_200 r1]) ?_
  refine EQ_jgd (show h2 200 (-2) = 2 from by rw [k_200 r1]) ?_
  refine EQ_jb2 (by rw [r_200_19 r1]; exact eX1_meet 323 0 r1) (fun v4 h5 r2 => ?_)
  replace r2 : Sh S h5 := r2
  refine EQ_if Iff.rfl (fun c3 => ?_) (fun c3 => ?_)
  · refine EQ_jgd (show h5 200 (-2) = 2 from by rw [k_200 r2]) ?_
    refine EQ_jgd (show h5 200 (-2) = 2 from by rw [k_200 r2]) ?_
    refine EQ_jb2 (by rw [r_200_20 r2]; exact eX1_number a1 0 r2) (fun v8 h9 r4 => ?_)
    replace r4 : Sh S h9 := r4
    refine EQ_jb (eX1_mendBy_l42 a1 a2 v8 0 r4) (fun o10 r5 => ?_)
    refine EQ_jm r5 (fun o12 r6 => ?_) (fun o13 r7 => ?_)
    · obtain ⟨y14, y15, h16⟩ := o12
      refine EQ_jt3 ?_
      replace r6 : Sh S h16 := r6
      refine EQ_jgd ⟨(show h16 200 (-2) = 2 from by rw [k_200 r6]), (show (200 : Int) ≤ 200 from (by decide))⟩ ?_
      refine EQ_jl rfl (fun h17 eh17 => ?_)
      have s8 := Sh_of eh17 (Sh_sto r6 (a := 200) (i := 31) (by decide +kernel))
      clear eh17
      refine EQ_jgd (show h17 200 (-2) = 2 from by rw [k_200 s8]) ?_
      refine EQ_jgd (show h17 200 (-2) = 2 from by rw [k_200 s8]) ?_
      refine EQ_jgd (show h17 (h17 200 18) (-2) = 6 from by rw [r_200_18 s8, k_307 s8]) ?_
      refine EQ_jb2 (by rw [r_200_18 s8, r_200_20 s8]; exact eX5_term y15 s8) (fun v19 h20 r9 => ?_)
      replace r9 : Sh S h20 := r9
      refine EQ_jgd (show h20 200 (-2) = 2 from by rw [k_200 r9]) ?_
      refine EQ_jg ⟨fun ⟨_, x0⟩ => (show jI y14 (h20 (h20 200 30) (-1)) ↔ jI y14 800 from by rw [r_200_30 r9, l_340 r9]).mp x0, fun x0 => ⟨(show h20 (h20 200 30) (-2) = 101 from by rw [r_200_30 r9, k_340 r9]), (show jI y14 (h20 (h20 200 30) (-1)) ↔ jI y14 800 from by rw [r_200_30 r9, l_340 r9]).mpr x0⟩⟩ (fun g10 => ?_)
      refine EQ_jgd (show h20 200 (-2) = 2 from by rw [k_200 r9]) ?_
      refine EQ_jb2 (by rw [r_200_30 r9]; exact eX1_replaced a1 (h20 340 y14) v19 r9) (fun v22 h23 r11 => ?_)
      replace r11 : Sh S h23 := r11
      refine EQ_jgd (show h23 200 (-2) = 2 from by rw [k_200 r11]) ?_
      refine EQ_jb (eX1_become v22 r11) (fun h25 r12 => ?_)
      refine EQ_jgd (show h25 200 (-2) = 2 from by rw [k_200 r12]) ?_
      refine EQ_jgd (show h25 (h25 200 18) (-2) = 6 from by rw [r_200_18 r12, k_307 r12]) ?_
      refine EQ_jg ⟨fun ⟨_, x0⟩ => (show jI y15 (h25 (h25 (h25 200 18) 2) (-1)) ↔ jI y15 121 from by rw [r_200_18 r12, r_307_2 r12, l_309 r12]).mp x0, fun x0 => ⟨(show h25 (h25 (h25 200 18) 2) (-2) = 101 from by rw [r_200_18 r12, r_307_2 r12, k_309 r12]), (show jI y15 (h25 (h25 (h25 200 18) 2) (-1)) ↔ jI y15 121 from by rw [r_200_18 r12, r_307_2 r12, l_309 r12]).mpr x0⟩⟩ (fun g13 => ?_)
      exact EQ_some' (by rw [r_200_18 r12, r_307_2 r12]) r12
    · exact EQ_some r7
  · refine EQ_jgd (show h5 200 (-2) = 2 from by rw [k_200 r2]) ?_
    refine EQ_jb (eX1_become a1 r2) (fun h27 r14 => ?_)
    exact EQ_some r14
noncomputable def gX1_mend (a1 : Int) (h : AH) : Option (Int × AH) := if h 200 53 = 0 then (jb (gX1_isIn a1 1 12) fun v3 => if v3 = 0 then (jb2 (gX1_takeTape h) fun v6 h7 => some ((-1), h7)) else (jb2 (gX1_readTerm 0 1 h) fun v9 h10 => if 0 ≤ v9 then (if h10 (h10 200 16) 19 = 0 then (some ((-2), h10)) else (jb2 (gX5_grow a1 h10) fun v14 h15 => if v14 = 0 then (some ((-3), h15)) else (jb2 (gX1_number v9 0 h15) fun v18 h19 => jg (jI a1 13) <| jb2 (gX1_isTooMuch (w64 (w64 (w64 (h19 314 a1 * v18) * v18) * h19 (h19 200 16) 18)) h19) fun v21 h22 => if v21 = 0 then (jb2 (gX1_mendBy v9 a1 h22) fun v25 h26 => some (v25, h26)) else (some ((-3), h22))))) else (some (v9, h10)))) else (some ((-5), h))
theorem eX1_mend (a1 : Int) {h : AH} (hS : Sh S h) : EQ (fX1_mend 200 a1 h) (gX1_mend a1 h) (fun r => Sh S r.2) := by
  unfold fX1_mend gX1_mend
  refine EQ_jgd (show h 200 (-2) = 2 from by rw [k_200 hS]) ?_
  refine EQ_if Iff.rfl (fun c1 => ?_) (fun c1 => ?_)
  · refine EQ_jb (eX1_isIn a1 1 12) (fun v3 r2 => ?_)
    refine EQ_if Iff.rfl (fun c3 => ?_) (fun c3 => ?_)
    · refine EQ_jgd (show h 200 (-2) = 2 from by rw [k_200 hS]) ?_
      refine EQ_jb2 (eX1_takeTape hS) (fun v6 h7 r4 => ?_)
      replace r4 : Sh S h7 := r4
      exact EQ_some r4
    · refine EQ_jgd (show h 200 (-2) = 2 from by rw [k_200 hS]) ?_
      refine EQ_jb2 (eX1_readTerm 0 1 hS) (fun v9 h10 r5 => ?_)
      replace r5 : Sh S h10 := r5
      refine EQ_if Iff.rfl (fun c6 => ?_) (fun c6 => ?_)
      · refine EQ_jgd (show h10 200 (-2) = 2 from by rw [k_200 r5]) ?_
        refine EQ_jgd (show h10 (h10 200 16) (-2) = 5 from by rw [kd_X4 r5 (dy_200_16 r5)]) ?_
        refine EQ_if Iff.rfl (fun c7 => ?_) (fun c7 => ?_)
        · exact EQ_some r5
        · refine EQ_jgd (show h10 200 (-2) = 2 from by rw [k_200 r5]) ?_
          refine EQ_jgd (show h10 (h10 200 18) (-2) = 6 from by rw [r_200_18 r5, k_307 r5]) ?_
          refine EQ_jb2 (by rw [r_200_18 r5]; exact eX5_grow a1 r5) (fun v14 h15 r8 => ?_)
          replace r8 : Sh S h15 := r8
          refine EQ_if Iff.rfl (fun c9 => ?_) (fun c9 => ?_)
          · exact EQ_some r8
          · refine EQ_jgd (show h15 200 (-2) = 2 from by rw [k_200 r8]) ?_
            refine EQ_jgd (show h15 200 (-2) = 2 from by rw [k_200 r8]) ?_
            refine EQ_jb2 (by rw [r_200_20 r8]; exact eX1_number v9 0 r8) (fun v18 h19 r10 => ?_)
            replace r10 : Sh S h19 := r10
            refine EQ_jgd (show h19 200 (-2) = 2 from by rw [k_200 r10]) ?_
            refine EQ_jgd (show h19 (h19 200 18) (-2) = 6 from by rw [r_200_18 r10, k_307 r10]) ?_
            refine EQ_jg ⟨fun ⟨_, x0⟩ => (show jI a1 (h19 (h19 (h19 200 18) 9) (-1)) ↔ jI a1 13 from by rw [r_200_18 r10, r_307_9 r10, l_314 r10]).mp x0, fun x0 => ⟨(show h19 (h19 (h19 200 18) 9) (-2) = 101 from by rw [r_200_18 r10, r_307_9 r10, k_314 r10]), (show jI a1 (h19 (h19 (h19 200 18) 9) (-1)) ↔ jI a1 13 from by rw [r_200_18 r10, r_307_9 r10, l_314 r10]).mpr x0⟩⟩ (fun g11 => ?_)
            refine EQ_jgd (show h19 200 (-2) = 2 from by rw [k_200 r10]) ?_
            refine EQ_jgd (show h19 (h19 200 16) (-2) = 5 from by rw [kd_X4 r10 (dy_200_16 r10)]) ?_
            refine EQ_jgd (show h19 200 (-2) = 2 from by rw [k_200 r10]) ?_
            refine EQ_jb2 (by rw [r_200_18 r10, r_307_9 r10]; exact eX1_isTooMuch (w64 (w64 (w64 (h19 314 a1 * v18) * v18) * h19 (h19 200 16) 18)) r10) (fun v21 h22 r12 => ?_)
            replace r12 : Sh S h22 := r12
            refine EQ_if Iff.rfl (fun c13 => ?_) (fun c13 => ?_)
            · refine EQ_jgd (show h22 200 (-2) = 2 from by rw [k_200 r12]) ?_
              refine EQ_jb2 (eX1_mendBy v9 a1 r12) (fun v25 h26 r14 => ?_)
              replace r14 : Sh S h26 := r14
              exact EQ_some r14
            · exact EQ_some r12
      · exact EQ_some r5
  · exact EQ_some hS
noncomputable def gX1_mended (h : AH) : Option (Int) := some (h 200 31)
theorem eX1_mended {h : AH} (hS : Sh S h) : EQ (fX1_mended 200 h) (gX1_mended h) (fun _ => True) := by
  unfold fX1_mended gX1_mended
  refine EQ_jgd (show h 200 (-2) = 2 from by rw [k_200 hS]) ?_
  exact EQ_some trivial
noncomputable def gX1_byteOf (a1 : Int) (h : AH) : Option (Int) := if h 200 23 = 0 then (some (-1)) else (jb (gX1_isIn a1 0 (w32 (h 336 1 - 1))) fun v3 => if v3 = 0 then (some (-1)) else (jg (jI a1 4200) <| some (h 337 a1)))
theorem eX1_byteOf (a1 : Int) {h : AH} (hS : Sh S h) : EQ (fX1_byteOf 200 a1 h) (gX1_byteOf a1 h) (fun _ => True) := by
  unfold fX1_byteOf gX1_byteOf
  refine EQ_jgd (show h 200 (-2) = 2 from by rw [k_200 hS]) ?_
  refine EQ_if Iff.rfl (fun c1 => ?_) (fun c1 => ?_)
  · exact EQ_some trivial
  · refine EQ_jgd (show h 200 (-2) = 2 from by rw [k_200 hS]) ?_
    refine EQ_jgd (show h (h 200 24) (-2) = 7 from by rw [r_200_24 hS, k_336 hS]) ?_
    refine EQ_jb (by rw [r_200_24 hS]; exact eX1_isIn a1 0 (w32 (h 336 1 - 1))) (fun v3 r2 => ?_)
    refine EQ_if Iff.rfl (fun c3 => ?_) (fun c3 => ?_)
    · exact EQ_some trivial
    · refine EQ_jgd (show h 200 (-2) = 2 from by rw [k_200 hS]) ?_
      refine EQ_jgd (show h (h 200 24) (-2) = 7 from by rw [r_200_24 hS, k_336 hS]) ?_
      refine EQ_jg ⟨fun ⟨_, x0⟩ => (show jI a1 (h (h (h 200 24) 0) (-1)) ↔ jI a1 4200 from by rw [r_200_24 hS, r_336_0 hS, l_337 hS]).mp x0, fun x0 => ⟨(show h (h (h 200 24) 0) (-2) = 103 from by rw [r_200_24 hS, r_336_0 hS, k_337 hS]), (show jI a1 (h (h (h 200 24) 0) (-1)) ↔ jI a1 4200 from by rw [r_200_24 hS, r_336_0 hS, l_337 hS]).mpr x0⟩⟩ (fun g4 => ?_)
      exact EQ_some' (by rw [r_200_24 hS, r_336_0 hS]) trivial
noncomputable def gX1_answer_2 (a1 : Int) (h : AH) : Option (Int) := if h 200 23 = 0 then (some (-2)) else (jb (gX1_isIn a1 0 (w32 (h 200 26 - 1))) fun v3 => if v3 = 0 then (some (-2)) else (jg (jI a1 256) <| some (h 338 a1)))
theorem eX1_answer_2 (a1 : Int) {h : AH} (hS : Sh S h) : EQ (fX1_answer_2 200 a1 h) (gX1_answer_2 a1 h) (fun _ => True) := by
  unfold fX1_answer_2 gX1_answer_2
  refine EQ_jgd (show h 200 (-2) = 2 from by rw [k_200 hS]) ?_
  refine EQ_if Iff.rfl (fun c1 => ?_) (fun c1 => ?_)
  · exact EQ_some trivial
  · refine EQ_jgd (show h 200 (-2) = 2 from by rw [k_200 hS]) ?_
    refine EQ_jb (eX1_isIn a1 0 (w32 (h 200 26 - 1))) (fun v3 r2 => ?_)
    refine EQ_if Iff.rfl (fun c3 => ?_) (fun c3 => ?_)
    · exact EQ_some trivial
    · refine EQ_jgd (show h 200 (-2) = 2 from by rw [k_200 hS]) ?_
      refine EQ_jg ⟨fun ⟨_, x0⟩ => (show jI a1 (h (h 200 25) (-1)) ↔ jI a1 256 from by rw [r_200_25 hS, l_338 hS]).mp x0, fun x0 => ⟨(show h (h 200 25) (-2) = 101 from by rw [r_200_25 hS, k_338 hS]), (show jI a1 (h (h 200 25) (-1)) ↔ jI a1 256 from by rw [r_200_25 hS, l_338 hS]).mpr x0⟩⟩ (fun g4 => ?_)
      exact EQ_some' (by rw [r_200_25 hS]) trivial
noncomputable def gX1_point (a1 : Int) (a2 : Int) (h : AH) : Option (Int) := if h (h 200 16) 19 = 0 then (some (-2)) else (jb (gX1_isIn a1 0 (w32 (h (h 200 16) 18 - 1))) fun v3 => if v3 = 0 then (some (-2)) else (jb (gX1_isIn a2 0 (w32 (h (h 200 16) 1 - 1))) fun v6 => if v6 = 0 then (some (-2)) else (jb (gX4_valueAt (h 200 16) a1 a2 h) fun v9 => some v9)))
theorem eX1_point (a1 : Int) (a2 : Int) {h : AH} (hS : Sh S h) : EQ (fX1_point 200 a1 a2 h) (gX1_point a1 a2 h) (fun _ => True) := by
  unfold fX1_point gX1_point
  refine EQ_jgd (show h 200 (-2) = 2 from by rw [k_200 hS]) ?_
  refine EQ_jgd (show h (h 200 16) (-2) = 5 from by rw [kd_X4 hS (dy_200_16 hS)]) ?_
  refine EQ_if Iff.rfl (fun c1 => ?_) (fun c1 => ?_)
  · exact EQ_some trivial
  · refine EQ_jgd (show h 200 (-2) = 2 from by rw [k_200 hS]) ?_
    refine EQ_jgd (show h (h 200 16) (-2) = 5 from by rw [kd_X4 hS (dy_200_16 hS)]) ?_
    refine EQ_jb (eX1_isIn a1 0 (w32 (h (h 200 16) 18 - 1))) (fun v3 r2 => ?_)
    refine EQ_if Iff.rfl (fun c3 => ?_) (fun c3 => ?_)
    · exact EQ_some trivial
    · refine EQ_jgd (show h 200 (-2) = 2 from by rw [k_200 hS]) ?_
      refine EQ_jgd (show h (h 200 16) (-2) = 5 from by rw [kd_X4 hS (dy_200_16 hS)]) ?_
      refine EQ_jb (eX1_isIn a2 0 (w32 (h (h 200 16) 1 - 1))) (fun v6 r4 => ?_)
      refine EQ_if Iff.rfl (fun c5 => ?_) (fun c5 => ?_)
      · exact EQ_some trivial
      · refine EQ_jgd (show h 200 (-2) = 2 from by rw [k_200 hS]) ?_
        refine EQ_jgd (show h (h 200 16) (-2) = 5 from by rw [kd_X4 hS (dy_200_16 hS)]) ?_
        refine EQ_jb (eX4_valueAt (h 200 16) a1 a2 (dy_200_16 hS) hS) (fun v9 r6 => ?_)
        exact EQ_some trivial
noncomputable def gX1_value (h : AH) : Option (Int × AH) := if h 200 53 = 0 then (jl (jst h 324 0 0) fun h2 => jb2 (gX1_takeTape h2) fun v4 h5 => jb (gX13_begin 440 v4 324 h5) fun h7 => jb2 (gX13_alone (-1) h7) fun v9 h10 => jb2 (gX13_result h10) fun v12 h13 => if 0 ≤ v12 then (jl (jst h13 200 10 0) fun h15 => jl (jst h15 200 9 0) fun h16 => jb2 (gX1_work 324 v9 0 h16) fun v18 h19 => jl (jst h19 200 59 (h19 200 10)) fun h20 => some (v18, h20)) else (some (v12, h13))) else (some ((-5), h))
theorem eX1_value {h : AH} (hS : Sh S h) : EQ (fX1_value 200 h) (gX1_value h) (fun r => Sh S r.2) := by
  unfold fX1_value gX1_value
  refine EQ_jgd (show h 200 (-2) = 2 from by rw [k_200 hS]) ?_
  refine EQ_if Iff.rfl (fun c1 => ?_) (fun c1 => ?_)
  · refine EQ_jgd (show h 200 (-2) = 2 from by rw [k_200 hS]) ?_
    refine EQ_jgd ⟨(show h (h 200 20) (-2) = 4 from by rw [r_200_20 hS, k_324 hS]), (show 200 ≤ h 200 20 from by rw [r_200_20 hS]; exact (by decide))⟩ ?_
    refine EQ_jl (by rw [r_200_20 hS]) (fun h2 eh2 => ?_)
    have s2 := Sh_of eh2 (Sh_sto hS (a := 324) (i := 0) (by decide +kernel))
    clear eh2
    refine EQ_jgd (show h2 200 (-2) = 2 from by rw [k_200 s2]) ?_
    refine EQ_jgd (show h2 200 (-2) = 2 from by rw [k_200 s2]) ?_
    refine EQ_jgd (show h2 200 (-2) = 2 from by rw [k_200 s2]) ?_
    refine EQ_jb2 (eX1_takeTape s2) (fun v4 h5 r3 => ?_)
    replace r3 : Sh S h5 := r3
    refine EQ_jgd (show h5 200 (-2) = 2 from by rw [k_200 r3]) ?_
    refine EQ_jgd (show h5 (h2 200 57) (-2) = 14 from by rw [r_200_57 s2, k_441 r3]) ?_
    refine EQ_jb (by rw [r_200_57 s2, r_200_54 s2, r_200_20 r3]; exact eX13_begin 440 v4 324 (by unfold isX3; decide) r3) (fun h7 r4 => ?_)
    refine EQ_jgd (show h7 200 (-2) = 2 from by rw [k_200 r4]) ?_
    refine EQ_jgd (show h7 (h7 200 57) (-2) = 14 from by rw [r_200_57 r4, k_441 r4]) ?_
    refine EQ_jb2 (by rw [r_200_57 r4]; exact eX13_alone (-1) r4) (fun v9 h10 r5 => ?_)
    replace r5 : Sh S h10 := r5
    refine EQ_jgd (show h10 200 (-2) = 2 from by rw [k_200 r5]) ?_
    refine EQ_jgd (show h10 (h10 200 57) (-2) = 14 from by rw [r_200_57 r5, k_441 r5]) ?_
    refine EQ_jb2 (by rw [r_200_57 r5]; exact eX13_result r5) (fun v12 h13 r6 => ?_)
    replace r6 : Sh S h13 := r6
    refine EQ_if Iff.rfl (fun c7 => ?_) (fun c7 => ?_)
    · refine EQ_jgd ⟨(show h13 200 (-2) = 2 from by rw [k_200 r6]), (show (200 : Int) ≤ 200 from (by decide))⟩ ?_
      refine EQ_jl rfl (fun h15 eh15 => ?_)
      have s8 := Sh_of eh15 (Sh_sto r6 (a := 200) (i := 10) (by decide +kernel))
      clear eh15
      refine EQ_jgd ⟨(show h15 200 (-2) = 2 from by rw [k_200 s8]), (show (200 : Int) ≤ 200 from (by decide))⟩ ?_
      refine EQ_jl rfl (fun h16 eh16 => ?_)
      have s9 := Sh_of eh16 (Sh_sto s8 (a := 200) (i := 9) (by decide +kernel))
      clear eh16
      refine EQ_jgd (show h16 200 (-2) = 2 from by rw [k_200 s9]) ?_
      refine EQ_jgd (show h16 200 (-2) = 2 from by rw [k_200 s9]) ?_
      refine EQ_jb2 (by rw [r_200_20 s9]; exact eX1_work 324 v9 0 s9) (fun v18 h19 r10 => ?_)
      replace r10 : Sh S h19 := r10
      refine EQ_jgd (show h19 200 (-2) = 2 from by rw [k_200 r10]) ?_
      refine EQ_jgd ⟨(show h19 200 (-2) = 2 from by rw [k_200 r10]), (show (200 : Int) ≤ 200 from (by decide))⟩ ?_
      refine EQ_jl rfl (fun h20 eh20 => ?_)
      have s11 := Sh_of eh20 (Sh_sto r10 (a := 200) (i := 59) (by decide +kernel))
      clear eh20
      exact EQ_some s11
    · exact EQ_some r6
  · exact EQ_some hS
noncomputable def gX1_worked (h : AH) : Option (Int) := some (h 200 59)
theorem eX1_worked {h : AH} (hS : Sh S h) : EQ (fX1_worked 200 h) (gX1_worked h) (fun _ => True) := by
  unfold fX1_worked gX1_worked
  refine EQ_jgd (show h 200 (-2) = 2 from by rw [k_200 hS]) ?_
  exact EQ_some trivial
noncomputable def gX3_size_j31_4 (F : Int → Int → AH → Option (Int)) (a0 : Int) (a1 : Int) (a2 : Int) (a3 : Int) (h : AH) : Option ((Int × Int) ⊕ (Int)) := jl (w32 (a3 + 1)) fun x12 => some (.inl (a2, x12))
theorem eX3_size_j31_4 {F0 : Int → Int → AH → Option (Int)} {F : Int → Int → AH → Option (Int)} (hF : ∀ (b_a0 : Int) (b_a1 : Int), isX3 b_a0 → ∀ {b_h : AH}, Sh S b_h → EQ (F0 b_a0 b_a1 b_h) (F b_a0 b_a1 b_h) (fun _ => True)) (a0 : Int) (a1 : Int) (a2 : Int) (a3 : Int) (hT_a0 : isX3 a0) {h : AH} (hS : Sh S h) : EQ (fX3_size_j31_4 F0 a0 a1 a2 a3 h) (gX3_size_j31_4 F a0 a1 a2 a3 h) (Sum.elim (fun _ => True) (fun _ => True)) := by
  unfold fX3_size_j31_4 gX3_size_j31_4
  refine EQ_jl rfl (fun x12 ex12 => ?_)
  clear ex12
  exact EQ_some trivial
noncomputable def gX3_size_b4 (F : Int → Int → AH → Option (Int)) (i0 : Int) (i1 : Int) (h : AH) (s : Int × Int) : Option ((Int × Int) ⊕ (Int)) := jt2 s fun a2 a3 => if 3 ≤ a3 then (some (.inr a2)) else (jb (gX3_part i0 i1 a3 h) fun v5 => if v5 < 0 then (gX3_size_j31_4 F i0 i1 a2 a3 h) else (jb (gX3_part i0 i1 a3 h) fun v8 => jb (F i0 v8 h) fun v10 => jl (w32 (a2 + v10)) fun x11 => gX3_size_j31_4 F i0 i1 x11 a3 h))
theorem eX3_size_b4 {F0 : Int → Int → AH → Option (Int)} {F : Int → Int → AH → Option (Int)} (hF : ∀ (b_a0 : Int) (b_a1 : Int), isX3 b_a0 → ∀ {b_h : AH}, Sh S b_h → EQ (F0 b_a0 b_a1 b_h) (F b_a0 b_a1 b_h) (fun _ => True)) (i0 : Int) (i1 : Int) (hT_i0 : isX3 i0) (s : Int × Int) {h : AH} (hS : Sh S h) : EQ (fX3_size_b4 F0 i0 i1 h s) (gX3_size_b4 F i0 i1 h s) (Sum.elim (fun _ => True) (fun _ => True)) := by
  unfold fX3_size_b4 gX3_size_b4
  obtain ⟨a2, a3⟩ := s
  refine EQ_jt2 ?_
  refine EQ_if Iff.rfl (fun c1 => ?_) (fun c1 => ?_)
  · exact EQ_some trivial
  · refine EQ_jgd (show h i0 (-2) = 4 from by rw [kd_X3 hS hT_i0]) ?_
    refine EQ_jb (eX3_part i0 i1 a3 hT_i0 hS) (fun v5 r2 => ?_)
    refine EQ_if Iff.rfl (fun c3 => ?_) (fun c3 => ?_)
    · exact (eX3_size_j31_4 hF i0 i1 a2 a3 hT_i0 hS)
    · refine EQ_jgd (show h i0 (-2) = 4 from by rw [kd_X3 hS hT_i0]) ?_
      refine EQ_jb (eX3_part i0 i1 a3 hT_i0 hS) (fun v8 r4 => ?_)
      refine EQ_jgd (show h i0 (-2) = 4 from by rw [kd_X3 hS hT_i0]) ?_
      refine EQ_jb (hF i0 v8 hT_i0 hS) (fun v10 r5 => ?_)
      refine EQ_jl rfl (fun x11 ex11 => ?_)
      clear ex11
      exact (eX3_size_j31_4 hF i0 i1 x11 a3 hT_i0 hS)
noncomputable def gX3_size_l4 (F : Int → Int → AH → Option (Int)) (i0 : Int) (i1 : Int) (a2 : Int) (a3 : Int) (h : AH) : Option (Int) := jit (gX3_size_b4 F i0 i1 h) (a2, a3)
theorem eX3_size_l4 {F0 : Int → Int → AH → Option (Int)} {F : Int → Int → AH → Option (Int)} (hF : ∀ (b_a0 : Int) (b_a1 : Int), isX3 b_a0 → ∀ {b_h : AH}, Sh S b_h → EQ (F0 b_a0 b_a1 b_h) (F b_a0 b_a1 b_h) (fun _ => True)) (i0 : Int) (i1 : Int) (a2 : Int) (a3 : Int) (hT_i0 : isX3 i0) {h : AH} (hS : Sh S h) : EQ (fX3_size_l4 F0 i0 i1 a2 a3 h) (gX3_size_l4 F i0 i1 a2 a3 h) (fun _ => True) := EQ_jit (I := (fun _ => True)) (fun s _ => eX3_size_b4 hF i0 i1 hT_i0 s hS) trivial
noncomputable def gX3_size_ (F : Int → Int → AH → Option (Int)) (a0 : Int) (a1 : Int) (h : AH) : Option (Int) := jb (gX3_size_l4 F a0 a1 1 0 h) fun o1 => some o1
theorem eX3_size_ {F0 : Int → Int → AH → Option (Int)} {F : Int → Int → AH → Option (Int)} (hF : ∀ (b_a0 : Int) (b_a1 : Int), isX3 b_a0 → ∀ {b_h : AH}, Sh S b_h → EQ (F0 b_a0 b_a1 b_h) (F b_a0 b_a1 b_h) (fun _ => True)) (a0 : Int) (a1 : Int) (hT_a0 : isX3 a0) {h : AH} (hS : Sh S h) : EQ (fX3_size_ F0 a0 a1 h) (gX3_size_ F a0 a1 h) (fun _ => True) := by
  unfold fX3_size_ gX3_size_
  refine EQ_jb (eX3_size_l4 hF a0 a1 1 0 hT_a0 hS) (fun o1 r1 => ?_)
  exact EQ_some trivial
noncomputable def gX3_sizeD : Nat → Int → Int → AH → Option (Int)
  | 0 => fun _ _ _ => none
  | d + 1 => gX3_size_ (gX3_sizeD d)
theorem eX3_sizeD : ∀ (d : Nat) (a0 : Int) (a1 : Int) (hT_a0 : isX3 a0) {h : AH} (hS : Sh S h) , EQ (fX3_sizeD d a0 a1 h) (gX3_sizeD d a0 a1 h) (fun _ => True) := by
  intro d
  induction d with
  | zero => intro a0 a1 hT_a0 h hS; exact EQ_none
  | succ d ih => intro a0 a1 hT_a0 h hS; exact eX3_size_ ih a0 a1 hT_a0 hS
noncomputable def gX3_size : Int → Int → AH → Option (Int) := gX3_sizeD 40
theorem eX3_size (a0 : Int) (a1 : Int) (hT_a0 : isX3 a0) {h : AH} (hS : Sh S h) : EQ (fX3_size a0 a1 h) (gX3_size a0 a1 h) (fun _ => True) := eX3_sizeD 40 a0 a1 hT_a0 hS
noncomputable def gX1_depth_j40_5 (F : Int → AH → Option (Int)) (a2 : Int) (a3 : Int) (a4 : Int) (h : AH) : Option ((Int × Int) ⊕ (Int)) := jl (w32 (a4 + 1)) fun x12 => some (.inl (a3, x12))
theorem eX1_depth_j40_5 {F0 : Int → Int → Int → AH → Option (Int)} {F : Int → AH → Option (Int)} (hF : ∀ (b_a2 : Int), ∀ {b_h : AH}, Sh S b_h → EQ (F0 200 330 b_a2 b_h) (F b_a2 b_h) (fun _ => True)) (a2 : Int) (a3 : Int) (a4 : Int) {h : AH} (hS : Sh S h) : EQ (fX1_depth_j40_5 F0 200 330 a2 a3 a4 h) (gX1_depth_j40_5 F a2 a3 a4 h) (Sum.elim (fun _ => True) (fun _ => True)) := by
  unfold fX1_depth_j40_5 gX1_depth_j40_5
  refine EQ_jl rfl (fun x12 ex12 => ?_)
  clear ex12
  exact EQ_some trivial
noncomputable def gX1_depth_b5 (F : Int → AH → Option (Int)) (i2 : Int) (h : AH) (s : Int × Int) : Option ((Int × Int) ⊕ (Int)) := jt2 s fun a3 a4 => if 3 ≤ a4 then (some (.inr a3)) else (jb (gX3_part 330 i2 a4 h) fun v5 => if v5 < 0 then (gX1_depth_j40_5 F i2 a3 a4 h) else (jb (gX3_part 330 i2 a4 h) fun v8 => jb (F v8 h) fun v10 => jl (max a3 (w32 (1 + v10))) fun x11 => gX1_depth_j40_5 F i2 x11 a4 h))
theorem eX1_depth_b5 {F0 : Int → Int → Int → AH → Option (Int)} {F : Int → AH → Option (Int)} (hF : ∀ (b_a2 : Int), ∀ {b_h : AH}, Sh S b_h → EQ (F0 200 330 b_a2 b_h) (F b_a2 b_h) (fun _ => True)) (i2 : Int) (s : Int × Int) {h : AH} (hS : Sh S h) : EQ (fX1_depth_b5 F0 200 330 i2 h s) (gX1_depth_b5 F i2 h s) (Sum.elim (fun _ => True) (fun _ => True)) := by
  unfold fX1_depth_b5 gX1_depth_b5
  obtain ⟨a3, a4⟩ := s
  refine EQ_jt2 ?_
  refine EQ_if Iff.rfl (fun c1 => ?_) (fun c1 => ?_)
  · exact EQ_some trivial
  · refine EQ_jgd (show h 330 (-2) = 4 from by rw [k_330 hS]) ?_
    refine EQ_jb (eX3_part 330 i2 a4 (by unfold isX3; decide) hS) (fun v5 r2 => ?_)
    refine EQ_if Iff.rfl (fun c3 => ?_) (fun c3 => ?_)
    · exact (eX1_depth_j40_5 hF i2 a3 a4 hS)
    · refine EQ_jgd (show h 330 (-2) = 4 from by rw [k_330 hS]) ?_
      refine EQ_jb (eX3_part 330 i2 a4 (by unfold isX3; decide) hS) (fun v8 r4 => ?_)
      refine EQ_jgd (show h 200 (-2) = 2 from by rw [k_200 hS]) ?_
      refine EQ_jb (hF v8 hS) (fun v10 r5 => ?_)
      refine EQ_jl rfl (fun x11 ex11 => ?_)
      clear ex11
      exact (eX1_depth_j40_5 hF i2 x11 a4 hS)
noncomputable def gX1_depth_l5 (F : Int → AH → Option (Int)) (i2 : Int) (a3 : Int) (a4 : Int) (h : AH) : Option (Int) := jit (gX1_depth_b5 F i2 h) (a3, a4)
theorem eX1_depth_l5 {F0 : Int → Int → Int → AH → Option (Int)} {F : Int → AH → Option (Int)} (hF : ∀ (b_a2 : Int), ∀ {b_h : AH}, Sh S b_h → EQ (F0 200 330 b_a2 b_h) (F b_a2 b_h) (fun _ => True)) (i2 : Int) (a3 : Int) (a4 : Int) {h : AH} (hS : Sh S h) : EQ (fX1_depth_l5 F0 200 330 i2 a3 a4 h) (gX1_depth_l5 F i2 a3 a4 h) (fun _ => True) := EQ_jit (I := (fun _ => True)) (fun s _ => eX1_depth_b5 hF i2 s hS) trivial
noncomputable def gX1_depth_ (F : Int → AH → Option (Int)) (a2 : Int) (h : AH) : Option (Int) := jb (gX1_depth_l5 F a2 0 0 h) fun o1 => some o1
theorem eX1_depth_ {F0 : Int → Int → Int → AH → Option (Int)} {F : Int → AH → Option (Int)} (hF : ∀ (b_a2 : Int), ∀ {b_h : AH}, Sh S b_h → EQ (F0 200 330 b_a2 b_h) (F b_a2 b_h) (fun _ => True)) (a2 : Int) {h : AH} (hS : Sh S h) : EQ (fX1_depth_ F0 200 330 a2 h) (gX1_depth_ F a2 h) (fun _ => True) := by
  unfold fX1_depth_ gX1_depth_
  refine EQ_jb (eX1_depth_l5 hF a2 0 0 hS) (fun o1 r1 => ?_)
  exact EQ_some trivial
noncomputable def gX1_depthD : Nat → Int → AH → Option (Int)
  | 0 => fun _ _ => none
  | d + 1 => gX1_depth_ (gX1_depthD d)
theorem eX1_depthD : ∀ (d : Nat) (a2 : Int) {h : AH} (hS : Sh S h) , EQ (fX1_depthD d 200 330 a2 h) (gX1_depthD d a2 h) (fun _ => True) := by
  intro d
  induction d with
  | zero => intro a2 h hS; exact EQ_none
  | succ d ih => intro a2 h hS; exact eX1_depth_ ih a2 hS
noncomputable def gX1_depth : Int → AH → Option (Int) := gX1_depthD 40
theorem eX1_depth (a2 : Int) {h : AH} (hS : Sh S h) : EQ (fX1_depth 200 330 a2 h) (gX1_depth a2 h) (fun _ => True) := eX1_depthD 40 a2 hS
noncomputable def gX1_keepTerm_b31 (i4 : Int) (s : Int × AH) : Option ((Int × AH) ⊕ (AH)) := jt2 s fun a5 h => if 3 ≤ a5 then (some (.inr h)) else (jg (h i4 (-2) = 101 ∧ jI a5 (h i4 (-1))) <| jg (jI (w32 (w32 (3 * h 200 37) + a5)) 36) <| jl (jst h 355 (w32 (w32 (3 * h 200 37) + a5)) (h i4 a5)) fun h10 => jl (w32 (a5 + 1)) fun x11 => some (.inl (x11, h10)))
theorem eX1_keepTerm_b31 (i4 : Int) {s : Int × AH} (hS : (fun r => Sh S r.2) s) : EQ (fX1_keepTerm_b31 200 i4 s) (gX1_keepTerm_b31 i4 s) (Sum.elim (fun r => Sh S r.2) (fun r => Sh S r)) := by
  unfold fX1_keepTerm_b31 gX1_keepTerm_b31
  obtain ⟨a5, h⟩ := s
  refine EQ_jt2 ?_
  replace hS : Sh S h := hS
  refine EQ_if Iff.rfl (fun c1 => ?_) (fun c1 => ?_)
  · exact EQ_some hS
  · refine EQ_jgd (show h 200 (-2) = 2 from by rw [k_200 hS]) ?_
    refine EQ_jgd (show h 200 (-2) = 2 from by rw [k_200 hS]) ?_
    refine EQ_jg Iff.rfl (fun g2 => ?_)
    refine EQ_jg ⟨fun ⟨_, _, x0⟩ => (show jI (w32 (w32 (3 * h 200 37) + a5)) (h (h 200 36) (-1)) ↔ jI (w32 (w32 (3 * h 200 37) + a5)) 36 from by rw [r_200_36 hS, l_355 hS]).mp x0, fun x0 => ⟨(show h (h 200 36) (-2) = 101 from by rw [r_200_36 hS, k_355 hS]), (show 200 ≤ h 200 36 from by rw [r_200_36 hS]; exact (by decide)), (show jI (w32 (w32 (3 * h 200 37) + a5)) (h (h 200 36) (-1)) ↔ jI (w32 (w32 (3 * h 200 37) + a5)) 36 from by rw [r_200_36 hS, l_355 hS]).mpr x0⟩⟩ (fun g3 => ?_)
    refine EQ_jl (by rw [r_200_36 hS]) (fun h10 eh10 => ?_)
    have s4 := Sh_of eh10 (Sh_sta hS (by decide +kernel) (jI_nn g3) (fun e => absurd ((k_355 hS).symm.trans e) (by decide)))
    clear eh10
    refine EQ_jl rfl (fun x11 ex11 => ?_)
    clear ex11
    exact EQ_some s4
noncomputable def gX1_keepTerm_l31 (i4 : Int) (a5 : Int) (h : AH) : Option (AH) := jit (gX1_keepTerm_b31 i4) (a5, h)
theorem eX1_keepTerm_l31 (i4 : Int) (a5 : Int) {h : AH} (hS : Sh S h) : EQ (fX1_keepTerm_l31 200 i4 a5 h) (gX1_keepTerm_l31 i4 a5 h) (fun r => Sh S r) := EQ_jit (I := (fun r => Sh S r.2)) (fun s hs => eX1_keepTerm_b31 i4 hs) hS
noncomputable def gX1_keepTerm (a1 : Int) (a2 : Int) (a3 : Int) (a4 : Int) (h : AH) : Option (AH) := jb2 (gX3_copy (h 200 32) a1 a2 h) fun v2 h3 => jg (jI (h 200 37) 12) <| jl (jst h3 353 (h 200 37) v2) fun h4 => jg (jI (h4 200 37) 12) <| jl (jst h4 354 (h4 200 37) a3) fun h5 => jb (gX1_keepTerm_l31 a4 0 h5) fun o6 => jl (jst o6 200 37 (w32 (o6 200 37 + 1))) fun h8 => some h8
theorem eX1_keepTerm (a1 : Int) (a2 : Int) (a3 : Int) (a4 : Int) (hT_a1 : isX3 a1) {h : AH} (hS : Sh S h) : EQ (fX1_keepTerm 200 a1 a2 a3 a4 h) (gX1_keepTerm a1 a2 a3 a4 h) (fun r => Sh S r) := by
  unfold fX1_keepTerm gX1_keepTerm
  refine EQ_jgd (show h 200 (-2) = 2 from by rw [k_200 hS]) ?_
  refine EQ_jgd (show h 200 (-2) = 2 from by rw [k_200 hS]) ?_
  refine EQ_jgd (show h 200 (-2) = 2 from by rw [k_200 hS]) ?_
  refine EQ_jgd (show h (h 200 32) (-2) = 4 from by rw [kd_X3 hS (dy_200_32 hS)]) ?_
  refine EQ_jb2 (eX3_copy (h 200 32) a1 a2 (dy_200_32 hS) hT_a1 hS) (fun v2 h3 r1 => ?_)
  replace r1 : Sh S h3 := r1
  refine EQ_jg ⟨fun ⟨_, _, x0⟩ => (show jI (h 200 37) (h3 (h 200 34) (-1)) ↔ jI (h 200 37) 12 from by rw [r_200_34 hS, l_353 r1]).mp x0, fun x0 => ⟨(show h3 (h 200 34) (-2) = 101 from by rw [r_200_34 hS, k_353 r1]), (show 200 ≤ h 200 34 from by rw [r_200_34 hS]; exact (by decide)), (show jI (h 200 37) (h3 (h 200 34) (-1)) ↔ jI (h 200 37) 12 from by rw [r_200_34 hS, l_353 r1]).mpr x0⟩⟩ (fun g2 => ?_)
  refine EQ_jl (by rw [r_200_34 hS]) (fun h4 eh4 => ?_)
  have s3 := Sh_of eh4 (Sh_sta r1 (by decide +kernel) (jI_nn g2) (fun e => absurd ((k_353 r1).symm.trans e) (by decide)))
  clear eh4
  refine EQ_jgd (show h4 200 (-2) = 2 from by rw [k_200 s3]) ?_
  refine EQ_jgd (show h4 200 (-2) = 2 from by rw [k_200 s3]) ?_
  refine EQ_jg ⟨fun ⟨_, _, x0⟩ => (show jI (h4 200 37) (h4 (h4 200 35) (-1)) ↔ jI (h4 200 37) 12 from by rw [r_200_35 s3, l_354 s3]).mp x0, fun x0 => ⟨(show h4 (h4 200 35) (-2) = 101 from by rw [r_200_35 s3, k_354 s3]), (show 200 ≤ h4 200 35 from by rw [r_200_35 s3]; exact (by decide)), (show jI (h4 200 37) (h4 (h4 200 35) (-1)) ↔ jI (h4 200 37) 12 from by rw [r_200_35 s3, l_354 s3]).mpr x0⟩⟩ (fun g4 => ?_)
  refine EQ_jl (by rw [r_200_35 s3]) (fun h5 eh5 => ?_)
  have s5 := Sh_of eh5 (Sh_sta s3 (by decide +kernel) (jI_nn g4) (fun e => absurd ((k_354 s3).symm.trans e) (by decide)))
  clear eh5
  refine EQ_jb (eX1_keepTerm_l31 a4 0 s5) (fun o6 r6 => ?_)
  refine EQ_jgd (show o6 200 (-2) = 2 from by rw [k_200 r6]) ?_
  refine EQ_jgd ⟨(show o6 200 (-2) = 2 from by rw [k_200 r6]), (show (200 : Int) ≤ 200 from (by decide))⟩ ?_
  refine EQ_jl rfl (fun h8 eh8 => ?_)
  have s7 := Sh_of eh8 (Sh_sto r6 (a := 200) (i := 37) (by decide +kernel))
  clear eh8
  exact EQ_some s7
noncomputable def gX1_keep_b120 (s : Int × AH) : Option ((Int × AH) ⊕ (AH)) := jt2 s fun a1 h => if h 200 29 ≤ a1 then (some (.inr h)) else (jg (jI a1 3) <| jb (fJ0_charAt 28 (h 339 a1) h) fun v29 => jb (gX12_put v29 h) fun h31 => jl (w32 (a1 + 1)) fun x32 => some (.inl (x32, h31)))
theorem eX1_keep_b120 {s : Int × AH} (hS : (fun r => Sh S r.2) s) : EQ (fX1_keep_b120 200 s) (gX1_keep_b120 s) (Sum.elim (fun r => Sh S r.2) (fun r => Sh S r)) := by
  unfold fX1_keep_b120 gX1_keep_b120
  obtain ⟨a1, h⟩ := s
  refine EQ_jt2 ?_
  replace hS : Sh S h := hS
  refine EQ_jgd (show h 200 (-2) = 2 from by rw [k_200 hS]) ?_
  refine EQ_if Iff.rfl (fun c1 => ?_) (fun c1 => ?_)
  · exact EQ_some hS
  · refine EQ_jgd (show h 200 (-2) = 2 from by rw [k_200 hS]) ?_
    refine EQ_jgd (show h 28 (-2) = 1 from by rw [k_28 hS]) ?_
    refine EQ_jgd (show h 200 (-2) = 2 from by rw [k_200 hS]) ?_
    refine EQ_jg ⟨fun ⟨_, x0⟩ => (show jI a1 (h (h 200 28) (-1)) ↔ jI a1 3 from by rw [r_200_28 hS, l_339 hS]).mp x0, fun x0 => ⟨(show h (h 200 28) (-2) = 101 from by rw [r_200_28 hS, k_339 hS]), (show jI a1 (h (h 200 28) (-1)) ↔ jI a1 3 from by rw [r_200_28 hS, l_339 hS]).mpr x0⟩⟩ (fun g2 => ?_)
    refine EQ_jgd (show h 28 (-2) = 1 from by rw [k_28 hS]) ?_
    refine EQ_jb (by rw [r_200_28 hS]; exact EQ_refl) (fun v29 r3 => ?_)
    refine EQ_jgd (show h (h 200 52) (-2) = 13 from by rw [r_200_52 hS, k_434 hS]) ?_
    refine EQ_jb (by rw [r_200_52 hS]; exact eX12_put v29 hS) (fun h31 r4 => ?_)
    refine EQ_jl rfl (fun x32 ex32 => ?_)
    clear ex32
    exact EQ_some r4
noncomputable def gX1_keep_l120 (a1 : Int) (h : AH) : Option (AH) := jit gX1_keep_b120 (a1, h)
theorem eX1_keep_l120 (a1 : Int) {h : AH} (hS : Sh S h) : EQ (fX1_keep_l120 200 a1 h) (gX1_keep_l120 a1 h) (fun r => Sh S r) := EQ_jit (I := (fun r => Sh S r.2)) (fun s hs => eX1_keep_b120 hs) hS
noncomputable def gX1_keep (h : AH) : Option (Int × AH) := if h 200 53 = 0 then (if h 200 23 = 0 then (some ((-2), h)) else (jb (gX3_size 330 (h 200 22) h) fun v4 => if 30 < v4 then (some ((-2), h)) else (jb (gX1_weight 330 (h 200 22) h) fun v7 => if 40 < v7 then (some ((-2), h)) else (jb (gX1_depth (h 200 22) h) fun v10 => if v10 ≤ 12 then (if h 200 37 = 12 then (some ((-3), h)) else (jb2 (gX12_begin 2 (w32 (w32 (1 + h 200 29) + h 336 1)) h) fun v14 h15 => if v14 = 0 then (some ((-3), h15)) else (jb (gX12_put (h15 200 29) h15) fun h18 => jb (gX1_keep_l120 0 h18) fun o19 => jb (gX12_put_2 337 (o19 336 1) o19) fun h22 => jb (gX12_end h22) fun h24 => jb (gX1_keepTerm 330 (h24 200 22) (h24 200 29) 339 h24) fun h26 => some (w32 (h26 200 37 - 1), h26)))) else (some ((-2), h)))))) else (some ((-5), h))
theorem eX1_keep {h : AH} (hS : Sh S h) : EQ (fX1_keep 200 h) (gX1_keep h) (fun r => Sh S r.2) := by
  unfold fX1_keep gX1_keep
  refine EQ_jgd (show h 200 (-2) = 2 from by rw [k_200 hS]) ?_
  refine EQ_if Iff.rfl (fun c1 => ?_) (fun c1 => ?_)
  · refine EQ_jgd (show h 200 (-2) = 2 from by rw [k_200 hS]) ?_
    refine EQ_if Iff.rfl (fun c2 => ?_) (fun c2 => ?_)
    · exact EQ_some hS
    · refine EQ_jgd (show h 200 (-2) = 2 from by rw [k_200 hS]) ?_
      refine EQ_jgd (show h 200 (-2) = 2 from by rw [k_200 hS]) ?_
      refine EQ_jgd (show h (h 200 21) (-2) = 4 from by rw [r_200_21 hS, k_330 hS]) ?_
      refine EQ_jb (by rw [r_200_21 hS]; exact eX3_size 330 (h 200 22) (by unfold isX3; decide) hS) (fun v4 r3 => ?_)
      refine EQ_if Iff.rfl (fun c4 => ?_) (fun c4 => ?_)
      · exact EQ_some hS
      · refine EQ_jgd (show h 200 (-2) = 2 from by rw [k_200 hS]) ?_
        refine EQ_jgd (show h 200 (-2) = 2 from by rw [k_200 hS]) ?_
        refine EQ_jgd (show h 200 (-2) = 2 from by rw [k_200 hS]) ?_
        refine EQ_jb (by rw [r_200_21 hS]; exact eX1_weight 330 (h 200 22) (by unfold isX3; decide) hS) (fun v7 r5 => ?_)
        refine EQ_if Iff.rfl (fun c6 => ?_) (fun c6 => ?_)
        · exact EQ_some hS
        · refine EQ_jgd (show h 200 (-2) = 2 from by rw [k_200 hS]) ?_
          refine EQ_jgd (show h 200 (-2) = 2 from by rw [k_200 hS]) ?_
          refine EQ_jgd (show h 200 (-2) = 2 from by rw [k_200 hS]) ?_
          refine EQ_jb (by rw [r_200_21 hS]; exact eX1_depth (h 200 22) hS) (fun v10 r7 => ?_)
          refine EQ_if Iff.rfl (fun c8 => ?_) (fun c8 => ?_)
          · refine EQ_jgd (show h 200 (-2) = 2 from by rw [k_200 hS]) ?_
            refine EQ_if Iff.rfl (fun c9 => ?_) (fun c9 => ?_)
            · exact EQ_some hS
            · refine EQ_jgd (show h 200 (-2) = 2 from by rw [k_200 hS]) ?_
              refine EQ_jgd (show h 200 (-2) = 2 from by rw [k_200 hS]) ?_
              refine EQ_jgd (show h 200 (-2) = 2 from by rw [k_200 hS]) ?_
              refine EQ_jgd (show h (h 200 24) (-2) = 7 from by rw [r_200_24 hS, k_336 hS]) ?_
              refine EQ_jgd (show h (h 200 52) (-2) = 13 from by rw [r_200_52 hS, k_434 hS]) ?_
              refine EQ_jb2 (by rw [r_200_52 hS, r_200_24 hS]; exact eX12_begin 2 (w32 (w32 (1 + h 200 29) + h 336 1)) hS) (fun v14 h15 r10 => ?_)
              replace r10 : Sh S h15 := r10
              refine EQ_if Iff.rfl (fun c11 => ?_) (fun c11 => ?_)
              · exact EQ_some r10
              · refine EQ_jgd (show h15 200 (-2) = 2 from by rw [k_200 r10]) ?_
                refine EQ_jgd (show h15 200 (-2) = 2 from by rw [k_200 r10]) ?_
                refine EQ_jgd (show h15 (h15 200 52) (-2) = 13 from by rw [r_200_52 r10, k_434 r10]) ?_
                refine EQ_jb (by rw [r_200_52 r10]; exact eX12_put (h15 200 29) r10) (fun h18 r12 => ?_)
                refine EQ_jb (eX1_keep_l120 0 r12) (fun o19 r13 => ?_)
                refine EQ_jgd (show o19 200 (-2) = 2 from by rw [k_200 r13]) ?_
                refine EQ_jgd (show o19 200 (-2) = 2 from by rw [k_200 r13]) ?_
                refine EQ_jgd (show o19 (o19 200 24) (-2) = 7 from by rw [r_200_24 r13, k_336 r13]) ?_
                refine EQ_jgd (show o19 200 (-2) = 2 from by rw [k_200 r13]) ?_
                refine EQ_jgd (show o19 (o19 200 24) (-2) = 7 from by rw [r_200_24 r13, k_336 r13]) ?_
                refine EQ_jgd (show o19 (o19 200 52) (-2) = 13 from by rw [r_200_52 r13, k_434 r13]) ?_
                refine EQ_jb (by rw [r_200_52 r13, r_200_24 r13, r_336_0 r13]; exact eX12_put_2 337 (o19 336 1) r13) (fun h22 r14 => ?_)
                refine EQ_jgd (show h22 200 (-2) = 2 from by rw [k_200 r14]) ?_
                refine EQ_jgd (show h22 (h22 200 52) (-2) = 13 from by rw [r_200_52 r14, k_434 r14]) ?_
                refine EQ_jb (by rw [r_200_52 r14]; exact eX12_end r14) (fun h24 r15 => ?_)
                refine EQ_jgd (show h24 200 (-2) = 2 from by rw [k_200 r15]) ?_
                refine EQ_jgd (show h24 200 (-2) = 2 from by rw [k_200 r15]) ?_
                refine EQ_jgd (show h24 200 (-2) = 2 from by rw [k_200 r15]) ?_
                refine EQ_jgd (show h24 200 (-2) = 2 from by rw [k_200 r15]) ?_
                refine EQ_jgd (show h24 200 (-2) = 2 from by rw [k_200 r15]) ?_
                refine EQ_jb (by rw [r_200_21 r15, r_200_28 r15]; exact eX1_keepTerm 330 (h24 200 22) (h24 200 29) 339 (by unfold isX3; decide) r15) (fun h26 r16 => ?_)
                refine EQ_jgd (show h26 200 (-2) = 2 from by rw [k_200 r16]) ?_
                exact EQ_some r16
          · exact EQ_some hS
  · exact EQ_some hS
noncomputable def gX1_kept (a1 : Int) (a2 : Int) (h : AH) : Option (Int × AH) := if h 200 53 = 0 then (jb (gX1_isIn a1 0 (w32 (h 200 37 - 1))) fun v3 => if v3 = 0 then (some ((-1), h)) else (jl (jst h 448 1 0) fun h5 => jg (jI a1 12) <| jb (gX1_tell (h5 200 32) (h5 353 a1) 448 h5) fun h7 => if a2 = (-1) then (some (h7 448 1, h7)) else (jb (gX1_isIn a2 0 (w32 (h7 448 1 - 1))) fun v10 => if v10 = 0 then (some ((-1), h7)) else (jg (jI a2 400) <| some (h7 449 a2, h7))))) else (some ((-5), h))
theorem eX1_kept (a1 : Int) (a2 : Int) {h : AH} (hS : Sh S h) : EQ (fX1_kept 200 a1 a2 h) (gX1_kept a1 a2 h) (fun r => Sh S r.2) := by
  unfold fX1_kept gX1_kept
  refine EQ_jgd (show h 200 (-2) = 2 from by rw [k_200 hS]) ?_
  refine EQ_if Iff.rfl (fun c1 => ?_) (fun c1 => ?_)
  · refine EQ_jgd (show h 200 (-2) = 2 from by rw [k_200 hS]) ?_
    refine EQ_jb (eX1_isIn a1 0 (w32 (h 200 37 - 1))) (fun v3 r2 => ?_)
    refine EQ_if Iff.rfl (fun c3 => ?_) (fun c3 => ?_)
    · exact EQ_some hS
    · refine EQ_jgd (show h 200 (-2) = 2 from by rw [k_200 hS]) ?_
      refine EQ_jgd ⟨(show h (h 200 61) (-2) = 7 from by rw [r_200_61 hS, k_448 hS]), (show 200 ≤ h 200 61 from by rw [r_200_61 hS]; exact (by decide))⟩ ?_
      refine EQ_jl (by rw [r_200_61 hS]) (fun h5 eh5 => ?_)
      have s4 := Sh_of eh5 (Sh_sto hS (a := 448) (i := 1) (by decide +kernel))
      clear eh5
      refine EQ_jgd (show h5 200 (-2) = 2 from by rw [k_200 s4]) ?_
      refine EQ_jgd (show h5 200 (-2) = 2 from by rw [k_200 s4]) ?_
      refine EQ_jg ⟨fun ⟨_, x0⟩ => (show jI a1 (h5 (h5 200 34) (-1)) ↔ jI a1 12 from by rw [r_200_34 s4, l_353 s4]).mp x0, fun x0 => ⟨(show h5 (h5 200 34) (-2) = 101 from by rw [r_200_34 s4, k_353 s4]), (show jI a1 (h5 (h5 200 34) (-1)) ↔ jI a1 12 from by rw [r_200_34 s4, l_353 s4]).mpr x0⟩⟩ (fun g5 => ?_)
      refine EQ_jgd (show h5 200 (-2) = 2 from by rw [k_200 s4]) ?_
      refine EQ_jgd (show h5 200 (-2) = 2 from by rw [k_200 s4]) ?_
      refine EQ_jb (by rw [r_200_34 s4, r_200_61 s4]; exact eX1_tell (h5 200 32) (h5 353 a1) 448 (dy_200_32 s4) (by unfold isX6; decide) s4) (fun h7 r6 => ?_)
      refine EQ_if Iff.rfl (fun c7 => ?_) (fun c7 => ?_)
      · refine EQ_jgd (show h7 200 (-2) = 2 from by rw [k_200 r6]) ?_
        refine EQ_jgd (show h7 (h7 200 61) (-2) = 7 from by rw [r_200_61 r6, k_448 r6]) ?_
        exact EQ_some' (by rw [r_200_61 r6]) r6
      · refine EQ_jgd (show h7 200 (-2) = 2 from by rw [k_200 r6]) ?_
        refine EQ_jgd (show h7 (h7 200 61) (-2) = 7 from by rw [r_200_61 r6, k_448 r6]) ?_
        refine EQ_jb (by rw [r_200_61 r6]; exact eX1_isIn a2 0 (w32 (h7 448 1 - 1))) (fun v10 r8 => ?_)
        refine EQ_if Iff.rfl (fun c9 => ?_) (fun c9 => ?_)
        · exact EQ_some r6
        · refine EQ_jgd (show h7 200 (-2) = 2 from by rw [k_200 r6]) ?_
          refine EQ_jgd (show h7 (h7 200 61) (-2) = 7 from by rw [r_200_61 r6, k_448 r6]) ?_
          refine EQ_jg ⟨fun ⟨_, x0⟩ => (show jI a2 (h7 (h7 (h7 200 61) 0) (-1)) ↔ jI a2 400 from by rw [r_200_61 r6, r_448_0 r6, l_449 r6]).mp x0, fun x0 => ⟨(show h7 (h7 (h7 200 61) 0) (-2) = 103 from by rw [r_200_61 r6, r_448_0 r6, k_449 r6]), (show jI a2 (h7 (h7 (h7 200 61) 0) (-1)) ↔ jI a2 400 from by rw [r_200_61 r6, r_448_0 r6, l_449 r6]).mpr x0⟩⟩ (fun g10 => ?_)
          exact EQ_some' (by rw [r_200_61 r6, r_448_0 r6]) r6
  · exact EQ_some hS
noncomputable def gX1_isGoodName_j53 (a1 : Int) (a2 : Int) (a3 : Int) (h : AH) : Option (Int) := if a3 = 0 then (some 0) else (jb (gX1_isTaken a1 0 a2 h) fun v7 => if v7 = 0 then (some 1) else (some 0))
theorem eX1_isGoodName_j53 (a1 : Int) (a2 : Int) (a3 : Int) {h : AH} (hS : Sh S h) : EQ (fX1_isGoodName_j53 200 a1 a2 a3 h) (gX1_isGoodName_j53 a1 a2 a3 h) (fun _ => True) := by
  unfold fX1_isGoodName_j53 gX1_isGoodName_j53
  refine EQ_if Iff.rfl (fun c1 => ?_) (fun c1 => ?_)
  · exact EQ_some trivial
  · refine EQ_jgd (show h 200 (-2) = 2 from by rw [k_200 hS]) ?_
    refine EQ_jb (eX1_isTaken a1 0 a2 hS) (fun v7 r2 => ?_)
    refine EQ_if Iff.rfl (fun c3 => ?_) (fun c3 => ?_)
    · exact EQ_some trivial
    · exact EQ_some trivial
noncomputable def gX1_isGoodName_j46_13 (a1 : Int) (a2 : Int) (a4 : Int) (t0 : Int) (h : AH) : Option ((Int × Int) ⊕ (Int)) := jl (w32 (a4 + 1)) fun x13 => some (.inl (t0, x13))
theorem eX1_isGoodName_j46_13 (a1 : Int) (a2 : Int) (a4 : Int) (t0 : Int) {h : AH} (hS : Sh S h) : EQ (fX1_isGoodName_j46_13 200 a1 a2 a4 t0 h) (gX1_isGoodName_j46_13 a1 a2 a4 t0 h) (Sum.elim (fun _ => True) (fun _ => True)) := by
  unfold fX1_isGoodName_j46_13 gX1_isGoodName_j46_13
  refine EQ_jl rfl (fun x13 ex13 => ?_)
  clear ex13
  exact EQ_some trivial
noncomputable def gX1_isGoodName_b13 (i1 : Int) (i2 : Int) (h : AH) (s : Int × Int) : Option ((Int × Int) ⊕ (Int)) := jt2 s fun a3 a4 => if i2 ≤ a4 then (some (.inr a3)) else (if a3 = 0 then (some (.inr a3)) else (jg (h i1 (-2) = 103 ∧ jI a4 (h i1 (-1))) <| if h i1 a4 < 97 then (gX1_isGoodName_j46_13 i1 i2 a4 0 h) else (if 122 < h i1 a4 then (gX1_isGoodName_j46_13 i1 i2 a4 0 h) else (gX1_isGoodName_j46_13 i1 i2 a4 1 h))))
theorem eX1_isGoodName_b13 (i1 : Int) (i2 : Int) (s : Int × Int) {h : AH} (hS : Sh S h) : EQ (fX1_isGoodName_b13 200 i1 i2 h s) (gX1_isGoodName_b13 i1 i2 h s) (Sum.elim (fun _ => True) (fun _ => True)) := by
  unfold fX1_isGoodName_b13 gX1_isGoodName_b13
  obtain ⟨a3, a4⟩ := s
  refine EQ_jt2 ?_
  refine EQ_if Iff.rfl (fun c1 => ?_) (fun c1 => ?_)
  · exact EQ_some trivial
  · refine EQ_if Iff.rfl (fun c2 => ?_) (fun c2 => ?_)
    · exact EQ_some trivial
    · refine EQ_jg Iff.rfl (fun g3 => ?_)
      refine EQ_if Iff.rfl (fun c4 => ?_) (fun c4 => ?_)
      · exact (eX1_isGoodName_j46_13 i1 i2 a4 0 hS)
      · refine EQ_jgd ⟨(g3.1), (g3.2)⟩ ?_
        refine EQ_if Iff.rfl (fun c5 => ?_) (fun c5 => ?_)
        · exact (eX1_isGoodName_j46_13 i1 i2 a4 0 hS)
        · exact (eX1_isGoodName_j46_13 i1 i2 a4 1 hS)
noncomputable def gX1_isGoodName_l13 (i1 : Int) (i2 : Int) (a3 : Int) (a4 : Int) (h : AH) : Option (Int) := jit (gX1_isGoodName_b13 i1 i2 h) (a3, a4)
theorem eX1_isGoodName_l13 (i1 : Int) (i2 : Int) (a3 : Int) (a4 : Int) {h : AH} (hS : Sh S h) : EQ (fX1_isGoodName_l13 200 i1 i2 a3 a4 h) (gX1_isGoodName_l13 i1 i2 a3 a4 h) (fun _ => True) := EQ_jit (I := (fun _ => True)) (fun s _ => eX1_isGoodName_b13 i1 i2 s hS) trivial
noncomputable def gX1_isGoodName (a1 : Int) (a2 : Int) (h : AH) : Option (Int) := jb (gX1_isIn a2 1 8) fun v2 => jb (gX1_isGoodName_l13 a1 a2 v2 0 h) fun o3 => gX1_isGoodName_j53 a1 a2 o3 h
theorem eX1_isGoodName (a1 : Int) (a2 : Int) {h : AH} (hS : Sh S h) : EQ (fX1_isGoodName 200 a1 a2 h) (gX1_isGoodName a1 a2 h) (fun _ => True) := by
  unfold fX1_isGoodName gX1_isGoodName
  refine EQ_jb (eX1_isIn a2 1 8) (fun v2 r1 => ?_)
  refine EQ_jb (eX1_isGoodName_l13 a1 a2 v2 0 hS) (fun o3 r2 => ?_)
  exact (eX1_isGoodName_j53 a1 a2 o3 hS)
noncomputable def gX3_isLike_j122_50 (F : Int → Int → Int → Int → AH → Option (Int)) (a0 : Int) (a1 : Int) (a2 : Int) (a3 : Int) (a4 : Int) (h : AH) : Option ((Int) ⊕ ((Unit) ⊕ (Unit))) := jl (w32 (a4 + 1)) fun x24 => some (.inl x24)
theorem eX3_isLike_j122_50 {F0 : Int → Int → Int → Int → AH → Option (Int)} {F : Int → Int → Int → Int → AH → Option (Int)} (hF : ∀ (b_a0 : Int) (b_a1 : Int) (b_a2 : Int) (b_a3 : Int), isX3 b_a0 → isX3 b_a2 → ∀ {b_h : AH}, Sh S b_h → EQ (F0 b_a0 b_a1 b_a2 b_a3 b_h) (F b_a0 b_a1 b_a2 b_a3 b_h) (fun _ => True)) (a0 : Int) (a1 : Int) (a2 : Int) (a3 : Int) (a4 : Int) (hT_a0 : isX3 a0) (hT_a2 : isX3 a2) {h : AH} (hS : Sh S h) : EQ (fX3_isLike_j122_50 F0 a0 a1 a2 a3 a4 h) (gX3_isLike_j122_50 F a0 a1 a2 a3 a4 h) (Sum.elim (fun _ => True) (Sum.elim (fun _ => True) (fun _ => True))) := by
  unfold fX3_isLike_j122_50 gX3_isLike_j122_50
  refine EQ_jl rfl (fun x24 ex24 => ?_)
  clear ex24
  exact EQ_some trivial
noncomputable def gX3_isLike_j90_50 (F : Int → Int → Int → Int → AH → Option (Int)) (a0 : Int) (a1 : Int) (a2 : Int) (a3 : Int) (a4 : Int) (a5 : Int) (t0 : Int) (t1 : Int) (h : AH) : Option ((Int) ⊕ ((Unit) ⊕ (Unit))) := if t0 = t1 then (if a5 = 0 then (gX3_isLike_j122_50 F a0 a1 a2 a3 a4 h) else (jb (gX3_part a0 a1 a4 h) fun v18 => jb (gX3_part a2 a3 a4 h) fun v20 => jb (F a0 v18 a2 v20 h) fun v22 => if v22 = 0 then (some (.inr (.inl ()))) else (gX3_isLike_j122_50 F a0 a1 a2 a3 a4 h))) else (some (.inr (.inl ())))
theorem eX3_isLike_j90_50 {F0 : Int → Int → Int → Int → AH → Option (Int)} {F : Int → Int → Int → Int → AH → Option (Int)} (hF : ∀ (b_a0 : Int) (b_a1 : Int) (b_a2 : Int) (b_a3 : Int), isX3 b_a0 → isX3 b_a2 → ∀ {b_h : AH}, Sh S b_h → EQ (F0 b_a0 b_a1 b_a2 b_a3 b_h) (F b_a0 b_a1 b_a2 b_a3 b_h) (fun _ => True)) (a0 : Int) (a1 : Int) (a2 : Int) (a3 : Int) (a4 : Int) (a5 : Int) (t0 : Int) (t1 : Int) (hT_a0 : isX3 a0) (hT_a2 : isX3 a2) {h : AH} (hS : Sh S h) : EQ (fX3_isLike_j90_50 F0 a0 a1 a2 a3 a4 a5 t0 t1 h) (gX3_isLike_j90_50 F a0 a1 a2 a3 a4 a5 t0 t1 h) (Sum.elim (fun _ => True) (Sum.elim (fun _ => True) (fun _ => True))) := by
  unfold fX3_isLike_j90_50 gX3_isLike_j90_50
  refine EQ_if Iff.rfl (fun c1 => ?_) (fun c1 => ?_)
  · refine EQ_if Iff.rfl (fun c2 => ?_) (fun c2 => ?_)
    · exact (eX3_isLike_j122_50 hF a0 a1 a2 a3 a4 hT_a0 hT_a2 hS)
    · refine EQ_jgd (show h a0 (-2) = 4 from by rw [kd_X3 hS hT_a0]) ?_
      refine EQ_jb (eX3_part a0 a1 a4 hT_a0 hS) (fun v18 r3 => ?_)
      refine EQ_jgd (show h a2 (-2) = 4 from by rw [kd_X3 hS hT_a2]) ?_
      refine EQ_jb (eX3_part a2 a3 a4 hT_a2 hS) (fun v20 r4 => ?_)
      refine EQ_jgd (show h a0 (-2) = 4 from by rw [kd_X3 hS hT_a0]) ?_
      refine EQ_jb (hF a0 v18 a2 v20 hT_a0 hT_a2 hS) (fun v22 r5 => ?_)
      refine EQ_if Iff.rfl (fun c6 => ?_) (fun c6 => ?_)
      · exact EQ_some trivial
      · exact (eX3_isLike_j122_50 hF a0 a1 a2 a3 a4 hT_a0 hT_a2 hS)
  · exact EQ_some trivial
noncomputable def gX3_isLike_j71_50 (F : Int → Int → Int → Int → AH → Option (Int)) (a0 : Int) (a1 : Int) (a2 : Int) (a3 : Int) (a4 : Int) (t0 : Int) (h : AH) : Option ((Int) ⊕ ((Unit) ⊕ (Unit))) := jb (gX3_part a2 a3 a4 h) fun v13 => if v13 < 0 then (gX3_isLike_j90_50 F a0 a1 a2 a3 a4 t0 t0 0 h) else (gX3_isLike_j90_50 F a0 a1 a2 a3 a4 t0 t0 1 h)
theorem eX3_isLike_j71_50 {F0 : Int → Int → Int → Int → AH → Option (Int)} {F : Int → Int → Int → Int → AH → Option (Int)} (hF : ∀ (b_a0 : Int) (b_a1 : Int) (b_a2 : Int) (b_a3 : Int), isX3 b_a0 → isX3 b_a2 → ∀ {b_h : AH}, Sh S b_h → EQ (F0 b_a0 b_a1 b_a2 b_a3 b_h) (F b_a0 b_a1 b_a2 b_a3 b_h) (fun _ => True)) (a0 : Int) (a1 : Int) (a2 : Int) (a3 : Int) (a4 : Int) (t0 : Int) (hT_a0 : isX3 a0) (hT_a2 : isX3 a2) {h : AH} (hS : Sh S h) : EQ (fX3_isLike_j71_50 F0 a0 a1 a2 a3 a4 t0 h) (gX3_isLike_j71_50 F a0 a1 a2 a3 a4 t0 h) (Sum.elim (fun _ => True) (Sum.elim (fun _ => True) (fun _ => True))) := by
  unfold fX3_isLike_j71_50 gX3_isLike_j71_50
  refine EQ_jgd (show h a2 (-2) = 4 from by rw [kd_X3 hS hT_a2]) ?_
  refine EQ_jb (eX3_part a2 a3 a4 hT_a2 hS) (fun v13 r1 => ?_)
  refine EQ_if Iff.rfl (fun c2 => ?_) (fun c2 => ?_)
  · exact (eX3_isLike_j90_50 hF a0 a1 a2 a3 a4 t0 t0 0 hT_a0 hT_a2 hS)
  · exact (eX3_isLike_j90_50 hF a0 a1 a2 a3 a4 t0 t0 1 hT_a0 hT_a2 hS)
noncomputable def gX3_isLike_b50 (F : Int → Int → Int → Int → AH → Option (Int)) (i0 : Int) (i1 : Int) (i2 : Int) (i3 : Int) (h : AH) (a4 : Int) : Option ((Int) ⊕ ((Unit) ⊕ (Unit))) := if 3 ≤ a4 then (some (.inr (.inr ()))) else (jb (gX3_part i0 i1 a4 h) fun v10 => if v10 < 0 then (gX3_isLike_j71_50 F i0 i1 i2 i3 a4 0 h) else (gX3_isLike_j71_50 F i0 i1 i2 i3 a4 1 h))
theorem eX3_isLike_b50 {F0 : Int → Int → Int → Int → AH → Option (Int)} {F : Int → Int → Int → Int → AH → Option (Int)} (hF : ∀ (b_a0 : Int) (b_a1 : Int) (b_a2 : Int) (b_a3 : Int), isX3 b_a0 → isX3 b_a2 → ∀ {b_h : AH}, Sh S b_h → EQ (F0 b_a0 b_a1 b_a2 b_a3 b_h) (F b_a0 b_a1 b_a2 b_a3 b_h) (fun _ => True)) (i0 : Int) (i1 : Int) (i2 : Int) (i3 : Int) (a4 : Int) (hT_i0 : isX3 i0) (hT_i2 : isX3 i2) {h : AH} (hS : Sh S h) : EQ (fX3_isLike_b50 F0 i0 i1 i2 i3 h a4) (gX3_isLike_b50 F i0 i1 i2 i3 h a4) (Sum.elim (fun _ => True) (Sum.elim (fun _ => True) (fun _ => True))) := by
  unfold fX3_isLike_b50 gX3_isLike_b50
  refine EQ_if Iff.rfl (fun c1 => ?_) (fun c1 => ?_)
  · exact EQ_some trivial
  · refine EQ_jgd (show h i0 (-2) = 4 from by rw [kd_X3 hS hT_i0]) ?_
    refine EQ_jb (eX3_part i0 i1 a4 hT_i0 hS) (fun v10 r2 => ?_)
    refine EQ_if Iff.rfl (fun c3 => ?_) (fun c3 => ?_)
    · exact (eX3_isLike_j71_50 hF i0 i1 i2 i3 a4 0 hT_i0 hT_i2 hS)
    · exact (eX3_isLike_j71_50 hF i0 i1 i2 i3 a4 1 hT_i0 hT_i2 hS)
noncomputable def gX3_isLike_l50 (F : Int → Int → Int → Int → AH → Option (Int)) (i0 : Int) (i1 : Int) (i2 : Int) (i3 : Int) (a4 : Int) (h : AH) : Option ((Unit) ⊕ (Unit)) := jit (gX3_isLike_b50 F i0 i1 i2 i3 h) a4
theorem eX3_isLike_l50 {F0 : Int → Int → Int → Int → AH → Option (Int)} {F : Int → Int → Int → Int → AH → Option (Int)} (hF : ∀ (b_a0 : Int) (b_a1 : Int) (b_a2 : Int) (b_a3 : Int), isX3 b_a0 → isX3 b_a2 → ∀ {b_h : AH}, Sh S b_h → EQ (F0 b_a0 b_a1 b_a2 b_a3 b_h) (F b_a0 b_a1 b_a2 b_a3 b_h) (fun _ => True)) (i0 : Int) (i1 : Int) (i2 : Int) (i3 : Int) (a4 : Int) (hT_i0 : isX3 i0) (hT_i2 : isX3 i2) {h : AH} (hS : Sh S h) : EQ (fX3_isLike_l50 F0 i0 i1 i2 i3 a4 h) (gX3_isLike_l50 F i0 i1 i2 i3 a4 h) (Sum.elim (fun _ => True) (fun _ => True)) := EQ_jit (I := (fun _ => True)) (fun s _ => eX3_isLike_b50 hF i0 i1 i2 i3 s hT_i0 hT_i2 hS) trivial
noncomputable def gX3_isLike_ (F : Int → Int → Int → Int → AH → Option (Int)) (a0 : Int) (a1 : Int) (a2 : Int) (a3 : Int) (h : AH) : Option (Int) := jg (jI a1 (h (a0 + 1) (-1))) <| jg (jI a3 (h (a2 + 1) (-1))) <| if h (a0 + 1) a1 = h (a2 + 1) a3 then (jg (jI a1 (h (a0 + 2) (-1))) <| jg (jI a3 (h (a2 + 2) (-1))) <| if h (a0 + 2) a1 = h (a2 + 2) a3 then (jg (jI a1 (h (a0 + 3) (-1))) <| jg (jI a3 (h (a2 + 3) (-1))) <| if h (a0 + 3) a1 = h (a2 + 3) a3 then (jb (gX3_isLike_l50 F a0 a1 a2 a3 0 h) fun o4 => jm o4 (fun o6 => some 0) (fun o7 => some 1)) else (some 0)) else (some 0)) else (some 0)
theorem eX3_isLike_ {F0 : Int → Int → Int → Int → AH → Option (Int)} {F : Int → Int → Int → Int → AH → Option (Int)} (hF : ∀ (b_a0 : Int) (b_a1 : Int) (b_a2 : Int) (b_a3 : Int), isX3 b_a0 → isX3 b_a2 → ∀ {b_h : AH}, Sh S b_h → EQ (F0 b_a0 b_a1 b_a2 b_a3 b_h) (F b_a0 b_a1 b_a2 b_a3 b_h) (fun _ => True)) (a0 : Int) (a1 : Int) (a2 : Int) (a3 : Int) (hT_a0 : isX3 a0) (hT_a2 : isX3 a2) {h : AH} (hS : Sh S h) : EQ (fX3_isLike_ F0 a0 a1 a2 a3 h) (gX3_isLike_ F a0 a1 a2 a3 h) (fun _ => True) := by
  unfold fX3_isLike_ gX3_isLike_
  refine EQ_jgd (show h a0 (-2) = 4 from by rw [kd_X3 hS hT_a0]) ?_
  refine EQ_jg ⟨fun ⟨_, x0⟩ => (show jI a1 (h (h a0 1) (-1)) ↔ jI a1 (h (a0 + 1) (-1)) from by rw [ft_X3_1 hS hT_a0]).mp x0, fun x0 => ⟨(show h (h a0 1) (-2) = 101 from by rw [ft_X3_1 hS hT_a0, ka_X3_1 hS hT_a0]), (show jI a1 (h (h a0 1) (-1)) ↔ jI a1 (h (a0 + 1) (-1)) from by rw [ft_X3_1 hS hT_a0]).mpr x0⟩⟩ (fun g1 => ?_)
  refine EQ_jgd (show h a2 (-2) = 4 from by rw [kd_X3 hS hT_a2]) ?_
  refine EQ_jg ⟨fun ⟨_, x0⟩ => (show jI a3 (h (h a2 1) (-1)) ↔ jI a3 (h (a2 + 1) (-1)) from by rw [ft_X3_1 hS hT_a2]).mp x0, fun x0 => ⟨(show h (h a2 1) (-2) = 101 from by rw [ft_X3_1 hS hT_a2, ka_X3_1 hS hT_a2]), (show jI a3 (h (h a2 1) (-1)) ↔ jI a3 (h (a2 + 1) (-1)) from by rw [ft_X3_1 hS hT_a2]).mpr x0⟩⟩ (fun g2 => ?_)
  refine EQ_if (show h (h a0 1) a1 = h (h a2 1) a3 ↔ h (a0 + 1) a1 = h (a2 + 1) a3 from by rw [ft_X3_1 hS hT_a0, ft_X3_1 hS hT_a2]) (fun c3 => ?_) (fun c3 => ?_)
  · refine EQ_jgd (show h a0 (-2) = 4 from by rw [kd_X3 hS hT_a0]) ?_
    refine EQ_jg ⟨fun ⟨_, x0⟩ => (show jI a1 (h (h a0 2) (-1)) ↔ jI a1 (h (a0 + 2) (-1)) from by rw [ft_X3_2 hS hT_a0]).mp x0, fun x0 => ⟨(show h (h a0 2) (-2) = 101 from by rw [ft_X3_2 hS hT_a0, ka_X3_2 hS hT_a0]), (show jI a1 (h (h a0 2) (-1)) ↔ jI a1 (h (a0 + 2) (-1)) from by rw [ft_X3_2 hS hT_a0]).mpr x0⟩⟩ (fun g4 => ?_)
    refine EQ_jgd (show h a2 (-2) = 4 from by rw [kd_X3 hS hT_a2]) ?_
    refine EQ_jg ⟨fun ⟨_, x0⟩ => (show jI a3 (h (h a2 2) (-1)) ↔ jI a3 (h (a2 + 2) (-1)) from by rw [ft_X3_2 hS hT_a2]).mp x0, fun x0 => ⟨(show h (h a2 2) (-2) = 101 from by rw [ft_X3_2 hS hT_a2, ka_X3_2 hS hT_a2]), (show jI a3 (h (h a2 2) (-1)) ↔ jI a3 (h (a2 + 2) (-1)) from by rw [ft_X3_2 hS hT_a2]).mpr x0⟩⟩ (fun g5 => ?_)
    refine EQ_if (show h (h a0 2) a1 = h (h a2 2) a3 ↔ h (a0 + 2) a1 = h (a2 + 2) a3 from by rw [ft_X3_2 hS hT_a0, ft_X3_2 hS hT_a2]) (fun c6 => ?_) (fun c6 => ?_)
    · refine EQ_jgd (show h a0 (-2) = 4 from by rw [kd_X3 hS hT_a0]) ?_
      refine EQ_jg ⟨fun ⟨_, x0⟩ => (show jI a1 (h (h a0 3) (-1)) ↔ jI a1 (h (a0 + 3) (-1)) from by rw [ft_X3_3 hS hT_a0]).mp x0, fun x0 => ⟨(show h (h a0 3) (-2) = 101 from by rw [ft_X3_3 hS hT_a0, ka_X3_3 hS hT_a0]), (show jI a1 (h (h a0 3) (-1)) ↔ jI a1 (h (a0 + 3) (-1)) from by rw [ft_X3_3 hS hT_a0]).mpr x0⟩⟩ (fun g7 => ?_)
      refine EQ_jgd (show h a2 (-2) = 4 from by rw [kd_X3 hS hT_a2]) ?_
      refine EQ_jg ⟨fun ⟨_, x0⟩ => (show jI a3 (h (h a2 3) (-1)) ↔ jI a3 (h (a2 + 3) (-1)) from by rw [ft_X3_3 hS hT_a2]).mp x0, fun x0 => ⟨(show h (h a2 3) (-2) = 101 from by rw [ft_X3_3 hS hT_a2, ka_X3_3 hS hT_a2]), (show jI a3 (h (h a2 3) (-1)) ↔ jI a3 (h (a2 + 3) (-1)) from by rw [ft_X3_3 hS hT_a2]).mpr x0⟩⟩ (fun g8 => ?_)
      refine EQ_if (show h (h a0 3) a1 = h (h a2 3) a3 ↔ h (a0 + 3) a1 = h (a2 + 3) a3 from by rw [ft_X3_3 hS hT_a0, ft_X3_3 hS hT_a2]) (fun c9 => ?_) (fun c9 => ?_)
      · refine EQ_jb (eX3_isLike_l50 hF a0 a1 a2 a3 0 hT_a0 hT_a2 hS) (fun o4 r10 => ?_)
        refine EQ_jm r10 (fun o6 r11 => ?_) (fun o7 r12 => ?_)
        · exact EQ_some trivial
        · exact EQ_some trivial
      · exact EQ_some trivial
    · exact EQ_some trivial
  · exact EQ_some trivial
noncomputable def gX3_isLikeD : Nat → Int → Int → Int → Int → AH → Option (Int)
  | 0 => fun _ _ _ _ _ => none
  | d + 1 => gX3_isLike_ (gX3_isLikeD d)
theorem eX3_isLikeD : ∀ (d : Nat) (a0 : Int) (a1 : Int) (a2 : Int) (a3 : Int) (hT_a0 : isX3 a0) (hT_a2 : isX3 a2) {h : AH} (hS : Sh S h) , EQ (fX3_isLikeD d a0 a1 a2 a3 h) (gX3_isLikeD d a0 a1 a2 a3 h) (fun _ => True) := by
  intro d
  induction d with
  | zero => intro a0 a1 a2 a3 hT_a0 hT_a2 h hS; exact EQ_none
  | succ d ih => intro a0 a1 a2 a3 hT_a0 hT_a2 h hS; exact eX3_isLike_ ih a0 a1 a2 a3 hT_a0 hT_a2 hS
noncomputable def gX3_isLike : Int → Int → Int → Int → AH → Option (Int) := gX3_isLikeD 40
theorem eX3_isLike (a0 : Int) (a1 : Int) (a2 : Int) (a3 : Int) (hT_a0 : isX3 a0) (hT_a2 : isX3 a2) {h : AH} (hS : Sh S h) : EQ (fX3_isLike a0 a1 a2 a3 h) (gX3_isLike a0 a1 a2 a3 h) (fun _ => True) := eX3_isLikeD 40 a0 a1 a2 a3 hT_a0 hT_a2 hS
noncomputable def gX7_join_j295 (F : Int → Int → AH → Option (Int × AH)) (a1 : Int) (a3 : Int) (a5 : Int) (h : AH) : Option (Int × AH) := jg (jI a1 (h (a3 + 3) (-1))) <| jb2 (gX3_add 357 0 a5 (h (a3 + 3) a1) 0 h) fun v28 h29 => some (v28, h29)
theorem eX7_join_j295 {F0 : Int → Int → Int → AH → Option (Int × AH)} {F : Int → Int → AH → Option (Int × AH)} (hF : ∀ (b_a1 : Int) (b_a2 : Int), ∀ {b_h : AH}, Sh S b_h → EQ (F0 356 b_a1 b_a2 b_h) (F b_a1 b_a2 b_h) (fun r => Sh S r.2)) (a1 : Int) (a3 : Int) (a5 : Int) (hT_a3 : isX3 a3) {h : AH} (hS : Sh S h) : EQ (fX7_join_j295 F0 356 a1 a3 a5 h) (gX7_join_j295 F a1 a3 a5 h) (fun r => Sh S r.2) := by
  unfold fX7_join_j295 gX7_join_j295
  refine EQ_jgd (show h 356 (-2) = 8 from by rw [k_356 hS]) ?_
  refine EQ_jgd (show h a3 (-2) = 4 from by rw [kd_X3 hS hT_a3]) ?_
  refine EQ_jg ⟨fun ⟨_, x0⟩ => (show jI a1 (h (h a3 3) (-1)) ↔ jI a1 (h (a3 + 3) (-1)) from by rw [ft_X3_3 hS hT_a3]).mp x0, fun x0 => ⟨(show h (h a3 3) (-2) = 101 from by rw [ft_X3_3 hS hT_a3, ka_X3_3 hS hT_a3]), (show jI a1 (h (h a3 3) (-1)) ↔ jI a1 (h (a3 + 3) (-1)) from by rw [ft_X3_3 hS hT_a3]).mpr x0⟩⟩ (fun g1 => ?_)
  refine EQ_jgd (show h (h 356 0) (-2) = 4 from by rw [r_356_0 hS, k_357 hS]) ?_
  refine EQ_jb2 (by rw [r_356_0 hS, ft_X3_3 hS hT_a3]; exact eX3_add 357 0 a5 (h (a3 + 3) a1) 0 (by unfold isX3; decide) hS) (fun v28 h29 r2 => ?_)
  replace r2 : Sh S h29 := r2
  exact EQ_some r2
noncomputable def gX7_join_j234 (F : Int → Int → AH → Option (Int × AH)) (a1 : Int) (a2 : Int) (a3 : Int) (a5 : Int) (h : AH) : Option (Int × AH) := if a5 = 2 then (jl (jst h 356 11 0) fun h21 => some (0, h21)) else (if a5 = h 356 5 then (jg (jI a5 3) <| jl (jst h 373 a5 a1) fun h23 => jl (jst h23 374 a5 a2) fun h24 => jg (jI a1 (h24 (a3 + 3) (-1))) <| jl (jst h24 375 a5 (h24 (a3 + 3) a1)) fun h25 => jl (jst h25 356 5 (w32 (h25 356 5 + 1))) fun h26 => gX7_join_j295 F a1 a3 a5 h26) else (gX7_join_j295 F a1 a3 a5 h))
theorem eX7_join_j234 {F0 : Int → Int → Int → AH → Option (Int × AH)} {F : Int → Int → AH → Option (Int × AH)} (hF : ∀ (b_a1 : Int) (b_a2 : Int), ∀ {b_h : AH}, Sh S b_h → EQ (F0 356 b_a1 b_a2 b_h) (F b_a1 b_a2 b_h) (fun r => Sh S r.2)) (a1 : Int) (a2 : Int) (a3 : Int) (a5 : Int) (hT_a3 : isX3 a3) {h : AH} (hS : Sh S h) : EQ (fX7_join_j234 F0 356 a1 a2 a3 a5 h) (gX7_join_j234 F a1 a2 a3 a5 h) (fun r => Sh S r.2) := by
  unfold fX7_join_j234 gX7_join_j234
  refine EQ_if Iff.rfl (fun c1 => ?_) (fun c1 => ?_)
  · refine EQ_jgd ⟨(show h 356 (-2) = 8 from by rw [k_356 hS]), (show (200 : Int) ≤ 356 from (by decide)), (show jZ 0 from by unfold jZ; decide)⟩ ?_
    refine EQ_jl rfl (fun h21 eh21 => ?_)
    have s2 := Sh_of eh21 (Sh_sto hS (a := 356) (i := 11) (by decide +kernel))
    clear eh21
    exact EQ_some s2
  · refine EQ_jgd (show h 356 (-2) = 8 from by rw [k_356 hS]) ?_
    refine EQ_if Iff.rfl (fun c3 => ?_) (fun c3 => ?_)
    · refine EQ_jgd (show h 356 (-2) = 8 from by rw [k_356 hS]) ?_
      refine EQ_jg ⟨fun ⟨_, _, x0⟩ => (show jI a5 (h (h 356 6) (-1)) ↔ jI a5 3 from by rw [r_356_6 hS, l_373 hS]).mp x0, fun x0 => ⟨(show h (h 356 6) (-2) = 101 from by rw [r_356_6 hS, k_373 hS]), (show 200 ≤ h 356 6 from by rw [r_356_6 hS]; exact (by decide)), (show jI a5 (h (h 356 6) (-1)) ↔ jI a5 3 from by rw [r_356_6 hS, l_373 hS]).mpr x0⟩⟩ (fun g4 => ?_)
      refine EQ_jl (by rw [r_356_6 hS]) (fun h23 eh23 => ?_)
      have s5 := Sh_of eh23 (Sh_sta hS (by decide +kernel) (jI_nn g4) (fun e => absurd ((k_373 hS).symm.trans e) (by decide)))
      clear eh23
      refine EQ_jgd (show h23 356 (-2) = 8 from by rw [k_356 s5]) ?_
      refine EQ_jgd ⟨(show h23 (h23 356 7) (-2) = 101 from by rw [r_356_7 s5, k_374 s5]), (show 200 ≤ h23 356 7 from by rw [r_356_7 s5]; exact (by decide)), ((show jI a5 (h23 (h23 356 7) (-1)) ↔ jI a5 3 from by rw [r_356_7 s5, l_374 s5]).mpr g4)⟩ ?_
      refine EQ_jl (by rw [r_356_7 s5]) (fun h24 eh24 => ?_)
      have s6 := Sh_of eh24 (Sh_sta s5 (by decide +kernel) (jI_nn g4) (fun e => absurd ((k_374 s5).symm.trans e) (by decide)))
      clear eh24
      refine EQ_jgd (show h24 356 (-2) = 8 from by rw [k_356 s6]) ?_
      refine EQ_jgd (show h24 a3 (-2) = 4 from by rw [kd_X3 s6 hT_a3]) ?_
      refine EQ_jg ⟨fun ⟨_, x0⟩ => (show jI a1 (h24 (h24 a3 3) (-1)) ↔ jI a1 (h24 (a3 + 3) (-1)) from by rw [ft_X3_3 s6 hT_a3]).mp x0, fun x0 => ⟨(show h24 (h24 a3 3) (-2) = 101 from by rw [ft_X3_3 s6 hT_a3, ka_X3_3 s6 hT_a3]), (show jI a1 (h24 (h24 a3 3) (-1)) ↔ jI a1 (h24 (a3 + 3) (-1)) from by rw [ft_X3_3 s6 hT_a3]).mpr x0⟩⟩ (fun g7 => ?_)
      refine EQ_jgd ⟨(show h24 (h24 356 8) (-2) = 101 from by rw [r_356_8 s6, k_375 s6]), (show 200 ≤ h24 356 8 from by rw [r_356_8 s6]; exact (by decide)), ((show jI a5 (h24 (h24 356 8) (-1)) ↔ jI a5 3 from by rw [r_356_8 s6, l_375 s6]).mpr g4)⟩ ?_
      refine EQ_jl (by rw [r_356_8 s6, ft_X3_3 s6 hT_a3]) (fun h25 eh25 => ?_)
      have s8 := Sh_of eh25 (Sh_sta s6 (by decide +kernel) (jI_nn g4) (fun e => absurd ((k_375 s6).symm.trans e) (by decide)))
      clear eh25
      refine EQ_jgd (show h25 356 (-2) = 8 from by rw [k_356 s8]) ?_
      refine EQ_jgd ⟨(show h25 356 (-2) = 8 from by rw [k_356 s8]), (show (200 : Int) ≤ 356 from (by decide))⟩ ?_
      refine EQ_jl rfl (fun h26 eh26 => ?_)
      have s9 := Sh_of eh26 (Sh_sto s8 (a := 356) (i := 5) (by decide +kernel))
      clear eh26
      exact (eX7_join_j295 hF a1 a3 a5 hT_a3 s9)
    · exact (eX7_join_j295 hF a1 a3 a5 hT_a3 hS)
noncomputable def gX7_join_j228_187 (F : Int → Int → AH → Option (Int × AH)) (a1 : Int) (a2 : Int) (a3 : Int) (a5 : Int) (h : AH) : Option ((Int) ⊕ (Int)) := jl (w32 (a5 + 1)) fun x37 => some (.inl x37)
theorem eX7_join_j228_187 {F0 : Int → Int → Int → AH → Option (Int × AH)} {F : Int → Int → AH → Option (Int × AH)} (hF : ∀ (b_a1 : Int) (b_a2 : Int), ∀ {b_h : AH}, Sh S b_h → EQ (F0 356 b_a1 b_a2 b_h) (F b_a1 b_a2 b_h) (fun r => Sh S r.2)) (a1 : Int) (a2 : Int) (a3 : Int) (a5 : Int) (hT_a3 : isX3 a3) {h : AH} (hS : Sh S h) : EQ (fX7_join_j228_187 F0 356 a1 a2 a3 a5 h) (gX7_join_j228_187 F a1 a2 a3 a5 h) (Sum.elim (fun _ => True) (fun _ => True)) := by
  unfold fX7_join_j228_187 gX7_join_j228_187
  refine EQ_jl rfl (fun x37 ex37 => ?_)
  clear ex37
  exact EQ_some trivial
noncomputable def gX7_join_b187 (F : Int → Int → AH → Option (Int × AH)) (i1 : Int) (i2 : Int) (i3 : Int) (h : AH) (a5 : Int) : Option ((Int) ⊕ (Int)) := if h 356 5 ≤ a5 then (some (.inr a5)) else (jg (jI a5 3) <| jb (gX3_isLike i3 (h 373 a5) i3 i1 h) fun v32 => if v32 = 0 then (gX7_join_j228_187 F i1 i2 i3 a5 h) else (jb (gX3_isLike i3 (h 374 a5) i3 i2 h) fun v35 => if v35 = 0 then (gX7_join_j228_187 F i1 i2 i3 a5 h) else (some (.inr a5))))
theorem eX7_join_b187 {F0 : Int → Int → Int → AH → Option (Int × AH)} {F : Int → Int → AH → Option (Int × AH)} (hF : ∀ (b_a1 : Int) (b_a2 : Int), ∀ {b_h : AH}, Sh S b_h → EQ (F0 356 b_a1 b_a2 b_h) (F b_a1 b_a2 b_h) (fun r => Sh S r.2)) (i1 : Int) (i2 : Int) (i3 : Int) (a5 : Int) (hT_i3 : isX3 i3) {h : AH} (hS : Sh S h) : EQ (fX7_join_b187 F0 356 i1 i2 i3 h a5) (gX7_join_b187 F i1 i2 i3 h a5) (Sum.elim (fun _ => True) (fun _ => True)) := by
  unfold fX7_join_b187 gX7_join_b187
  refine EQ_jgd (show h 356 (-2) = 8 from by rw [k_356 hS]) ?_
  refine EQ_if Iff.rfl (fun c1 => ?_) (fun c1 => ?_)
  · exact EQ_some trivial
  · refine EQ_jgd (show h 356 (-2) = 8 from by rw [k_356 hS]) ?_
    refine EQ_jg ⟨fun ⟨_, x0⟩ => (show jI a5 (h (h 356 6) (-1)) ↔ jI a5 3 from by rw [r_356_6 hS, l_373 hS]).mp x0, fun x0 => ⟨(show h (h 356 6) (-2) = 101 from by rw [r_356_6 hS, k_373 hS]), (show jI a5 (h (h 356 6) (-1)) ↔ jI a5 3 from by rw [r_356_6 hS, l_373 hS]).mpr x0⟩⟩ (fun g2 => ?_)
    refine EQ_jgd (show h i3 (-2) = 4 from by rw [kd_X3 hS hT_i3]) ?_
    refine EQ_jb (by rw [r_356_6 hS]; exact eX3_isLike i3 (h 373 a5) i3 i1 hT_i3 hT_i3 hS) (fun v32 r3 => ?_)
    refine EQ_if Iff.rfl (fun c4 => ?_) (fun c4 => ?_)
    · exact (eX7_join_j228_187 hF i1 i2 i3 a5 hT_i3 hS)
    · refine EQ_jgd (show h 356 (-2) = 8 from by rw [k_356 hS]) ?_
      refine EQ_jgd ⟨(show h (h 356 7) (-2) = 101 from by rw [r_356_7 hS, k_374 hS]), ((show jI a5 (h (h 356 7) (-1)) ↔ jI a5 3 from by rw [r_356_7 hS, l_374 hS]).mpr g2)⟩ ?_
      refine EQ_jgd (show h i3 (-2) = 4 from by rw [kd_X3 hS hT_i3]) ?_
      refine EQ_jb (by rw [r_356_7 hS]; exact eX3_isLike i3 (h 374 a5) i3 i2 hT_i3 hT_i3 hS) (fun v35 r5 => ?_)
      refine EQ_if Iff.rfl (fun c6 => ?_) (fun c6 => ?_)
      · exact (eX7_join_j228_187 hF i1 i2 i3 a5 hT_i3 hS)
      · exact EQ_some trivial
noncomputable def gX7_join_l187 (F : Int → Int → AH → Option (Int × AH)) (i1 : Int) (i2 : Int) (i3 : Int) (a5 : Int) (h : AH) : Option (Int) := jit (gX7_join_b187 F i1 i2 i3 h) a5
theorem eX7_join_l187 {F0 : Int → Int → Int → AH → Option (Int × AH)} {F : Int → Int → AH → Option (Int × AH)} (hF : ∀ (b_a1 : Int) (b_a2 : Int), ∀ {b_h : AH}, Sh S b_h → EQ (F0 356 b_a1 b_a2 b_h) (F b_a1 b_a2 b_h) (fun r => Sh S r.2)) (i1 : Int) (i2 : Int) (i3 : Int) (a5 : Int) (hT_i3 : isX3 i3) {h : AH} (hS : Sh S h) : EQ (fX7_join_l187 F0 356 i1 i2 i3 a5 h) (gX7_join_l187 F i1 i2 i3 a5 h) (fun _ => True) := EQ_jit (I := (fun _ => True)) (fun s _ => eX7_join_b187 hF i1 i2 i3 s hT_i3 hS) trivial
noncomputable def gX7_join_j155 (F : Int → Int → AH → Option (Int × AH)) (a1 : Int) (a2 : Int) (a3 : Int) (t0 : Int) (h : AH) : Option (Int × AH) := if t0 = 0 then (jb (gX7_join_l187 F a1 a2 a3 0 h) fun o15 => gX7_join_j234 F a1 a2 a3 o15 h) else (jg (jI a1 (h (a3 + 2) (-1))) <| jg (jI a1 (h (a3 + 3) (-1))) <| jb2 (gX3_add 357 1 (h (a3 + 2) a1) (h (a3 + 3) a1) 0 h) fun v18 h19 => some (v18, h19))
theorem eX7_join_j155 {F0 : Int → Int → Int → AH → Option (Int × AH)} {F : Int → Int → AH → Option (Int × AH)} (hF : ∀ (b_a1 : Int) (b_a2 : Int), ∀ {b_h : AH}, Sh S b_h → EQ (F0 356 b_a1 b_a2 b_h) (F b_a1 b_a2 b_h) (fun r => Sh S r.2)) (a1 : Int) (a2 : Int) (a3 : Int) (t0 : Int) (hT_a3 : isX3 a3) {h : AH} (hS : Sh S h) : EQ (fX7_join_j155 F0 356 a1 a2 a3 t0 h) (gX7_join_j155 F a1 a2 a3 t0 h) (fun r => Sh S r.2) := by
  unfold fX7_join_j155 gX7_join_j155
  refine EQ_if Iff.rfl (fun c1 => ?_) (fun c1 => ?_)
  · refine EQ_jb (eX7_join_l187 hF a1 a2 a3 0 hT_a3 hS) (fun o15 r2 => ?_)
    exact (eX7_join_j234 hF a1 a2 a3 o15 hT_a3 hS)
  · refine EQ_jgd (show h 356 (-2) = 8 from by rw [k_356 hS]) ?_
    refine EQ_jgd (show h a3 (-2) = 4 from by rw [kd_X3 hS hT_a3]) ?_
    refine EQ_jg ⟨fun ⟨_, x0⟩ => (show jI a1 (h (h a3 2) (-1)) ↔ jI a1 (h (a3 + 2) (-1)) from by rw [ft_X3_2 hS hT_a3]).mp x0, fun x0 => ⟨(show h (h a3 2) (-2) = 101 from by rw [ft_X3_2 hS hT_a3, ka_X3_2 hS hT_a3]), (show jI a1 (h (h a3 2) (-1)) ↔ jI a1 (h (a3 + 2) (-1)) from by rw [ft_X3_2 hS hT_a3]).mpr x0⟩⟩ (fun g3 => ?_)
    refine EQ_jgd (show h a3 (-2) = 4 from by rw [kd_X3 hS hT_a3]) ?_
    refine EQ_jg ⟨fun ⟨_, x0⟩ => (show jI a1 (h (h a3 3) (-1)) ↔ jI a1 (h (a3 + 3) (-1)) from by rw [ft_X3_3 hS hT_a3]).mp x0, fun x0 => ⟨(show h (h a3 3) (-2) = 101 from by rw [ft_X3_3 hS hT_a3, ka_X3_3 hS hT_a3]), (show jI a1 (h (h a3 3) (-1)) ↔ jI a1 (h (a3 + 3) (-1)) from by rw [ft_X3_3 hS hT_a3]).mpr x0⟩⟩ (fun g4 => ?_)
    refine EQ_jgd (show h (h 356 0) (-2) = 4 from by rw [r_356_0 hS, k_357 hS]) ?_
    refine EQ_jb2 (by rw [r_356_0 hS, ft_X3_2 hS hT_a3, ft_X3_3 hS hT_a3]; exact eX3_add 357 1 (h (a3 + 2) a1) (h (a3 + 3) a1) 0 (by unfold isX3; decide) hS) (fun v18 h19 r5 => ?_)
    replace r5 : Sh S h19 := r5
    exact EQ_some r5
noncomputable def gX7_join_j130 (F : Int → Int → AH → Option (Int × AH)) (a1 : Int) (a2 : Int) (a3 : Int) (h : AH) : Option (Int × AH) := jg (jI a1 (h (a3 + 1) (-1))) <| if h (a3 + 1) a1 = 1 then (jb (gX3_isLike a3 a1 a3 a2 h) fun v12 => if v12 = 0 then (gX7_join_j155 F a1 a2 a3 0 h) else (gX7_join_j155 F a1 a2 a3 1 h)) else (gX7_join_j155 F a1 a2 a3 0 h)
theorem eX7_join_j130 {F0 : Int → Int → Int → AH → Option (Int × AH)} {F : Int → Int → AH → Option (Int × AH)} (hF : ∀ (b_a1 : Int) (b_a2 : Int), ∀ {b_h : AH}, Sh S b_h → EQ (F0 356 b_a1 b_a2 b_h) (F b_a1 b_a2 b_h) (fun r => Sh S r.2)) (a1 : Int) (a2 : Int) (a3 : Int) (hT_a3 : isX3 a3) {h : AH} (hS : Sh S h) : EQ (fX7_join_j130 F0 356 a1 a2 a3 h) (gX7_join_j130 F a1 a2 a3 h) (fun r => Sh S r.2) := by
  unfold fX7_join_j130 gX7_join_j130
  refine EQ_jgd (show h a3 (-2) = 4 from by rw [kd_X3 hS hT_a3]) ?_
  refine EQ_jg ⟨fun ⟨_, x0⟩ => (show jI a1 (h (h a3 1) (-1)) ↔ jI a1 (h (a3 + 1) (-1)) from by rw [ft_X3_1 hS hT_a3]).mp x0, fun x0 => ⟨(show h (h a3 1) (-2) = 101 from by rw [ft_X3_1 hS hT_a3, ka_X3_1 hS hT_a3]), (show jI a1 (h (h a3 1) (-1)) ↔ jI a1 (h (a3 + 1) (-1)) from by rw [ft_X3_1 hS hT_a3]).mpr x0⟩⟩ (fun g1 => ?_)
  refine EQ_if (show h (h a3 1) a1 = 1 ↔ h (a3 + 1) a1 = 1 from by rw [ft_X3_1 hS hT_a3]) (fun c2 => ?_) (fun c2 => ?_)
  · refine EQ_jgd (show h a3 (-2) = 4 from by rw [kd_X3 hS hT_a3]) ?_
    refine EQ_jb (eX3_isLike a3 a1 a3 a2 hT_a3 hT_a3 hS) (fun v12 r3 => ?_)
    refine EQ_if Iff.rfl (fun c4 => ?_) (fun c4 => ?_)
    · exact (eX7_join_j155 hF a1 a2 a3 0 hT_a3 hS)
    · exact (eX7_join_j155 hF a1 a2 a3 1 hT_a3 hS)
  · exact (eX7_join_j155 hF a1 a2 a3 0 hT_a3 hS)
noncomputable def gX7_join_j121_69 (F : Int → Int → AH → Option (Int × AH)) (a1 : Int) (a2 : Int) (a3 : Int) (a4 : Int) (a5 : Int) (h : AH) : Option ((Int × AH) ⊕ (AH)) := jl (w32 (a5 + 1)) fun x52 => some (.inl (x52, h))
theorem eX7_join_j121_69 {F0 : Int → Int → Int → AH → Option (Int × AH)} {F : Int → Int → AH → Option (Int × AH)} (hF : ∀ (b_a1 : Int) (b_a2 : Int), ∀ {b_h : AH}, Sh S b_h → EQ (F0 356 b_a1 b_a2 b_h) (F b_a1 b_a2 b_h) (fun r => Sh S r.2)) (a1 : Int) (a2 : Int) (a3 : Int) (a4 : Int) (a5 : Int) (hT_a3 : isX3 a3) {h : AH} (hS : Sh S h) : EQ (fX7_join_j121_69 F0 356 a1 a2 a3 a4 a5 h) (gX7_join_j121_69 F a1 a2 a3 a4 a5 h) (Sum.elim (fun r => Sh S r.2) (fun r => Sh S r)) := by
  unfold fX7_join_j121_69 gX7_join_j121_69
  refine EQ_jl rfl (fun x52 ex52 => ?_)
  clear ex52
  exact EQ_some hS
noncomputable def gX7_join_b69 (F : Int → Int → AH → Option (Int × AH)) (i1 : Int) (i2 : Int) (i3 : Int) (i4 : Int) (s : Int × AH) : Option ((Int × AH) ⊕ (AH)) := jt2 s fun a5 h => if 3 ≤ a5 then (some (.inr h)) else (jb (gX3_part i3 i1 a5 h) fun v40 => if v40 < 0 then (gX7_join_j121_69 F i1 i2 i3 i4 a5 h) else (if h 356 11 = 0 then (gX7_join_j121_69 F i1 i2 i3 i4 a5 h) else (jb (gX3_part i3 i1 a5 h) fun v44 => jb (gX3_part i3 i2 a5 h) fun v46 => jb2 (F v44 v46 h) fun v48 h49 => jb (gX3_join 357 i4 a5 v48 h49) fun h51 => gX7_join_j121_69 F i1 i2 i3 i4 a5 h51)))
theorem eX7_join_b69 {F0 : Int → Int → Int → AH → Option (Int × AH)} {F : Int → Int → AH → Option (Int × AH)} (hF : ∀ (b_a1 : Int) (b_a2 : Int), ∀ {b_h : AH}, Sh S b_h → EQ (F0 356 b_a1 b_a2 b_h) (F b_a1 b_a2 b_h) (fun r => Sh S r.2)) (i1 : Int) (i2 : Int) (i3 : Int) (i4 : Int) (hT_i3 : isX3 i3) {s : Int × AH} (hS : (fun r => Sh S r.2) s) : EQ (fX7_join_b69 F0 356 i1 i2 i3 i4 s) (gX7_join_b69 F i1 i2 i3 i4 s) (Sum.elim (fun r => Sh S r.2) (fun r => Sh S r)) := by
  unfold fX7_join_b69 gX7_join_b69
  obtain ⟨a5, h⟩ := s
  refine EQ_jt2 ?_
  replace hS : Sh S h := hS
  refine EQ_if Iff.rfl (fun c1 => ?_) (fun c1 => ?_)
  · exact EQ_some hS
  · refine EQ_jgd (show h i3 (-2) = 4 from by rw [kd_X3 hS hT_i3]) ?_
    refine EQ_jb (eX3_part i3 i1 a5 hT_i3 hS) (fun v40 r2 => ?_)
    refine EQ_if Iff.rfl (fun c3 => ?_) (fun c3 => ?_)
    · exact (eX7_join_j121_69 hF i1 i2 i3 i4 a5 hT_i3 hS)
    · refine EQ_jgd (show h 356 (-2) = 8 from by rw [k_356 hS]) ?_
      refine EQ_if Iff.rfl (fun c4 => ?_) (fun c4 => ?_)
      · exact (eX7_join_j121_69 hF i1 i2 i3 i4 a5 hT_i3 hS)
      · refine EQ_jgd (show h 356 (-2) = 8 from by rw [k_356 hS]) ?_
        refine EQ_jgd (show h i3 (-2) = 4 from by rw [kd_X3 hS hT_i3]) ?_
        refine EQ_jb (eX3_part i3 i1 a5 hT_i3 hS) (fun v44 r5 => ?_)
        refine EQ_jgd (show h i3 (-2) = 4 from by rw [kd_X3 hS hT_i3]) ?_
        refine EQ_jb (eX3_part i3 i2 a5 hT_i3 hS) (fun v46 r6 => ?_)
        refine EQ_jgd (show h 356 (-2) = 8 from by rw [k_356 hS]) ?_
        refine EQ_jb2 (hF v44 v46 hS) (fun v48 h49 r7 => ?_)
        replace r7 : Sh S h49 := r7
        refine EQ_jgd (show h49 (h 356 0) (-2) = 4 from by rw [r_356_0 hS, k_357 r7]) ?_
        refine EQ_jb (by rw [r_356_0 hS]; exact eX3_join 357 i4 a5 v48 (by unfold isX3; decide) r7) (fun h51 r8 => ?_)
        exact (eX7_join_j121_69 hF i1 i2 i3 i4 a5 hT_i3 r8)
noncomputable def gX7_join_l69 (F : Int → Int → AH → Option (Int × AH)) (i1 : Int) (i2 : Int) (i3 : Int) (i4 : Int) (a5 : Int) (h : AH) : Option (AH) := jit (gX7_join_b69 F i1 i2 i3 i4) (a5, h)
theorem eX7_join_l69 {F0 : Int → Int → Int → AH → Option (Int × AH)} {F : Int → Int → AH → Option (Int × AH)} (hF : ∀ (b_a1 : Int) (b_a2 : Int), ∀ {b_h : AH}, Sh S b_h → EQ (F0 356 b_a1 b_a2 b_h) (F b_a1 b_a2 b_h) (fun r => Sh S r.2)) (i1 : Int) (i2 : Int) (i3 : Int) (i4 : Int) (a5 : Int) (hT_i3 : isX3 i3) {h : AH} (hS : Sh S h) : EQ (fX7_join_l69 F0 356 i1 i2 i3 i4 a5 h) (gX7_join_l69 F i1 i2 i3 i4 a5 h) (fun r => Sh S r) := EQ_jit (I := (fun r => Sh S r.2)) (fun s hs => eX7_join_b69 hF i1 i2 i3 i4 hT_i3 hs) hS
noncomputable def gX7_join_ (F : Int → Int → AH → Option (Int × AH)) (a1 : Int) (a2 : Int) (h : AH) : Option (Int × AH) := jl (h 200 32) fun x1 => jg (jI a1 (h (x1 + 1) (-1))) <| if h (x1 + 1) a1 = 2 then (jg (jI a2 (h (x1 + 1) (-1))) <| if h (x1 + 1) a2 = 2 then (jg (jI a1 (h (x1 + 2) (-1))) <| jg (jI a2 (h (x1 + 2) (-1))) <| if h (x1 + 2) a1 = h (x1 + 2) a2 then (jg (jI a1 (h (x1 + 3) (-1))) <| jb2 (gX3_add 357 2 (h (x1 + 2) a1) (h (x1 + 3) a1) 0 h) fun v6 h7 => jb (gX7_join_l69 F a1 a2 x1 v6 0 h7) fun o8 => some (v6, o8)) else (gX7_join_j130 F a1 a2 x1 h)) else (gX7_join_j130 F a1 a2 x1 h)) else (gX7_join_j130 F a1 a2 x1 h)
theorem eX7_join_ {F0 : Int → Int → Int → AH → Option (Int × AH)} {F : Int → Int → AH → Option (Int × AH)} (hF : ∀ (b_a1 : Int) (b_a2 : Int), ∀ {b_h : AH}, Sh S b_h → EQ (F0 356 b_a1 b_a2 b_h) (F b_a1 b_a2 b_h) (fun r => Sh S r.2)) (a1 : Int) (a2 : Int) {h : AH} (hS : Sh S h) : EQ (fX7_join_ F0 356 a1 a2 h) (gX7_join_ F a1 a2 h) (fun r => Sh S r.2) := by
  unfold fX7_join_ gX7_join_
  refine EQ_jgd (show h 356 (-2) = 8 from by rw [k_356 hS]) ?_
  refine EQ_jgd (show h (h 356 13) (-2) = 2 from by rw [r_356_13 hS, k_200 hS]) ?_
  refine EQ_jl (by rw [r_356_13 hS]) (fun x1 ex1 => ?_)
  refine EQ_jgd (show h x1 (-2) = 4 from by rw [kd_X3 hS (isof_X3 ex1 (dy_200_32 hS))]) ?_
  refine EQ_jg ⟨fun ⟨_, x0⟩ => (show jI a1 (h (h x1 1) (-1)) ↔ jI a1 (h (x1 + 1) (-1)) from by rw [ft_X3_1 hS (isof_X3 ex1 (dy_200_32 hS))]).mp x0, fun x0 => ⟨(show h (h x1 1) (-2) = 101 from by rw [ft_X3_1 hS (isof_X3 ex1 (dy_200_32 hS)), ka_X3_1 hS (isof_X3 ex1 (dy_200_32 hS))]), (show jI a1 (h (h x1 1) (-1)) ↔ jI a1 (h (x1 + 1) (-1)) from by rw [ft_X3_1 hS (isof_X3 ex1 (dy_200_32 hS))]).mpr x0⟩⟩ (fun g1 => ?_)
  refine EQ_if (show h (h x1 1) a1 = 2 ↔ h (x1 + 1) a1 = 2 from by rw [ft_X3_1 hS (isof_X3 ex1 (dy_200_32 hS))]) (fun c2 => ?_) (fun c2 => ?_)
  · refine EQ_jgd (show h x1 (-2) = 4 from by rw [kd_X3 hS (isof_X3 ex1 (dy_200_32 hS))]) ?_
    refine EQ_jg ⟨fun ⟨_, x0⟩ => (show jI a2 (h (h x1 1) (-1)) ↔ jI a2 (h (x1 + 1) (-1)) from by rw [ft_X3_1 hS (isof_X3 ex1 (dy_200_32 hS))]).mp x0, fun x0 => ⟨(show h (h x1 1) (-2) = 101 from by rw [ft_X3_1 hS (isof_X3 ex1 (dy_200_32 hS)), ka_X3_1 hS (isof_X3 ex1 (dy_200_32 hS))]), (show jI a2 (h (h x1 1) (-1)) ↔ jI a2 (h (x1 + 1) (-1)) from by rw [ft_X3_1 hS (isof_X3 ex1 (dy_200_32 hS))]).mpr x0⟩⟩ (fun g3 => ?_)
    refine EQ_if (show h (h x1 1) a2 = 2 ↔ h (x1 + 1) a2 = 2 from by rw [ft_X3_1 hS (isof_X3 ex1 (dy_200_32 hS))]) (fun c4 => ?_) (fun c4 => ?_)
    · refine EQ_jgd (show h x1 (-2) = 4 from by rw [kd_X3 hS (isof_X3 ex1 (dy_200_32 hS))]) ?_
      refine EQ_jg ⟨fun ⟨_, x0⟩ => (show jI a1 (h (h x1 2) (-1)) ↔ jI a1 (h (x1 + 2) (-1)) from by rw [ft_X3_2 hS (isof_X3 ex1 (dy_200_32 hS))]).mp x0, fun x0 => ⟨(show h (h x1 2) (-2) = 101 from by rw [ft_X3_2 hS (isof_X3 ex1 (dy_200_32 hS)), ka_X3_2 hS (isof_X3 ex1 (dy_200_32 hS))]), (show jI a1 (h (h x1 2) (-1)) ↔ jI a1 (h (x1 + 2) (-1)) from by rw [ft_X3_2 hS (isof_X3 ex1 (dy_200_32 hS))]).mpr x0⟩⟩ (fun g5 => ?_)
      refine EQ_jgd (show h x1 (-2) = 4 from by rw [kd_X3 hS (isof_X3 ex1 (dy_200_32 hS))]) ?_
      refine EQ_jg ⟨fun ⟨_, x0⟩ => (show jI a2 (h (h x1 2) (-1)) ↔ jI a2 (h (x1 + 2) (-1)) from by rw [ft_X3_2 hS (isof_X3 ex1 (dy_200_32 hS))]).mp x0, fun x0 => ⟨(show h (h x1 2) (-2) = 101 from by rw [ft_X3_2 hS (isof_X3 ex1 (dy_200_32 hS)), ka_X3_2 hS (isof_X3 ex1 (dy_200_32 hS))]), (show jI a2 (h (h x1 2) (-1)) ↔ jI a2 (h (x1 + 2) (-1)) from by rw [ft_X3_2 hS (isof_X3 ex1 (dy_200_32 hS))]).mpr x0⟩⟩ (fun g6 => ?_)
      refine EQ_if (show h (h x1 2) a1 = h (h x1 2) a2 ↔ h (x1 + 2) a1 = h (x1 + 2) a2 from by rw [ft_X3_2 hS (isof_X3 ex1 (dy_200_32 hS))]) (fun c7 => ?_) (fun c7 => ?_)
      · refine EQ_jgd (show h 356 (-2) = 8 from by rw [k_356 hS]) ?_
        refine EQ_jgd (show h x1 (-2) = 4 from by rw [kd_X3 hS (isof_X3 ex1 (dy_200_32 hS))]) ?_
        refine EQ_jgd ⟨(show h (h x1 2) (-2) = 101 from by rw [ft_X3_2 hS (isof_X3 ex1 (dy_200_32 hS)), ka_X3_2 hS (isof_X3 ex1 (dy_200_32 hS))]), ((show jI a1 (h (h x1 2) (-1)) ↔ jI a1 (h (x1 + 2) (-1)) from by rw [ft_X3_2 hS (isof_X3 ex1 (dy_200_32 hS))]).mpr g5)⟩ ?_
        refine EQ_jgd (show h x1 (-2) = 4 from by rw [kd_X3 hS (isof_X3 ex1 (dy_200_32 hS))]) ?_
        refine EQ_jg ⟨fun ⟨_, x0⟩ => (show jI a1 (h (h x1 3) (-1)) ↔ jI a1 (h (x1 + 3) (-1)) from by rw [ft_X3_3 hS (isof_X3 ex1 (dy_200_32 hS))]).mp x0, fun x0 => ⟨(show h (h x1 3) (-2) = 101 from by rw [ft_X3_3 hS (isof_X3 ex1 (dy_200_32 hS)), ka_X3_3 hS (isof_X3 ex1 (dy_200_32 hS))]), (show jI a1 (h (h x1 3) (-1)) ↔ jI a1 (h (x1 + 3) (-1)) from by rw [ft_X3_3 hS (isof_X3 ex1 (dy_200_32 hS))]).mpr x0⟩⟩ (fun g8 => ?_)
        refine EQ_jgd (show h (h 356 0) (-2) = 4 from by rw [r_356_0 hS, k_357 hS]) ?_
        refine EQ_jb2 (by rw [r_356_0 hS, ft_X3_2 hS (isof_X3 ex1 (dy_200_32 hS)), ft_X3_3 hS (isof_X3 ex1 (dy_200_32 hS))]; exact eX3_add 357 2 (h (x1 + 2) a1) (h (x1 + 3) a1) 0 (by unfold isX3; decide) hS) (fun v6 h7 r9 => ?_)
        replace r9 : Sh S h7 := r9
        refine EQ_jb (eX7_join_l69 hF a1 a2 x1 v6 0 (isof_X3 ex1 (dy_200_32 hS)) r9) (fun o8 r10 => ?_)
        exact EQ_some r10
      · exact (eX7_join_j130 hF a1 a2 x1 (isof_X3 ex1 (dy_200_32 hS)) hS)
    · exact (eX7_join_j130 hF a1 a2 x1 (isof_X3 ex1 (dy_200_32 hS)) hS)
  · exact (eX7_join_j130 hF a1 a2 x1 (isof_X3 ex1 (dy_200_32 hS)) hS)
noncomputable def gX7_joinD : Nat → Int → Int → AH → Option (Int × AH)
  | 0 => fun _ _ _ => none
  | d + 1 => gX7_join_ (gX7_joinD d)
theorem eX7_joinD : ∀ (d : Nat) (a1 : Int) (a2 : Int) {h : AH} (hS : Sh S h) , EQ (fX7_joinD d 356 a1 a2 h) (gX7_joinD d a1 a2 h) (fun r => Sh S r.2) := by
  intro d
  induction d with
  | zero => intro a1 a2 h hS; exact EQ_none
  | succ d ih => intro a1 a2 h hS; exact eX7_join_ ih a1 a2 hS
noncomputable def gX7_join : Int → Int → AH → Option (Int × AH) := gX7_joinD 40
theorem eX7_join (a1 : Int) (a2 : Int) {h : AH} (hS : Sh S h) : EQ (fX7_join 356 a1 a2 h) (gX7_join a1 a2 h) (fun r => Sh S r.2) := eX7_joinD 40 a1 a2 hS
noncomputable def gX7_isBare_j76_4 (a1 : Int) (a2 : Int) (a3 : Int) (h : AH) : Option ((Int × Int) ⊕ ((Unit) ⊕ (Unit))) := jl (w32 (a3 + 1)) fun x12 => some (.inl (a2, x12))
theorem eX7_isBare_j76_4 (a1 : Int) (a2 : Int) (a3 : Int) {h : AH} (hS : Sh S h) : EQ (fX7_isBare_j76_4 356 a1 a2 a3 h) (gX7_isBare_j76_4 a1 a2 a3 h) (Sum.elim (fun _ => True) (Sum.elim (fun _ => True) (fun _ => True))) := by
  unfold fX7_isBare_j76_4 gX7_isBare_j76_4
  refine EQ_jl rfl (fun x12 ex12 => ?_)
  clear ex12
  exact EQ_some trivial
noncomputable def gX7_isBare_b4 (i1 : Int) (h : AH) (s : Int × Int) : Option ((Int × Int) ⊕ ((Unit) ⊕ (Unit))) := jt2 s fun a2 a3 => if 3 ≤ a3 then (some (.inr (.inr ()))) else (jb (gX3_part 357 i1 a3 h) fun v7 => if 0 ≤ v7 then (jg (jI v7 32) <| if h 358 v7 = 0 then (if jand (jshr a2 (h 359 v7)) 1 = 1 then (some (.inr (.inl ()))) else (jl (jor a2 (jshl 1 (h 359 v7))) fun x11 => gX7_isBare_j76_4 i1 x11 a3 h)) else (some (.inr (.inl ())))) else (gX7_isBare_j76_4 i1 a2 a3 h))
theorem eX7_isBare_b4 (i1 : Int) (s : Int × Int) {h : AH} (hS : Sh S h) : EQ (fX7_isBare_b4 356 i1 h s) (gX7_isBare_b4 i1 h s) (Sum.elim (fun _ => True) (Sum.elim (fun _ => True) (fun _ => True))) := by
  unfold fX7_isBare_b4 gX7_isBare_b4
  obtain ⟨a2, a3⟩ := s
  refine EQ_jt2 ?_
  refine EQ_if Iff.rfl (fun c1 => ?_) (fun c1 => ?_)
  · exact EQ_some trivial
  · refine EQ_jgd (show h 356 (-2) = 8 from by rw [k_356 hS]) ?_
    refine EQ_jgd (show h (h 356 0) (-2) = 4 from by rw [r_356_0 hS, k_357 hS]) ?_
    refine EQ_jb (by rw [r_356_0 hS]; exact eX3_part 357 i1 a3 (by unfold isX3; decide) hS) (fun v7 r2 => ?_)
    refine EQ_if Iff.rfl (fun c3 => ?_) (fun c3 => ?_)
    · refine EQ_jgd (show h 356 (-2) = 8 from by rw [k_356 hS]) ?_
      refine EQ_jgd (show h (h 356 0) (-2) = 4 from by rw [r_356_0 hS, k_357 hS]) ?_
      refine EQ_jg ⟨fun ⟨_, x0⟩ => (show jI v7 (h (h (h 356 0) 1) (-1)) ↔ jI v7 32 from by rw [r_356_0 hS, r_357_1 hS, l_358 hS]).mp x0, fun x0 => ⟨(show h (h (h 356 0) 1) (-2) = 101 from by rw [r_356_0 hS, r_357_1 hS, k_358 hS]), (show jI v7 (h (h (h 356 0) 1) (-1)) ↔ jI v7 32 from by rw [r_356_0 hS, r_357_1 hS, l_358 hS]).mpr x0⟩⟩ (fun g4 => ?_)
      refine EQ_if (show h (h (h 356 0) 1) v7 = 0 ↔ h 358 v7 = 0 from by rw [r_356_0 hS, r_357_1 hS]) (fun c5 => ?_) (fun c5 => ?_)
      · refine EQ_jgd (show h 356 (-2) = 8 from by rw [k_356 hS]) ?_
        refine EQ_jgd (show h (h 356 0) (-2) = 4 from by rw [r_356_0 hS, k_357 hS]) ?_
        refine EQ_jgd ⟨(show h (h (h 356 0) 2) (-2) = 101 from by rw [r_356_0 hS, r_357_2 hS, k_359 hS]), ((show jI v7 (h (h (h 356 0) 2) (-1)) ↔ jI v7 32 from by rw [r_356_0 hS, r_357_2 hS, l_359 hS]).mpr g4)⟩ ?_
        refine EQ_if (show jand (jshr a2 (h (h (h 356 0) 2) v7)) 1 = 1 ↔ jand (jshr a2 (h 359 v7)) 1 = 1 from by rw [r_356_0 hS, r_357_2 hS]) (fun c6 => ?_) (fun c6 => ?_)
        · exact EQ_some trivial
        · refine EQ_jgd (show h 356 (-2) = 8 from by rw [k_356 hS]) ?_
          refine EQ_jgd (show h (h 356 0) (-2) = 4 from by rw [r_356_0 hS, k_357 hS]) ?_
          refine EQ_jgd ⟨(show h (h (h 356 0) 2) (-2) = 101 from by rw [r_356_0 hS, r_357_2 hS, k_359 hS]), ((show jI v7 (h (h (h 356 0) 2) (-1)) ↔ jI v7 32 from by rw [r_356_0 hS, r_357_2 hS, l_359 hS]).mpr g4)⟩ ?_
          refine EQ_jl (by rw [r_356_0 hS, r_357_2 hS]) (fun x11 ex11 => ?_)
          clear ex11
          exact (eX7_isBare_j76_4 i1 x11 a3 hS)
      · exact EQ_some trivial
    · exact (eX7_isBare_j76_4 i1 a2 a3 hS)
noncomputable def gX7_isBare_l4 (i1 : Int) (a2 : Int) (a3 : Int) (h : AH) : Option ((Unit) ⊕ (Unit)) := jit (gX7_isBare_b4 i1 h) (a2, a3)
theorem eX7_isBare_l4 (i1 : Int) (a2 : Int) (a3 : Int) {h : AH} (hS : Sh S h) : EQ (fX7_isBare_l4 356 i1 a2 a3 h) (gX7_isBare_l4 i1 a2 a3 h) (Sum.elim (fun _ => True) (fun _ => True)) := EQ_jit (I := (fun _ => True)) (fun s _ => eX7_isBare_b4 i1 s hS) trivial
noncomputable def gX7_isBare (a1 : Int) (h : AH) : Option (Int) := jb (gX7_isBare_l4 a1 0 0 h) fun o1 => jm o1 (fun o3 => some 0) (fun o4 => some 1)
theorem eX7_isBare (a1 : Int) {h : AH} (hS : Sh S h) : EQ (fX7_isBare 356 a1 h) (gX7_isBare a1 h) (fun _ => True) := by
  unfold fX7_isBare gX7_isBare
  refine EQ_jb (eX7_isBare_l4 a1 0 0 hS) (fun o1 r1 => ?_)
  refine EQ_jm r1 (fun o3 r2 => ?_) (fun o4 r3 => ?_)
  · exact EQ_some trivial
  · exact EQ_some trivial
noncomputable def gX7_fits_j35 (F : Int → Int → Int → AH → Option (Int × AH)) (a3 : Int) (a4 : Int) (h : AH) : Option (Int × AH) := jg (jI a4 3) <| jb (gX3_isLike (h 200 32) (h 377 a4) (h 200 32) a3 h) fun v13 => jg (jZ v13) <| some (v13, h)
theorem eX7_fits_j35 {F0 : Int → Int → Int → Int → AH → Option (Int × AH)} {F : Int → Int → Int → AH → Option (Int × AH)} (hF : ∀ (b_a1 : Int) (b_a2 : Int) (b_a3 : Int), isX3 b_a1 → ∀ {b_h : AH}, Sh S b_h → EQ (F0 356 b_a1 b_a2 b_a3 b_h) (F b_a1 b_a2 b_a3 b_h) (fun r => Sh S r.2)) (a3 : Int) (a4 : Int) {h : AH} (hS : Sh S h) : EQ (fX7_fits_j35 F0 356 a3 a4 h) (gX7_fits_j35 F a3 a4 h) (fun r => Sh S r.2) := by
  unfold fX7_fits_j35 gX7_fits_j35
  refine EQ_jgd (show h 356 (-2) = 8 from by rw [k_356 hS]) ?_
  refine EQ_jgd (show h (h 356 13) (-2) = 2 from by rw [r_356_13 hS, k_200 hS]) ?_
  refine EQ_jgd (show h 356 (-2) = 8 from by rw [k_356 hS]) ?_
  refine EQ_jg ⟨fun ⟨_, x0⟩ => (show jI a4 (h (h 356 12) (-1)) ↔ jI a4 3 from by rw [r_356_12 hS, l_377 hS]).mp x0, fun x0 => ⟨(show h (h 356 12) (-2) = 101 from by rw [r_356_12 hS, k_377 hS]), (show jI a4 (h (h 356 12) (-1)) ↔ jI a4 3 from by rw [r_356_12 hS, l_377 hS]).mpr x0⟩⟩ (fun g1 => ?_)
  refine EQ_jgd (show h 356 (-2) = 8 from by rw [k_356 hS]) ?_
  refine EQ_jgd (show h (h 356 13) (-2) = 2 from by rw [r_356_13 hS, k_200 hS]) ?_
  refine EQ_jgd (show h (h (h 356 13) 32) (-2) = 4 from by rw [r_356_13 hS, kd_X3 hS (dy_200_32 hS)]) ?_
  refine EQ_jb (by rw [r_356_13 hS, r_356_12 hS]; exact eX3_isLike (h 200 32) (h 377 a4) (h 200 32) a3 (dy_200_32 hS) (dy_200_32 hS) hS) (fun v13 r2 => ?_)
  refine EQ_jg Iff.rfl (fun g3 => ?_)
  exact EQ_some hS
noncomputable def gX7_fits_j175_129 (F : Int → Int → Int → AH → Option (Int × AH)) (a1 : Int) (a2 : Int) (a3 : Int) (a4 : Int) (h : AH) : Option ((Int × AH) ⊕ ((AH) ⊕ (AH))) := jl (w32 (a4 + 1)) fun x26 => some (.inl (x26, h))
theorem eX7_fits_j175_129 {F0 : Int → Int → Int → Int → AH → Option (Int × AH)} {F : Int → Int → Int → AH → Option (Int × AH)} (hF : ∀ (b_a1 : Int) (b_a2 : Int) (b_a3 : Int), isX3 b_a1 → ∀ {b_h : AH}, Sh S b_h → EQ (F0 356 b_a1 b_a2 b_a3 b_h) (F b_a1 b_a2 b_a3 b_h) (fun r => Sh S r.2)) (a1 : Int) (a2 : Int) (a3 : Int) (a4 : Int) (hT_a1 : isX3 a1) {h : AH} (hS : Sh S h) : EQ (fX7_fits_j175_129 F0 356 a1 a2 a3 a4 h) (gX7_fits_j175_129 F a1 a2 a3 a4 h) (Sum.elim (fun r => Sh S r.2) (Sum.elim (fun r => Sh S r) (fun r => Sh S r))) := by
  unfold fX7_fits_j175_129 gX7_fits_j175_129
  refine EQ_jl rfl (fun x26 ex26 => ?_)
  clear ex26
  exact EQ_some hS
noncomputable def gX7_fits_b129 (F : Int → Int → Int → AH → Option (Int × AH)) (i1 : Int) (i2 : Int) (i3 : Int) (s : Int × AH) : Option ((Int × AH) ⊕ ((AH) ⊕ (AH))) := jt2 s fun a4 h => if 3 ≤ a4 then (some (.inr (.inr h))) else (jb (gX3_part i1 i2 a4 h) fun v16 => if v16 < 0 then (gX7_fits_j175_129 F i1 i2 i3 a4 h) else (jb (gX3_part i1 i2 a4 h) fun v19 => jb (gX3_part (h 200 32) i3 a4 h) fun v21 => jb2 (F i1 v19 v21 h) fun v23 h24 => if v23 = 0 then (some (.inr (.inl h24))) else (gX7_fits_j175_129 F i1 i2 i3 a4 h24)))
theorem eX7_fits_b129 {F0 : Int → Int → Int → Int → AH → Option (Int × AH)} {F : Int → Int → Int → AH → Option (Int × AH)} (hF : ∀ (b_a1 : Int) (b_a2 : Int) (b_a3 : Int), isX3 b_a1 → ∀ {b_h : AH}, Sh S b_h → EQ (F0 356 b_a1 b_a2 b_a3 b_h) (F b_a1 b_a2 b_a3 b_h) (fun r => Sh S r.2)) (i1 : Int) (i2 : Int) (i3 : Int) (hT_i1 : isX3 i1) {s : Int × AH} (hS : (fun r => Sh S r.2) s) : EQ (fX7_fits_b129 F0 356 i1 i2 i3 s) (gX7_fits_b129 F i1 i2 i3 s) (Sum.elim (fun r => Sh S r.2) (Sum.elim (fun r => Sh S r) (fun r => Sh S r))) := by
  unfold fX7_fits_b129 gX7_fits_b129
  obtain ⟨a4, h⟩ := s
  refine EQ_jt2 ?_
  replace hS : Sh S h := hS
  refine EQ_if Iff.rfl (fun c1 => ?_) (fun c1 => ?_)
  · exact EQ_some hS
  · refine EQ_jgd (show h i1 (-2) = 4 from by rw [kd_X3 hS hT_i1]) ?_
    refine EQ_jb (eX3_part i1 i2 a4 hT_i1 hS) (fun v16 r2 => ?_)
    refine EQ_if Iff.rfl (fun c3 => ?_) (fun c3 => ?_)
    · exact (eX7_fits_j175_129 hF i1 i2 i3 a4 hT_i1 hS)
    · refine EQ_jgd (show h i1 (-2) = 4 from by rw [kd_X3 hS hT_i1]) ?_
      refine EQ_jb (eX3_part i1 i2 a4 hT_i1 hS) (fun v19 r4 => ?_)
      refine EQ_jgd (show h 356 (-2) = 8 from by rw [k_356 hS]) ?_
      refine EQ_jgd (show h (h 356 13) (-2) = 2 from by rw [r_356_13 hS, k_200 hS]) ?_
      refine EQ_jgd (show h (h (h 356 13) 32) (-2) = 4 from by rw [r_356_13 hS, kd_X3 hS (dy_200_32 hS)]) ?_
      refine EQ_jb (by rw [r_356_13 hS]; exact eX3_part (h 200 32) i3 a4 (dy_200_32 hS) hS) (fun v21 r5 => ?_)
      refine EQ_jgd (show h 356 (-2) = 8 from by rw [k_356 hS]) ?_
      refine EQ_jb2 (hF i1 v19 v21 hT_i1 hS) (fun v23 h24 r6 => ?_)
      replace r6 : Sh S h24 := r6
      refine EQ_if Iff.rfl (fun c7 => ?_) (fun c7 => ?_)
      · exact EQ_some r6
      · exact (eX7_fits_j175_129 hF i1 i2 i3 a4 hT_i1 r6)
noncomputable def gX7_fits_l129 (F : Int → Int → Int → AH → Option (Int × AH)) (i1 : Int) (i2 : Int) (i3 : Int) (a4 : Int) (h : AH) : Option ((AH) ⊕ (AH)) := jit (gX7_fits_b129 F i1 i2 i3) (a4, h)
theorem eX7_fits_l129 {F0 : Int → Int → Int → Int → AH → Option (Int × AH)} {F : Int → Int → Int → AH → Option (Int × AH)} (hF : ∀ (b_a1 : Int) (b_a2 : Int) (b_a3 : Int), isX3 b_a1 → ∀ {b_h : AH}, Sh S b_h → EQ (F0 356 b_a1 b_a2 b_a3 b_h) (F b_a1 b_a2 b_a3 b_h) (fun r => Sh S r.2)) (i1 : Int) (i2 : Int) (i3 : Int) (a4 : Int) (hT_i1 : isX3 i1) {h : AH} (hS : Sh S h) : EQ (fX7_fits_l129 F0 356 i1 i2 i3 a4 h) (gX7_fits_l129 F i1 i2 i3 a4 h) (Sum.elim (fun r => Sh S r) (fun r => Sh S r)) := EQ_jit (I := (fun r => Sh S r.2)) (fun s hs => eX7_fits_b129 hF i1 i2 i3 hT_i1 hs) hS
noncomputable def gX7_fits_ (F : Int → Int → Int → AH → Option (Int × AH)) (a1 : Int) (a2 : Int) (a3 : Int) (h : AH) : Option (Int × AH) := jg (jI a2 (h (a1 + 1) (-1))) <| if h (a1 + 1) a2 = 0 then (jg (jI a2 (h (a1 + 2) (-1))) <| jl (h (a1 + 2) a2) fun x2 => jg (jI x2 3) <| if 0 ≤ h 377 x2 then (gX7_fits_j35 F a3 x2 h) else (jl (jst h 377 x2 a3) fun h4 => gX7_fits_j35 F a3 x2 h4)) else (jg (jI a3 (h (h 200 32 + 1) (-1))) <| if h (a1 + 1) a2 = h (h 200 32 + 1) a3 then (jg (jI a2 (h (a1 + 2) (-1))) <| jg (jI a3 (h (h 200 32 + 2) (-1))) <| if h (a1 + 2) a2 = h (h 200 32 + 2) a3 then (jg (jI a2 (h (a1 + 3) (-1))) <| jg (jI a3 (h (h 200 32 + 3) (-1))) <| if h (a1 + 3) a2 = h (h 200 32 + 3) a3 then (jb (gX7_fits_l129 F a1 a2 a3 0 h) fun o8 => jm o8 (fun o10 => some (0, o10)) (fun o11 => some (1, o11))) else (some (0, h))) else (some (0, h))) else (some (0, h)))
theorem eX7_fits_ {F0 : Int → Int → Int → Int → AH → Option (Int × AH)} {F : Int → Int → Int → AH → Option (Int × AH)} (hF : ∀ (b_a1 : Int) (b_a2 : Int) (b_a3 : Int), isX3 b_a1 → ∀ {b_h : AH}, Sh S b_h → EQ (F0 356 b_a1 b_a2 b_a3 b_h) (F b_a1 b_a2 b_a3 b_h) (fun r => Sh S r.2)) (a1 : Int) (a2 : Int) (a3 : Int) (hT_a1 : isX3 a1) {h : AH} (hS : Sh S h) : EQ (fX7_fits_ F0 356 a1 a2 a3 h) (gX7_fits_ F a1 a2 a3 h) (fun r => Sh S r.2) := by
  unfold fX7_fits_ gX7_fits_
  refine EQ_jgd (show h a1 (-2) = 4 from by rw [kd_X3 hS hT_a1]) ?_
  refine EQ_jg ⟨fun ⟨_, x0⟩ => (show jI a2 (h (h a1 1) (-1)) ↔ jI a2 (h (a1 + 1) (-1)) from by rw [ft_X3_1 hS hT_a1]).mp x0, fun x0 => ⟨(show h (h a1 1) (-2) = 101 from by rw [ft_X3_1 hS hT_a1, ka_X3_1 hS hT_a1]), (show jI a2 (h (h a1 1) (-1)) ↔ jI a2 (h (a1 + 1) (-1)) from by rw [ft_X3_1 hS hT_a1]).mpr x0⟩⟩ (fun g1 => ?_)
  refine EQ_if (show h (h a1 1) a2 = 0 ↔ h (a1 + 1) a2 = 0 from by rw [ft_X3_1 hS hT_a1]) (fun c2 => ?_) (fun c2 => ?_)
  · refine EQ_jgd (show h a1 (-2) = 4 from by rw [kd_X3 hS hT_a1]) ?_
    refine EQ_jg ⟨fun ⟨_, x0⟩ => (show jI a2 (h (h a1 2) (-1)) ↔ jI a2 (h (a1 + 2) (-1)) from by rw [ft_X3_2 hS hT_a1]).mp x0, fun x0 => ⟨(show h (h a1 2) (-2) = 101 from by rw [ft_X3_2 hS hT_a1, ka_X3_2 hS hT_a1]), (show jI a2 (h (h a1 2) (-1)) ↔ jI a2 (h (a1 + 2) (-1)) from by rw [ft_X3_2 hS hT_a1]).mpr x0⟩⟩ (fun g3 => ?_)
    refine EQ_jl (by rw [ft_X3_2 hS hT_a1]) (fun x2 ex2 => ?_)
    clear ex2
    refine EQ_jgd (show h 356 (-2) = 8 from by rw [k_356 hS]) ?_
    refine EQ_jg ⟨fun ⟨_, x0⟩ => (show jI x2 (h (h 356 12) (-1)) ↔ jI x2 3 from by rw [r_356_12 hS, l_377 hS]).mp x0, fun x0 => ⟨(show h (h 356 12) (-2) = 101 from by rw [r_356_12 hS, k_377 hS]), (show jI x2 (h (h 356 12) (-1)) ↔ jI x2 3 from by rw [r_356_12 hS, l_377 hS]).mpr x0⟩⟩ (fun g4 => ?_)
    refine EQ_if (show 0 ≤ h (h 356 12) x2 ↔ 0 ≤ h 377 x2 from by rw [r_356_12 hS]) (fun c5 => ?_) (fun c5 => ?_)
    · exact (eX7_fits_j35 hF a3 x2 hS)
    · refine EQ_jgd (show h 356 (-2) = 8 from by rw [k_356 hS]) ?_
      refine EQ_jgd ⟨(show h (h 356 12) (-2) = 101 from by rw [r_356_12 hS, k_377 hS]), (show 200 ≤ h 356 12 from by rw [r_356_12 hS]; exact (by decide)), ((show jI x2 (h (h 356 12) (-1)) ↔ jI x2 3 from by rw [r_356_12 hS, l_377 hS]).mpr g4)⟩ ?_
      refine EQ_jl (by rw [r_356_12 hS]) (fun h4 eh4 => ?_)
      have s6 := Sh_of eh4 (Sh_sta hS (by decide +kernel) (jI_nn g4) (fun e => absurd ((k_377 hS).symm.trans e) (by decide)))
      clear eh4
      exact (eX7_fits_j35 hF a3 x2 s6)
  · refine EQ_jgd (show h a1 (-2) = 4 from by rw [kd_X3 hS hT_a1]) ?_
    refine EQ_jgd ⟨(show h (h a1 1) (-2) = 101 from by rw [ft_X3_1 hS hT_a1, ka_X3_1 hS hT_a1]), ((show jI a2 (h (h a1 1) (-1)) ↔ jI a2 (h (a1 + 1) (-1)) from by rw [ft_X3_1 hS hT_a1]).mpr g1)⟩ ?_
    refine EQ_jgd (show h 356 (-2) = 8 from by rw [k_356 hS]) ?_
    refine EQ_jgd (show h (h 356 13) (-2) = 2 from by rw [r_356_13 hS, k_200 hS]) ?_
    refine EQ_jgd (show h (h (h 356 13) 32) (-2) = 4 from by rw [r_356_13 hS, kd_X3 hS (dy_200_32 hS)]) ?_
    refine EQ_jg ⟨fun ⟨_, x0⟩ => (show jI a3 (h (h (h (h 356 13) 32) 1) (-1)) ↔ jI a3 (h (h 200 32 + 1) (-1)) from by rw [r_356_13 hS, ft_X3_1 hS (dy_200_32 hS)]).mp x0, fun x0 => ⟨(show h (h (h (h 356 13) 32) 1) (-2) = 101 from by rw [r_356_13 hS, ft_X3_1 hS (dy_200_32 hS), ka_X3_1 hS (dy_200_32 hS)]), (show jI a3 (h (h (h (h 356 13) 32) 1) (-1)) ↔ jI a3 (h (h 200 32 + 1) (-1)) from by rw [r_356_13 hS, ft_X3_1 hS (dy_200_32 hS)]).mpr x0⟩⟩ (fun g7 => ?_)
    refine EQ_if (show h (h a1 1) a2 = h (h (h (h 356 13) 32) 1) a3 ↔ h (a1 + 1) a2 = h (h 200 32 + 1) a3 from by rw [ft_X3_1 hS hT_a1, r_356_13 hS, ft_X3_1 hS (dy_200_32 hS)]) (fun c8 => ?_) (fun c8 => ?_)
    · refine EQ_jgd (show h a1 (-2) = 4 from by rw [kd_X3 hS hT_a1]) ?_
      refine EQ_jg ⟨fun ⟨_, x0⟩ => (show jI a2 (h (h a1 2) (-1)) ↔ jI a2 (h (a1 + 2) (-1)) from by rw [ft_X3_2 hS hT_a1]).mp x0, fun x0 => ⟨(show h (h a1 2) (-2) = 101 from by rw [ft_X3_2 hS hT_a1, ka_X3_2 hS hT_a1]), (show jI a2 (h (h a1 2) (-1)) ↔ jI a2 (h (a1 + 2) (-1)) from by rw [ft_X3_2 hS hT_a1]).mpr x0⟩⟩ (fun g9 => ?_)
      refine EQ_jgd (show h 356 (-2) = 8 from by rw [k_356 hS]) ?_
      refine EQ_jgd (show h (h 356 13) (-2) = 2 from by rw [r_356_13 hS, k_200 hS]) ?_
      refine EQ_jgd (show h (h (h 356 13) 32) (-2) = 4 from by rw [r_356_13 hS, kd_X3 hS (dy_200_32 hS)]) ?_
      refine EQ_jg ⟨fun ⟨_, x0⟩ => (show jI a3 (h (h (h (h 356 13) 32) 2) (-1)) ↔ jI a3 (h (h 200 32 + 2) (-1)) from by rw [r_356_13 hS, ft_X3_2 hS (dy_200_32 hS)]).mp x0, fun x0 => ⟨(show h (h (h (h 356 13) 32) 2) (-2) = 101 from by rw [r_356_13 hS, ft_X3_2 hS (dy_200_32 hS), ka_X3_2 hS (dy_200_32 hS)]), (show jI a3 (h (h (h (h 356 13) 32) 2) (-1)) ↔ jI a3 (h (h 200 32 + 2) (-1)) from by rw [r_356_13 hS, ft_X3_2 hS (dy_200_32 hS)]).mpr x0⟩⟩ (fun g10 => ?_)
      refine EQ_if (show h (h a1 2) a2 = h (h (h (h 356 13) 32) 2) a3 ↔ h (a1 + 2) a2 = h (h 200 32 + 2) a3 from by rw [ft_X3_2 hS hT_a1, r_356_13 hS, ft_X3_2 hS (dy_200_32 hS)]) (fun c11 => ?_) (fun c11 => ?_)
      · refine EQ_jgd (show h a1 (-2) = 4 from by rw [kd_X3 hS hT_a1]) ?_
        refine EQ_jg ⟨fun ⟨_, x0⟩ => (show jI a2 (h (h a1 3) (-1)) ↔ jI a2 (h (a1 + 3) (-1)) from by rw [ft_X3_3 hS hT_a1]).mp x0, fun x0 => ⟨(show h (h a1 3) (-2) = 101 from by rw [ft_X3_3 hS hT_a1, ka_X3_3 hS hT_a1]), (show jI a2 (h (h a1 3) (-1)) ↔ jI a2 (h (a1 + 3) (-1)) from by rw [ft_X3_3 hS hT_a1]).mpr x0⟩⟩ (fun g12 => ?_)
        refine EQ_jgd (show h 356 (-2) = 8 from by rw [k_356 hS]) ?_
        refine EQ_jgd (show h (h 356 13) (-2) = 2 from by rw [r_356_13 hS, k_200 hS]) ?_
        refine EQ_jgd (show h (h (h 356 13) 32) (-2) = 4 from by rw [r_356_13 hS, kd_X3 hS (dy_200_32 hS)]) ?_
        refine EQ_jg ⟨fun ⟨_, x0⟩ => (show jI a3 (h (h (h (h 356 13) 32) 3) (-1)) ↔ jI a3 (h (h 200 32 + 3) (-1)) from by rw [r_356_13 hS, ft_X3_3 hS (dy_200_32 hS)]).mp x0, fun x0 => ⟨(show h (h (h (h 356 13) 32) 3) (-2) = 101 from by rw [r_356_13 hS, ft_X3_3 hS (dy_200_32 hS), ka_X3_3 hS (dy_200_32 hS)]), (show jI a3 (h (h (h (h 356 13) 32) 3) (-1)) ↔ jI a3 (h (h 200 32 + 3) (-1)) from by rw [r_356_13 hS, ft_X3_3 hS (dy_200_32 hS)]).mpr x0⟩⟩ (fun g13 => ?_)
        refine EQ_if (show h (h a1 3) a2 = h (h (h (h 356 13) 32) 3) a3 ↔ h (a1 + 3) a2 = h (h 200 32 + 3) a3 from by rw [ft_X3_3 hS hT_a1, r_356_13 hS, ft_X3_3 hS (dy_200_32 hS)]) (fun c14 => ?_) (fun c14 => ?_)
        · refine EQ_jb (eX7_fits_l129 hF a1 a2 a3 0 hT_a1 hS) (fun o8 r15 => ?_)
          refine EQ_jm r15 (fun o10 r16 => ?_) (fun o11 r17 => ?_)
          · exact EQ_some r16
          · exact EQ_some r17
        · exact EQ_some hS
      · exact EQ_some hS
    · exact EQ_some hS
noncomputable def gX7_fitsD : Nat → Int → Int → Int → AH → Option (Int × AH)
  | 0 => fun _ _ _ _ => none
  | d + 1 => gX7_fits_ (gX7_fitsD d)
theorem eX7_fitsD : ∀ (d : Nat) (a1 : Int) (a2 : Int) (a3 : Int) (hT_a1 : isX3 a1) {h : AH} (hS : Sh S h) , EQ (fX7_fitsD d 356 a1 a2 a3 h) (gX7_fitsD d a1 a2 a3 h) (fun r => Sh S r.2) := by
  intro d
  induction d with
  | zero => intro a1 a2 a3 hT_a1 h hS; exact EQ_none
  | succ d ih => intro a1 a2 a3 hT_a1 h hS; exact eX7_fits_ ih a1 a2 a3 hT_a1 hS
noncomputable def gX7_fits : Int → Int → Int → AH → Option (Int × AH) := gX7_fitsD 40
theorem eX7_fits (a1 : Int) (a2 : Int) (a3 : Int) (hT_a1 : isX3 a1) {h : AH} (hS : Sh S h) : EQ (fX7_fits 356 a1 a2 a3 h) (gX7_fits a1 a2 a3 h) (fun r => Sh S r.2) := eX7_fitsD 40 a1 a2 a3 hT_a1 hS
noncomputable def gX7_isMet_b3 (i1 : Int) (i2 : Int) (i3 : Int) (s : Int × AH) : Option ((Int × AH) ⊕ (AH)) := jt2 s fun a4 h => if 2 ≤ a4 then (some (.inr h)) else (jg (jI a4 3) <| jl (jst h 377 a4 (-1)) fun h7 => jl (w32 (a4 + 1)) fun x8 => some (.inl (x8, h7)))
theorem eX7_isMet_b3 (i1 : Int) (i2 : Int) (i3 : Int) (hT_i1 : isX3 i1) {s : Int × AH} (hS : (fun r => Sh S r.2) s) : EQ (fX7_isMet_b3 356 i1 i2 i3 s) (gX7_isMet_b3 i1 i2 i3 s) (Sum.elim (fun r => Sh S r.2) (fun r => Sh S r)) := by
  unfold fX7_isMet_b3 gX7_isMet_b3
  obtain ⟨a4, h⟩ := s
  refine EQ_jt2 ?_
  replace hS : Sh S h := hS
  refine EQ_if Iff.rfl (fun c1 => ?_) (fun c1 => ?_)
  · exact EQ_some hS
  · refine EQ_jgd (show h 356 (-2) = 8 from by rw [k_356 hS]) ?_
    refine EQ_jg ⟨fun ⟨_, _, x0⟩ => (show jI a4 (h (h 356 12) (-1)) ↔ jI a4 3 from by rw [r_356_12 hS, l_377 hS]).mp x0, fun x0 => ⟨(show h (h 356 12) (-2) = 101 from by rw [r_356_12 hS, k_377 hS]), (show 200 ≤ h 356 12 from by rw [r_356_12 hS]; exact (by decide)), (show jI a4 (h (h 356 12) (-1)) ↔ jI a4 3 from by rw [r_356_12 hS, l_377 hS]).mpr x0⟩⟩ (fun g2 => ?_)
    refine EQ_jl (by rw [r_356_12 hS]) (fun h7 eh7 => ?_)
    have s3 := Sh_of eh7 (Sh_sta hS (by decide +kernel) (jI_nn g2) (fun e => absurd ((k_377 hS).symm.trans e) (by decide)))
    clear eh7
    refine EQ_jl rfl (fun x8 ex8 => ?_)
    clear ex8
    exact EQ_some s3
noncomputable def gX7_isMet_l3 (i1 : Int) (i2 : Int) (i3 : Int) (a4 : Int) (h : AH) : Option (AH) := jit (gX7_isMet_b3 i1 i2 i3) (a4, h)
theorem eX7_isMet_l3 (i1 : Int) (i2 : Int) (i3 : Int) (a4 : Int) (hT_i1 : isX3 i1) {h : AH} (hS : Sh S h) : EQ (fX7_isMet_l3 356 i1 i2 i3 a4 h) (gX7_isMet_l3 i1 i2 i3 a4 h) (fun r => Sh S r) := EQ_jit (I := (fun r => Sh S r.2)) (fun s hs => eX7_isMet_b3 i1 i2 i3 hT_i1 hs) hS
noncomputable def gX7_isMet (a1 : Int) (a2 : Int) (a3 : Int) (h : AH) : Option (Int × AH) := jb (gX7_isMet_l3 a1 a2 a3 0 h) fun o1 => jb2 (gX7_fits a1 a2 a3 o1) fun v4 h5 => jg (jZ v4) <| some (v4, h5)
theorem eX7_isMet (a1 : Int) (a2 : Int) (a3 : Int) (hT_a1 : isX3 a1) {h : AH} (hS : Sh S h) : EQ (fX7_isMet 356 a1 a2 a3 h) (gX7_isMet a1 a2 a3 h) (fun r => Sh S r.2) := by
  unfold fX7_isMet gX7_isMet
  refine EQ_jb (eX7_isMet_l3 a1 a2 a3 0 hT_a1 hS) (fun o1 r1 => ?_)
  refine EQ_jgd (show o1 356 (-2) = 8 from by rw [k_356 r1]) ?_
  refine EQ_jb2 (eX7_fits a1 a2 a3 hT_a1 r1) (fun v4 h5 r2 => ?_)
  replace r2 : Sh S h5 := r2
  refine EQ_jg Iff.rfl (fun g3 => ?_)
  exact EQ_some r2
noncomputable def gX7_sizeBehind_j47 (F : Int → Int → AH → Option (Int × AH)) (a2 : Int) (a4 : Int) (a6 : Int) (h : AH) : Option (Int × AH) := if a6 < 0 then (some (a4, h)) else (jb2 (F a2 a6 h) fun v18 h19 => jl (w32 (a4 + v18)) fun x20 => some (x20, h19))
theorem eX7_sizeBehind_j47 {F0 : Int → Int → Int → Int → AH → Option (Int × AH)} {F : Int → Int → AH → Option (Int × AH)} (hF : ∀ (b_a2 : Int) (b_a3 : Int), ∀ {b_h : AH}, Sh S b_h → EQ (F0 356 357 b_a2 b_a3 b_h) (F b_a2 b_a3 b_h) (fun r => Sh S r.2)) (a2 : Int) (a4 : Int) (a6 : Int) {h : AH} (hS : Sh S h) : EQ (fX7_sizeBehind_j47 F0 356 357 a2 a4 a6 h) (gX7_sizeBehind_j47 F a2 a4 a6 h) (fun r => Sh S r.2) := by
  unfold fX7_sizeBehind_j47 gX7_sizeBehind_j47
  refine EQ_if Iff.rfl (fun c1 => ?_) (fun c1 => ?_)
  · exact EQ_some hS
  · refine EQ_jgd (show h 356 (-2) = 8 from by rw [k_356 hS]) ?_
    refine EQ_jb2 (hF a2 a6 hS) (fun v18 h19 r2 => ?_)
    replace r2 : Sh S h19 := r2
    refine EQ_jl rfl (fun x20 ex20 => ?_)
    clear ex20
    exact EQ_some r2
noncomputable def gX7_sizeBehind_j117_71 (F : Int → Int → AH → Option (Int × AH)) (a2 : Int) (a3 : Int) (a4 : Int) (a5 : Int) (h : AH) : Option ((Int × Int × AH) ⊕ (Int × AH)) := jl (w32 (a5 + 1)) fun x31 => some (.inl (a4, x31, h))
theorem eX7_sizeBehind_j117_71 {F0 : Int → Int → Int → Int → AH → Option (Int × AH)} {F : Int → Int → AH → Option (Int × AH)} (hF : ∀ (b_a2 : Int) (b_a3 : Int), ∀ {b_h : AH}, Sh S b_h → EQ (F0 356 357 b_a2 b_a3 b_h) (F b_a2 b_a3 b_h) (fun r => Sh S r.2)) (a2 : Int) (a3 : Int) (a4 : Int) (a5 : Int) {h : AH} (hS : Sh S h) : EQ (fX7_sizeBehind_j117_71 F0 356 357 a2 a3 a4 a5 h) (gX7_sizeBehind_j117_71 F a2 a3 a4 a5 h) (Sum.elim (fun r => Sh S r.2.2) (fun r => Sh S r.2)) := by
  unfold fX7_sizeBehind_j117_71 gX7_sizeBehind_j117_71
  refine EQ_jl rfl (fun x31 ex31 => ?_)
  clear ex31
  exact EQ_some hS
noncomputable def gX7_sizeBehind_b71 (F : Int → Int → AH → Option (Int × AH)) (i2 : Int) (i3 : Int) (s : Int × Int × AH) : Option ((Int × Int × AH) ⊕ (Int × AH)) := jt3 s fun a4 a5 h => if 3 ≤ a5 then (some (.inr (a4, h))) else (jb (gX3_part (h 200 32) i3 a5 h) fun v23 => if v23 < 0 then (gX7_sizeBehind_j117_71 F i2 i3 a4 a5 h) else (jb (gX3_part (h 200 32) i3 a5 h) fun v26 => jb2 (F i2 v26 h) fun v28 h29 => jl (w32 (a4 + v28)) fun x30 => gX7_sizeBehind_j117_71 F i2 i3 x30 a5 h29))
theorem eX7_sizeBehind_b71 {F0 : Int → Int → Int → Int → AH → Option (Int × AH)} {F : Int → Int → AH → Option (Int × AH)} (hF : ∀ (b_a2 : Int) (b_a3 : Int), ∀ {b_h : AH}, Sh S b_h → EQ (F0 356 357 b_a2 b_a3 b_h) (F b_a2 b_a3 b_h) (fun r => Sh S r.2)) (i2 : Int) (i3 : Int) {s : Int × Int × AH} (hS : (fun r => Sh S r.2.2) s) : EQ (fX7_sizeBehind_b71 F0 356 357 i2 i3 s) (gX7_sizeBehind_b71 F i2 i3 s) (Sum.elim (fun r => Sh S r.2.2) (fun r => Sh S r.2)) := by
  unfold fX7_sizeBehind_b71 gX7_sizeBehind_b71
  obtain ⟨a4, a5, h⟩ := s
  refine EQ_jt3 ?_
  replace hS : Sh S h := hS
  refine EQ_if Iff.rfl (fun c1 => ?_) (fun c1 => ?_)
  · exact EQ_some hS
  · refine EQ_jgd (show h 356 (-2) = 8 from by rw [k_356 hS]) ?_
    refine EQ_jgd (show h (h 356 13) (-2) = 2 from by rw [r_356_13 hS, k_200 hS]) ?_
    refine EQ_jgd (show h (h (h 356 13) 32) (-2) = 4 from by rw [r_356_13 hS, kd_X3 hS (dy_200_32 hS)]) ?_
    refine EQ_jb (by rw [r_356_13 hS]; exact eX3_part (h 200 32) i3 a5 (dy_200_32 hS) hS) (fun v23 r2 => ?_)
    refine EQ_if Iff.rfl (fun c3 => ?_) (fun c3 => ?_)
    · exact (eX7_sizeBehind_j117_71 hF i2 i3 a4 a5 hS)
    · refine EQ_jgd (show h 356 (-2) = 8 from by rw [k_356 hS]) ?_
      refine EQ_jgd (show h (h 356 13) (-2) = 2 from by rw [r_356_13 hS, k_200 hS]) ?_
      refine EQ_jgd (show h (h (h 356 13) 32) (-2) = 4 from by rw [r_356_13 hS, kd_X3 hS (dy_200_32 hS)]) ?_
      refine EQ_jb (by rw [r_356_13 hS]; exact eX3_part (h 200 32) i3 a5 (dy_200_32 hS) hS) (fun v26 r4 => ?_)
      refine EQ_jgd (show h 356 (-2) = 8 from by rw [k_356 hS]) ?_
      refine EQ_jb2 (hF i2 v26 hS) (fun v28 h29 r5 => ?_)
      replace r5 : Sh S h29 := r5
      refine EQ_jl rfl (fun x30 ex30 => ?_)
      clear ex30
      exact (eX7_sizeBehind_j117_71 hF i2 i3 x30 a5 r5)
noncomputable def gX7_sizeBehind_l71 (F : Int → Int → AH → Option (Int × AH)) (i2 : Int) (i3 : Int) (a4 : Int) (a5 : Int) (h : AH) : Option (Int × AH) := jit (gX7_sizeBehind_b71 F i2 i3) (a4, a5, h)
theorem eX7_sizeBehind_l71 {F0 : Int → Int → Int → Int → AH → Option (Int × AH)} {F : Int → Int → AH → Option (Int × AH)} (hF : ∀ (b_a2 : Int) (b_a3 : Int), ∀ {b_h : AH}, Sh S b_h → EQ (F0 356 357 b_a2 b_a3 b_h) (F b_a2 b_a3 b_h) (fun r => Sh S r.2)) (i2 : Int) (i3 : Int) (a4 : Int) (a5 : Int) {h : AH} (hS : Sh S h) : EQ (fX7_sizeBehind_l71 F0 356 357 i2 i3 a4 a5 h) (gX7_sizeBehind_l71 F i2 i3 a4 a5 h) (fun r => Sh S r.2) := EQ_jit (I := (fun r => Sh S r.2.2)) (fun s hs => eX7_sizeBehind_b71 hF i2 i3 hs) hS
noncomputable def gX7_sizeBehind_ (F : Int → Int → AH → Option (Int × AH)) (a2 : Int) (a3 : Int) (h : AH) : Option (Int × AH) := jb2 (gX7_isMet 357 a2 a3 h) fun v2 h3 => if v2 = 0 then (jb (gX7_sizeBehind_l71 F a2 a3 1 0 h3) fun o5 => jt2 o5 fun y7 h8 => some (y7, h8)) else (jl (h3 377 0) fun x9 => jl (h3 377 1) fun x10 => if x9 < 0 then (gX7_sizeBehind_j47 F a2 1 x10 h3) else (jb2 (F a2 x9 h3) fun v13 h14 => jl (w32 (1 + v13)) fun x15 => gX7_sizeBehind_j47 F a2 x15 x10 h14))
theorem eX7_sizeBehind_ {F0 : Int → Int → Int → Int → AH → Option (Int × AH)} {F : Int → Int → AH → Option (Int × AH)} (hF : ∀ (b_a2 : Int) (b_a3 : Int), ∀ {b_h : AH}, Sh S b_h → EQ (F0 356 357 b_a2 b_a3 b_h) (F b_a2 b_a3 b_h) (fun r => Sh S r.2)) (a2 : Int) (a3 : Int) {h : AH} (hS : Sh S h) : EQ (fX7_sizeBehind_ F0 356 357 a2 a3 h) (gX7_sizeBehind_ F a2 a3 h) (fun r => Sh S r.2) := by
  unfold fX7_sizeBehind_ gX7_sizeBehind_
  refine EQ_jgd (show h 356 (-2) = 8 from by rw [k_356 hS]) ?_
  refine EQ_jb2 (eX7_isMet 357 a2 a3 (by unfold isX3; decide) hS) (fun v2 h3 r1 => ?_)
  replace r1 : Sh S h3 := r1
  refine EQ_if Iff.rfl (fun c2 => ?_) (fun c2 => ?_)
  · refine EQ_jb (eX7_sizeBehind_l71 hF a2 a3 1 0 r1) (fun o5 r3 => ?_)
    obtain ⟨y7, h8⟩ := o5
    refine EQ_jt2 ?_
    replace r3 : Sh S h8 := r3
    exact EQ_some r3
  · refine EQ_jgd (show h3 356 (-2) = 8 from by rw [k_356 r1]) ?_
    refine EQ_jgd ⟨(show h3 (h3 356 12) (-2) = 101 from by rw [r_356_12 r1, k_377 r1]), (show jI 0 (h3 (h3 356 12) (-1)) from by rw [r_356_12 r1, l_377 r1]; unfold jI; decide)⟩ ?_
    refine EQ_jl (by rw [r_356_12 r1]) (fun x9 ex9 => ?_)
    clear ex9
    refine EQ_jgd (show h3 356 (-2) = 8 from by rw [k_356 r1]) ?_
    refine EQ_jgd ⟨(show h3 (h3 356 12) (-2) = 101 from by rw [r_356_12 r1, k_377 r1]), (show jI 1 (h3 (h3 356 12) (-1)) from by rw [r_356_12 r1, l_377 r1]; unfold jI; decide)⟩ ?_
    refine EQ_jl (by rw [r_356_12 r1]) (fun x10 ex10 => ?_)
    clear ex10
    refine EQ_if Iff.rfl (fun c4 => ?_) (fun c4 => ?_)
    · exact (eX7_sizeBehind_j47 hF a2 1 x10 r1)
    · refine EQ_jgd (show h3 356 (-2) = 8 from by rw [k_356 r1]) ?_
      refine EQ_jb2 (hF a2 x9 r1) (fun v13 h14 r5 => ?_)
      replace r5 : Sh S h14 := r5
      refine EQ_jl rfl (fun x15 ex15 => ?_)
      clear ex15
      exact (eX7_sizeBehind_j47 hF a2 x15 x10 r5)
noncomputable def gX7_sizeBehindD : Nat → Int → Int → AH → Option (Int × AH)
  | 0 => fun _ _ _ => none
  | d + 1 => gX7_sizeBehind_ (gX7_sizeBehindD d)
theorem eX7_sizeBehindD : ∀ (d : Nat) (a2 : Int) (a3 : Int) {h : AH} (hS : Sh S h) , EQ (fX7_sizeBehindD d 356 357 a2 a3 h) (gX7_sizeBehindD d a2 a3 h) (fun r => Sh S r.2) := by
  intro d
  induction d with
  | zero => intro a2 a3 h hS; exact EQ_none
  | succ d ih => intro a2 a3 h hS; exact eX7_sizeBehind_ ih a2 a3 hS
noncomputable def gX7_sizeBehind : Int → Int → AH → Option (Int × AH) := gX7_sizeBehindD 40
theorem eX7_sizeBehind (a2 : Int) (a3 : Int) {h : AH} (hS : Sh S h) : EQ (fX7_sizeBehind 356 357 a2 a3 h) (gX7_sizeBehind a2 a3 h) (fun r => Sh S r.2) := eX7_sizeBehindD 40 a2 a3 hS
noncomputable def gX7_saving_b7 (i1 : Int) (s : Int × Int × Int × AH) : Option ((Int × Int × Int × AH) ⊕ (Int × Int × AH)) := jt4 s fun a2 a3 a4 h => if h 200 37 ≤ a4 then (some (.inr (a2, a3, h))) else (jg (jI a4 12) <| jb (gX3_size (h 200 32) (h 353 a4) h) fun v10 => jl (w32 (a2 + v10)) fun x11 => jb2 (gX7_sizeBehind i1 (h 353 a4) h) fun v13 h14 => jl (w32 (a3 + v13)) fun x15 => jl (w32 (a4 + 1)) fun x16 => some (.inl (x11, x15, x16, h14)))
theorem eX7_saving_b7 (i1 : Int) {s : Int × Int × Int × AH} (hS : (fun r => Sh S r.2.2.2) s) : EQ (fX7_saving_b7 356 i1 s) (gX7_saving_b7 i1 s) (Sum.elim (fun r => Sh S r.2.2.2) (fun r => Sh S r.2.2)) := by
  unfold fX7_saving_b7 gX7_saving_b7
  obtain ⟨a2, a3, a4, h⟩ := s
  refine EQ_jt4 ?_
  replace hS : Sh S h := hS
  refine EQ_jgd (show h 356 (-2) = 8 from by rw [k_356 hS]) ?_
  refine EQ_jgd (show h (h 356 13) (-2) = 2 from by rw [r_356_13 hS, k_200 hS]) ?_
  refine EQ_if (show h (h 356 13) 37 ≤ a4 ↔ h 200 37 ≤ a4 from by rw [r_356_13 hS]) (fun c1 => ?_) (fun c1 => ?_)
  · exact EQ_some hS
  · refine EQ_jgd (show h 356 (-2) = 8 from by rw [k_356 hS]) ?_
    refine EQ_jgd (show h (h 356 13) (-2) = 2 from by rw [r_356_13 hS, k_200 hS]) ?_
    refine EQ_jgd (show h 356 (-2) = 8 from by rw [k_356 hS]) ?_
    refine EQ_jgd (show h (h 356 13) (-2) = 2 from by rw [r_356_13 hS, k_200 hS]) ?_
    refine EQ_jg ⟨fun ⟨_, x0⟩ => (show jI a4 (h (h (h 356 13) 34) (-1)) ↔ jI a4 12 from by rw [r_356_13 hS, r_200_34 hS, l_353 hS]).mp x0, fun x0 => ⟨(show h (h (h 356 13) 34) (-2) = 101 from by rw [r_356_13 hS, r_200_34 hS, k_353 hS]), (show jI a4 (h (h (h 356 13) 34) (-1)) ↔ jI a4 12 from by rw [r_356_13 hS, r_200_34 hS, l_353 hS]).mpr x0⟩⟩ (fun g2 => ?_)
    refine EQ_jgd (show h (h (h 356 13) 32) (-2) = 4 from by rw [r_356_13 hS, kd_X3 hS (dy_200_32 hS)]) ?_
    refine EQ_jb (by rw [r_356_13 hS, r_200_34 hS]; exact eX3_size (h 200 32) (h 353 a4) (dy_200_32 hS) hS) (fun v10 r3 => ?_)
    refine EQ_jl rfl (fun x11 ex11 => ?_)
    clear ex11
    refine EQ_jgd (show h 356 (-2) = 8 from by rw [k_356 hS]) ?_
    refine EQ_jgd (show h 356 (-2) = 8 from by rw [k_356 hS]) ?_
    refine EQ_jgd (show h (h 356 13) (-2) = 2 from by rw [r_356_13 hS, k_200 hS]) ?_
    refine EQ_jgd ⟨(show h (h (h 356 13) 34) (-2) = 101 from by rw [r_356_13 hS, r_200_34 hS, k_353 hS]), ((show jI a4 (h (h (h 356 13) 34) (-1)) ↔ jI a4 12 from by rw [r_356_13 hS, r_200_34 hS, l_353 hS]).mpr g2)⟩ ?_
    refine EQ_jgd (show h 356 (-2) = 8 from by rw [k_356 hS]) ?_
    refine EQ_jb2 (by rw [r_356_0 hS, r_356_13 hS, r_200_34 hS]; exact eX7_sizeBehind i1 (h 353 a4) hS) (fun v13 h14 r4 => ?_)
    replace r4 : Sh S h14 := r4
    refine EQ_jl rfl (fun x15 ex15 => ?_)
    clear ex15
    refine EQ_jl rfl (fun x16 ex16 => ?_)
    clear ex16
    exact EQ_some r4
noncomputable def gX7_saving_l7 (i1 : Int) (a2 : Int) (a3 : Int) (a4 : Int) (h : AH) : Option (Int × Int × AH) := jit (gX7_saving_b7 i1) (a2, a3, a4, h)
theorem eX7_saving_l7 (i1 : Int) (a2 : Int) (a3 : Int) (a4 : Int) {h : AH} (hS : Sh S h) : EQ (fX7_saving_l7 356 i1 a2 a3 a4 h) (gX7_saving_l7 i1 a2 a3 a4 h) (fun r => Sh S r.2.2) := EQ_jit (I := (fun r => Sh S r.2.2.2)) (fun s hs => eX7_saving_b7 i1 hs) hS
noncomputable def gX7_saving (a1 : Int) (h : AH) : Option (Int × AH) := jb (gX7_saving_l7 a1 0 0 0 h) fun o1 => jt3 o1 fun y3 y4 h5 => jb (gX3_size 357 a1 h5) fun v7 => some (w32 (w32 (y3 - y4) - v7), h5)
theorem eX7_saving (a1 : Int) {h : AH} (hS : Sh S h) : EQ (fX7_saving 356 a1 h) (gX7_saving a1 h) (fun r => Sh S r.2) := by
  unfold fX7_saving gX7_saving
  refine EQ_jb (eX7_saving_l7 a1 0 0 0 hS) (fun o1 r1 => ?_)
  obtain ⟨y3, y4, h5⟩ := o1
  refine EQ_jt3 ?_
  replace r1 : Sh S h5 := r1
  refine EQ_jgd (show h5 356 (-2) = 8 from by rw [k_356 r1]) ?_
  refine EQ_jgd (show h5 (h5 356 0) (-2) = 4 from by rw [r_356_0 r1, k_357 r1]) ?_
  refine EQ_jb (by rw [r_356_0 r1]; exact eX3_size 357 a1 (by unfold isX3; decide) r1) (fun v7 r2 => ?_)
  exact EQ_some r1
noncomputable def gX6_isBefore_j86 (h : AH) : Option (Int) := if h 371 1 ≤ h 369 1 then (some 0) else (some 1)
theorem eX6_isBefore_j86 {h : AH} (hS : Sh S h) : EQ (fX6_isBefore_j86 369 371 h) (gX6_isBefore_j86 h) (fun _ => True) := by
  unfold fX6_isBefore_j86 gX6_isBefore_j86
  refine EQ_jgd (show h 369 (-2) = 7 from by rw [k_369 hS]) ?_
  refine EQ_jgd (show h 371 (-2) = 7 from by rw [k_371 hS]) ?_
  refine EQ_if Iff.rfl (fun c1 => ?_) (fun c1 => ?_)
  · exact EQ_some trivial
  · exact EQ_some trivial
noncomputable def gX6_isBefore_j39 (a2 : Int) (h : AH) : Option (Int) := if h 369 1 ≤ a2 then (gX6_isBefore_j86 h) else (if h 371 1 ≤ a2 then (gX6_isBefore_j86 h) else (jg (jI a2 400) <| if jand (h 372 a2) 255 ≤ jand (h 370 a2) 255 then (some 0) else (some 1)))
theorem eX6_isBefore_j39 (a2 : Int) {h : AH} (hS : Sh S h) : EQ (fX6_isBefore_j39 369 371 a2 h) (gX6_isBefore_j39 a2 h) (fun _ => True) := by
  unfold fX6_isBefore_j39 gX6_isBefore_j39
  refine EQ_jgd (show h 369 (-2) = 7 from by rw [k_369 hS]) ?_
  refine EQ_if Iff.rfl (fun c1 => ?_) (fun c1 => ?_)
  · exact (eX6_isBefore_j86 hS)
  · refine EQ_jgd (show h 371 (-2) = 7 from by rw [k_371 hS]) ?_
    refine EQ_if Iff.rfl (fun c2 => ?_) (fun c2 => ?_)
    · exact (eX6_isBefore_j86 hS)
    · refine EQ_jgd (show h 369 (-2) = 7 from by rw [k_369 hS]) ?_
      refine EQ_jg ⟨fun ⟨_, x0⟩ => (show jI a2 (h (h 369 0) (-1)) ↔ jI a2 400 from by rw [r_369_0 hS, l_370 hS]).mp x0, fun x0 => ⟨(show h (h 369 0) (-2) = 103 from by rw [r_369_0 hS, k_370 hS]), (show jI a2 (h (h 369 0) (-1)) ↔ jI a2 400 from by rw [r_369_0 hS, l_370 hS]).mpr x0⟩⟩ (fun g3 => ?_)
      refine EQ_jgd (show h 371 (-2) = 7 from by rw [k_371 hS]) ?_
      refine EQ_jgd ⟨(show h (h 371 0) (-2) = 103 from by rw [r_371_0 hS, k_372 hS]), ((show jI a2 (h (h 371 0) (-1)) ↔ jI a2 400 from by rw [r_371_0 hS, l_372 hS]).mpr g3)⟩ ?_
      refine EQ_if (show jand (h (h 371 0) a2) 255 ≤ jand (h (h 369 0) a2) 255 ↔ jand (h 372 a2) 255 ≤ jand (h 370 a2) 255 from by rw [r_371_0 hS, r_369_0 hS]) (fun c4 => ?_) (fun c4 => ?_)
      · exact EQ_some trivial
      · exact EQ_some trivial
noncomputable def gX6_isBefore_b2 (h : AH) (a2 : Int) : Option ((Int) ⊕ (Int)) := if h 369 1 ≤ a2 then (some (.inr a2)) else (if h 371 1 ≤ a2 then (some (.inr a2)) else (jg (jI a2 400) <| if h 370 a2 = h 372 a2 then (jl (w32 (a2 + 1)) fun x10 => some (.inl x10)) else (some (.inr a2))))
theorem eX6_isBefore_b2 (a2 : Int) {h : AH} (hS : Sh S h) : EQ (fX6_isBefore_b2 369 371 h a2) (gX6_isBefore_b2 h a2) (Sum.elim (fun _ => True) (fun _ => True)) := by
  unfold fX6_isBefore_b2 gX6_isBefore_b2
  refine EQ_jgd (show h 369 (-2) = 7 from by rw [k_369 hS]) ?_
  refine EQ_if Iff.rfl (fun c1 => ?_) (fun c1 => ?_)
  · exact EQ_some trivial
  · refine EQ_jgd (show h 371 (-2) = 7 from by rw [k_371 hS]) ?_
    refine EQ_if Iff.rfl (fun c2 => ?_) (fun c2 => ?_)
    · exact EQ_some trivial
    · refine EQ_jgd (show h 369 (-2) = 7 from by rw [k_369 hS]) ?_
      refine EQ_jg ⟨fun ⟨_, x0⟩ => (show jI a2 (h (h 369 0) (-1)) ↔ jI a2 400 from by rw [r_369_0 hS, l_370 hS]).mp x0, fun x0 => ⟨(show h (h 369 0) (-2) = 103 from by rw [r_369_0 hS, k_370 hS]), (show jI a2 (h (h 369 0) (-1)) ↔ jI a2 400 from by rw [r_369_0 hS, l_370 hS]).mpr x0⟩⟩ (fun g3 => ?_)
      refine EQ_jgd (show h 371 (-2) = 7 from by rw [k_371 hS]) ?_
      refine EQ_jgd ⟨(show h (h 371 0) (-2) = 103 from by rw [r_371_0 hS, k_372 hS]), ((show jI a2 (h (h 371 0) (-1)) ↔ jI a2 400 from by rw [r_371_0 hS, l_372 hS]).mpr g3)⟩ ?_
      refine EQ_if (show h (h 369 0) a2 = h (h 371 0) a2 ↔ h 370 a2 = h 372 a2 from by rw [r_369_0 hS, r_371_0 hS]) (fun c4 => ?_) (fun c4 => ?_)
      · refine EQ_jl rfl (fun x10 ex10 => ?_)
        clear ex10
        exact EQ_some trivial
      · exact EQ_some trivial
noncomputable def gX6_isBefore_l2 (a2 : Int) (h : AH) : Option (Int) := jit (gX6_isBefore_b2 h) a2
theorem eX6_isBefore_l2 (a2 : Int) {h : AH} (hS : Sh S h) : EQ (fX6_isBefore_l2 369 371 a2 h) (gX6_isBefore_l2 a2 h) (fun _ => True) := EQ_jit (I := (fun _ => True)) (fun s _ => eX6_isBefore_b2 s hS) trivial
noncomputable def gX6_isBefore (h : AH) : Option (Int) := jb (gX6_isBefore_l2 0 h) fun o1 => gX6_isBefore_j39 o1 h
theorem eX6_isBefore {h : AH} (hS : Sh S h) : EQ (fX6_isBefore 369 371 h) (gX6_isBefore h) (fun _ => True) := by
  unfold fX6_isBefore gX6_isBefore
  refine EQ_jb (eX6_isBefore_l2 0 hS) (fun o1 r1 => ?_)
  exact (eX6_isBefore_j39 o1 hS)
noncomputable def gX6_set (h : AH) : Option (AH) := jl (jst h 371 1 (h 369 1)) fun h1 => jg ((0 : Int) ≤ 0 ∧ (0 : Int) ≤ 0 ∧ (0 : Int) ≤ h1 371 1 ∧ (0 : Int) + h1 371 1 ≤ 400 ∧ (0 : Int) + h1 371 1 ≤ 400) <| jl (jcpy h1 370 0 372 0 (h1 371 1)) fun h2 => some h2
theorem eX6_set {h : AH} (hS : Sh S h) : EQ (fX6_set 371 369 h) (gX6_set h) (fun r => Sh S r) := by
  unfold fX6_set gX6_set
  refine EQ_jgd (show h 369 (-2) = 7 from by rw [k_369 hS]) ?_
  refine EQ_jgd ⟨(show h 371 (-2) = 7 from by rw [k_371 hS]), (show (200 : Int) ≤ 371 from (by decide))⟩ ?_
  refine EQ_jl rfl (fun h1 eh1 => ?_)
  have s1 := Sh_of eh1 (Sh_sto hS (a := 371) (i := 1) (by decide +kernel))
  clear eh1
  refine EQ_jgd (show h1 369 (-2) = 7 from by rw [k_369 s1]) ?_
  refine EQ_jgd (show h1 371 (-2) = 7 from by rw [k_371 s1]) ?_
  refine EQ_jgd (show h1 371 (-2) = 7 from by rw [k_371 s1]) ?_
  refine EQ_jg ⟨fun x0 => (show jcpG h1 103 (h1 369 0) 0 (h1 371 0) 0 (h1 371 1) ↔ (0 : Int) ≤ 0 ∧ (0 : Int) ≤ 0 ∧ (0 : Int) ≤ h1 371 1 ∧ (0 : Int) + h1 371 1 ≤ 400 ∧ (0 : Int) + h1 371 1 ≤ 400 from by rw [r_369_0 s1, r_371_0 s1]; exact cpg (by rw [k_370 s1]) (by rw [k_372 s1]) ((by decide)) ((by decide)) (l_370 s1) (l_372 s1)).mp x0, fun x0 => (show jcpG h1 103 (h1 369 0) 0 (h1 371 0) 0 (h1 371 1) ↔ (0 : Int) ≤ 0 ∧ (0 : Int) ≤ 0 ∧ (0 : Int) ≤ h1 371 1 ∧ (0 : Int) + h1 371 1 ≤ 400 ∧ (0 : Int) + h1 371 1 ≤ 400 from by rw [r_369_0 s1, r_371_0 s1]; exact cpg (by rw [k_370 s1]) (by rw [k_372 s1]) ((by decide)) ((by decide)) (l_370 s1) (l_372 s1)).mpr x0⟩ (fun g2 => ?_)
  refine EQ_jl (by rw [r_369_0 s1, r_371_0 s1]) (fun h2 eh2 => ?_)
  have s3 := Sh_of eh2 (Sh_cpy s1 (by decide +kernel) (by decide) (fun _ => ⟨k_370 s1, (by decide)⟩))
  clear eh2
  exact EQ_some s3
noncomputable def gX7_look_b184 (s : Int × AH) : Option ((Int × AH) ⊕ (AH)) := jt2 s fun a6 h => if 2 ≤ a6 then (some (.inr h)) else (jg (jI a6 3) <| jl (jst h 376 a6 (h 375 a6)) fun h37 => jl (w32 (a6 + 1)) fun x38 => some (.inl (x38, h37)))
theorem eX7_look_b184 {s : Int × AH} (hS : (fun r => Sh S r.2) s) : EQ (fX7_look_b184 356 s) (gX7_look_b184 s) (Sum.elim (fun r => Sh S r.2) (fun r => Sh S r)) := by
  unfold fX7_look_b184 gX7_look_b184
  obtain ⟨a6, h⟩ := s
  refine EQ_jt2 ?_
  replace hS : Sh S h := hS
  refine EQ_if Iff.rfl (fun c1 => ?_) (fun c1 => ?_)
  · exact EQ_some hS
  · refine EQ_jgd (show h 356 (-2) = 8 from by rw [k_356 hS]) ?_
    refine EQ_jgd (show h 356 (-2) = 8 from by rw [k_356 hS]) ?_
    refine EQ_jg ⟨fun ⟨_, x0⟩ => (show jI a6 (h (h 356 8) (-1)) ↔ jI a6 3 from by rw [r_356_8 hS, l_375 hS]).mp x0, fun x0 => ⟨(show h (h 356 8) (-2) = 101 from by rw [r_356_8 hS, k_375 hS]), (show jI a6 (h (h 356 8) (-1)) ↔ jI a6 3 from by rw [r_356_8 hS, l_375 hS]).mpr x0⟩⟩ (fun g2 => ?_)
    refine EQ_jgd ⟨(show h (h 356 9) (-2) = 101 from by rw [r_356_9 hS, k_376 hS]), (show 200 ≤ h 356 9 from by rw [r_356_9 hS]; exact (by decide)), ((show jI a6 (h (h 356 9) (-1)) ↔ jI a6 3 from by rw [r_356_9 hS, l_376 hS]).mpr g2)⟩ ?_
    refine EQ_jl (by rw [r_356_9 hS, r_356_8 hS]) (fun h37 eh37 => ?_)
    have s3 := Sh_of eh37 (Sh_sta hS (by decide +kernel) (jI_nn g2) (fun e => absurd ((k_376 hS).symm.trans e) (by decide)))
    clear eh37
    refine EQ_jl rfl (fun x38 ex38 => ?_)
    clear ex38
    exact EQ_some s3
noncomputable def gX7_look_l184 (a6 : Int) (h : AH) : Option (AH) := jit gX7_look_b184 (a6, h)
theorem eX7_look_l184 (a6 : Int) {h : AH} (hS : Sh S h) : EQ (fX7_look_l184 356 a6 h) (gX7_look_l184 a6 h) (fun r => Sh S r) := EQ_jit (I := (fun r => Sh S r.2)) (fun s hs => eX7_look_b184 hs) hS
noncomputable def gX7_look_j134 (a3 : Int) (a4 : Int) (h : AH) : Option (AH) := jl (jst h 356 2 a4) fun h26 => jb (gX6_set h26) fun h28 => jl (jst h28 363 0 0) fun h29 => jb2 (gX3_copy 363 357 a3 h29) fun v31 h32 => jl (jst h32 356 10 (h32 356 5)) fun h33 => jb (gX7_look_l184 0 h33) fun o34 => some o34
theorem eX7_look_j134 (a3 : Int) (a4 : Int) {h : AH} (hS : Sh S h) : EQ (fX7_look_j134 356 a3 a4 h) (gX7_look_j134 a3 a4 h) (fun r => Sh S r) := by
  unfold fX7_look_j134 gX7_look_j134
  refine EQ_jgd ⟨(show h 356 (-2) = 8 from by rw [k_356 hS]), (show (200 : Int) ≤ 356 from (by decide))⟩ ?_
  refine EQ_jl rfl (fun h26 eh26 => ?_)
  have s1 := Sh_of eh26 (Sh_sto hS (a := 356) (i := 2) (by decide +kernel))
  clear eh26
  refine EQ_jgd (show h26 356 (-2) = 8 from by rw [k_356 s1]) ?_
  refine EQ_jgd (show h26 356 (-2) = 8 from by rw [k_356 s1]) ?_
  refine EQ_jgd (show h26 (h26 356 4) (-2) = 7 from by rw [r_356_4 s1, k_371 s1]) ?_
  refine EQ_jb (by rw [r_356_4 s1, r_356_3 s1]; exact eX6_set s1) (fun h28 r2 => ?_)
  refine EQ_jgd (show h28 356 (-2) = 8 from by rw [k_356 r2]) ?_
  refine EQ_jgd ⟨(show h28 (h28 356 1) (-2) = 4 from by rw [r_356_1 r2, k_363 r2]), (show 200 ≤ h28 356 1 from by rw [r_356_1 r2]; exact (by decide))⟩ ?_
  refine EQ_jl (by rw [r_356_1 r2]) (fun h29 eh29 => ?_)
  have s3 := Sh_of eh29 (Sh_sto r2 (a := 363) (i := 0) (by decide +kernel))
  clear eh29
  refine EQ_jgd (show h29 356 (-2) = 8 from by rw [k_356 s3]) ?_
  refine EQ_jgd (show h29 356 (-2) = 8 from by rw [k_356 s3]) ?_
  refine EQ_jgd (show h29 (h29 356 1) (-2) = 4 from by rw [r_356_1 s3, k_363 s3]) ?_
  refine EQ_jb2 (by rw [r_356_1 s3, r_356_0 s3]; exact eX3_copy 363 357 a3 (by unfold isX3; decide) (by unfold isX3; decide) s3) (fun v31 h32 r4 => ?_)
  replace r4 : Sh S h32 := r4
  refine EQ_jgd (show h32 356 (-2) = 8 from by rw [k_356 r4]) ?_
  refine EQ_jgd ⟨(show h32 356 (-2) = 8 from by rw [k_356 r4]), (show (200 : Int) ≤ 356 from (by decide))⟩ ?_
  refine EQ_jl rfl (fun h33 eh33 => ?_)
  have s5 := Sh_of eh33 (Sh_sto r4 (a := 356) (i := 10) (by decide +kernel))
  clear eh33
  refine EQ_jb (eX7_look_l184 0 s5) (fun o34 r6 => ?_)
  exact EQ_some r6
noncomputable def gX7_look (a1 : Int) (a2 : Int) (h : AH) : Option (AH) := jl (jst h 357 0 0) fun h1 => jl (jst h1 356 5 0) fun h2 => jl (jst h2 356 11 1) fun h3 => jb2 (gX7_join a1 a2 h3) fun v5 h6 => if h6 356 11 = 0 then (some h6) else (if h6 356 5 = 0 then (some h6) else (jb (gX1_weight 357 v5 h6) fun v10 => if 40 < v10 then (some h6) else (jb (gX7_isBare v5 h6) fun v13 => if v13 = 0 then (jb2 (gX7_saving v5 h6) fun v16 h17 => if max 1 (h17 356 2) ≤ v16 then (jl (jst h17 369 1 0) fun h19 => jb (gX1_tell 357 v5 369 h19) fun h21 => if v16 = h21 356 2 then (jb (gX6_isBefore h21) fun v24 => if v24 = 0 then (some h21) else (gX7_look_j134 v5 v16 h21)) else (gX7_look_j134 v5 v16 h21)) else (some h17)) else (some h6))))
theorem eX7_look (a1 : Int) (a2 : Int) {h : AH} (hS : Sh S h) : EQ (fX7_look 356 a1 a2 h) (gX7_look a1 a2 h) (fun r => Sh S r) := by
  unfold fX7_look gX7_look
  refine EQ_jgd (show h 356 (-2) = 8 from by rw [k_356 hS]) ?_
  refine EQ_jgd ⟨(show h (h 356 0) (-2) = 4 from by rw [r_356_0 hS, k_357 hS]), (show 200 ≤ h 356 0 from by rw [r_356_0 hS]; exact (by decide))⟩ ?_
  refine EQ_jl (by rw [r_356_0 hS]) (fun h1 eh1 => ?_)
  have s1 := Sh_of eh1 (Sh_sto hS (a := 357) (i := 0) (by decide +kernel))
  clear eh1
  refine EQ_jgd ⟨(show h1 356 (-2) = 8 from by rw [k_356 s1]), (show (200 : Int) ≤ 356 from (by decide))⟩ ?_
  refine EQ_jl rfl (fun h2 eh2 => ?_)
  have s2 := Sh_of eh2 (Sh_sto s1 (a := 356) (i := 5) (by decide +kernel))
  clear eh2
  refine EQ_jgd ⟨(show h2 356 (-2) = 8 from by rw [k_356 s2]), (show (200 : Int) ≤ 356 from (by decide)), (show jZ 1 from by unfold jZ; decide)⟩ ?_
  refine EQ_jl rfl (fun h3 eh3 => ?_)
  have s3 := Sh_of eh3 (Sh_sto s2 (a := 356) (i := 11) (by decide +kernel))
  clear eh3
  refine EQ_jgd (show h3 356 (-2) = 8 from by rw [k_356 s3]) ?_
  refine EQ_jb2 (eX7_join a1 a2 s3) (fun v5 h6 r4 => ?_)
  replace r4 : Sh S h6 := r4
  refine EQ_jgd (show h6 356 (-2) = 8 from by rw [k_356 r4]) ?_
  refine EQ_if Iff.rfl (fun c5 => ?_) (fun c5 => ?_)
  · exact EQ_some r4
  · refine EQ_jgd (show h6 356 (-2) = 8 from by rw [k_356 r4]) ?_
    refine EQ_if Iff.rfl (fun c6 => ?_) (fun c6 => ?_)
    · exact EQ_some r4
    · refine EQ_jgd (show h6 356 (-2) = 8 from by rw [k_356 r4]) ?_
      refine EQ_jgd (show h6 356 (-2) = 8 from by rw [k_356 r4]) ?_
      refine EQ_jgd (show h6 (h6 356 13) (-2) = 2 from by rw [r_356_13 r4, k_200 r4]) ?_
      refine EQ_jb (by rw [r_356_13 r4, r_356_0 r4]; exact eX1_weight 357 v5 (by unfold isX3; decide) r4) (fun v10 r7 => ?_)
      refine EQ_if Iff.rfl (fun c8 => ?_) (fun c8 => ?_)
      · exact EQ_some r4
      · refine EQ_jgd (show h6 356 (-2) = 8 from by rw [k_356 r4]) ?_
        refine EQ_jb (eX7_isBare v5 r4) (fun v13 r9 => ?_)
        refine EQ_if Iff.rfl (fun c10 => ?_) (fun c10 => ?_)
        · refine EQ_jgd (show h6 356 (-2) = 8 from by rw [k_356 r4]) ?_
          refine EQ_jb2 (eX7_saving v5 r4) (fun v16 h17 r11 => ?_)
          replace r11 : Sh S h17 := r11
          refine EQ_jgd (show h17 356 (-2) = 8 from by rw [k_356 r11]) ?_
          refine EQ_if Iff.rfl (fun c12 => ?_) (fun c12 => ?_)
          · refine EQ_jgd (show h17 356 (-2) = 8 from by rw [k_356 r11]) ?_
            refine EQ_jgd ⟨(show h17 (h17 356 3) (-2) = 7 from by rw [r_356_3 r11, k_369 r11]), (show 200 ≤ h17 356 3 from by rw [r_356_3 r11]; exact (by decide))⟩ ?_
            refine EQ_jl (by rw [r_356_3 r11]) (fun h19 eh19 => ?_)
            have s13 := Sh_of eh19 (Sh_sto r11 (a := 369) (i := 1) (by decide +kernel))
            clear eh19
            refine EQ_jgd (show h19 356 (-2) = 8 from by rw [k_356 s13]) ?_
            refine EQ_jgd (show h19 356 (-2) = 8 from by rw [k_356 s13]) ?_
            refine EQ_jgd (show h19 356 (-2) = 8 from by rw [k_356 s13]) ?_
            refine EQ_jgd (show h19 (h19 356 13) (-2) = 2 from by rw [r_356_13 s13, k_200 s13]) ?_
            refine EQ_jb (by rw [r_356_13 s13, r_356_0 s13, r_356_3 s13]; exact eX1_tell 357 v5 369 (by unfold isX3; decide) (by unfold isX6; decide) s13) (fun h21 r14 => ?_)
            refine EQ_jgd (show h21 356 (-2) = 8 from by rw [k_356 r14]) ?_
            refine EQ_if Iff.rfl (fun c15 => ?_) (fun c15 => ?_)
            · refine EQ_jgd (show h21 356 (-2) = 8 from by rw [k_356 r14]) ?_
              refine EQ_jgd (show h21 356 (-2) = 8 from by rw [k_356 r14]) ?_
              refine EQ_jgd (show h21 (h21 356 3) (-2) = 7 from by rw [r_356_3 r14, k_369 r14]) ?_
              refine EQ_jb (by rw [r_356_3 r14, r_356_4 r14]; exact eX6_isBefore r14) (fun v24 r16 => ?_)
              refine EQ_if Iff.rfl (fun c17 => ?_) (fun c17 => ?_)
              · exact EQ_some r14
              · exact (eX7_look_j134 v5 v16 r14)
            · exact (eX7_look_j134 v5 v16 r14)
          · exact EQ_some r11
        · exact EQ_some r4
noncomputable def gX7_find_j113_7 (a1 : Int) (h : AH) : Option ((Int × AH) ⊕ (AH)) := jl (w32 (a1 + 1)) fun x9 => some (.inl (x9, h))
theorem eX7_find_j113_7 (a1 : Int) {h : AH} (hS : Sh S h) : EQ (fX7_find_j113_7 356 a1 h) (gX7_find_j113_7 a1 h) (Sum.elim (fun r => Sh S r.2) (fun r => Sh S r)) := by
  unfold fX7_find_j113_7 gX7_find_j113_7
  refine EQ_jl rfl (fun x9 ex9 => ?_)
  clear ex9
  exact EQ_some hS
noncomputable def gX7_find_j107_44 (a1 : Int) (a2 : Int) (h : AH) : Option ((Int × AH) ⊕ (AH)) := jl (w32 (a2 + 1)) fun x15 => some (.inl (x15, h))
theorem eX7_find_j107_44 (a1 : Int) (a2 : Int) {h : AH} (hS : Sh S h) : EQ (fX7_find_j107_44 356 a1 a2 h) (gX7_find_j107_44 a1 a2 h) (Sum.elim (fun r => Sh S r.2) (fun r => Sh S r)) := by
  unfold fX7_find_j107_44 gX7_find_j107_44
  refine EQ_jl rfl (fun x15 ex15 => ?_)
  clear ex15
  exact EQ_some hS
noncomputable def gX7_find_b44 (i1 : Int) (s : Int × AH) : Option ((Int × AH) ⊕ (AH)) := jt2 s fun a2 h => if h (h 200 32) 0 ≤ a2 then (some (.inr h)) else (jg (jI a2 (h (h 200 32 + 1) (-1))) <| if h (h 200 32 + 1) a2 = 2 then (jg (jI a2 (h (h 200 32 + 2) (-1))) <| jg (jI i1 (h (h 200 32 + 2) (-1))) <| if h (h 200 32 + 2) a2 = h (h 200 32 + 2) i1 then (jb (gX7_look i1 a2 h) fun h14 => gX7_find_j107_44 i1 a2 h14) else (gX7_find_j107_44 i1 a2 h)) else (gX7_find_j107_44 i1 a2 h))
theorem eX7_find_b44 (i1 : Int) {s : Int × AH} (hS : (fun r => Sh S r.2) s) : EQ (fX7_find_b44 356 i1 s) (gX7_find_b44 i1 s) (Sum.elim (fun r => Sh S r.2) (fun r => Sh S r)) := by
  unfold fX7_find_b44 gX7_find_b44
  obtain ⟨a2, h⟩ := s
  refine EQ_jt2 ?_
  replace hS : Sh S h := hS
  refine EQ_jgd (show h 356 (-2) = 8 from by rw [k_356 hS]) ?_
  refine EQ_jgd (show h (h 356 13) (-2) = 2 from by rw [r_356_13 hS, k_200 hS]) ?_
  refine EQ_jgd (show h (h (h 356 13) 32) (-2) = 4 from by rw [r_356_13 hS, kd_X3 hS (dy_200_32 hS)]) ?_
  refine EQ_if (show h (h (h 356 13) 32) 0 ≤ a2 ↔ h (h 200 32) 0 ≤ a2 from by rw [r_356_13 hS]) (fun c1 => ?_) (fun c1 => ?_)
  · exact EQ_some hS
  · refine EQ_jgd (show h 356 (-2) = 8 from by rw [k_356 hS]) ?_
    refine EQ_jgd (show h (h 356 13) (-2) = 2 from by rw [r_356_13 hS, k_200 hS]) ?_
    refine EQ_jgd (show h (h (h 356 13) 32) (-2) = 4 from by rw [r_356_13 hS, kd_X3 hS (dy_200_32 hS)]) ?_
    refine EQ_jg ⟨fun ⟨_, x0⟩ => (show jI a2 (h (h (h (h 356 13) 32) 1) (-1)) ↔ jI a2 (h (h 200 32 + 1) (-1)) from by rw [r_356_13 hS, ft_X3_1 hS (dy_200_32 hS)]).mp x0, fun x0 => ⟨(show h (h (h (h 356 13) 32) 1) (-2) = 101 from by rw [r_356_13 hS, ft_X3_1 hS (dy_200_32 hS), ka_X3_1 hS (dy_200_32 hS)]), (show jI a2 (h (h (h (h 356 13) 32) 1) (-1)) ↔ jI a2 (h (h 200 32 + 1) (-1)) from by rw [r_356_13 hS, ft_X3_1 hS (dy_200_32 hS)]).mpr x0⟩⟩ (fun g2 => ?_)
    refine EQ_if (show h (h (h (h 356 13) 32) 1) a2 = 2 ↔ h (h 200 32 + 1) a2 = 2 from by rw [r_356_13 hS, ft_X3_1 hS (dy_200_32 hS)]) (fun c3 => ?_) (fun c3 => ?_)
    · refine EQ_jgd (show h 356 (-2) = 8 from by rw [k_356 hS]) ?_
      refine EQ_jgd (show h (h 356 13) (-2) = 2 from by rw [r_356_13 hS, k_200 hS]) ?_
      refine EQ_jgd (show h (h (h 356 13) 32) (-2) = 4 from by rw [r_356_13 hS, kd_X3 hS (dy_200_32 hS)]) ?_
      refine EQ_jg ⟨fun ⟨_, x0⟩ => (show jI a2 (h (h (h (h 356 13) 32) 2) (-1)) ↔ jI a2 (h (h 200 32 + 2) (-1)) from by rw [r_356_13 hS, ft_X3_2 hS (dy_200_32 hS)]).mp x0, fun x0 => ⟨(show h (h (h (h 356 13) 32) 2) (-2) = 101 from by rw [r_356_13 hS, ft_X3_2 hS (dy_200_32 hS), ka_X3_2 hS (dy_200_32 hS)]), (show jI a2 (h (h (h (h 356 13) 32) 2) (-1)) ↔ jI a2 (h (h 200 32 + 2) (-1)) from by rw [r_356_13 hS, ft_X3_2 hS (dy_200_32 hS)]).mpr x0⟩⟩ (fun g4 => ?_)
      refine EQ_jgd (show h 356 (-2) = 8 from by rw [k_356 hS]) ?_
      refine EQ_jgd (show h (h 356 13) (-2) = 2 from by rw [r_356_13 hS, k_200 hS]) ?_
      refine EQ_jgd (show h (h (h 356 13) 32) (-2) = 4 from by rw [r_356_13 hS, kd_X3 hS (dy_200_32 hS)]) ?_
      refine EQ_jg ⟨fun ⟨_, x0⟩ => (show jI i1 (h (h (h (h 356 13) 32) 2) (-1)) ↔ jI i1 (h (h 200 32 + 2) (-1)) from by rw [r_356_13 hS, ft_X3_2 hS (dy_200_32 hS)]).mp x0, fun x0 => ⟨(show h (h (h (h 356 13) 32) 2) (-2) = 101 from by rw [r_356_13 hS, ft_X3_2 hS (dy_200_32 hS), ka_X3_2 hS (dy_200_32 hS)]), (show jI i1 (h (h (h (h 356 13) 32) 2) (-1)) ↔ jI i1 (h (h 200 32 + 2) (-1)) from by rw [r_356_13 hS, ft_X3_2 hS (dy_200_32 hS)]).mpr x0⟩⟩ (fun g5 => ?_)
      refine EQ_if (show h (h (h (h 356 13) 32) 2) a2 = h (h (h (h 356 13) 32) 2) i1 ↔ h (h 200 32 + 2) a2 = h (h 200 32 + 2) i1 from by rw [r_356_13 hS, ft_X3_2 hS (dy_200_32 hS)]) (fun c6 => ?_) (fun c6 => ?_)
      · refine EQ_jgd (show h 356 (-2) = 8 from by rw [k_356 hS]) ?_
        refine EQ_jb (eX7_look i1 a2 hS) (fun h14 r7 => ?_)
        exact (eX7_find_j107_44 i1 a2 r7)
      · exact (eX7_find_j107_44 i1 a2 hS)
    · exact (eX7_find_j107_44 i1 a2 hS)
noncomputable def gX7_find_l44 (i1 : Int) (a2 : Int) (h : AH) : Option (AH) := jit (gX7_find_b44 i1) (a2, h)
theorem eX7_find_l44 (i1 : Int) (a2 : Int) {h : AH} (hS : Sh S h) : EQ (fX7_find_l44 356 i1 a2 h) (gX7_find_l44 i1 a2 h) (fun r => Sh S r) := EQ_jit (I := (fun r => Sh S r.2)) (fun s hs => eX7_find_b44 i1 hs) hS
noncomputable def gX7_find_b7 (s : Int × AH) : Option ((Int × AH) ⊕ (AH)) := jt2 s fun a1 h => if h (h 200 32) 0 ≤ a1 then (some (.inr h)) else (jg (jI a1 (h (h 200 32 + 1) (-1))) <| if h (h 200 32 + 1) a1 = 2 then (jl (w32 (a1 + 1)) fun x6 => jb (gX7_find_l44 a1 x6 h) fun o7 => gX7_find_j113_7 a1 o7) else (gX7_find_j113_7 a1 h))
theorem eX7_find_b7 {s : Int × AH} (hS : (fun r => Sh S r.2) s) : EQ (fX7_find_b7 356 s) (gX7_find_b7 s) (Sum.elim (fun r => Sh S r.2) (fun r => Sh S r)) := by
  unfold fX7_find_b7 gX7_find_b7
  obtain ⟨a1, h⟩ := s
  refine EQ_jt2 ?_
  replace hS : Sh S h := hS
  refine EQ_jgd (show h 356 (-2) = 8 from by rw [k_356 hS]) ?_
  refine EQ_jgd (show h (h 356 13) (-2) = 2 from by rw [r_356_13 hS, k_200 hS]) ?_
  refine EQ_jgd (show h (h (h 356 13) 32) (-2) = 4 from by rw [r_356_13 hS, kd_X3 hS (dy_200_32 hS)]) ?_
  refine EQ_if (show h (h (h 356 13) 32) 0 ≤ a1 ↔ h (h 200 32) 0 ≤ a1 from by rw [r_356_13 hS]) (fun c1 => ?_) (fun c1 => ?_)
  · exact EQ_some hS
  · refine EQ_jgd (show h 356 (-2) = 8 from by rw [k_356 hS]) ?_
    refine EQ_jgd (show h (h 356 13) (-2) = 2 from by rw [r_356_13 hS, k_200 hS]) ?_
    refine EQ_jgd (show h (h (h 356 13) 32) (-2) = 4 from by rw [r_356_13 hS, kd_X3 hS (dy_200_32 hS)]) ?_
    refine EQ_jg ⟨fun ⟨_, x0⟩ => (show jI a1 (h (h (h (h 356 13) 32) 1) (-1)) ↔ jI a1 (h (h 200 32 + 1) (-1)) from by rw [r_356_13 hS, ft_X3_1 hS (dy_200_32 hS)]).mp x0, fun x0 => ⟨(show h (h (h (h 356 13) 32) 1) (-2) = 101 from by rw [r_356_13 hS, ft_X3_1 hS (dy_200_32 hS), ka_X3_1 hS (dy_200_32 hS)]), (show jI a1 (h (h (h (h 356 13) 32) 1) (-1)) ↔ jI a1 (h (h 200 32 + 1) (-1)) from by rw [r_356_13 hS, ft_X3_1 hS (dy_200_32 hS)]).mpr x0⟩⟩ (fun g2 => ?_)
    refine EQ_if (show h (h (h (h 356 13) 32) 1) a1 = 2 ↔ h (h 200 32 + 1) a1 = 2 from by rw [r_356_13 hS, ft_X3_1 hS (dy_200_32 hS)]) (fun c3 => ?_) (fun c3 => ?_)
    · refine EQ_jl rfl (fun x6 ex6 => ?_)
      clear ex6
      refine EQ_jb (eX7_find_l44 a1 x6 hS) (fun o7 r4 => ?_)
      exact (eX7_find_j113_7 a1 r4)
    · exact (eX7_find_j113_7 a1 hS)
noncomputable def gX7_find_l7 (a1 : Int) (h : AH) : Option (AH) := jit gX7_find_b7 (a1, h)
theorem eX7_find_l7 (a1 : Int) {h : AH} (hS : Sh S h) : EQ (fX7_find_l7 356 a1 h) (gX7_find_l7 a1 h) (fun r => Sh S r) := EQ_jit (I := (fun r => Sh S r.2)) (fun s hs => eX7_find_b7 hs) hS
noncomputable def gX7_find (h : AH) : Option (AH) := jl (jst h 356 2 0) fun h1 => jb (gX7_find_l7 0 h1) fun o2 => some o2
theorem eX7_find {h : AH} (hS : Sh S h) : EQ (fX7_find 356 h) (gX7_find h) (fun r => Sh S r) := by
  unfold fX7_find gX7_find
  refine EQ_jgd ⟨(show h 356 (-2) = 8 from by rw [k_356 hS]), (show (200 : Int) ≤ 356 from (by decide))⟩ ?_
  refine EQ_jl rfl (fun h1 eh1 => ?_)
  have s1 := Sh_of eh1 (Sh_sto hS (a := 356) (i := 2) (by decide +kernel))
  clear eh1
  refine EQ_jb (eX7_find_l7 0 s1) (fun o2 r2 => ?_)
  exact EQ_some r2
noncomputable def gX1_findPattern (a1 : Int) (a2 : Int) (h : AH) : Option (Int × AH) := jb (gX1_isGoodName a1 a2 h) fun v2 => if v2 = 0 then (some ((-1), h)) else (jb (gX7_find h) fun h5 => if h5 356 2 = 0 then (some ((-2), h5)) else (if h5 200 7 = 10 then (some ((-3), h5)) else (some (h5 356 2, h5))))
theorem eX1_findPattern (a1 : Int) (a2 : Int) {h : AH} (hS : Sh S h) : EQ (fX1_findPattern 200 a1 a2 h) (gX1_findPattern a1 a2 h) (fun r => Sh S r.2) := by
  unfold fX1_findPattern gX1_findPattern
  refine EQ_jgd (show h 200 (-2) = 2 from by rw [k_200 hS]) ?_
  refine EQ_jb (eX1_isGoodName a1 a2 hS) (fun v2 r1 => ?_)
  refine EQ_if Iff.rfl (fun c2 => ?_) (fun c2 => ?_)
  · exact EQ_some hS
  · refine EQ_jgd (show h 200 (-2) = 2 from by rw [k_200 hS]) ?_
    refine EQ_jgd (show h (h 200 38) (-2) = 8 from by rw [r_200_38 hS, k_356 hS]) ?_
    refine EQ_jb (by rw [r_200_38 hS]; exact eX7_find hS) (fun h5 r3 => ?_)
    refine EQ_jgd (show h5 200 (-2) = 2 from by rw [k_200 r3]) ?_
    refine EQ_jgd (show h5 (h5 200 38) (-2) = 8 from by rw [r_200_38 r3, k_356 r3]) ?_
    refine EQ_if (show h5 (h5 200 38) 2 = 0 ↔ h5 356 2 = 0 from by rw [r_200_38 r3]) (fun c4 => ?_) (fun c4 => ?_)
    · exact EQ_some r3
    · refine EQ_jgd (show h5 200 (-2) = 2 from by rw [k_200 r3]) ?_
      refine EQ_if Iff.rfl (fun c5 => ?_) (fun c5 => ?_)
      · exact EQ_some r3
      · refine EQ_jgd (show h5 200 (-2) = 2 from by rw [k_200 r3]) ?_
        refine EQ_jgd (show h5 (h5 200 38) (-2) = 8 from by rw [r_200_38 r3, k_356 r3]) ?_
        exact EQ_some' (by rw [r_200_38 r3]) r3
noncomputable def gX7_rewrite_j204_150 (F : Int → Int → AH → Option (Int × AH)) (a1 : Int) (a2 : Int) (a6 : Int) (a7 : Int) (h : AH) : Option ((Int × AH) ⊕ (AH)) := jl (w32 (a7 + 1)) fun x36 => some (.inl (x36, h))
theorem eX7_rewrite_j204_150 {F0 : Int → Int → Int → AH → Option (Int × AH)} {F : Int → Int → AH → Option (Int × AH)} (hF : ∀ (b_a1 : Int) (b_a2 : Int), ∀ {b_h : AH}, Sh S b_h → EQ (F0 356 b_a1 b_a2 b_h) (F b_a1 b_a2 b_h) (fun r => Sh S r.2)) (a1 : Int) (a2 : Int) (a6 : Int) (a7 : Int) {h : AH} (hS : Sh S h) : EQ (fX7_rewrite_j204_150 F0 356 a1 a2 a6 a7 h) (gX7_rewrite_j204_150 F a1 a2 a6 a7 h) (Sum.elim (fun r => Sh S r.2) (fun r => Sh S r)) := by
  unfold fX7_rewrite_j204_150 gX7_rewrite_j204_150
  refine EQ_jl rfl (fun x36 ex36 => ?_)
  clear ex36
  exact EQ_some hS
noncomputable def gX7_rewrite_b150 (F : Int → Int → AH → Option (Int × AH)) (i1 : Int) (i2 : Int) (i6 : Int) (s : Int × AH) : Option ((Int × AH) ⊕ (AH)) := jt2 s fun a7 h => if 3 ≤ a7 then (some (.inr h)) else (jb (gX3_part (h 200 32) i1 a7 h) fun v27 => if v27 < 0 then (gX7_rewrite_j204_150 F i1 i2 i6 a7 h) else (jb (gX3_part (h 200 32) i1 a7 h) fun v30 => jb2 (F v30 i2 h) fun v32 h33 => jb (gX3_join (h 200 33) i6 a7 v32 h33) fun h35 => gX7_rewrite_j204_150 F i1 i2 i6 a7 h35))
theorem eX7_rewrite_b150 {F0 : Int → Int → Int → AH → Option (Int × AH)} {F : Int → Int → AH → Option (Int × AH)} (hF : ∀ (b_a1 : Int) (b_a2 : Int), ∀ {b_h : AH}, Sh S b_h → EQ (F0 356 b_a1 b_a2 b_h) (F b_a1 b_a2 b_h) (fun r => Sh S r.2)) (i1 : Int) (i2 : Int) (i6 : Int) {s : Int × AH} (hS : (fun r => Sh S r.2) s) : EQ (fX7_rewrite_b150 F0 356 i1 i2 i6 s) (gX7_rewrite_b150 F i1 i2 i6 s) (Sum.elim (fun r => Sh S r.2) (fun r => Sh S r)) := by
  unfold fX7_rewrite_b150 gX7_rewrite_b150
  obtain ⟨a7, h⟩ := s
  refine EQ_jt2 ?_
  replace hS : Sh S h := hS
  refine EQ_if Iff.rfl (fun c1 => ?_) (fun c1 => ?_)
  · exact EQ_some hS
  · refine EQ_jgd (show h 356 (-2) = 8 from by rw [k_356 hS]) ?_
    refine EQ_jgd (show h (h 356 13) (-2) = 2 from by rw [r_356_13 hS, k_200 hS]) ?_
    refine EQ_jgd (show h (h (h 356 13) 32) (-2) = 4 from by rw [r_356_13 hS, kd_X3 hS (dy_200_32 hS)]) ?_
    refine EQ_jb (by rw [r_356_13 hS]; exact eX3_part (h 200 32) i1 a7 (dy_200_32 hS) hS) (fun v27 r2 => ?_)
    refine EQ_if Iff.rfl (fun c3 => ?_) (fun c3 => ?_)
    · exact (eX7_rewrite_j204_150 hF i1 i2 i6 a7 hS)
    · refine EQ_jgd (show h 356 (-2) = 8 from by rw [k_356 hS]) ?_
      refine EQ_jgd (show h (h 356 13) (-2) = 2 from by rw [r_356_13 hS, k_200 hS]) ?_
      refine EQ_jgd (show h 356 (-2) = 8 from by rw [k_356 hS]) ?_
      refine EQ_jgd (show h (h 356 13) (-2) = 2 from by rw [r_356_13 hS, k_200 hS]) ?_
      refine EQ_jgd (show h (h (h 356 13) 32) (-2) = 4 from by rw [r_356_13 hS, kd_X3 hS (dy_200_32 hS)]) ?_
      refine EQ_jb (by rw [r_356_13 hS]; exact eX3_part (h 200 32) i1 a7 (dy_200_32 hS) hS) (fun v30 r4 => ?_)
      refine EQ_jgd (show h 356 (-2) = 8 from by rw [k_356 hS]) ?_
      refine EQ_jb2 (hF v30 i2 hS) (fun v32 h33 r5 => ?_)
      replace r5 : Sh S h33 := r5
      refine EQ_jgd (show h33 (h (h 356 13) 33) (-2) = 4 from by rw [r_356_13 hS, kd_X3 r5 (dy_200_33 hS)]) ?_
      refine EQ_jb (by rw [r_356_13 hS]; exact eX3_join (h 200 33) i6 a7 v32 (dy_200_33 hS) r5) (fun h35 r6 => ?_)
      exact (eX7_rewrite_j204_150 hF i1 i2 i6 a7 r6)
noncomputable def gX7_rewrite_l150 (F : Int → Int → AH → Option (Int × AH)) (i1 : Int) (i2 : Int) (i6 : Int) (a7 : Int) (h : AH) : Option (AH) := jit (gX7_rewrite_b150 F i1 i2 i6) (a7, h)
theorem eX7_rewrite_l150 {F0 : Int → Int → Int → AH → Option (Int × AH)} {F : Int → Int → AH → Option (Int × AH)} (hF : ∀ (b_a1 : Int) (b_a2 : Int), ∀ {b_h : AH}, Sh S b_h → EQ (F0 356 b_a1 b_a2 b_h) (F b_a1 b_a2 b_h) (fun r => Sh S r.2)) (i1 : Int) (i2 : Int) (i6 : Int) (a7 : Int) {h : AH} (hS : Sh S h) : EQ (fX7_rewrite_l150 F0 356 i1 i2 i6 a7 h) (gX7_rewrite_l150 F i1 i2 i6 a7 h) (fun r => Sh S r) := EQ_jit (I := (fun r => Sh S r.2)) (fun s hs => eX7_rewrite_b150 hF i1 i2 i6 hs) hS
noncomputable def gX7_rewrite_j74 (F : Int → Int → AH → Option (Int × AH)) (a1 : Int) (a2 : Int) (a3 : Int) (a4 : Int) (a5 : Int) (t0 : Int) (t1 : Int) (t2 : Int) (h : AH) : Option (Int × AH) := jg (jI a1 (h (h 200 32 + 3) (-1))) <| jb2 (gX3_add t0 t1 t2 (h (h 200 32 + 3) a1) 0 h) fun v9 h10 => if a3 = 0 then (jb (gX7_rewrite_l150 F a1 a2 v9 0 h10) fun o12 => some (v9, o12)) else (jb2 (F a4 a2 h10) fun v15 h16 => jb (gX3_join (h10 200 33) v9 0 v15 h16) fun h18 => if h18 356 10 ≤ 1 then (some (v9, h18)) else (jb2 (F a5 a2 h18) fun v21 h22 => jb (gX3_join (h18 200 33) v9 1 v21 h22) fun h24 => some (v9, h24)))
theorem eX7_rewrite_j74 {F0 : Int → Int → Int → AH → Option (Int × AH)} {F : Int → Int → AH → Option (Int × AH)} (hF : ∀ (b_a1 : Int) (b_a2 : Int), ∀ {b_h : AH}, Sh S b_h → EQ (F0 356 b_a1 b_a2 b_h) (F b_a1 b_a2 b_h) (fun r => Sh S r.2)) (a1 : Int) (a2 : Int) (a3 : Int) (a4 : Int) (a5 : Int) (t0 : Int) (t1 : Int) (t2 : Int) (hT_t0 : isX3 t0) {h : AH} (hS : Sh S h) : EQ (fX7_rewrite_j74 F0 356 a1 a2 a3 a4 a5 t0 t1 t2 h) (gX7_rewrite_j74 F a1 a2 a3 a4 a5 t0 t1 t2 h) (fun r => Sh S r.2) := by
  unfold fX7_rewrite_j74 gX7_rewrite_j74
  refine EQ_jgd (show h 356 (-2) = 8 from by rw [k_356 hS]) ?_
  refine EQ_jgd (show h (h 356 13) (-2) = 2 from by rw [r_356_13 hS, k_200 hS]) ?_
  refine EQ_jgd (show h (h (h 356 13) 32) (-2) = 4 from by rw [r_356_13 hS, kd_X3 hS (dy_200_32 hS)]) ?_
  refine EQ_jg ⟨fun ⟨_, x0⟩ => (show jI a1 (h (h (h (h 356 13) 32) 3) (-1)) ↔ jI a1 (h (h 200 32 + 3) (-1)) from by rw [r_356_13 hS, ft_X3_3 hS (dy_200_32 hS)]).mp x0, fun x0 => ⟨(show h (h (h (h 356 13) 32) 3) (-2) = 101 from by rw [r_356_13 hS, ft_X3_3 hS (dy_200_32 hS), ka_X3_3 hS (dy_200_32 hS)]), (show jI a1 (h (h (h (h 356 13) 32) 3) (-1)) ↔ jI a1 (h (h 200 32 + 3) (-1)) from by rw [r_356_13 hS, ft_X3_3 hS (dy_200_32 hS)]).mpr x0⟩⟩ (fun g1 => ?_)
  refine EQ_jgd (show h t0 (-2) = 4 from by rw [kd_X3 hS hT_t0]) ?_
  refine EQ_jb2 (by rw [r_356_13 hS, ft_X3_3 hS (dy_200_32 hS)]; exact eX3_add t0 t1 t2 (h (h 200 32 + 3) a1) 0 hT_t0 hS) (fun v9 h10 r2 => ?_)
  replace r2 : Sh S h10 := r2
  refine EQ_if Iff.rfl (fun c3 => ?_) (fun c3 => ?_)
  · refine EQ_jb (eX7_rewrite_l150 hF a1 a2 v9 0 r2) (fun o12 r4 => ?_)
    exact EQ_some r4
  · refine EQ_jgd (show h10 356 (-2) = 8 from by rw [k_356 r2]) ?_
    refine EQ_jgd (show h10 (h10 356 13) (-2) = 2 from by rw [r_356_13 r2, k_200 r2]) ?_
    refine EQ_jgd (show h10 356 (-2) = 8 from by rw [k_356 r2]) ?_
    refine EQ_jb2 (hF a4 a2 r2) (fun v15 h16 r5 => ?_)
    replace r5 : Sh S h16 := r5
    refine EQ_jgd (show h16 (h10 (h10 356 13) 33) (-2) = 4 from by rw [r_356_13 r2, kd_X3 r5 (dy_200_33 r2)]) ?_
    refine EQ_jb (by rw [r_356_13 r2]; exact eX3_join (h10 200 33) v9 0 v15 (dy_200_33 r2) r5) (fun h18 r6 => ?_)
    refine EQ_jgd (show h18 356 (-2) = 8 from by rw [k_356 r6]) ?_
    refine EQ_if Iff.rfl (fun c7 => ?_) (fun c7 => ?_)
    · exact EQ_some r6
    · refine EQ_jgd (show h18 356 (-2) = 8 from by rw [k_356 r6]) ?_
      refine EQ_jgd (show h18 (h18 356 13) (-2) = 2 from by rw [r_356_13 r6, k_200 r6]) ?_
      refine EQ_jgd (show h18 356 (-2) = 8 from by rw [k_356 r6]) ?_
      refine EQ_jb2 (hF a5 a2 r6) (fun v21 h22 r8 => ?_)
      replace r8 : Sh S h22 := r8
      refine EQ_jgd (show h22 (h18 (h18 356 13) 33) (-2) = 4 from by rw [r_356_13 r6, kd_X3 r8 (dy_200_33 r6)]) ?_
      refine EQ_jb (by rw [r_356_13 r6]; exact eX3_join (h18 200 33) v9 1 v21 (dy_200_33 r6) r8) (fun h24 r9 => ?_)
      exact EQ_some r9
noncomputable def gX7_rewrite_j54 (F : Int → Int → AH → Option (Int × AH)) (a1 : Int) (a2 : Int) (a3 : Int) (a4 : Int) (a5 : Int) (t0 : Int) (t1 : Int) (h : AH) : Option (Int × AH) := if a3 = 0 then (jg (jI a1 (h (h 200 32 + 2) (-1))) <| gX7_rewrite_j74 F a1 a2 a3 a4 a5 t0 t1 (h (h 200 32 + 2) a1) h) else (gX7_rewrite_j74 F a1 a2 a3 a4 a5 t0 t1 a2 h)
theorem eX7_rewrite_j54 {F0 : Int → Int → Int → AH → Option (Int × AH)} {F : Int → Int → AH → Option (Int × AH)} (hF : ∀ (b_a1 : Int) (b_a2 : Int), ∀ {b_h : AH}, Sh S b_h → EQ (F0 356 b_a1 b_a2 b_h) (F b_a1 b_a2 b_h) (fun r => Sh S r.2)) (a1 : Int) (a2 : Int) (a3 : Int) (a4 : Int) (a5 : Int) (t0 : Int) (t1 : Int) (hT_t0 : isX3 t0) {h : AH} (hS : Sh S h) : EQ (fX7_rewrite_j54 F0 356 a1 a2 a3 a4 a5 t0 t1 h) (gX7_rewrite_j54 F a1 a2 a3 a4 a5 t0 t1 h) (fun r => Sh S r.2) := by
  unfold fX7_rewrite_j54 gX7_rewrite_j54
  refine EQ_if Iff.rfl (fun c1 => ?_) (fun c1 => ?_)
  · refine EQ_jgd (show h 356 (-2) = 8 from by rw [k_356 hS]) ?_
    refine EQ_jgd (show h (h 356 13) (-2) = 2 from by rw [r_356_13 hS, k_200 hS]) ?_
    refine EQ_jgd (show h (h (h 356 13) 32) (-2) = 4 from by rw [r_356_13 hS, kd_X3 hS (dy_200_32 hS)]) ?_
    refine EQ_jg ⟨fun ⟨_, x0⟩ => (show jI a1 (h (h (h (h 356 13) 32) 2) (-1)) ↔ jI a1 (h (h 200 32 + 2) (-1)) from by rw [r_356_13 hS, ft_X3_2 hS (dy_200_32 hS)]).mp x0, fun x0 => ⟨(show h (h (h (h 356 13) 32) 2) (-2) = 101 from by rw [r_356_13 hS, ft_X3_2 hS (dy_200_32 hS), ka_X3_2 hS (dy_200_32 hS)]), (show jI a1 (h (h (h (h 356 13) 32) 2) (-1)) ↔ jI a1 (h (h 200 32 + 2) (-1)) from by rw [r_356_13 hS, ft_X3_2 hS (dy_200_32 hS)]).mpr x0⟩⟩ (fun g2 => ?_)
    exact (by rw [r_356_13 hS, ft_X3_2 hS (dy_200_32 hS)]; exact eX7_rewrite_j74 hF a1 a2 a3 a4 a5 t0 t1 (h (h 200 32 + 2) a1) hT_t0 hS)
  · exact (eX7_rewrite_j74 hF a1 a2 a3 a4 a5 t0 t1 a2 hT_t0 hS)
noncomputable def gX7_rewrite_ (F : Int → Int → AH → Option (Int × AH)) (a1 : Int) (a2 : Int) (h : AH) : Option (Int × AH) := jb2 (gX7_isMet 363 0 a1 h) fun v2 h3 => jl (h3 377 0) fun x4 => jl (h3 377 1) fun x5 => if v2 = 0 then (jg (jI a1 (h3 (h3 200 32 + 1) (-1))) <| gX7_rewrite_j54 F a1 a2 v2 x4 x5 (h3 200 33) (h3 (h3 200 32 + 1) a1) h3) else (gX7_rewrite_j54 F a1 a2 v2 x4 x5 (h3 200 33) 2 h3)
theorem eX7_rewrite_ {F0 : Int → Int → Int → AH → Option (Int × AH)} {F : Int → Int → AH → Option (Int × AH)} (hF : ∀ (b_a1 : Int) (b_a2 : Int), ∀ {b_h : AH}, Sh S b_h → EQ (F0 356 b_a1 b_a2 b_h) (F b_a1 b_a2 b_h) (fun r => Sh S r.2)) (a1 : Int) (a2 : Int) {h : AH} (hS : Sh S h) : EQ (fX7_rewrite_ F0 356 a1 a2 h) (gX7_rewrite_ F a1 a2 h) (fun r => Sh S r.2) := by
  unfold fX7_rewrite_ gX7_rewrite_
  refine EQ_jgd (show h 356 (-2) = 8 from by rw [k_356 hS]) ?_
  refine EQ_jgd (show h 356 (-2) = 8 from by rw [k_356 hS]) ?_
  refine EQ_jb2 (by rw [r_356_1 hS]; exact eX7_isMet 363 0 a1 (by unfold isX3; decide) hS) (fun v2 h3 r1 => ?_)
  replace r1 : Sh S h3 := r1
  refine EQ_jgd (show h3 356 (-2) = 8 from by rw [k_356 r1]) ?_
  refine EQ_jgd ⟨(show h3 (h3 356 12) (-2) = 101 from by rw [r_356_12 r1, k_377 r1]), (show jI 0 (h3 (h3 356 12) (-1)) from by rw [r_356_12 r1, l_377 r1]; unfold jI; decide)⟩ ?_
  refine EQ_jl (by rw [r_356_12 r1]) (fun x4 ex4 => ?_)
  clear ex4
  refine EQ_jgd (show h3 356 (-2) = 8 from by rw [k_356 r1]) ?_
  refine EQ_jgd ⟨(show h3 (h3 356 12) (-2) = 101 from by rw [r_356_12 r1, k_377 r1]), (show jI 1 (h3 (h3 356 12) (-1)) from by rw [r_356_12 r1, l_377 r1]; unfold jI; decide)⟩ ?_
  refine EQ_jl (by rw [r_356_12 r1]) (fun x5 ex5 => ?_)
  clear ex5
  refine EQ_jgd (show h3 356 (-2) = 8 from by rw [k_356 r1]) ?_
  refine EQ_jgd (show h3 (h3 356 13) (-2) = 2 from by rw [r_356_13 r1, k_200 r1]) ?_
  refine EQ_if Iff.rfl (fun c2 => ?_) (fun c2 => ?_)
  · refine EQ_jgd (show h3 356 (-2) = 8 from by rw [k_356 r1]) ?_
    refine EQ_jgd (show h3 (h3 356 13) (-2) = 2 from by rw [r_356_13 r1, k_200 r1]) ?_
    refine EQ_jgd (show h3 (h3 (h3 356 13) 32) (-2) = 4 from by rw [r_356_13 r1, kd_X3 r1 (dy_200_32 r1)]) ?_
    refine EQ_jg ⟨fun ⟨_, x0⟩ => (show jI a1 (h3 (h3 (h3 (h3 356 13) 32) 1) (-1)) ↔ jI a1 (h3 (h3 200 32 + 1) (-1)) from by rw [r_356_13 r1, ft_X3_1 r1 (dy_200_32 r1)]).mp x0, fun x0 => ⟨(show h3 (h3 (h3 (h3 356 13) 32) 1) (-2) = 101 from by rw [r_356_13 r1, ft_X3_1 r1 (dy_200_32 r1), ka_X3_1 r1 (dy_200_32 r1)]), (show jI a1 (h3 (h3 (h3 (h3 356 13) 32) 1) (-1)) ↔ jI a1 (h3 (h3 200 32 + 1) (-1)) from by rw [r_356_13 r1, ft_X3_1 r1 (dy_200_32 r1)]).mpr x0⟩⟩ (fun g3 => ?_)
    exact (by rw [r_356_13 r1, ft_X3_1 r1 (dy_200_32 r1)]; exact eX7_rewrite_j54 hF a1 a2 v2 x4 x5 (h3 200 33) (h3 (h3 200 32 + 1) a1) (dy_200_33 r1) r1)
  · exact (by rw [r_356_13 r1]; exact eX7_rewrite_j54 hF a1 a2 v2 x4 x5 (h3 200 33) 2 (dy_200_33 r1) r1)
noncomputable def gX7_rewriteD : Nat → Int → Int → AH → Option (Int × AH)
  | 0 => fun _ _ _ => none
  | d + 1 => gX7_rewrite_ (gX7_rewriteD d)
theorem eX7_rewriteD : ∀ (d : Nat) (a1 : Int) (a2 : Int) {h : AH} (hS : Sh S h) , EQ (fX7_rewriteD d 356 a1 a2 h) (gX7_rewriteD d a1 a2 h) (fun r => Sh S r.2) := by
  intro d
  induction d with
  | zero => intro a1 a2 h hS; exact EQ_none
  | succ d ih => intro a1 a2 h hS; exact eX7_rewrite_ ih a1 a2 hS
noncomputable def gX7_rewrite : Int → Int → AH → Option (Int × AH) := gX7_rewriteD 40
theorem eX7_rewrite (a1 : Int) (a2 : Int) {h : AH} (hS : Sh S h) : EQ (fX7_rewrite 356 a1 a2 h) (gX7_rewrite a1 a2 h) (fun r => Sh S r.2) := eX7_rewriteD 40 a1 a2 hS
noncomputable def gX7_put_b33 (i1 : Int) (i2 : Int) (s : Int × AH) : Option ((Int × AH) ⊕ (AH)) := jt2 s fun a4 h => if h 200 37 ≤ a4 then (some (.inr h)) else (jg (jI a4 12) <| jb2 (gX7_rewrite (h 353 a4) i2 h) fun v13 h14 => jl (jst h14 353 a4 v13) fun h15 => jl (w32 (a4 + 1)) fun x16 => some (.inl (x16, h15)))
theorem eX7_put_b33 (i1 : Int) (i2 : Int) {s : Int × AH} (hS : (fun r => Sh S r.2) s) : EQ (fX7_put_b33 356 i1 i2 353 s) (gX7_put_b33 i1 i2 s) (Sum.elim (fun r => Sh S r.2) (fun r => Sh S r)) := by
  unfold fX7_put_b33 gX7_put_b33
  obtain ⟨a4, h⟩ := s
  refine EQ_jt2 ?_
  replace hS : Sh S h := hS
  refine EQ_jgd (show h 356 (-2) = 8 from by rw [k_356 hS]) ?_
  refine EQ_jgd (show h (h 356 13) (-2) = 2 from by rw [r_356_13 hS, k_200 hS]) ?_
  refine EQ_if (show h (h 356 13) 37 ≤ a4 ↔ h 200 37 ≤ a4 from by rw [r_356_13 hS]) (fun c1 => ?_) (fun c1 => ?_)
  · exact EQ_some hS
  · refine EQ_jg ⟨fun ⟨_, x0⟩ => (show jI a4 (h 353 (-1)) ↔ jI a4 12 from by rw [l_353 hS]).mp x0, fun x0 => ⟨(show h 353 (-2) = 101 from by rw [k_353 hS]), (show jI a4 (h 353 (-1)) ↔ jI a4 12 from by rw [l_353 hS]).mpr x0⟩⟩ (fun g2 => ?_)
    refine EQ_jgd (show h 356 (-2) = 8 from by rw [k_356 hS]) ?_
    refine EQ_jb2 (eX7_rewrite (h 353 a4) i2 hS) (fun v13 h14 r3 => ?_)
    replace r3 : Sh S h14 := r3
    refine EQ_jgd ⟨(show h14 353 (-2) = 101 from by rw [k_353 r3]), (show (200 : Int) ≤ 353 from (by decide)), ((show jI a4 (h14 353 (-1)) ↔ jI a4 12 from by rw [l_353 r3]).mpr g2)⟩ ?_
    refine EQ_jl rfl (fun h15 eh15 => ?_)
    have s4 := Sh_of eh15 (Sh_sta r3 (by decide +kernel) (jI_nn g2) (fun e => absurd ((k_353 r3).symm.trans e) (by decide)))
    clear eh15
    refine EQ_jl rfl (fun x16 ex16 => ?_)
    clear ex16
    exact EQ_some s4
noncomputable def gX7_put_l33 (i1 : Int) (i2 : Int) (a4 : Int) (h : AH) : Option (AH) := jit (gX7_put_b33 i1 i2) (a4, h)
theorem eX7_put_l33 (i1 : Int) (i2 : Int) (a4 : Int) {h : AH} (hS : Sh S h) : EQ (fX7_put_l33 356 i1 i2 353 a4 h) (gX7_put_l33 i1 i2 a4 h) (fun r => Sh S r) := EQ_jit (I := (fun r => Sh S r.2)) (fun s hs => eX7_put_b33 i1 i2 hs) hS
noncomputable def gX7_put (a1 : Int) (h : AH) : Option (AH) := jl (w32 (26 + h 200 7)) fun x1 => jl (jst h (h 200 33) 0 0) fun h2 => jl (353 : Int) fun x3 => jb (gX7_put_l33 a1 x1 0 h2) fun o4 => jl (o4 200 32) fun x6 => jl (jst o4 200 32 (o4 200 33)) fun h7 => jl (jst h7 200 33 x6) fun h8 => jb (gX1_addOwn a1 363 0 (h8 356 10) 376 (h8 366 0) h8) fun h10 => some h10
theorem eX7_put (a1 : Int) {h : AH} (hS : Sh S h) : EQ (fX7_put 356 a1 h) (gX7_put a1 h) (fun r => Sh S r) := by
  unfold fX7_put gX7_put
  refine EQ_jgd (show h 356 (-2) = 8 from by rw [k_356 hS]) ?_
  refine EQ_jgd (show h (h 356 13) (-2) = 2 from by rw [r_356_13 hS, k_200 hS]) ?_
  refine EQ_jl (by rw [r_356_13 hS]) (fun x1 ex1 => ?_)
  clear ex1
  refine EQ_jgd (show h 356 (-2) = 8 from by rw [k_356 hS]) ?_
  refine EQ_jgd (show h (h 356 13) (-2) = 2 from by rw [r_356_13 hS, k_200 hS]) ?_
  refine EQ_jgd ⟨(show h (h (h 356 13) 33) (-2) = 4 from by rw [r_356_13 hS, kd_X3 hS (dy_200_33 hS)]), (show 200 ≤ h (h 356 13) 33 from by rw [r_356_13 hS]; exact ge_X3 (dy_200_33 hS))⟩ ?_
  refine EQ_jl (by rw [r_356_13 hS]) (fun h2 eh2 => ?_)
  have s1 := Sh_of eh2 (Sh_sto_X3_0 hS (dy_200_33 hS))
  clear eh2
  refine EQ_jgd (show h2 356 (-2) = 8 from by rw [k_356 s1]) ?_
  refine EQ_jgd (show h2 (h2 356 13) (-2) = 2 from by rw [r_356_13 s1, k_200 s1]) ?_
  refine EQ_jl (by rw [r_356_13 s1, r_200_34 s1]) (fun x3 ex3 => ?_)
  refine EQ_jb (by rw [ex3]; exact eX7_put_l33 a1 x1 0 s1) (fun o4 r2 => ?_)
  refine EQ_jgd (show o4 356 (-2) = 8 from by rw [k_356 r2]) ?_
  refine EQ_jgd (show o4 (o4 356 13) (-2) = 2 from by rw [r_356_13 r2, k_200 r2]) ?_
  refine EQ_jl (by rw [r_356_13 r2]) (fun x6 ex6 => ?_)
  refine EQ_jgd (show o4 356 (-2) = 8 from by rw [k_356 r2]) ?_
  refine EQ_jgd (show o4 356 (-2) = 8 from by rw [k_356 r2]) ?_
  refine EQ_jgd (show o4 (o4 356 13) (-2) = 2 from by rw [r_356_13 r2, k_200 r2]) ?_
  refine EQ_jgd ⟨(show o4 (o4 356 13) (-2) = 2 from by rw [r_356_13 r2, k_200 r2]), (show 200 ≤ o4 356 13 from by rw [r_356_13 r2]; exact (by decide))⟩ ?_
  refine EQ_jl (by rw [r_356_13 r2]) (fun h7 eh7 => ?_)
  have s3 := Sh_of eh7 (Sh_dy_200_32 r2 (dy_200_33 r2))
  clear eh7
  refine EQ_jgd (show h7 356 (-2) = 8 from by rw [k_356 s3]) ?_
  refine EQ_jgd ⟨(show h7 (h7 356 13) (-2) = 2 from by rw [r_356_13 s3, k_200 s3]), (show 200 ≤ h7 356 13 from by rw [r_356_13 s3]; exact (by decide))⟩ ?_
  refine EQ_jl (by rw [r_356_13 s3]) (fun h8 eh8 => ?_)
  have s4 := Sh_of eh8 (Sh_dy_200_33 s3 (isof_X3 ex6 (dy_200_32 r2)))
  clear eh8
  refine EQ_jgd (show h8 356 (-2) = 8 from by rw [k_356 s4]) ?_
  refine EQ_jgd (show h8 356 (-2) = 8 from by rw [k_356 s4]) ?_
  refine EQ_jgd (show h8 356 (-2) = 8 from by rw [k_356 s4]) ?_
  refine EQ_jgd (show h8 356 (-2) = 8 from by rw [k_356 s4]) ?_
  refine EQ_jgd (show h8 356 (-2) = 8 from by rw [k_356 s4]) ?_
  refine EQ_jgd (show h8 (h8 356 1) (-2) = 4 from by rw [r_356_1 s4, k_363 s4]) ?_
  refine EQ_jgd ⟨(show h8 (h8 (h8 356 1) 3) (-2) = 101 from by rw [r_356_1 s4, r_363_3 s4, k_366 s4]), (show jI 0 (h8 (h8 (h8 356 1) 3) (-1)) from by rw [r_356_1 s4, r_363_3 s4, l_366 s4]; unfold jI; decide)⟩ ?_
  refine EQ_jgd (show h8 (h8 356 13) (-2) = 2 from by rw [r_356_13 s4, k_200 s4]) ?_
  refine EQ_jb (by rw [r_356_13 s4, r_356_1 s4, r_356_9 s4, r_363_3 s4]; exact eX1_addOwn a1 363 0 (h8 356 10) 376 (h8 366 0) (by unfold isX3; decide) s4) (fun h10 r5 => ?_)
  exact EQ_some r5
noncomputable def gX1_learn (h : AH) : Option (Int × AH) := if h 200 53 = 0 then (jb2 (gX1_takeTape h) fun v3 h4 => jb2 (gX1_findPattern 440 v3 h4) fun v6 h7 => if 0 ≤ v6 then (jb2 (gX12_begin 3 v3 h7) fun v10 h11 => if v10 = 0 then (some ((-3), h11)) else (jb (gX12_put_2 440 v3 h11) fun h14 => jb (gX12_end h14) fun h16 => jg (jroom h16 4) <| jl (jnew h16 1 4) fun h17 => jg (¬ h16 0 0 = 0) <| jb (fJ0_init_4 (h16 0 0) 440 0 0 v3 h17) fun h19 => jb (gX7_put (h16 0 0) h19) fun h21 => some (v6, h21))) else (some (v6, h7))) else (some ((-5), h))
theorem eX1_learn {h : AH} (hS : Sh S h) : EQ (fX1_learn 200 h) (gX1_learn h) (fun r => Sh S r.2) := by
  unfold fX1_learn gX1_learn
  refine EQ_jgd (show h 200 (-2) = 2 from by rw [k_200 hS]) ?_
  refine EQ_if Iff.rfl (fun c1 => ?_) (fun c1 => ?_)
  · refine EQ_jgd (show h 200 (-2) = 2 from by rw [k_200 hS]) ?_
    refine EQ_jb2 (eX1_takeTape hS) (fun v3 h4 r2 => ?_)
    replace r2 : Sh S h4 := r2
    refine EQ_jgd (show h4 200 (-2) = 2 from by rw [k_200 r2]) ?_
    refine EQ_jgd (show h4 200 (-2) = 2 from by rw [k_200 r2]) ?_
    refine EQ_jb2 (by rw [r_200_54 r2]; exact eX1_findPattern 440 v3 r2) (fun v6 h7 r3 => ?_)
    replace r3 : Sh S h7 := r3
    refine EQ_if Iff.rfl (fun c4 => ?_) (fun c4 => ?_)
    · refine EQ_jgd (show h7 200 (-2) = 2 from by rw [k_200 r3]) ?_
      refine EQ_jgd (show h7 (h7 200 52) (-2) = 13 from by rw [r_200_52 r3, k_434 r3]) ?_
      refine EQ_jb2 (by rw [r_200_52 r3]; exact eX12_begin 3 v3 r3) (fun v10 h11 r5 => ?_)
      replace r5 : Sh S h11 := r5
      refine EQ_if Iff.rfl (fun c6 => ?_) (fun c6 => ?_)
      · exact EQ_some r5
      · refine EQ_jgd (show h11 200 (-2) = 2 from by rw [k_200 r5]) ?_
        refine EQ_jgd (show h11 200 (-2) = 2 from by rw [k_200 r5]) ?_
        refine EQ_jgd (show h11 (h11 200 52) (-2) = 13 from by rw [r_200_52 r5, k_434 r5]) ?_
        refine EQ_jb (by rw [r_200_52 r5, r_200_54 r5]; exact eX12_put_2 440 v3 r5) (fun h14 r7 => ?_)
        refine EQ_jgd (show h14 200 (-2) = 2 from by rw [k_200 r7]) ?_
        refine EQ_jgd (show h14 (h14 200 52) (-2) = 13 from by rw [r_200_52 r7, k_434 r7]) ?_
        refine EQ_jb (by rw [r_200_52 r7]; exact eX12_end r7) (fun h16 r8 => ?_)
        refine EQ_jgd (show h16 200 (-2) = 2 from by rw [k_200 r8]) ?_
        refine EQ_jg Iff.rfl (fun g9 => ?_)
        refine EQ_jl rfl (fun h17 eh17 => ?_)
        have s10 := Sh_of eh17 (Sh_new r8 (by decide))
        clear eh17
        refine EQ_jgd (show h17 200 (-2) = 2 from by rw [k_200 s10]) ?_
        refine EQ_jg Iff.rfl (fun g11 => ?_)
        refine EQ_jb (by rw [r_200_54 s10]; exact wJ0_init_4 (h16 0 0) 440 0 0 v3 s10) (fun h19 r12 => ?_)
        refine EQ_jgd (show h19 (h16 200 38) (-2) = 8 from by rw [r_200_38 r8, k_356 r12]) ?_
        refine EQ_jb (by rw [r_200_38 r8]; exact eX7_put (h16 0 0) r12) (fun h21 r13 => ?_)
        exact EQ_some r13
    · exact EQ_some r3
  · exact EQ_some hS
noncomputable def gX1_own (a1 : Int) (a2 : Int) (h : AH) : Option (Int × AH) := if h 200 53 = 0 then (jb (gX1_isIn a1 0 (w32 (h 200 7 - 1))) fun v3 => if v3 = 0 then (some ((-1), h)) else (if (-4) ≤ a2 then (if (-1) ≤ a2 then (jl (jst h 450 1 0) fun h7 => jg (jI a1 10) <| jb (gX1_tell 258 (h7 264 a1) 450 h7) fun h9 => if a2 = (-1) then (some (h9 450 1, h9)) else (if h9 450 1 ≤ a2 then (some ((-1), h9)) else (jg (jI a2 2200) <| some (h9 451 a2, h9)))) else (jl (w32 ((-2) - a2)) fun x12 => if x12 = 2 then (jg (jI (w32 (w32 (3 * a1) + 2)) 30) <| jb (fJ0_charAt 28 (h 266 (w32 (w32 (3 * a1) + 2))) h) fun v15 => some (v15, h)) else (jg (jI a1 10) <| if h 265 a1 ≤ x12 then (some (0, h)) else (jg (jI (w32 (w32 (3 * a1) + x12)) 30) <| jb (fJ0_charAt 28 (h 266 (w32 (w32 (3 * a1) + x12))) h) fun v18 => some (v18, h))))) else (some ((-1), h)))) else (some ((-5), h))
theorem eX1_own (a1 : Int) (a2 : Int) {h : AH} (hS : Sh S h) : EQ (fX1_own 200 a1 a2 h) (gX1_own a1 a2 h) (fun r => Sh S r.2) := by
  unfold fX1_own gX1_own
  refine EQ_jgd (show h 200 (-2) = 2 from by rw [k_200 hS]) ?_
  refine EQ_if Iff.rfl (fun c1 => ?_) (fun c1 => ?_)
  · refine EQ_jgd (show h 200 (-2) = 2 from by rw [k_200 hS]) ?_
    refine EQ_jb (eX1_isIn a1 0 (w32 (h 200 7 - 1))) (fun v3 r2 => ?_)
    refine EQ_if Iff.rfl (fun c3 => ?_) (fun c3 => ?_)
    · exact EQ_some hS
    · refine EQ_if Iff.rfl (fun c4 => ?_) (fun c4 => ?_)
      · refine EQ_if Iff.rfl (fun c5 => ?_) (fun c5 => ?_)
        · refine EQ_jgd (show h 200 (-2) = 2 from by rw [k_200 hS]) ?_
          refine EQ_jgd ⟨(show h (h 200 62) (-2) = 7 from by rw [r_200_62 hS, k_450 hS]), (show 200 ≤ h 200 62 from by rw [r_200_62 hS]; exact (by decide))⟩ ?_
          refine EQ_jl (by rw [r_200_62 hS]) (fun h7 eh7 => ?_)
          have s6 := Sh_of eh7 (Sh_sto hS (a := 450) (i := 1) (by decide +kernel))
          clear eh7
          refine EQ_jgd (show h7 200 (-2) = 2 from by rw [k_200 s6]) ?_
          refine EQ_jgd (show h7 200 (-2) = 2 from by rw [k_200 s6]) ?_
          refine EQ_jg ⟨fun ⟨_, x0⟩ => (show jI a1 (h7 (h7 200 2) (-1)) ↔ jI a1 10 from by rw [r_200_2 s6, l_264 s6]).mp x0, fun x0 => ⟨(show h7 (h7 200 2) (-2) = 101 from by rw [r_200_2 s6, k_264 s6]), (show jI a1 (h7 (h7 200 2) (-1)) ↔ jI a1 10 from by rw [r_200_2 s6, l_264 s6]).mpr x0⟩⟩ (fun g7 => ?_)
          refine EQ_jgd (show h7 200 (-2) = 2 from by rw [k_200 s6]) ?_
          refine EQ_jgd (show h7 200 (-2) = 2 from by rw [k_200 s6]) ?_
          refine EQ_jb (by rw [r_200_1 s6, r_200_2 s6, r_200_62 s6]; exact eX1_tell 258 (h7 264 a1) 450 (by unfold isX3; decide) (by unfold isX6; decide) s6) (fun h9 r8 => ?_)
          refine EQ_if Iff.rfl (fun c9 => ?_) (fun c9 => ?_)
          · refine EQ_jgd (show h9 200 (-2) = 2 from by rw [k_200 r8]) ?_
            refine EQ_jgd (show h9 (h9 200 62) (-2) = 7 from by rw [r_200_62 r8, k_450 r8]) ?_
            exact EQ_some' (by rw [r_200_62 r8]) r8
          · refine EQ_jgd (show h9 200 (-2) = 2 from by rw [k_200 r8]) ?_
            refine EQ_jgd (show h9 (h9 200 62) (-2) = 7 from by rw [r_200_62 r8, k_450 r8]) ?_
            refine EQ_if (show h9 (h9 200 62) 1 ≤ a2 ↔ h9 450 1 ≤ a2 from by rw [r_200_62 r8]) (fun c10 => ?_) (fun c10 => ?_)
            · exact EQ_some r8
            · refine EQ_jgd (show h9 200 (-2) = 2 from by rw [k_200 r8]) ?_
              refine EQ_jgd (show h9 (h9 200 62) (-2) = 7 from by rw [r_200_62 r8, k_450 r8]) ?_
              refine EQ_jg ⟨fun ⟨_, x0⟩ => (show jI a2 (h9 (h9 (h9 200 62) 0) (-1)) ↔ jI a2 2200 from by rw [r_200_62 r8, r_450_0 r8, l_451 r8]).mp x0, fun x0 => ⟨(show h9 (h9 (h9 200 62) 0) (-2) = 103 from by rw [r_200_62 r8, r_450_0 r8, k_451 r8]), (show jI a2 (h9 (h9 (h9 200 62) 0) (-1)) ↔ jI a2 2200 from by rw [r_200_62 r8, r_450_0 r8, l_451 r8]).mpr x0⟩⟩ (fun g11 => ?_)
              exact EQ_some' (by rw [r_200_62 r8, r_450_0 r8]) r8
        · refine EQ_jl rfl (fun x12 ex12 => ?_)
          clear ex12
          refine EQ_if Iff.rfl (fun c12 => ?_) (fun c12 => ?_)
          · refine EQ_jgd (show h 28 (-2) = 1 from by rw [k_28 hS]) ?_
            refine EQ_jgd (show h 200 (-2) = 2 from by rw [k_200 hS]) ?_
            refine EQ_jg ⟨fun ⟨_, x0⟩ => (show jI (w32 (w32 (3 * a1) + 2)) (h (h 200 4) (-1)) ↔ jI (w32 (w32 (3 * a1) + 2)) 30 from by rw [r_200_4 hS, l_266 hS]).mp x0, fun x0 => ⟨(show h (h 200 4) (-2) = 101 from by rw [r_200_4 hS, k_266 hS]), (show jI (w32 (w32 (3 * a1) + 2)) (h (h 200 4) (-1)) ↔ jI (w32 (w32 (3 * a1) + 2)) 30 from by rw [r_200_4 hS, l_266 hS]).mpr x0⟩⟩ (fun g13 => ?_)
            refine EQ_jgd (show h 28 (-2) = 1 from by rw [k_28 hS]) ?_
            refine EQ_jb (by rw [r_200_4 hS]; exact EQ_refl) (fun v15 r14 => ?_)
            exact EQ_some hS
          · refine EQ_jgd (show h 200 (-2) = 2 from by rw [k_200 hS]) ?_
            refine EQ_jg ⟨fun ⟨_, x0⟩ => (show jI a1 (h (h 200 3) (-1)) ↔ jI a1 10 from by rw [r_200_3 hS, l_265 hS]).mp x0, fun x0 => ⟨(show h (h 200 3) (-2) = 101 from by rw [r_200_3 hS, k_265 hS]), (show jI a1 (h (h 200 3) (-1)) ↔ jI a1 10 from by rw [r_200_3 hS, l_265 hS]).mpr x0⟩⟩ (fun g15 => ?_)
            refine EQ_if (show h (h 200 3) a1 ≤ x12 ↔ h 265 a1 ≤ x12 from by rw [r_200_3 hS]) (fun c16 => ?_) (fun c16 => ?_)
            · exact EQ_some hS
            · refine EQ_jgd (show h 28 (-2) = 1 from by rw [k_28 hS]) ?_
              refine EQ_jgd (show h 200 (-2) = 2 from by rw [k_200 hS]) ?_
              refine EQ_jg ⟨fun ⟨_, x0⟩ => (show jI (w32 (w32 (3 * a1) + x12)) (h (h 200 4) (-1)) ↔ jI (w32 (w32 (3 * a1) + x12)) 30 from by rw [r_200_4 hS, l_266 hS]).mp x0, fun x0 => ⟨(show h (h 200 4) (-2) = 101 from by rw [r_200_4 hS, k_266 hS]), (show jI (w32 (w32 (3 * a1) + x12)) (h (h 200 4) (-1)) ↔ jI (w32 (w32 (3 * a1) + x12)) 30 from by rw [r_200_4 hS, l_266 hS]).mpr x0⟩⟩ (fun g17 => ?_)
              refine EQ_jgd (show h 28 (-2) = 1 from by rw [k_28 hS]) ?_
              refine EQ_jb (by rw [r_200_4 hS]; exact EQ_refl) (fun v18 r18 => ?_)
              exact EQ_some hS
      · exact EQ_some hS
  · exact EQ_some hS
noncomputable def gX8_clear (a0 : Int) (h : AH) : Option (AH) := jl (jst h (a0 + 5) 0 0) fun h1 => jl (jst h1 a0 9 0) fun h2 => some h2
theorem eX8_clear (a0 : Int) (hT_a0 : isX8 a0) {h : AH} (hS : Sh S h) : EQ (fX8_clear a0 h) (gX8_clear a0 h) (fun r => Sh S r) := by
  unfold fX8_clear gX8_clear
  refine EQ_jgd (show h a0 (-2) = 9 from by rw [kd_X8 hS hT_a0]) ?_
  refine EQ_jgd ⟨(show h (h a0 8) (-2) = 4 from by rw [ft_X8_8 hS hT_a0, kd_X3 hS (sub_X8_8 hT_a0)]), (show 200 ≤ h a0 8 from by rw [ft_X8_8 hS hT_a0]; exact ge_X3 (sub_X8_8 hT_a0))⟩ ?_
  refine EQ_jl (by rw [ft_X8_8 hS hT_a0]) (fun h1 eh1 => ?_)
  have s1 := Sh_of eh1 (Sh_sto_X3_0 hS (sub_X8_8 hT_a0))
  clear eh1
  refine EQ_jgd ⟨(show h1 a0 (-2) = 9 from by rw [kd_X8 s1 hT_a0]), (show 200 ≤ a0 from ge_X8 hT_a0), (show jZ 0 from by unfold jZ; decide)⟩ ?_
  refine EQ_jl rfl (fun h2 eh2 => ?_)
  have s2 := Sh_of eh2 (Sh_sto_X8_9 s1 hT_a0)
  clear eh2
  exact EQ_some s2
noncomputable def gX13_loop_j407 (h : AH) : Option (AH) := if h 441 6 = 0 then (jb (gX13_isEnd h) fun v56 => if v56 = 0 then (jb (gX13_no h) fun h59 => some h59) else (some h)) else (some h)
theorem eX13_loop_j407 {h : AH} (hS : Sh S h) : EQ (fX13_loop_j407 441 h) (gX13_loop_j407 h) (fun r => Sh S r) := by
  unfold fX13_loop_j407 gX13_loop_j407
  refine EQ_jgd (show h 441 (-2) = 14 from by rw [k_441 hS]) ?_
  refine EQ_if Iff.rfl (fun c1 => ?_) (fun c1 => ?_)
  · refine EQ_jgd (show h 441 (-2) = 14 from by rw [k_441 hS]) ?_
    refine EQ_jb (eX13_isEnd hS) (fun v56 r2 => ?_)
    refine EQ_if Iff.rfl (fun c3 => ?_) (fun c3 => ?_)
    · refine EQ_jgd (show h 441 (-2) = 14 from by rw [k_441 hS]) ?_
      refine EQ_jb (eX13_no hS) (fun h59 r4 => ?_)
      exact EQ_some r4
    · exact EQ_some hS
  · exact EQ_some hS
noncomputable def gX13_loop_j384 (a1 : Int) (h : AH) : Option (AH) := jb (gX13_word 54 h) fun h48 => if h48 441 6 = 0 then (jb2 (gX13_told (-1) h48) fun v51 h52 => jl (jst h52 a1 7 v51) fun h53 => gX13_loop_j407 h53) else (gX13_loop_j407 h48)
theorem eX13_loop_j384 (a1 : Int) (hT_a1 : isX8 a1) {h : AH} (hS : Sh S h) : EQ (fX13_loop_j384 441 a1 h) (gX13_loop_j384 a1 h) (fun r => Sh S r) := by
  unfold fX13_loop_j384 gX13_loop_j384
  refine EQ_jgd (show h 54 (-2) = 1 from by rw [k_54 hS]) ?_
  refine EQ_jgd (show h 441 (-2) = 14 from by rw [k_441 hS]) ?_
  refine EQ_jb (eX13_word 54 hS) (fun h48 r1 => ?_)
  refine EQ_jgd (show h48 441 (-2) = 14 from by rw [k_441 r1]) ?_
  refine EQ_if Iff.rfl (fun c2 => ?_) (fun c2 => ?_)
  · refine EQ_jgd (show h48 441 (-2) = 14 from by rw [k_441 r1]) ?_
    refine EQ_jb2 (eX13_told (-1) r1) (fun v51 h52 r3 => ?_)
    replace r3 : Sh S h52 := r3
    refine EQ_jgd ⟨(show h52 a1 (-2) = 9 from by rw [kd_X8 r3 hT_a1]), (show 200 ≤ a1 from ge_X8 hT_a1)⟩ ?_
    refine EQ_jl rfl (fun h53 eh53 => ?_)
    have s4 := Sh_of eh53 (Sh_sto_X8_7 r3 hT_a1)
    clear eh53
    exact (eX13_loop_j407 s4)
  · exact (eX13_loop_j407 r1)
noncomputable def gX13_loop_j364 (a1 : Int) (a3 : Int) (a4 : Int) (a5 : Int) (h : AH) : Option (AH) := if h 441 6 = 0 then (if a5 = a3 then (gX13_loop_j384 a1 h) else (jb (gX13_err 4 a4 h) fun h46 => gX13_loop_j384 a1 h46)) else (gX13_loop_j384 a1 h)
theorem eX13_loop_j364 (a1 : Int) (a3 : Int) (a4 : Int) (a5 : Int) (hT_a1 : isX8 a1) {h : AH} (hS : Sh S h) : EQ (fX13_loop_j364 441 a1 a3 a4 a5 h) (gX13_loop_j364 a1 a3 a4 a5 h) (fun r => Sh S r) := by
  unfold fX13_loop_j364 gX13_loop_j364
  refine EQ_jgd (show h 441 (-2) = 14 from by rw [k_441 hS]) ?_
  refine EQ_if Iff.rfl (fun c1 => ?_) (fun c1 => ?_)
  · refine EQ_if Iff.rfl (fun c2 => ?_) (fun c2 => ?_)
    · exact (eX13_loop_j384 a1 hT_a1 hS)
    · refine EQ_jgd (show h 441 (-2) = 14 from by rw [k_441 hS]) ?_
      refine EQ_jb (eX13_err 4 a4 hS) (fun h46 r3 => ?_)
      exact (eX13_loop_j384 a1 hT_a1 r3)
  · exact (eX13_loop_j384 a1 hT_a1 hS)
noncomputable def gX13_loop_j342_286 (a1 : Int) (a3 : Int) (a4 : Int) (a5 : Int) (h : AH) : Option ((Int × AH) ⊕ ((AH) ⊕ ((Int × AH) ⊕ ((Int × AH))))) := jl (w32 (a5 + 1)) fun x68 => if h 441 2 = 44 then (jb (gX13_next h) fun h71 => some (.inl (x68, h71))) else (some (.inr (.inr (.inl (x68, h)))))
theorem eX13_loop_j342_286 (a1 : Int) (a3 : Int) (a4 : Int) (a5 : Int) (hT_a1 : isX8 a1) {h : AH} (hS : Sh S h) : EQ (fX13_loop_j342_286 441 a1 a3 a4 a5 h) (gX13_loop_j342_286 a1 a3 a4 a5 h) (Sum.elim (fun r => Sh S r.2) (Sum.elim (fun r => Sh S r) (Sum.elim (fun r => Sh S r.2) (fun r => Sh S r.2)))) := by
  unfold fX13_loop_j342_286 gX13_loop_j342_286
  refine EQ_jl rfl (fun x68 ex68 => ?_)
  clear ex68
  refine EQ_jgd (show h 441 (-2) = 14 from by rw [k_441 hS]) ?_
  refine EQ_if Iff.rfl (fun c1 => ?_) (fun c1 => ?_)
  · refine EQ_jgd (show h 441 (-2) = 14 from by rw [k_441 hS]) ?_
    refine EQ_jb (eX13_next hS) (fun h71 r2 => ?_)
    exact EQ_some r2
  · exact EQ_some hS
noncomputable def gX13_loop_j314_286 (a1 : Int) (a3 : Int) (a4 : Int) (a5 : Int) (t1 : Int) (h : AH) : Option ((Int × AH) ⊕ ((AH) ⊕ ((Int × AH) ⊕ ((Int × AH))))) := jb2 (gX13_told t1 h) fun v63 h64 => if h64 441 6 = 0 then (if 3 ≤ a5 then (gX13_loop_j342_286 a1 a3 a4 a5 h64) else (jg (jI a5 3) <| jl (jst h64 (a1 + 4) a5 v63) fun h67 => gX13_loop_j342_286 a1 a3 a4 a5 h67)) else (some (.inr (.inl h64)))
theorem eX13_loop_j314_286 (a1 : Int) (a3 : Int) (a4 : Int) (a5 : Int) (t1 : Int) (hT_a1 : isX8 a1) {h : AH} (hS : Sh S h) : EQ (fX13_loop_j314_286 441 a1 a3 a4 a5 441 t1 h) (gX13_loop_j314_286 a1 a3 a4 a5 t1 h) (Sum.elim (fun r => Sh S r.2) (Sum.elim (fun r => Sh S r) (Sum.elim (fun r => Sh S r.2) (fun r => Sh S r.2)))) := by
  unfold fX13_loop_j314_286 gX13_loop_j314_286
  refine EQ_jgd (show h 441 (-2) = 14 from by rw [k_441 hS]) ?_
  refine EQ_jb2 (eX13_told t1 hS) (fun v63 h64 r1 => ?_)
  replace r1 : Sh S h64 := r1
  refine EQ_jgd (show h64 441 (-2) = 14 from by rw [k_441 r1]) ?_
  refine EQ_if Iff.rfl (fun c2 => ?_) (fun c2 => ?_)
  · refine EQ_if Iff.rfl (fun c3 => ?_) (fun c3 => ?_)
    · exact (eX13_loop_j342_286 a1 a3 a4 a5 hT_a1 r1)
    · refine EQ_jgd (show h64 a1 (-2) = 9 from by rw [kd_X8 r1 hT_a1]) ?_
      refine EQ_jg ⟨fun ⟨_, _, x0⟩ => (show jI a5 (h64 (h64 a1 5) (-1)) ↔ jI a5 3 from by rw [ft_X8_5 r1 hT_a1, la_X8_5 r1 hT_a1]).mp x0, fun x0 => ⟨(show h64 (h64 a1 5) (-2) = 101 from by rw [ft_X8_5 r1 hT_a1, ka_X8_5 r1 hT_a1]), (show 200 ≤ h64 a1 5 from by rw [ft_X8_5 r1 hT_a1]; exact gea_X8_5 hT_a1), (show jI a5 (h64 (h64 a1 5) (-1)) ↔ jI a5 3 from by rw [ft_X8_5 r1 hT_a1, la_X8_5 r1 hT_a1]).mpr x0⟩⟩ (fun g4 => ?_)
      refine EQ_jl (by rw [ft_X8_5 r1 hT_a1]) (fun h67 eh67 => ?_)
      have s5 := Sh_of eh67 (Sh_sta r1 (ara_X8_5 hT_a1) (jI_nn g4) (fun e => absurd ((ka_X8_5 r1 hT_a1).symm.trans e) (by decide)))
      clear eh67
      exact (eX13_loop_j342_286 a1 a3 a4 a5 hT_a1 s5)
  · exact EQ_some r1
noncomputable def gX13_loop_b286 (i1 : Int) (i3 : Int) (i4 : Int) (s : Int × AH) : Option ((Int × AH) ⊕ ((AH) ⊕ ((Int × AH) ⊕ ((Int × AH))))) := jt2 s fun a5 h => if h 441 6 = 0 then (if h i1 2 ≤ a5 then (gX13_loop_j314_286 i1 i3 i4 a5 (-1) h) else (jg (jI a5 3) <| gX13_loop_j314_286 i1 i3 i4 a5 (h 446 a5) h)) else (some (.inr (.inr (.inr (a5, h)))))
theorem eX13_loop_b286 (i1 : Int) (i3 : Int) (i4 : Int) (hT_i1 : isX8 i1) {s : Int × AH} (hS : (fun r => Sh S r.2) s) : EQ (fX13_loop_b286 441 i1 i3 i4 s) (gX13_loop_b286 i1 i3 i4 s) (Sum.elim (fun r => Sh S r.2) (Sum.elim (fun r => Sh S r) (Sum.elim (fun r => Sh S r.2) (fun r => Sh S r.2)))) := by
  unfold fX13_loop_b286 gX13_loop_b286
  obtain ⟨a5, h⟩ := s
  refine EQ_jt2 ?_
  replace hS : Sh S h := hS
  refine EQ_jgd (show h 441 (-2) = 14 from by rw [k_441 hS]) ?_
  refine EQ_if Iff.rfl (fun c1 => ?_) (fun c1 => ?_)
  · refine EQ_jgd (show h i1 (-2) = 9 from by rw [kd_X8 hS hT_i1]) ?_
    refine EQ_if Iff.rfl (fun c2 => ?_) (fun c2 => ?_)
    · exact (eX13_loop_j314_286 i1 i3 i4 a5 (-1) hT_i1 hS)
    · refine EQ_jgd (show h 441 (-2) = 14 from by rw [k_441 hS]) ?_
      refine EQ_jg ⟨fun ⟨_, x0⟩ => (show jI a5 (h (h 441 25) (-1)) ↔ jI a5 3 from by rw [r_441_25 hS, l_446 hS]).mp x0, fun x0 => ⟨(show h (h 441 25) (-2) = 101 from by rw [r_441_25 hS, k_446 hS]), (show jI a5 (h (h 441 25) (-1)) ↔ jI a5 3 from by rw [r_441_25 hS, l_446 hS]).mpr x0⟩⟩ (fun g3 => ?_)
      exact (by rw [r_441_25 hS]; exact eX13_loop_j314_286 i1 i3 i4 a5 (h 446 a5) hT_i1 hS)
  · exact EQ_some hS
noncomputable def gX13_loop_l286 (i1 : Int) (i3 : Int) (i4 : Int) (a5 : Int) (h : AH) : Option ((AH) ⊕ ((Int × AH) ⊕ ((Int × AH)))) := jit (gX13_loop_b286 i1 i3 i4) (a5, h)
theorem eX13_loop_l286 (i1 : Int) (i3 : Int) (i4 : Int) (a5 : Int) (hT_i1 : isX8 i1) {h : AH} (hS : Sh S h) : EQ (fX13_loop_l286 441 i1 i3 i4 a5 h) (gX13_loop_l286 i1 i3 i4 a5 h) (Sum.elim (fun r => Sh S r) (Sum.elim (fun r => Sh S r.2) (fun r => Sh S r.2))) := EQ_jit (I := (fun r => Sh S r.2)) (fun s hs => eX13_loop_b286 i1 i3 i4 hT_i1 hs) hS
noncomputable def gX13_loop_j270 (a1 : Int) (a3 : Int) (h : AH) : Option (AH) := jl (h 441 3) fun x30 => jb (gX13_word 52 h) fun h32 => jb (gX13_loop_l286 a1 a3 x30 0 h32) fun o33 => jm o33 (fun o35 => some o35) (fun o36 => jm o36 (fun o37 => jt2 o37 fun y39 h40 => gX13_loop_j364 a1 a3 x30 y39 h40) (fun o38 => jt2 o38 fun y41 h42 => gX13_loop_j364 a1 a3 x30 y41 h42))
theorem eX13_loop_j270 (a1 : Int) (a3 : Int) (hT_a1 : isX8 a1) {h : AH} (hS : Sh S h) : EQ (fX13_loop_j270 441 a1 a3 h) (gX13_loop_j270 a1 a3 h) (fun r => Sh S r) := by
  unfold fX13_loop_j270 gX13_loop_j270
  refine EQ_jgd (show h 441 (-2) = 14 from by rw [k_441 hS]) ?_
  refine EQ_jl rfl (fun x30 ex30 => ?_)
  clear ex30
  refine EQ_jgd (show h 52 (-2) = 1 from by rw [k_52 hS]) ?_
  refine EQ_jgd (show h 441 (-2) = 14 from by rw [k_441 hS]) ?_
  refine EQ_jb (eX13_word 52 hS) (fun h32 r1 => ?_)
  refine EQ_jb (eX13_loop_l286 a1 a3 x30 0 hT_a1 r1) (fun o33 r2 => ?_)
  refine EQ_jm r2 (fun o35 r3 => ?_) (fun o36 r4 => ?_)
  · exact EQ_some r3
  · refine EQ_jm r4 (fun o37 r5 => ?_) (fun o38 r6 => ?_)
    · obtain ⟨y39, h40⟩ := o37
      refine EQ_jt2 ?_
      replace r5 : Sh S h40 := r5
      exact (eX13_loop_j364 a1 a3 x30 y39 hT_a1 r5)
    · obtain ⟨y41, h42⟩ := o38
      refine EQ_jt2 ?_
      replace r6 : Sh S h42 := r6
      exact (eX13_loop_j364 a1 a3 x30 y41 hT_a1 r6)
noncomputable def gX13_loop_j182_80 (a1 : Int) (a3 : Int) (h : AH) : Option ((Int × AH) ⊕ ((AH) ⊕ (Int × AH))) := jl (w32 (a3 + 1)) fun x90 => if h 441 2 = 44 then (some (.inl (x90, h))) else (some (.inr (.inr (x90, h))))
theorem eX13_loop_j182_80 (a1 : Int) (a3 : Int) (hT_a1 : isX8 a1) {h : AH} (hS : Sh S h) : EQ (fX13_loop_j182_80 441 a1 a3 h) (gX13_loop_j182_80 a1 a3 h) (Sum.elim (fun r => Sh S r.2) (Sum.elim (fun r => Sh S r) (fun r => Sh S r.2))) := by
  unfold fX13_loop_j182_80 gX13_loop_j182_80
  refine EQ_jl rfl (fun x90 ex90 => ?_)
  clear ex90
  refine EQ_jgd (show h 441 (-2) = 14 from by rw [k_441 hS]) ?_
  refine EQ_if Iff.rfl (fun c1 => ?_) (fun c1 => ?_)
  · exact EQ_some hS
  · exact EQ_some hS
noncomputable def gX13_loop_j153_80 (a1 : Int) (a3 : Int) (a5 : Int) (h : AH) : Option ((Int × AH) ⊕ ((AH) ⊕ (Int × AH))) := if 3 ≤ a3 then (gX13_loop_j182_80 a1 a3 h) else (jg (jI a3 3) <| jl (jst h (a1 + 3) a3 a5) fun h88 => jg (isX3 (h88 441 17)) <| jg (jI a5 (h88 (h88 441 17 + 3) (-1))) <| jl (jst h88 446 a3 (h88 (h88 441 17 + 3) a5)) fun h89 => gX13_loop_j182_80 a1 a3 h89)
theorem eX13_loop_j153_80 (a1 : Int) (a3 : Int) (a5 : Int) (hT_a1 : isX8 a1) {h : AH} (hS : Sh S h) : EQ (fX13_loop_j153_80 441 a1 a3 a5 h) (gX13_loop_j153_80 a1 a3 a5 h) (Sum.elim (fun r => Sh S r.2) (Sum.elim (fun r => Sh S r) (fun r => Sh S r.2))) := by
  unfold fX13_loop_j153_80 gX13_loop_j153_80
  refine EQ_if Iff.rfl (fun c1 => ?_) (fun c1 => ?_)
  · exact (eX13_loop_j182_80 a1 a3 hT_a1 hS)
  · refine EQ_jgd (show h a1 (-2) = 9 from by rw [kd_X8 hS hT_a1]) ?_
    refine EQ_jg ⟨fun ⟨_, _, x0⟩ => (show jI a3 (h (h a1 4) (-1)) ↔ jI a3 3 from by rw [ft_X8_4 hS hT_a1, la_X8_4 hS hT_a1]).mp x0, fun x0 => ⟨(show h (h a1 4) (-2) = 101 from by rw [ft_X8_4 hS hT_a1, ka_X8_4 hS hT_a1]), (show 200 ≤ h a1 4 from by rw [ft_X8_4 hS hT_a1]; exact gea_X8_4 hT_a1), (show jI a3 (h (h a1 4) (-1)) ↔ jI a3 3 from by rw [ft_X8_4 hS hT_a1, la_X8_4 hS hT_a1]).mpr x0⟩⟩ (fun g2 => ?_)
    refine EQ_jl (by rw [ft_X8_4 hS hT_a1]) (fun h88 eh88 => ?_)
    have s3 := Sh_of eh88 (Sh_sta hS (ara_X8_4 hT_a1) (jI_nn g2) (fun e => absurd ((ka_X8_4 hS hT_a1).symm.trans e) (by decide)))
    clear eh88
    refine EQ_jgd (show h88 441 (-2) = 14 from by rw [k_441 s3]) ?_
    refine EQ_jgd (show h88 441 (-2) = 14 from by rw [k_441 s3]) ?_
    refine EQ_jg ⟨fun x0 => (ik_X3 s3).mp x0, fun x0 => (ik_X3 s3).mpr x0⟩ (fun g4 => ?_)
    refine EQ_jg ⟨fun ⟨_, x0⟩ => (show jI a5 (h88 (h88 (h88 441 17) 3) (-1)) ↔ jI a5 (h88 (h88 441 17 + 3) (-1)) from by rw [ft_X3_3 s3 g4]).mp x0, fun x0 => ⟨(show h88 (h88 (h88 441 17) 3) (-2) = 101 from by rw [ft_X3_3 s3 g4, ka_X3_3 s3 g4]), (show jI a5 (h88 (h88 (h88 441 17) 3) (-1)) ↔ jI a5 (h88 (h88 441 17 + 3) (-1)) from by rw [ft_X3_3 s3 g4]).mpr x0⟩⟩ (fun g5 => ?_)
    refine EQ_jgd ⟨(show h88 (h88 441 25) (-2) = 101 from by rw [r_441_25 s3, k_446 s3]), (show 200 ≤ h88 441 25 from by rw [r_441_25 s3]; exact (by decide)), ((show jI a3 (h88 (h88 441 25) (-1)) ↔ jI a3 3 from by rw [r_441_25 s3, l_446 s3]).mpr g2)⟩ ?_
    refine EQ_jl (by rw [r_441_25 s3, ft_X3_3 s3 g4]) (fun h89 eh89 => ?_)
    have s6 := Sh_of eh89 (Sh_sta s3 (by decide +kernel) (jI_nn g2) (fun e => absurd ((k_446 s3).symm.trans e) (by decide)))
    clear eh89
    exact (eX13_loop_j182_80 a1 a3 hT_a1 s6)
noncomputable def gX13_loop_j132_80 (a1 : Int) (a3 : Int) (a4 : Int) (a5 : Int) (h : AH) : Option ((Int × AH) ⊕ ((AH) ⊕ (Int × AH))) := jg (isX3 (h 441 17)) <| jg (jI a5 (h (h 441 17 + 3) (-1))) <| if h (h 441 17 + 3) a5 = 2 then (jb (gX13_err 3 a4 h) fun h86 => gX13_loop_j153_80 a1 a3 a5 h86) else (gX13_loop_j153_80 a1 a3 a5 h)
theorem eX13_loop_j132_80 (a1 : Int) (a3 : Int) (a4 : Int) (a5 : Int) (hT_a1 : isX8 a1) {h : AH} (hS : Sh S h) : EQ (fX13_loop_j132_80 441 a1 a3 a4 a5 h) (gX13_loop_j132_80 a1 a3 a4 a5 h) (Sum.elim (fun r => Sh S r.2) (Sum.elim (fun r => Sh S r) (fun r => Sh S r.2))) := by
  unfold fX13_loop_j132_80 gX13_loop_j132_80
  refine EQ_jgd (show h 441 (-2) = 14 from by rw [k_441 hS]) ?_
  refine EQ_jg ⟨fun x0 => (ik_X3 hS).mp x0, fun x0 => (ik_X3 hS).mpr x0⟩ (fun g1 => ?_)
  refine EQ_jg ⟨fun ⟨_, x0⟩ => (show jI a5 (h (h (h 441 17) 3) (-1)) ↔ jI a5 (h (h 441 17 + 3) (-1)) from by rw [ft_X3_3 hS g1]).mp x0, fun x0 => ⟨(show h (h (h 441 17) 3) (-2) = 101 from by rw [ft_X3_3 hS g1, ka_X3_3 hS g1]), (show jI a5 (h (h (h 441 17) 3) (-1)) ↔ jI a5 (h (h 441 17 + 3) (-1)) from by rw [ft_X3_3 hS g1]).mpr x0⟩⟩ (fun g2 => ?_)
  refine EQ_if (show h (h (h 441 17) 3) a5 = 2 ↔ h (h 441 17 + 3) a5 = 2 from by rw [ft_X3_3 hS g1]) (fun c3 => ?_) (fun c3 => ?_)
  · refine EQ_jgd (show h 441 (-2) = 14 from by rw [k_441 hS]) ?_
    refine EQ_jb (eX13_err 3 a4 hS) (fun h86 r4 => ?_)
    exact (eX13_loop_j153_80 a1 a3 a5 hT_a1 r4)
  · exact (eX13_loop_j153_80 a1 a3 a5 hT_a1 hS)
noncomputable def gX13_loop_j110_80 (a1 : Int) (a3 : Int) (a4 : Int) (t0 : Int) (h : AH) : Option ((Int × AH) ⊕ ((AH) ⊕ (Int × AH))) := if h 441 6 = 0 then (if a3 = 3 then (jb (gX13_err 4 a4 h) fun h83 => gX13_loop_j132_80 a1 a3 a4 t0 h83) else (gX13_loop_j132_80 a1 a3 a4 t0 h)) else (some (.inr (.inl h)))
theorem eX13_loop_j110_80 (a1 : Int) (a3 : Int) (a4 : Int) (t0 : Int) (hT_a1 : isX8 a1) {h : AH} (hS : Sh S h) : EQ (fX13_loop_j110_80 441 a1 a3 a4 t0 h) (gX13_loop_j110_80 a1 a3 a4 t0 h) (Sum.elim (fun r => Sh S r.2) (Sum.elim (fun r => Sh S r) (fun r => Sh S r.2))) := by
  unfold fX13_loop_j110_80 gX13_loop_j110_80
  refine EQ_jgd (show h 441 (-2) = 14 from by rw [k_441 hS]) ?_
  refine EQ_if Iff.rfl (fun c1 => ?_) (fun c1 => ?_)
  · refine EQ_if Iff.rfl (fun c2 => ?_) (fun c2 => ?_)
    · refine EQ_jgd (show h 441 (-2) = 14 from by rw [k_441 hS]) ?_
      refine EQ_jb (eX13_err 4 a4 hS) (fun h83 r3 => ?_)
      exact (eX13_loop_j132_80 a1 a3 a4 t0 hT_a1 r3)
    · exact (eX13_loop_j132_80 a1 a3 a4 t0 hT_a1 hS)
  · exact EQ_some hS
noncomputable def gX13_loop_j88_80 (a1 : Int) (a3 : Int) (h : AH) : Option ((Int × AH) ⊕ ((AH) ⊕ (Int × AH))) := jl (h 441 3) fun x75 => if h 441 6 = 0 then (jb2 (gX13_told (-1) h) fun v78 h79 => gX13_loop_j110_80 a1 a3 x75 v78 h79) else (gX13_loop_j110_80 a1 a3 x75 0 h)
theorem eX13_loop_j88_80 (a1 : Int) (a3 : Int) (hT_a1 : isX8 a1) {h : AH} (hS : Sh S h) : EQ (fX13_loop_j88_80 441 a1 a3 h) (gX13_loop_j88_80 a1 a3 h) (Sum.elim (fun r => Sh S r.2) (Sum.elim (fun r => Sh S r) (fun r => Sh S r.2))) := by
  unfold fX13_loop_j88_80 gX13_loop_j88_80
  refine EQ_jgd (show h 441 (-2) = 14 from by rw [k_441 hS]) ?_
  refine EQ_jl rfl (fun x75 ex75 => ?_)
  clear ex75
  refine EQ_jgd (show h 441 (-2) = 14 from by rw [k_441 hS]) ?_
  refine EQ_if Iff.rfl (fun c1 => ?_) (fun c1 => ?_)
  · refine EQ_jgd (show h 441 (-2) = 14 from by rw [k_441 hS]) ?_
    refine EQ_jb2 (eX13_told (-1) hS) (fun v78 h79 r2 => ?_)
    replace r2 : Sh S h79 := r2
    exact (eX13_loop_j110_80 a1 a3 x75 v78 hT_a1 r2)
  · exact (eX13_loop_j110_80 a1 a3 x75 0 hT_a1 hS)
noncomputable def gX13_loop_b80 (i1 : Int) (s : Int × AH) : Option ((Int × AH) ⊕ ((AH) ⊕ (Int × AH))) := jt2 s fun a3 h => if a3 ≤ 0 then (gX13_loop_j88_80 i1 a3 h) else (jb (gX13_next h) fun h74 => gX13_loop_j88_80 i1 a3 h74)
theorem eX13_loop_b80 (i1 : Int) (hT_i1 : isX8 i1) {s : Int × AH} (hS : (fun r => Sh S r.2) s) : EQ (fX13_loop_b80 441 i1 s) (gX13_loop_b80 i1 s) (Sum.elim (fun r => Sh S r.2) (Sum.elim (fun r => Sh S r) (fun r => Sh S r.2))) := by
  unfold fX13_loop_b80 gX13_loop_b80
  obtain ⟨a3, h⟩ := s
  refine EQ_jt2 ?_
  replace hS : Sh S h := hS
  refine EQ_if Iff.rfl (fun c1 => ?_) (fun c1 => ?_)
  · exact (eX13_loop_j88_80 i1 a3 hT_i1 hS)
  · refine EQ_jgd (show h 441 (-2) = 14 from by rw [k_441 hS]) ?_
    refine EQ_jb (eX13_next hS) (fun h74 r2 => ?_)
    exact (eX13_loop_j88_80 i1 a3 hT_i1 r2)
noncomputable def gX13_loop_l80 (i1 : Int) (a3 : Int) (h : AH) : Option ((AH) ⊕ (Int × AH)) := jit (gX13_loop_b80 i1) (a3, h)
theorem eX13_loop_l80 (i1 : Int) (a3 : Int) (hT_i1 : isX8 i1) {h : AH} (hS : Sh S h) : EQ (fX13_loop_l80 441 i1 a3 h) (gX13_loop_l80 i1 a3 h) (Sum.elim (fun r => Sh S r) (fun r => Sh S r.2)) := EQ_jit (I := (fun r => Sh S r.2)) (fun s hs => eX13_loop_b80 i1 hT_i1 hs) hS
noncomputable def gX13_loop_b206 (i1 : Int) (i3 : Int) (s : Int × AH) : Option ((Int × AH) ⊕ (AH)) := jt2 s fun a4 h => if h i1 2 ≤ a4 then (some (.inr h)) else (jg (jI a4 3) <| jl (jst h (i1 + 2) a4 (h 446 a4)) fun h93 => jl (w32 (a4 + 1)) fun x94 => some (.inl (x94, h93)))
theorem eX13_loop_b206 (i1 : Int) (i3 : Int) (hT_i1 : isX8 i1) {s : Int × AH} (hS : (fun r => Sh S r.2) s) : EQ (fX13_loop_b206 441 i1 i3 s) (gX13_loop_b206 i1 i3 s) (Sum.elim (fun r => Sh S r.2) (fun r => Sh S r)) := by
  unfold fX13_loop_b206 gX13_loop_b206
  obtain ⟨a4, h⟩ := s
  refine EQ_jt2 ?_
  replace hS : Sh S h := hS
  refine EQ_jgd (show h i1 (-2) = 9 from by rw [kd_X8 hS hT_i1]) ?_
  refine EQ_if Iff.rfl (fun c1 => ?_) (fun c1 => ?_)
  · exact EQ_some hS
  · refine EQ_jgd (show h i1 (-2) = 9 from by rw [kd_X8 hS hT_i1]) ?_
    refine EQ_jgd (show h 441 (-2) = 14 from by rw [k_441 hS]) ?_
    refine EQ_jg ⟨fun ⟨_, x0⟩ => (show jI a4 (h (h 441 25) (-1)) ↔ jI a4 3 from by rw [r_441_25 hS, l_446 hS]).mp x0, fun x0 => ⟨(show h (h 441 25) (-2) = 101 from by rw [r_441_25 hS, k_446 hS]), (show jI a4 (h (h 441 25) (-1)) ↔ jI a4 3 from by rw [r_441_25 hS, l_446 hS]).mpr x0⟩⟩ (fun g2 => ?_)
    refine EQ_jgd ⟨(show h (h i1 3) (-2) = 101 from by rw [ft_X8_3 hS hT_i1, ka_X8_3 hS hT_i1]), (show 200 ≤ h i1 3 from by rw [ft_X8_3 hS hT_i1]; exact gea_X8_3 hT_i1), ((show jI a4 (h (h i1 3) (-1)) ↔ jI a4 3 from by rw [ft_X8_3 hS hT_i1, la_X8_3 hS hT_i1]).mpr g2)⟩ ?_
    refine EQ_jl (by rw [ft_X8_3 hS hT_i1, r_441_25 hS]) (fun h93 eh93 => ?_)
    have s3 := Sh_of eh93 (Sh_sta hS (ara_X8_3 hT_i1) (jI_nn g2) (fun e => absurd ((ka_X8_3 hS hT_i1).symm.trans e) (by decide)))
    clear eh93
    refine EQ_jl rfl (fun x94 ex94 => ?_)
    clear ex94
    exact EQ_some s3
noncomputable def gX13_loop_l206 (i1 : Int) (i3 : Int) (a4 : Int) (h : AH) : Option (AH) := jit (gX13_loop_b206 i1 i3) (a4, h)
theorem eX13_loop_l206 (i1 : Int) (i3 : Int) (a4 : Int) (hT_i1 : isX8 i1) {h : AH} (hS : Sh S h) : EQ (fX13_loop_l206 441 i1 i3 a4 h) (gX13_loop_l206 i1 i3 a4 h) (fun r => Sh S r) := EQ_jit (I := (fun r => Sh S r.2)) (fun s hs => eX13_loop_b206 i1 i3 hT_i1 hs) hS
noncomputable def gX13_loop_j57 (a1 : Int) (a2 : Int) (h : AH) : Option (AH) := jl (jst h a1 1 a2) fun h7 => jb (gX13_parameters a2 (a1 + 1) h7) fun h9 => jb (gX13_word 48 h9) fun h11 => jb (gX13_loop_l80 a1 0 h11) fun o12 => jm o12 (fun o14 => some o14) (fun o15 => jt2 o15 fun y16 h17 => jl (jst h17 a1 2 (min 3 y16)) fun h18 => jb (gX13_loop_l206 a1 y16 0 h18) fun o19 => jb (gX13_word 50 o19) fun h22 => jb (gX13_parameters (h22 a1 2) 446 h22) fun h24 => if h24 441 6 = 0 then (jb2 (gX13_told 1 h24) fun v27 h28 => jl (jst h28 a1 6 v27) fun h29 => gX13_loop_j270 a1 y16 h29) else (gX13_loop_j270 a1 y16 h24))
theorem eX13_loop_j57 (a1 : Int) (a2 : Int) (hT_a1 : isX8 a1) {h : AH} (hS : Sh S h) : EQ (fX13_loop_j57 441 a1 a2 h) (gX13_loop_j57 a1 a2 h) (fun r => Sh S r) := by
  unfold fX13_loop_j57 gX13_loop_j57
  refine EQ_jgd ⟨(show h a1 (-2) = 9 from by rw [kd_X8 hS hT_a1]), (show 200 ≤ a1 from ge_X8 hT_a1)⟩ ?_
  refine EQ_jl rfl (fun h7 eh7 => ?_)
  have s1 := Sh_of eh7 (Sh_sto_X8_1 hS hT_a1)
  clear eh7
  refine EQ_jgd (show h7 a1 (-2) = 9 from by rw [kd_X8 s1 hT_a1]) ?_
  refine EQ_jgd (show h7 441 (-2) = 14 from by rw [k_441 s1]) ?_
  refine EQ_jb (by rw [ft_X8_0 s1 hT_a1]; exact eX13_parameters a2 (a1 + 1) s1) (fun h9 r2 => ?_)
  refine EQ_jgd (show h9 48 (-2) = 1 from by rw [k_48 r2]) ?_
  refine EQ_jgd (show h9 441 (-2) = 14 from by rw [k_441 r2]) ?_
  refine EQ_jb (eX13_word 48 r2) (fun h11 r3 => ?_)
  refine EQ_jb (eX13_loop_l80 a1 0 hT_a1 r3) (fun o12 r4 => ?_)
  refine EQ_jm r4 (fun o14 r5 => ?_) (fun o15 r6 => ?_)
  · exact EQ_some r5
  · obtain ⟨y16, h17⟩ := o15
    refine EQ_jt2 ?_
    replace r6 : Sh S h17 := r6
    refine EQ_jgd ⟨(show h17 a1 (-2) = 9 from by rw [kd_X8 r6 hT_a1]), (show 200 ≤ a1 from ge_X8 hT_a1)⟩ ?_
    refine EQ_jl rfl (fun h18 eh18 => ?_)
    have s7 := Sh_of eh18 (Sh_sto_X8_2 r6 hT_a1)
    clear eh18
    refine EQ_jb (eX13_loop_l206 a1 y16 0 hT_a1 s7) (fun o19 r8 => ?_)
    refine EQ_jgd (show o19 50 (-2) = 1 from by rw [k_50 r8]) ?_
    refine EQ_jgd (show o19 441 (-2) = 14 from by rw [k_441 r8]) ?_
    refine EQ_jb (eX13_word 50 r8) (fun h22 r9 => ?_)
    refine EQ_jgd (show h22 a1 (-2) = 9 from by rw [kd_X8 r9 hT_a1]) ?_
    refine EQ_jgd (show h22 441 (-2) = 14 from by rw [k_441 r9]) ?_
    refine EQ_jgd (show h22 441 (-2) = 14 from by rw [k_441 r9]) ?_
    refine EQ_jb (by rw [r_441_25 r9]; exact eX13_parameters (h22 a1 2) 446 r9) (fun h24 r10 => ?_)
    refine EQ_jgd (show h24 441 (-2) = 14 from by rw [k_441 r10]) ?_
    refine EQ_if Iff.rfl (fun c11 => ?_) (fun c11 => ?_)
    · refine EQ_jgd (show h24 441 (-2) = 14 from by rw [k_441 r10]) ?_
      refine EQ_jb2 (eX13_told 1 r10) (fun v27 h28 r12 => ?_)
      replace r12 : Sh S h28 := r12
      refine EQ_jgd ⟨(show h28 a1 (-2) = 9 from by rw [kd_X8 r12 hT_a1]), (show 200 ≤ a1 from ge_X8 hT_a1)⟩ ?_
      refine EQ_jl rfl (fun h29 eh29 => ?_)
      have s13 := Sh_of eh29 (Sh_sto_X8_6 r12 hT_a1)
      clear eh29
      exact (eX13_loop_j270 a1 y16 hT_a1 s13)
    · exact (eX13_loop_j270 a1 y16 hT_a1 r10)
noncomputable def gX13_loop_j43_9 (a1 : Int) (a2 : Int) (h : AH) : Option ((Int × AH) ⊕ (Int × AH)) := if h 441 6 = 0 then (jb (gX13_isKind h) fun v108 => if v108 = 0 then (some (.inr (a2, h))) else (some (.inl (a2, h)))) else (some (.inr (a2, h)))
theorem eX13_loop_j43_9 (a1 : Int) (a2 : Int) (hT_a1 : isX8 a1) {h : AH} (hS : Sh S h) : EQ (fX13_loop_j43_9 441 a1 a2 h) (gX13_loop_j43_9 a1 a2 h) (Sum.elim (fun r => Sh S r.2) (fun r => Sh S r.2)) := by
  unfold fX13_loop_j43_9 gX13_loop_j43_9
  refine EQ_jgd (show h 441 (-2) = 14 from by rw [k_441 hS]) ?_
  refine EQ_if Iff.rfl (fun c1 => ?_) (fun c1 => ?_)
  · refine EQ_jgd (show h 441 (-2) = 14 from by rw [k_441 hS]) ?_
    refine EQ_jb (eX13_isKind hS) (fun v108 r2 => ?_)
    refine EQ_if Iff.rfl (fun c3 => ?_) (fun c3 => ?_)
    · exact EQ_some hS
    · exact EQ_some hS
  · exact EQ_some hS
noncomputable def gX13_loop_j23_9 (a1 : Int) (a2 : Int) (h : AH) : Option ((Int × AH) ⊕ (Int × AH)) := jb (gX13_no h) fun h105 => gX13_loop_j43_9 a1 a2 h105
theorem eX13_loop_j23_9 (a1 : Int) (a2 : Int) (hT_a1 : isX8 a1) {h : AH} (hS : Sh S h) : EQ (fX13_loop_j23_9 441 a1 a2 h) (gX13_loop_j23_9 a1 a2 h) (Sum.elim (fun r => Sh S r.2) (fun r => Sh S r.2)) := by
  unfold fX13_loop_j23_9 gX13_loop_j23_9
  refine EQ_jgd (show h 441 (-2) = 14 from by rw [k_441 hS]) ?_
  refine EQ_jb (eX13_no hS) (fun h105 r1 => ?_)
  exact (eX13_loop_j43_9 a1 a2 hT_a1 r1)
noncomputable def gX13_loop_b9 (i1 : Int) (s : Int × AH) : Option ((Int × AH) ⊕ (Int × AH)) := jt2 s fun a2 h => if a2 = 2 then (gX13_loop_j23_9 i1 a2 h) else (jb (gX13_is 36 h) fun v97 => if v97 = 0 then (jl (w32 (a2 + 1)) fun x99 => jb2 (gX13_kind h) fun v101 h102 => jg (jI a2 3) <| jl (jst h102 (i1 + 1) a2 v101) fun h103 => gX13_loop_j43_9 i1 x99 h103) else (gX13_loop_j23_9 i1 a2 h))
theorem eX13_loop_b9 (i1 : Int) (hT_i1 : isX8 i1) {s : Int × AH} (hS : (fun r => Sh S r.2) s) : EQ (fX13_loop_b9 441 i1 s) (gX13_loop_b9 i1 s) (Sum.elim (fun r => Sh S r.2) (fun r => Sh S r.2)) := by
  unfold fX13_loop_b9 gX13_loop_b9
  obtain ⟨a2, h⟩ := s
  refine EQ_jt2 ?_
  replace hS : Sh S h := hS
  refine EQ_if Iff.rfl (fun c1 => ?_) (fun c1 => ?_)
  · exact (eX13_loop_j23_9 i1 a2 hT_i1 hS)
  · refine EQ_jgd (show h 36 (-2) = 1 from by rw [k_36 hS]) ?_
    refine EQ_jgd (show h 441 (-2) = 14 from by rw [k_441 hS]) ?_
    refine EQ_jb (eX13_is 36 hS) (fun v97 r2 => ?_)
    refine EQ_if Iff.rfl (fun c3 => ?_) (fun c3 => ?_)
    · refine EQ_jgd (show h i1 (-2) = 9 from by rw [kd_X8 hS hT_i1]) ?_
      refine EQ_jl rfl (fun x99 ex99 => ?_)
      clear ex99
      refine EQ_jgd (show h 441 (-2) = 14 from by rw [k_441 hS]) ?_
      refine EQ_jb2 (eX13_kind hS) (fun v101 h102 r4 => ?_)
      replace r4 : Sh S h102 := r4
      refine EQ_jg ⟨fun ⟨_, _, x0⟩ => (show jI a2 (h102 (h i1 0) (-1)) ↔ jI a2 3 from by rw [ft_X8_0 hS hT_i1, la_X8_0 r4 hT_i1]).mp x0, fun x0 => ⟨(show h102 (h i1 0) (-2) = 101 from by rw [ft_X8_0 hS hT_i1, ka_X8_0 r4 hT_i1]), (show 200 ≤ h i1 0 from by rw [ft_X8_0 hS hT_i1]; exact gea_X8_0 hT_i1), (show jI a2 (h102 (h i1 0) (-1)) ↔ jI a2 3 from by rw [ft_X8_0 hS hT_i1, la_X8_0 r4 hT_i1]).mpr x0⟩⟩ (fun g5 => ?_)
      refine EQ_jl (by rw [ft_X8_0 hS hT_i1]) (fun h103 eh103 => ?_)
      have s6 := Sh_of eh103 (Sh_sta r4 (ara_X8_0 hT_i1) (jI_nn g5) (fun e => absurd ((ka_X8_0 r4 hT_i1).symm.trans e) (by decide)))
      clear eh103
      exact (eX13_loop_j43_9 i1 x99 hT_i1 s6)
    · exact (eX13_loop_j23_9 i1 a2 hT_i1 hS)
noncomputable def gX13_loop_l9 (i1 : Int) (a2 : Int) (h : AH) : Option (Int × AH) := jit (gX13_loop_b9 i1) (a2, h)
theorem eX13_loop_l9 (i1 : Int) (a2 : Int) (hT_i1 : isX8 i1) {h : AH} (hS : Sh S h) : EQ (fX13_loop_l9 441 i1 a2 h) (gX13_loop_l9 i1 a2 h) (fun r => Sh S r.2) := EQ_jit (I := (fun r => Sh S r.2)) (fun s hs => eX13_loop_b9 i1 hT_i1 hs) hS
noncomputable def gX13_loop (a1 : Int) (h : AH) : Option (AH) := jb (gX13_word 46 h) fun h2 => jb (gX13_loop_l9 a1 0 h2) fun o3 => jt2 o3 fun y5 h6 => gX13_loop_j57 a1 y5 h6
theorem eX13_loop (a1 : Int) (hT_a1 : isX8 a1) {h : AH} (hS : Sh S h) : EQ (fX13_loop 441 a1 h) (gX13_loop a1 h) (fun r => Sh S r) := by
  unfold fX13_loop gX13_loop
  refine EQ_jgd (show h 46 (-2) = 1 from by rw [k_46 hS]) ?_
  refine EQ_jgd (show h 441 (-2) = 14 from by rw [k_441 hS]) ?_
  refine EQ_jb (eX13_word 46 hS) (fun h2 r1 => ?_)
  refine EQ_jb (eX13_loop_l9 a1 0 hT_a1 r1) (fun o3 r2 => ?_)
  obtain ⟨y5, h6⟩ := o3
  refine EQ_jt2 ?_
  replace r2 : Sh S h6 := r2
  exact (eX13_loop_j57 a1 y5 hT_a1 r2)
noncomputable def gX1_beginRuns (h : AH) : Option (AH) := jb (fJ6_fill_3 404 0 h) fun h2 => some h2
theorem eX1_beginRuns {h : AH} (hS : Sh S h) : EQ (fX1_beginRuns 200 h) (gX1_beginRuns h) (fun r => Sh S r) := by
  unfold fX1_beginRuns gX1_beginRuns
  refine EQ_jgd (show h 200 (-2) = 2 from by rw [k_200 hS]) ?_
  refine EQ_jb (by rw [r_200_41 hS]; exact wJ6_fill_3 404 0 hS) (fun h2 r1 => ?_)
  exact EQ_some r1
noncomputable def gX8_many_b4 (i0 : Int) (h : AH) (s : Int × Int) : Option ((Int × Int) ⊕ (Int)) := jt2 s fun a1 a2 => if h i0 1 ≤ a2 then (some (.inr a1)) else (jg (jI a2 3) <| jb (gX4_valuesOf (h (i0 + 1) a2)) fun v5 => jl (w32 (a1 * v5)) fun x6 => jl (w32 (a2 + 1)) fun x7 => some (.inl (x6, x7)))
theorem eX8_many_b4 (i0 : Int) (hT_i0 : isX8 i0) (s : Int × Int) {h : AH} (hS : Sh S h) : EQ (fX8_many_b4 i0 h s) (gX8_many_b4 i0 h s) (Sum.elim (fun _ => True) (fun _ => True)) := by
  unfold fX8_many_b4 gX8_many_b4
  obtain ⟨a1, a2⟩ := s
  refine EQ_jt2 ?_
  refine EQ_jgd (show h i0 (-2) = 9 from by rw [kd_X8 hS hT_i0]) ?_
  refine EQ_if Iff.rfl (fun c1 => ?_) (fun c1 => ?_)
  · exact EQ_some trivial
  · refine EQ_jgd (show h i0 (-2) = 9 from by rw [kd_X8 hS hT_i0]) ?_
    refine EQ_jg ⟨fun ⟨_, x0⟩ => (show jI a2 (h (h i0 0) (-1)) ↔ jI a2 3 from by rw [ft_X8_0 hS hT_i0, la_X8_0 hS hT_i0]).mp x0, fun x0 => ⟨(show h (h i0 0) (-2) = 101 from by rw [ft_X8_0 hS hT_i0, ka_X8_0 hS hT_i0]), (show jI a2 (h (h i0 0) (-1)) ↔ jI a2 3 from by rw [ft_X8_0 hS hT_i0, la_X8_0 hS hT_i0]).mpr x0⟩⟩ (fun g2 => ?_)
    refine EQ_jb (by rw [ft_X8_0 hS hT_i0]; exact eX4_valuesOf (h (i0 + 1) a2)) (fun v5 r3 => ?_)
    refine EQ_jl rfl (fun x6 ex6 => ?_)
    clear ex6
    refine EQ_jl rfl (fun x7 ex7 => ?_)
    clear ex7
    exact EQ_some trivial
noncomputable def gX8_many_l4 (i0 : Int) (a1 : Int) (a2 : Int) (h : AH) : Option (Int) := jit (gX8_many_b4 i0 h) (a1, a2)
theorem eX8_many_l4 (i0 : Int) (a1 : Int) (a2 : Int) (hT_i0 : isX8 i0) {h : AH} (hS : Sh S h) : EQ (fX8_many_l4 i0 a1 a2 h) (gX8_many_l4 i0 a1 a2 h) (fun _ => True) := EQ_jit (I := (fun _ => True)) (fun s _ => eX8_many_b4 i0 hT_i0 s hS) trivial
noncomputable def gX8_many (a0 : Int) (h : AH) : Option (Int) := jb (gX8_many_l4 a0 1 0 h) fun o1 => some o1
theorem eX8_many (a0 : Int) (hT_a0 : isX8 a0) {h : AH} (hS : Sh S h) : EQ (fX8_many a0 h) (gX8_many a0 h) (fun _ => True) := by
  unfold fX8_many gX8_many
  refine EQ_jb (eX8_many_l4 a0 1 0 hT_a0 hS) (fun o1 r1 => ?_)
  exact EQ_some trivial
noncomputable def gX1_workLoop_b3 (i1 : Int) (i2 : Int) (i3 : Int) (s : Int × AH) : Option ((Int × AH) ⊕ (AH)) := jt2 s fun a4 h => if i3 ≤ a4 then (some (.inr h)) else (jg (h i2 (-2) = 101 ∧ jI a4 (h i2 (-1))) <| jg (jI a4 1000) <| jl (jst h 269 a4 (h i2 a4)) fun h9 => jl (w32 (a4 + 1)) fun x10 => some (.inl (x10, h9)))
theorem eX1_workLoop_b3 (i1 : Int) (i2 : Int) (i3 : Int) {s : Int × AH} (hS : (fun r => Sh S r.2) s) : EQ (fX1_workLoop_b3 200 i1 i2 i3 s) (gX1_workLoop_b3 i1 i2 i3 s) (Sum.elim (fun r => Sh S r.2) (fun r => Sh S r)) := by
  unfold fX1_workLoop_b3 gX1_workLoop_b3
  obtain ⟨a4, h⟩ := s
  refine EQ_jt2 ?_
  replace hS : Sh S h := hS
  refine EQ_if Iff.rfl (fun c1 => ?_) (fun c1 => ?_)
  · exact EQ_some hS
  · refine EQ_jgd (show h 200 (-2) = 2 from by rw [k_200 hS]) ?_
    refine EQ_jg Iff.rfl (fun g2 => ?_)
    refine EQ_jg ⟨fun ⟨_, _, x0⟩ => (show jI a4 (h (h 200 8) (-1)) ↔ jI a4 1000 from by rw [r_200_8 hS, l_269 hS]).mp x0, fun x0 => ⟨(show h (h 200 8) (-2) = 101 from by rw [r_200_8 hS, k_269 hS]), (show 200 ≤ h 200 8 from by rw [r_200_8 hS]; exact (by decide)), (show jI a4 (h (h 200 8) (-1)) ↔ jI a4 1000 from by rw [r_200_8 hS, l_269 hS]).mpr x0⟩⟩ (fun g3 => ?_)
    refine EQ_jl (by rw [r_200_8 hS]) (fun h9 eh9 => ?_)
    have s4 := Sh_of eh9 (Sh_sta hS (by decide +kernel) (jI_nn (g2.2)) (fun e => absurd ((k_269 hS).symm.trans e) (by decide)))
    clear eh9
    refine EQ_jl rfl (fun x10 ex10 => ?_)
    clear ex10
    exact EQ_some s4
noncomputable def gX1_workLoop_l3 (i1 : Int) (i2 : Int) (i3 : Int) (a4 : Int) (h : AH) : Option (AH) := jit (gX1_workLoop_b3 i1 i2 i3) (a4, h)
theorem eX1_workLoop_l3 (i1 : Int) (i2 : Int) (i3 : Int) (a4 : Int) {h : AH} (hS : Sh S h) : EQ (fX1_workLoop_l3 200 i1 i2 i3 a4 h) (gX1_workLoop_l3 i1 i2 i3 a4 h) (fun r => Sh S r) := EQ_jit (I := (fun r => Sh S r.2)) (fun s hs => eX1_workLoop_b3 i1 i2 i3 hs) hS
noncomputable def gX1_workLoop (a1 : Int) (a2 : Int) (a3 : Int) (h : AH) : Option (Int × AH) := jb (gX1_workLoop_l3 a1 a2 a3 0 h) fun o1 => jl (jst o1 200 9 a3) fun h3 => jb2 (gX1_work (h3 200 39 + 5) a1 0 h3) fun v5 h6 => jl (jst h6 200 9 0) fun h7 => some (v5, h7)
theorem eX1_workLoop (a1 : Int) (a2 : Int) (a3 : Int) {h : AH} (hS : Sh S h) : EQ (fX1_workLoop 200 a1 a2 a3 h) (gX1_workLoop a1 a2 a3 h) (fun r => Sh S r.2) := by
  unfold fX1_workLoop gX1_workLoop
  refine EQ_jb (eX1_workLoop_l3 a1 a2 a3 0 hS) (fun o1 r1 => ?_)
  refine EQ_jgd ⟨(show o1 200 (-2) = 2 from by rw [k_200 r1]), (show (200 : Int) ≤ 200 from (by decide))⟩ ?_
  refine EQ_jl rfl (fun h3 eh3 => ?_)
  have s2 := Sh_of eh3 (Sh_sto r1 (a := 200) (i := 9) (by decide +kernel))
  clear eh3
  refine EQ_jgd (show h3 200 (-2) = 2 from by rw [k_200 s2]) ?_
  refine EQ_jgd (show h3 (h3 200 39) (-2) = 9 from by rw [kd_X8 s2 (dy_200_39 s2)]) ?_
  refine EQ_jgd (show h3 200 (-2) = 2 from by rw [k_200 s2]) ?_
  refine EQ_jb2 (by rw [ft_X8_8 s2 (dy_200_39 s2)]; exact eX1_work (h3 200 39 + 5) a1 0 s2) (fun v5 h6 r3 => ?_)
  replace r3 : Sh S h6 := r3
  refine EQ_jgd ⟨(show h6 200 (-2) = 2 from by rw [k_200 r3]), (show (200 : Int) ≤ 200 from (by decide))⟩ ?_
  refine EQ_jl rfl (fun h7 eh7 => ?_)
  have s4 := Sh_of eh7 (Sh_sto r3 (a := 200) (i := 9) (by decide +kernel))
  clear eh7
  exact EQ_some s4
noncomputable def gX1_stateNumber_b4 (h : AH) (s : Int × Int) : Option ((Int × Int) ⊕ (Int)) := jt2 s fun a1 a2 => if h (h 200 39) 2 ≤ a2 then (some (.inr a1)) else (jg (jI a2 3) <| jb (gX4_valuesOf (h (h 200 39 + 2) a2)) fun v5 => jl (w32 (w32 (a1 * v5) + h 406 a2)) fun x6 => jl (w32 (a2 + 1)) fun x7 => some (.inl (x6, x7)))
theorem eX1_stateNumber_b4 (s : Int × Int) {h : AH} (hS : Sh S h) : EQ (fX1_stateNumber_b4 200 h s) (gX1_stateNumber_b4 h s) (Sum.elim (fun _ => True) (fun _ => True)) := by
  unfold fX1_stateNumber_b4 gX1_stateNumber_b4
  obtain ⟨a1, a2⟩ := s
  refine EQ_jt2 ?_
  refine EQ_jgd (show h 200 (-2) = 2 from by rw [k_200 hS]) ?_
  refine EQ_jgd (show h (h 200 39) (-2) = 9 from by rw [kd_X8 hS (dy_200_39 hS)]) ?_
  refine EQ_if Iff.rfl (fun c1 => ?_) (fun c1 => ?_)
  · exact EQ_some trivial
  · refine EQ_jgd (show h 200 (-2) = 2 from by rw [k_200 hS]) ?_
    refine EQ_jgd (show h (h 200 39) (-2) = 9 from by rw [kd_X8 hS (dy_200_39 hS)]) ?_
    refine EQ_jg ⟨fun ⟨_, x0⟩ => (show jI a2 (h (h (h 200 39) 3) (-1)) ↔ jI a2 3 from by rw [ft_X8_3 hS (dy_200_39 hS), la_X8_3 hS (dy_200_39 hS)]).mp x0, fun x0 => ⟨(show h (h (h 200 39) 3) (-2) = 101 from by rw [ft_X8_3 hS (dy_200_39 hS), ka_X8_3 hS (dy_200_39 hS)]), (show jI a2 (h (h (h 200 39) 3) (-1)) ↔ jI a2 3 from by rw [ft_X8_3 hS (dy_200_39 hS), la_X8_3 hS (dy_200_39 hS)]).mpr x0⟩⟩ (fun g2 => ?_)
    refine EQ_jb (by rw [ft_X8_3 hS (dy_200_39 hS)]; exact eX4_valuesOf (h (h 200 39 + 2) a2)) (fun v5 r3 => ?_)
    refine EQ_jgd (show h 200 (-2) = 2 from by rw [k_200 hS]) ?_
    refine EQ_jgd ⟨(show h (h 200 43) (-2) = 101 from by rw [r_200_43 hS, k_406 hS]), ((show jI a2 (h (h 200 43) (-1)) ↔ jI a2 3 from by rw [r_200_43 hS, l_406 hS]).mpr g2)⟩ ?_
    refine EQ_jl (by rw [r_200_43 hS]) (fun x6 ex6 => ?_)
    clear ex6
    refine EQ_jl rfl (fun x7 ex7 => ?_)
    clear ex7
    exact EQ_some trivial
noncomputable def gX1_stateNumber_l4 (a1 : Int) (a2 : Int) (h : AH) : Option (Int) := jit (gX1_stateNumber_b4 h) (a1, a2)
theorem eX1_stateNumber_l4 (a1 : Int) (a2 : Int) {h : AH} (hS : Sh S h) : EQ (fX1_stateNumber_l4 200 a1 a2 h) (gX1_stateNumber_l4 a1 a2 h) (fun _ => True) := EQ_jit (I := (fun _ => True)) (fun s _ => eX1_stateNumber_b4 s hS) trivial
noncomputable def gX1_stateNumber (h : AH) : Option (Int) := jb (gX1_stateNumber_l4 0 0 h) fun o1 => some o1
theorem eX1_stateNumber {h : AH} (hS : Sh S h) : EQ (fX1_stateNumber 200 h) (gX1_stateNumber h) (fun _ => True) := by
  unfold fX1_stateNumber gX1_stateNumber
  refine EQ_jb (eX1_stateNumber_l4 0 0 hS) (fun o1 r1 => ?_)
  exact EQ_some trivial
noncomputable def gX1_meet_2_j180_115 (a4 : Int) (t0 : Int) (t1 : Int) (t2 : Int) (h : AH) : Option ((Int × AH) ⊕ (AH)) := jg (h t0 (-2) = 101 ∧ 200 ≤ t0 ∧ jI t1 (h t0 (-1))) <| jl (jst h t0 t1 t2) fun h18 => jg (jI a4 3) <| jl (jst h18 (h18 200 39 + 12) a4 (max (h18 (h18 200 39 + 12) a4) (h18 406 a4))) fun h19 => jl (w32 (a4 + 1)) fun x20 => some (.inl (x20, h19))
theorem eX1_meet_2_j180_115 (a4 : Int) (t0 : Int) (t1 : Int) (t2 : Int) {h : AH} (hS : Sh S h) : EQ (fX1_meet_2_j180_115 200 a4 t0 t1 t2 h) (gX1_meet_2_j180_115 a4 t0 t1 t2 h) (Sum.elim (fun r => Sh S r.2) (fun r => Sh S r)) := by
  unfold fX1_meet_2_j180_115 gX1_meet_2_j180_115
  refine EQ_jg Iff.rfl (fun g1 => ?_)
  refine EQ_jl rfl (fun h18 eh18 => ?_)
  have s2 := Sh_of eh18 (Sh_stk hS (Or.inl (g1.1)) (g1.2.1) (jI_nn (g1.2.2)) (fun e => absurd (((g1.1)).symm.trans e) (by decide)))
  clear eh18
  refine EQ_jgd (show h18 200 (-2) = 2 from by rw [k_200 s2]) ?_
  refine EQ_jgd (show h18 (h18 200 39) (-2) = 9 from by rw [kd_X8 s2 (dy_200_39 s2)]) ?_
  refine EQ_jgd (show h18 200 (-2) = 2 from by rw [k_200 s2]) ?_
  refine EQ_jgd (show h18 (h18 200 39) (-2) = 9 from by rw [kd_X8 s2 (dy_200_39 s2)]) ?_
  refine EQ_jg ⟨fun ⟨_, x0⟩ => (show jI a4 (h18 (h18 (h18 200 39) 12) (-1)) ↔ jI a4 3 from by rw [ft_X8_12 s2 (dy_200_39 s2), la_X8_12 s2 (dy_200_39 s2)]).mp x0, fun x0 => ⟨(show h18 (h18 (h18 200 39) 12) (-2) = 101 from by rw [ft_X8_12 s2 (dy_200_39 s2), ka_X8_12 s2 (dy_200_39 s2)]), (show jI a4 (h18 (h18 (h18 200 39) 12) (-1)) ↔ jI a4 3 from by rw [ft_X8_12 s2 (dy_200_39 s2), la_X8_12 s2 (dy_200_39 s2)]).mpr x0⟩⟩ (fun g3 => ?_)
  refine EQ_jgd (show h18 200 (-2) = 2 from by rw [k_200 s2]) ?_
  refine EQ_jgd ⟨(show h18 (h18 200 43) (-2) = 101 from by rw [r_200_43 s2, k_406 s2]), ((show jI a4 (h18 (h18 200 43) (-1)) ↔ jI a4 3 from by rw [r_200_43 s2, l_406 s2]).mpr g3)⟩ ?_
  refine EQ_jgd ⟨(show h18 (h18 (h18 200 39) 12) (-2) = 101 from by rw [ft_X8_12 s2 (dy_200_39 s2), ka_X8_12 s2 (dy_200_39 s2)]), (show 200 ≤ h18 (h18 200 39) 12 from by rw [ft_X8_12 s2 (dy_200_39 s2)]; exact gea_X8_12 (dy_200_39 s2)), ((show jI a4 (h18 (h18 (h18 200 39) 12) (-1)) ↔ jI a4 3 from by rw [ft_X8_12 s2 (dy_200_39 s2), la_X8_12 s2 (dy_200_39 s2)]).mpr g3)⟩ ?_
  refine EQ_jl (by rw [ft_X8_12 s2 (dy_200_39 s2), r_200_43 s2]) (fun h19 eh19 => ?_)
  have s4 := Sh_of eh19 (Sh_sta s2 (ara_X8_12 (dy_200_39 s2)) (jI_nn g3) (fun e => absurd ((ka_X8_12 s2 (dy_200_39 s2)).symm.trans e) (by decide)))
  clear eh19
  refine EQ_jl rfl (fun x20 ex20 => ?_)
  clear ex20
  exact EQ_some s4
noncomputable def gX1_meet_2_b115 (s : Int × AH) : Option ((Int × AH) ⊕ (AH)) := jt2 s fun a4 h => if h (h 200 39) 2 ≤ a4 then (some (.inr h)) else (jg (jI a4 3) <| if h (h 200 39 + 11) a4 = (-1) then (gX1_meet_2_j180_115 a4 (h 200 39 + 11) a4 (h 406 a4) h) else (gX1_meet_2_j180_115 a4 (h 200 39 + 11) a4 (min (h (h 200 39 + 11) a4) (h 406 a4)) h))
theorem eX1_meet_2_b115 {s : Int × AH} (hS : (fun r => Sh S r.2) s) : EQ (fX1_meet_2_b115 200 s) (gX1_meet_2_b115 s) (Sum.elim (fun r => Sh S r.2) (fun r => Sh S r)) := by
  unfold fX1_meet_2_b115 gX1_meet_2_b115
  obtain ⟨a4, h⟩ := s
  refine EQ_jt2 ?_
  replace hS : Sh S h := hS
  refine EQ_jgd (show h 200 (-2) = 2 from by rw [k_200 hS]) ?_
  refine EQ_jgd (show h (h 200 39) (-2) = 9 from by rw [kd_X8 hS (dy_200_39 hS)]) ?_
  refine EQ_if Iff.rfl (fun c1 => ?_) (fun c1 => ?_)
  · exact EQ_some hS
  · refine EQ_jgd (show h 200 (-2) = 2 from by rw [k_200 hS]) ?_
    refine EQ_jgd (show h (h 200 39) (-2) = 9 from by rw [kd_X8 hS (dy_200_39 hS)]) ?_
    refine EQ_jgd (show h 200 (-2) = 2 from by rw [k_200 hS]) ?_
    refine EQ_jgd (show h (h 200 39) (-2) = 9 from by rw [kd_X8 hS (dy_200_39 hS)]) ?_
    refine EQ_jg ⟨fun ⟨_, x0⟩ => (show jI a4 (h (h (h 200 39) 11) (-1)) ↔ jI a4 3 from by rw [ft_X8_11 hS (dy_200_39 hS), la_X8_11 hS (dy_200_39 hS)]).mp x0, fun x0 => ⟨(show h (h (h 200 39) 11) (-2) = 101 from by rw [ft_X8_11 hS (dy_200_39 hS), ka_X8_11 hS (dy_200_39 hS)]), (show jI a4 (h (h (h 200 39) 11) (-1)) ↔ jI a4 3 from by rw [ft_X8_11 hS (dy_200_39 hS), la_X8_11 hS (dy_200_39 hS)]).mpr x0⟩⟩ (fun g2 => ?_)
    refine EQ_if (show h (h (h 200 39) 11) a4 = (-1) ↔ h (h 200 39 + 11) a4 = (-1) from by rw [ft_X8_11 hS (dy_200_39 hS)]) (fun c3 => ?_) (fun c3 => ?_)
    · refine EQ_jgd (show h 200 (-2) = 2 from by rw [k_200 hS]) ?_
      refine EQ_jgd ⟨(show h (h 200 43) (-2) = 101 from by rw [r_200_43 hS, k_406 hS]), ((show jI a4 (h (h 200 43) (-1)) ↔ jI a4 3 from by rw [r_200_43 hS, l_406 hS]).mpr g2)⟩ ?_
      exact (by rw [ft_X8_11 hS (dy_200_39 hS), r_200_43 hS]; exact eX1_meet_2_j180_115 a4 (h 200 39 + 11) a4 (h 406 a4) hS)
    · refine EQ_jgd (show h 200 (-2) = 2 from by rw [k_200 hS]) ?_
      refine EQ_jgd (show h (h 200 39) (-2) = 9 from by rw [kd_X8 hS (dy_200_39 hS)]) ?_
      refine EQ_jgd ⟨(show h (h (h 200 39) 11) (-2) = 101 from by rw [ft_X8_11 hS (dy_200_39 hS), ka_X8_11 hS (dy_200_39 hS)]), ((show jI a4 (h (h (h 200 39) 11) (-1)) ↔ jI a4 3 from by rw [ft_X8_11 hS (dy_200_39 hS), la_X8_11 hS (dy_200_39 hS)]).mpr g2)⟩ ?_
      refine EQ_jgd (show h 200 (-2) = 2 from by rw [k_200 hS]) ?_
      refine EQ_jgd ⟨(show h (h 200 43) (-2) = 101 from by rw [r_200_43 hS, k_406 hS]), ((show jI a4 (h (h 200 43) (-1)) ↔ jI a4 3 from by rw [r_200_43 hS, l_406 hS]).mpr g2)⟩ ?_
      exact (by rw [ft_X8_11 hS (dy_200_39 hS), r_200_43 hS]; exact eX1_meet_2_j180_115 a4 (h 200 39 + 11) a4 (min (h (h 200 39 + 11) a4) (h 406 a4)) hS)
noncomputable def gX1_meet_2_l115 (a4 : Int) (h : AH) : Option (AH) := jit gX1_meet_2_b115 (a4, h)
theorem eX1_meet_2_l115 (a4 : Int) {h : AH} (hS : Sh S h) : EQ (fX1_meet_2_l115 200 a4 h) (gX1_meet_2_l115 a4 h) (fun r => Sh S r) := EQ_jit (I := (fun r => Sh S r.2)) (fun s hs => eX1_meet_2_b115 hs) hS
noncomputable def gX1_meet_2_j105 (a1 : Int) (h : AH) : Option (AH) := jg (jI a1 4096) <| jl (jst h 405 a1 (ji2z 1)) fun h13 => jb (gX1_meet_2_l115 0 h13) fun o14 => some o14
theorem eX1_meet_2_j105 (a1 : Int) {h : AH} (hS : Sh S h) : EQ (fX1_meet_2_j105 200 a1 h) (gX1_meet_2_j105 a1 h) (fun r => Sh S r) := by
  unfold fX1_meet_2_j105 gX1_meet_2_j105
  refine EQ_jgd (show h 200 (-2) = 2 from by rw [k_200 hS]) ?_
  refine EQ_jg ⟨fun ⟨_, _, x0⟩ => (show jI a1 (h (h 200 42) (-1)) ↔ jI a1 4096 from by rw [r_200_42 hS, l_405 hS]).mp x0, fun x0 => ⟨(show h (h 200 42) (-2) = 104 from by rw [r_200_42 hS, k_405 hS]), (show 200 ≤ h 200 42 from by rw [r_200_42 hS]; exact (by decide)), (show jI a1 (h (h 200 42) (-1)) ↔ jI a1 4096 from by rw [r_200_42 hS, l_405 hS]).mpr x0⟩⟩ (fun g1 => ?_)
  refine EQ_jl (by rw [r_200_42 hS]) (fun h13 eh13 => ?_)
  have s2 := Sh_of eh13 (Sh_sta hS (by decide +kernel) (jI_nn g1) (fun e => absurd ((k_405 hS).symm.trans e) (by decide)))
  clear eh13
  refine EQ_jb (eX1_meet_2_l115 0 s2) (fun o14 r3 => ?_)
  exact EQ_some r3
noncomputable def gX1_meet_2_j77 (h : AH) : Option (AH) := jl (jst h 200 9 0) fun h21 => some h21
theorem eX1_meet_2_j77 {h : AH} (hS : Sh S h) : EQ (fX1_meet_2_j77 200 h) (gX1_meet_2_j77 h) (fun r => Sh S r) := by
  unfold fX1_meet_2_j77 gX1_meet_2_j77
  refine EQ_jgd ⟨(show h 200 (-2) = 2 from by rw [k_200 hS]), (show (200 : Int) ≤ 200 from (by decide))⟩ ?_
  refine EQ_jl rfl (fun h21 eh21 => ?_)
  have s1 := Sh_of eh21 (Sh_sto hS (a := 200) (i := 9) (by decide +kernel))
  clear eh21
  exact EQ_some s1
noncomputable def gX1_meet_2_b7 (i2 : Int) (i3 : Int) (s : Int × AH) : Option ((Int × AH) ⊕ (AH)) := jt2 s fun a4 h => if h (h 200 39) 2 ≤ a4 then (some (.inr h)) else (jg (jI a4 3) <| jg (jI a4 1000) <| jl (jst h 269 a4 (h 406 a4)) fun h23 => jl (w32 (a4 + 1)) fun x24 => some (.inl (x24, h23)))
theorem eX1_meet_2_b7 (i2 : Int) (i3 : Int) {s : Int × AH} (hS : (fun r => Sh S r.2) s) : EQ (fX1_meet_2_b7 200 i2 i3 s) (gX1_meet_2_b7 i2 i3 s) (Sum.elim (fun r => Sh S r.2) (fun r => Sh S r)) := by
  unfold fX1_meet_2_b7 gX1_meet_2_b7
  obtain ⟨a4, h⟩ := s
  refine EQ_jt2 ?_
  replace hS : Sh S h := hS
  refine EQ_jgd (show h 200 (-2) = 2 from by rw [k_200 hS]) ?_
  refine EQ_jgd (show h (h 200 39) (-2) = 9 from by rw [kd_X8 hS (dy_200_39 hS)]) ?_
  refine EQ_if Iff.rfl (fun c1 => ?_) (fun c1 => ?_)
  · exact EQ_some hS
  · refine EQ_jgd (show h 200 (-2) = 2 from by rw [k_200 hS]) ?_
    refine EQ_jgd (show h 200 (-2) = 2 from by rw [k_200 hS]) ?_
    refine EQ_jg ⟨fun ⟨_, x0⟩ => (show jI a4 (h (h 200 43) (-1)) ↔ jI a4 3 from by rw [r_200_43 hS, l_406 hS]).mp x0, fun x0 => ⟨(show h (h 200 43) (-2) = 101 from by rw [r_200_43 hS, k_406 hS]), (show jI a4 (h (h 200 43) (-1)) ↔ jI a4 3 from by rw [r_200_43 hS, l_406 hS]).mpr x0⟩⟩ (fun g2 => ?_)
    refine EQ_jg ⟨fun ⟨_, _, x0⟩ => (show jI a4 (h (h 200 8) (-1)) ↔ jI a4 1000 from by rw [r_200_8 hS, l_269 hS]).mp x0, fun x0 => ⟨(show h (h 200 8) (-2) = 101 from by rw [r_200_8 hS, k_269 hS]), (show 200 ≤ h 200 8 from by rw [r_200_8 hS]; exact (by decide)), (show jI a4 (h (h 200 8) (-1)) ↔ jI a4 1000 from by rw [r_200_8 hS, l_269 hS]).mpr x0⟩⟩ (fun g3 => ?_)
    refine EQ_jl (by rw [r_200_8 hS, r_200_43 hS]) (fun h23 eh23 => ?_)
    have s4 := Sh_of eh23 (Sh_sta hS (by decide +kernel) (jI_nn g2) (fun e => absurd ((k_269 hS).symm.trans e) (by decide)))
    clear eh23
    refine EQ_jl rfl (fun x24 ex24 => ?_)
    clear ex24
    exact EQ_some s4
noncomputable def gX1_meet_2_l7 (i2 : Int) (i3 : Int) (a4 : Int) (h : AH) : Option (AH) := jit (gX1_meet_2_b7 i2 i3) (a4, h)
theorem eX1_meet_2_l7 (i2 : Int) (i3 : Int) (a4 : Int) {h : AH} (hS : Sh S h) : EQ (fX1_meet_2_l7 200 i2 i3 a4 h) (gX1_meet_2_l7 i2 i3 a4 h) (fun r => Sh S r) := EQ_jit (I := (fun r => Sh S r.2)) (fun s hs => eX1_meet_2_b7 i2 i3 hs) hS
noncomputable def gX1_meet_2 (a1 : Int) (a2 : Int) (a3 : Int) (h : AH) : Option (AH) := if a2 = 0 then (jg (jI a1 4096) <| if h 405 a1 = 0 then (jl (jst h (h 200 39) 10 (w32 (h (h 200 39) 10 + 1))) fun h3 => gX1_meet_2_j105 a1 h3) else (gX1_meet_2_j105 a1 h)) else (jb (gX1_meet_2_l7 a2 a3 0 h) fun o4 => jl (jst o4 200 9 (o4 (o4 200 39) 2)) fun h6 => if h6 200 48 = (-1) then (jb2 (gX1_work a2 a3 0 h6) fun v9 h10 => if v9 = 1 then (gX1_meet_2_j77 h10) else (jl (jst h10 200 48 (h10 200 46)) fun h12 => gX1_meet_2_j77 h12)) else (gX1_meet_2_j77 h6))
theorem eX1_meet_2 (a1 : Int) (a2 : Int) (a3 : Int) {h : AH} (hS : Sh S h) : EQ (fX1_meet_2 200 a1 a2 a3 h) (gX1_meet_2 a1 a2 a3 h) (fun r => Sh S r) := by
  unfold fX1_meet_2 gX1_meet_2
  refine EQ_if Iff.rfl (fun c1 => ?_) (fun c1 => ?_)
  · refine EQ_jgd (show h 200 (-2) = 2 from by rw [k_200 hS]) ?_
    refine EQ_jg ⟨fun ⟨_, x0⟩ => (show jI a1 (h (h 200 42) (-1)) ↔ jI a1 4096 from by rw [r_200_42 hS, l_405 hS]).mp x0, fun x0 => ⟨(show h (h 200 42) (-2) = 104 from by rw [r_200_42 hS, k_405 hS]), (show jI a1 (h (h 200 42) (-1)) ↔ jI a1 4096 from by rw [r_200_42 hS, l_405 hS]).mpr x0⟩⟩ (fun g2 => ?_)
    refine EQ_if (show h (h 200 42) a1 = 0 ↔ h 405 a1 = 0 from by rw [r_200_42 hS]) (fun c3 => ?_) (fun c3 => ?_)
    · refine EQ_jgd (show h 200 (-2) = 2 from by rw [k_200 hS]) ?_
      refine EQ_jgd (show h (h 200 39) (-2) = 9 from by rw [kd_X8 hS (dy_200_39 hS)]) ?_
      refine EQ_jgd ⟨(show h (h 200 39) (-2) = 9 from by rw [kd_X8 hS (dy_200_39 hS)]), (show 200 ≤ h 200 39 from ge_X8 (dy_200_39 hS))⟩ ?_
      refine EQ_jl rfl (fun h3 eh3 => ?_)
      have s4 := Sh_of eh3 (Sh_sto_X8_10 hS (dy_200_39 hS))
      clear eh3
      exact (eX1_meet_2_j105 a1 s4)
    · exact (eX1_meet_2_j105 a1 hS)
  · refine EQ_jb (eX1_meet_2_l7 a2 a3 0 hS) (fun o4 r5 => ?_)
    refine EQ_jgd (show o4 200 (-2) = 2 from by rw [k_200 r5]) ?_
    refine EQ_jgd (show o4 (o4 200 39) (-2) = 9 from by rw [kd_X8 r5 (dy_200_39 r5)]) ?_
    refine EQ_jgd ⟨(show o4 200 (-2) = 2 from by rw [k_200 r5]), (show (200 : Int) ≤ 200 from (by decide))⟩ ?_
    refine EQ_jl rfl (fun h6 eh6 => ?_)
    have s6 := Sh_of eh6 (Sh_sto r5 (a := 200) (i := 9) (by decide +kernel))
    clear eh6
    refine EQ_jgd (show h6 200 (-2) = 2 from by rw [k_200 s6]) ?_
    refine EQ_if Iff.rfl (fun c7 => ?_) (fun c7 => ?_)
    · refine EQ_jgd (show h6 200 (-2) = 2 from by rw [k_200 s6]) ?_
      refine EQ_jb2 (eX1_work a2 a3 0 s6) (fun v9 h10 r8 => ?_)
      replace r8 : Sh S h10 := r8
      refine EQ_if Iff.rfl (fun c9 => ?_) (fun c9 => ?_)
      · exact (eX1_meet_2_j77 r8)
      · refine EQ_jgd (show h10 200 (-2) = 2 from by rw [k_200 r8]) ?_
        refine EQ_jgd ⟨(show h10 200 (-2) = 2 from by rw [k_200 r8]), (show (200 : Int) ≤ 200 from (by decide))⟩ ?_
        refine EQ_jl rfl (fun h12 eh12 => ?_)
        have s10 := Sh_of eh12 (Sh_sto r8 (a := 200) (i := 48) (by decide +kernel))
        clear eh12
        exact (eX1_meet_2_j77 s10)
    · exact (eX1_meet_2_j77 s6)
noncomputable def gX1_goThrough_j290 (t1 : Int) (h : AH) : Option (AH) := jl (jst h 200 45 t1) fun h24 => some h24
theorem eX1_goThrough_j290 (t1 : Int) {h : AH} (hS : Sh S h) : EQ (fX1_goThrough_j290 200 t1 h) (gX1_goThrough_j290 t1 h) (fun r => Sh S r) := by
  unfold fX1_goThrough_j290 gX1_goThrough_j290
  refine EQ_jgd ⟨(show h 200 (-2) = 2 from by rw [k_200 hS]), (show (200 : Int) ≤ 200 from (by decide))⟩ ?_
  refine EQ_jl rfl (fun h24 eh24 => ?_)
  have s1 := Sh_of eh24 (Sh_sto hS (a := 200) (i := 45) (by decide +kernel))
  clear eh24
  exact EQ_some s1
noncomputable def gX1_goThrough_b14 (i1 : Int) (i2 : Int) (i3 : Int) (s : Int × Int × AH) : Option ((Int × Int × AH) ⊕ (AH)) := jt3 s fun a4 a5 h => if a5 < 0 then (some (.inr h)) else (jg (jI a5 3) <| jb (gX4_valuesOf (h (h 200 39 + 1) a5)) fun v27 => jg (¬ v27 = (0 : Int)) <| jl (jst h 407 a5 (jrem a4 v27)) fun h28 => jb (gX4_valuesOf (h28 (h28 200 39 + 1) a5)) fun v30 => jg (¬ v30 = (0 : Int)) <| jl (jdiv a4 v30) fun x31 => jl (w32 (a5 + (-1))) fun x32 => some (.inl (x31, x32, h28)))
theorem eX1_goThrough_b14 (i1 : Int) (i2 : Int) (i3 : Int) {s : Int × Int × AH} (hS : (fun r => Sh S r.2.2) s) : EQ (fX1_goThrough_b14 200 i1 i2 i3 s) (gX1_goThrough_b14 i1 i2 i3 s) (Sum.elim (fun r => Sh S r.2.2) (fun r => Sh S r)) := by
  unfold fX1_goThrough_b14 gX1_goThrough_b14
  obtain ⟨a4, a5, h⟩ := s
  refine EQ_jt3 ?_
  replace hS : Sh S h := hS
  refine EQ_if Iff.rfl (fun c1 => ?_) (fun c1 => ?_)
  · exact EQ_some hS
  · refine EQ_jgd (show h 200 (-2) = 2 from by rw [k_200 hS]) ?_
    refine EQ_jgd (show h 200 (-2) = 2 from by rw [k_200 hS]) ?_
    refine EQ_jgd (show h (h 200 39) (-2) = 9 from by rw [kd_X8 hS (dy_200_39 hS)]) ?_
    refine EQ_jg ⟨fun ⟨_, x0⟩ => (show jI a5 (h (h (h 200 39) 0) (-1)) ↔ jI a5 3 from by rw [ft_X8_0 hS (dy_200_39 hS), la_X8_0 hS (dy_200_39 hS)]).mp x0, fun x0 => ⟨(show h (h (h 200 39) 0) (-2) = 101 from by rw [ft_X8_0 hS (dy_200_39 hS), ka_X8_0 hS (dy_200_39 hS)]), (show jI a5 (h (h (h 200 39) 0) (-1)) ↔ jI a5 3 from by rw [ft_X8_0 hS (dy_200_39 hS), la_X8_0 hS (dy_200_39 hS)]).mpr x0⟩⟩ (fun g2 => ?_)
    refine EQ_jb (by rw [ft_X8_0 hS (dy_200_39 hS)]; exact eX4_valuesOf (h (h 200 39 + 1) a5)) (fun v27 r3 => ?_)
    refine EQ_jg Iff.rfl (fun g4 => ?_)
    refine EQ_jgd ⟨(show h (h 200 44) (-2) = 101 from by rw [r_200_44 hS, k_407 hS]), (show 200 ≤ h 200 44 from by rw [r_200_44 hS]; exact (by decide)), ((show jI a5 (h (h 200 44) (-1)) ↔ jI a5 3 from by rw [r_200_44 hS, l_407 hS]).mpr g2)⟩ ?_
    refine EQ_jl (by rw [r_200_44 hS]) (fun h28 eh28 => ?_)
    have s5 := Sh_of eh28 (Sh_sta hS (by decide +kernel) (jI_nn g2) (fun e => absurd ((k_407 hS).symm.trans e) (by decide)))
    clear eh28
    refine EQ_jgd (show h28 200 (-2) = 2 from by rw [k_200 s5]) ?_
    refine EQ_jgd (show h28 (h28 200 39) (-2) = 9 from by rw [kd_X8 s5 (dy_200_39 s5)]) ?_
    refine EQ_jgd ⟨(show h28 (h28 (h28 200 39) 0) (-2) = 101 from by rw [ft_X8_0 s5 (dy_200_39 s5), ka_X8_0 s5 (dy_200_39 s5)]), ((show jI a5 (h28 (h28 (h28 200 39) 0) (-1)) ↔ jI a5 3 from by rw [ft_X8_0 s5 (dy_200_39 s5), la_X8_0 s5 (dy_200_39 s5)]).mpr g2)⟩ ?_
    refine EQ_jb (by rw [ft_X8_0 s5 (dy_200_39 s5)]; exact eX4_valuesOf (h28 (h28 200 39 + 1) a5)) (fun v30 r6 => ?_)
    refine EQ_jg Iff.rfl (fun g7 => ?_)
    refine EQ_jl rfl (fun x31 ex31 => ?_)
    clear ex31
    refine EQ_jl rfl (fun x32 ex32 => ?_)
    clear ex32
    exact EQ_some s5
noncomputable def gX1_goThrough_l14 (i1 : Int) (i2 : Int) (i3 : Int) (a4 : Int) (a5 : Int) (h : AH) : Option (AH) := jit (gX1_goThrough_b14 i1 i2 i3) (a4, a5, h)
theorem eX1_goThrough_l14 (i1 : Int) (i2 : Int) (i3 : Int) (a4 : Int) (a5 : Int) {h : AH} (hS : Sh S h) : EQ (fX1_goThrough_l14 200 i1 i2 i3 a4 a5 h) (gX1_goThrough_l14 i1 i2 i3 a4 a5 h) (fun r => Sh S r) := EQ_jit (I := (fun r => Sh S r.2.2)) (fun s hs => eX1_goThrough_b14 i1 i2 i3 hs) hS
noncomputable def gX1_goThrough_j154_92 (a1 : Int) (a2 : Int) (a3 : Int) (a6 : Int) (t0 : Int) (t1 : Int) (h : AH) : Option ((Int × Int × AH) ⊕ (Int × AH)) := jl (jand t0 t1) fun x39 => jl (w32 (a6 + 1)) fun x40 => some (.inl (x39, x40, h))
theorem eX1_goThrough_j154_92 (a1 : Int) (a2 : Int) (a3 : Int) (a6 : Int) (t0 : Int) (t1 : Int) {h : AH} (hS : Sh S h) : EQ (fX1_goThrough_j154_92 200 a1 a2 a3 a6 t0 t1 h) (gX1_goThrough_j154_92 a1 a2 a3 a6 t0 t1 h) (Sum.elim (fun r => Sh S r.2.2) (fun r => Sh S r.2)) := by
  unfold fX1_goThrough_j154_92 gX1_goThrough_j154_92
  refine EQ_jl rfl (fun x39 ex39 => ?_)
  clear ex39
  refine EQ_jl rfl (fun x40 ex40 => ?_)
  clear ex40
  exact EQ_some hS
noncomputable def gX1_goThrough_b92 (i1 : Int) (i2 : Int) (i3 : Int) (s : Int × Int × AH) : Option ((Int × Int × AH) ⊕ (Int × AH)) := jt3 s fun a5 a6 h => if h (h 200 39) 2 ≤ a6 then (some (.inr (a5, h))) else (jg (jI a6 3) <| jb2 (gX1_workLoop (h (h 200 39 + 3) a6) 407 (h (h 200 39) 1) h) fun v35 h36 => jl (jst h36 406 a6 v35) fun h37 => if h37 406 a6 = (-1) then (gX1_goThrough_j154_92 i1 i2 i3 a6 a5 0 h37) else (gX1_goThrough_j154_92 i1 i2 i3 a6 a5 1 h37))
theorem eX1_goThrough_b92 (i1 : Int) (i2 : Int) (i3 : Int) {s : Int × Int × AH} (hS : (fun r => Sh S r.2.2) s) : EQ (fX1_goThrough_b92 200 i1 i2 i3 s) (gX1_goThrough_b92 i1 i2 i3 s) (Sum.elim (fun r => Sh S r.2.2) (fun r => Sh S r.2)) := by
  unfold fX1_goThrough_b92 gX1_goThrough_b92
  obtain ⟨a5, a6, h⟩ := s
  refine EQ_jt3 ?_
  replace hS : Sh S h := hS
  refine EQ_jgd (show h 200 (-2) = 2 from by rw [k_200 hS]) ?_
  refine EQ_jgd (show h (h 200 39) (-2) = 9 from by rw [kd_X8 hS (dy_200_39 hS)]) ?_
  refine EQ_if Iff.rfl (fun c1 => ?_) (fun c1 => ?_)
  · exact EQ_some hS
  · refine EQ_jgd (show h 200 (-2) = 2 from by rw [k_200 hS]) ?_
    refine EQ_jgd (show h 200 (-2) = 2 from by rw [k_200 hS]) ?_
    refine EQ_jgd (show h (h 200 39) (-2) = 9 from by rw [kd_X8 hS (dy_200_39 hS)]) ?_
    refine EQ_jg ⟨fun ⟨_, x0⟩ => (show jI a6 (h (h (h 200 39) 4) (-1)) ↔ jI a6 3 from by rw [ft_X8_4 hS (dy_200_39 hS), la_X8_4 hS (dy_200_39 hS)]).mp x0, fun x0 => ⟨(show h (h (h 200 39) 4) (-2) = 101 from by rw [ft_X8_4 hS (dy_200_39 hS), ka_X8_4 hS (dy_200_39 hS)]), (show jI a6 (h (h (h 200 39) 4) (-1)) ↔ jI a6 3 from by rw [ft_X8_4 hS (dy_200_39 hS), la_X8_4 hS (dy_200_39 hS)]).mpr x0⟩⟩ (fun g2 => ?_)
    refine EQ_jgd (show h 200 (-2) = 2 from by rw [k_200 hS]) ?_
    refine EQ_jgd (show h 200 (-2) = 2 from by rw [k_200 hS]) ?_
    refine EQ_jgd (show h (h 200 39) (-2) = 9 from by rw [kd_X8 hS (dy_200_39 hS)]) ?_
    refine EQ_jgd (show h 200 (-2) = 2 from by rw [k_200 hS]) ?_
    refine EQ_jb2 (by rw [ft_X8_4 hS (dy_200_39 hS), r_200_44 hS]; exact eX1_workLoop (h (h 200 39 + 3) a6) 407 (h (h 200 39) 1) hS) (fun v35 h36 r3 => ?_)
    replace r3 : Sh S h36 := r3
    refine EQ_jgd ⟨(show h36 (h 200 43) (-2) = 101 from by rw [r_200_43 hS, k_406 r3]), (show 200 ≤ h 200 43 from by rw [r_200_43 hS]; exact (by decide)), ((show jI a6 (h36 (h 200 43) (-1)) ↔ jI a6 3 from by rw [r_200_43 hS, l_406 r3]).mpr g2)⟩ ?_
    refine EQ_jl (by rw [r_200_43 hS]) (fun h37 eh37 => ?_)
    have s4 := Sh_of eh37 (Sh_sta r3 (by decide +kernel) (jI_nn g2) (fun e => absurd ((k_406 r3).symm.trans e) (by decide)))
    clear eh37
    refine EQ_jgd (show h37 200 (-2) = 2 from by rw [k_200 s4]) ?_
    refine EQ_jgd ⟨(show h37 (h37 200 43) (-2) = 101 from by rw [r_200_43 s4, k_406 s4]), ((show jI a6 (h37 (h37 200 43) (-1)) ↔ jI a6 3 from by rw [r_200_43 s4, l_406 s4]).mpr g2)⟩ ?_
    refine EQ_if (show h37 (h37 200 43) a6 = (-1) ↔ h37 406 a6 = (-1) from by rw [r_200_43 s4]) (fun c5 => ?_) (fun c5 => ?_)
    · exact (eX1_goThrough_j154_92 i1 i2 i3 a6 a5 0 s4)
    · exact (eX1_goThrough_j154_92 i1 i2 i3 a6 a5 1 s4)
noncomputable def gX1_goThrough_l92 (i1 : Int) (i2 : Int) (i3 : Int) (a5 : Int) (a6 : Int) (h : AH) : Option (Int × AH) := jit (gX1_goThrough_b92 i1 i2 i3) (a5, a6, h)
theorem eX1_goThrough_l92 (i1 : Int) (i2 : Int) (i3 : Int) (a5 : Int) (a6 : Int) {h : AH} (hS : Sh S h) : EQ (fX1_goThrough_l92 200 i1 i2 i3 a5 a6 h) (gX1_goThrough_l92 i1 i2 i3 a5 a6 h) (fun r => Sh S r.2) := EQ_jit (I := (fun r => Sh S r.2.2)) (fun s hs => eX1_goThrough_b92 i1 i2 i3 hs) hS
noncomputable def gX1_goThrough_j423_163 (a1 : Int) (a2 : Int) (a3 : Int) (a5 : Int) (h : AH) : Option ((Int × AH) ⊕ ((AH) ⊕ ((AH) ⊕ ((AH))))) := some (.inl (a5, h))
theorem eX1_goThrough_j423_163 (a1 : Int) (a2 : Int) (a3 : Int) (a5 : Int) {h : AH} (hS : Sh S h) : EQ (fX1_goThrough_j423_163 200 a1 a2 a3 a5 h) (gX1_goThrough_j423_163 a1 a2 a3 a5 h) (Sum.elim (fun r => Sh S r.2) (Sum.elim (fun r => Sh S r) (Sum.elim (fun r => Sh S r) (fun r => Sh S r)))) := by
  unfold fX1_goThrough_j423_163 gX1_goThrough_j423_163
  exact EQ_some hS
noncomputable def gX1_goThrough_b386 (i1 : Int) (i2 : Int) (i3 : Int) (i5 : Int) (s : Int × AH) : Option ((Int × AH) ⊕ (AH)) := jt2 s fun a8 h => if h (h 200 39) 2 ≤ a8 then (some (.inr h)) else (if i5 = 0 then (some (.inr h)) else (jg (jI a8 3) <| jl (jst h 406 a8 (h 407 a8)) fun h62 => jl (w32 (a8 + 1)) fun x63 => some (.inl (x63, h62))))
theorem eX1_goThrough_b386 (i1 : Int) (i2 : Int) (i3 : Int) (i5 : Int) {s : Int × AH} (hS : (fun r => Sh S r.2) s) : EQ (fX1_goThrough_b386 200 i1 i2 i3 i5 s) (gX1_goThrough_b386 i1 i2 i3 i5 s) (Sum.elim (fun r => Sh S r.2) (fun r => Sh S r)) := by
  unfold fX1_goThrough_b386 gX1_goThrough_b386
  obtain ⟨a8, h⟩ := s
  refine EQ_jt2 ?_
  replace hS : Sh S h := hS
  refine EQ_jgd (show h 200 (-2) = 2 from by rw [k_200 hS]) ?_
  refine EQ_jgd (show h (h 200 39) (-2) = 9 from by rw [kd_X8 hS (dy_200_39 hS)]) ?_
  refine EQ_if Iff.rfl (fun c1 => ?_) (fun c1 => ?_)
  · exact EQ_some hS
  · refine EQ_if Iff.rfl (fun c2 => ?_) (fun c2 => ?_)
    · exact EQ_some hS
    · refine EQ_jgd (show h 200 (-2) = 2 from by rw [k_200 hS]) ?_
      refine EQ_jgd (show h 200 (-2) = 2 from by rw [k_200 hS]) ?_
      refine EQ_jg ⟨fun ⟨_, x0⟩ => (show jI a8 (h (h 200 44) (-1)) ↔ jI a8 3 from by rw [r_200_44 hS, l_407 hS]).mp x0, fun x0 => ⟨(show h (h 200 44) (-2) = 101 from by rw [r_200_44 hS, k_407 hS]), (show jI a8 (h (h 200 44) (-1)) ↔ jI a8 3 from by rw [r_200_44 hS, l_407 hS]).mpr x0⟩⟩ (fun g3 => ?_)
      refine EQ_jgd ⟨(show h (h 200 43) (-2) = 101 from by rw [r_200_43 hS, k_406 hS]), (show 200 ≤ h 200 43 from by rw [r_200_43 hS]; exact (by decide)), ((show jI a8 (h (h 200 43) (-1)) ↔ jI a8 3 from by rw [r_200_43 hS, l_406 hS]).mpr g3)⟩ ?_
      refine EQ_jl (by rw [r_200_43 hS, r_200_44 hS]) (fun h62 eh62 => ?_)
      have s4 := Sh_of eh62 (Sh_sta hS (by decide +kernel) (jI_nn g3) (fun e => absurd ((k_406 hS).symm.trans e) (by decide)))
      clear eh62
      refine EQ_jl rfl (fun x63 ex63 => ?_)
      clear ex63
      exact EQ_some s4
noncomputable def gX1_goThrough_l386 (i1 : Int) (i2 : Int) (i3 : Int) (i5 : Int) (a8 : Int) (h : AH) : Option (AH) := jit (gX1_goThrough_b386 i1 i2 i3 i5) (a8, h)
theorem eX1_goThrough_l386 (i1 : Int) (i2 : Int) (i3 : Int) (i5 : Int) (a8 : Int) {h : AH} (hS : Sh S h) : EQ (fX1_goThrough_l386 200 i1 i2 i3 i5 a8 h) (gX1_goThrough_l386 i1 i2 i3 i5 a8 h) (fun r => Sh S r) := EQ_jit (I := (fun r => Sh S r.2)) (fun s hs => eX1_goThrough_b386 i1 i2 i3 i5 hs) hS
noncomputable def gX1_goThrough_j383_163 (a1 : Int) (a2 : Int) (a3 : Int) (a5 : Int) (h : AH) : Option ((Int × AH) ⊕ ((AH) ⊕ ((AH) ⊕ ((AH))))) := jb (gX1_goThrough_l386 a1 a2 a3 a5 0 h) fun o58 => gX1_goThrough_j423_163 a1 a2 a3 a5 o58
theorem eX1_goThrough_j383_163 (a1 : Int) (a2 : Int) (a3 : Int) (a5 : Int) {h : AH} (hS : Sh S h) : EQ (fX1_goThrough_j383_163 200 a1 a2 a3 a5 h) (gX1_goThrough_j383_163 a1 a2 a3 a5 h) (Sum.elim (fun r => Sh S r.2) (Sum.elim (fun r => Sh S r) (Sum.elim (fun r => Sh S r) (fun r => Sh S r)))) := by
  unfold fX1_goThrough_j383_163 gX1_goThrough_j383_163
  refine EQ_jb (eX1_goThrough_l386 a1 a2 a3 a5 0 hS) (fun o58 r1 => ?_)
  exact (eX1_goThrough_j423_163 a1 a2 a3 a5 r1)
noncomputable def gX1_goThrough_j375_310 (a1 : Int) (a2 : Int) (a3 : Int) (a8 : Int) (t0 : Int) (h : AH) : Option ((Int × Int × AH) ⊕ (Int × AH)) := jl (w32 (a8 + 1)) fun x71 => some (.inl (t0, x71, h))
theorem eX1_goThrough_j375_310 (a1 : Int) (a2 : Int) (a3 : Int) (a8 : Int) (t0 : Int) {h : AH} (hS : Sh S h) : EQ (fX1_goThrough_j375_310 200 a1 a2 a3 a8 t0 h) (gX1_goThrough_j375_310 a1 a2 a3 a8 t0 h) (Sum.elim (fun r => Sh S r.2.2) (fun r => Sh S r.2)) := by
  unfold fX1_goThrough_j375_310 gX1_goThrough_j375_310
  refine EQ_jl rfl (fun x71 ex71 => ?_)
  clear ex71
  exact EQ_some hS
noncomputable def gX1_goThrough_b310 (i1 : Int) (i2 : Int) (i3 : Int) (s : Int × Int × AH) : Option ((Int × Int × AH) ⊕ (Int × AH)) := jt3 s fun a5 a8 h => if h (h 200 39) 2 ≤ a8 then (some (.inr (a5, h))) else (if a5 = 0 then (some (.inr (a5, h))) else (jg (jI a8 3) <| jb2 (gX1_workLoop (h (h 200 39 + 4) a8) 406 (h (h 200 39) 2) h) fun v67 h68 => jl (jst h68 407 a8 v67) fun h69 => if h69 407 a8 = (-1) then (gX1_goThrough_j375_310 i1 i2 i3 a8 0 h69) else (gX1_goThrough_j375_310 i1 i2 i3 a8 1 h69)))
theorem eX1_goThrough_b310 (i1 : Int) (i2 : Int) (i3 : Int) {s : Int × Int × AH} (hS : (fun r => Sh S r.2.2) s) : EQ (fX1_goThrough_b310 200 i1 i2 i3 s) (gX1_goThrough_b310 i1 i2 i3 s) (Sum.elim (fun r => Sh S r.2.2) (fun r => Sh S r.2)) := by
  unfold fX1_goThrough_b310 gX1_goThrough_b310
  obtain ⟨a5, a8, h⟩ := s
  refine EQ_jt3 ?_
  replace hS : Sh S h := hS
  refine EQ_jgd (show h 200 (-2) = 2 from by rw [k_200 hS]) ?_
  refine EQ_jgd (show h (h 200 39) (-2) = 9 from by rw [kd_X8 hS (dy_200_39 hS)]) ?_
  refine EQ_if Iff.rfl (fun c1 => ?_) (fun c1 => ?_)
  · exact EQ_some hS
  · refine EQ_if Iff.rfl (fun c2 => ?_) (fun c2 => ?_)
    · exact EQ_some hS
    · refine EQ_jgd (show h 200 (-2) = 2 from by rw [k_200 hS]) ?_
      refine EQ_jgd (show h 200 (-2) = 2 from by rw [k_200 hS]) ?_
      refine EQ_jgd (show h (h 200 39) (-2) = 9 from by rw [kd_X8 hS (dy_200_39 hS)]) ?_
      refine EQ_jg ⟨fun ⟨_, x0⟩ => (show jI a8 (h (h (h 200 39) 5) (-1)) ↔ jI a8 3 from by rw [ft_X8_5 hS (dy_200_39 hS), la_X8_5 hS (dy_200_39 hS)]).mp x0, fun x0 => ⟨(show h (h (h 200 39) 5) (-2) = 101 from by rw [ft_X8_5 hS (dy_200_39 hS), ka_X8_5 hS (dy_200_39 hS)]), (show jI a8 (h (h (h 200 39) 5) (-1)) ↔ jI a8 3 from by rw [ft_X8_5 hS (dy_200_39 hS), la_X8_5 hS (dy_200_39 hS)]).mpr x0⟩⟩ (fun g3 => ?_)
      refine EQ_jgd (show h 200 (-2) = 2 from by rw [k_200 hS]) ?_
      refine EQ_jgd (show h 200 (-2) = 2 from by rw [k_200 hS]) ?_
      refine EQ_jgd (show h (h 200 39) (-2) = 9 from by rw [kd_X8 hS (dy_200_39 hS)]) ?_
      refine EQ_jgd (show h 200 (-2) = 2 from by rw [k_200 hS]) ?_
      refine EQ_jb2 (by rw [ft_X8_5 hS (dy_200_39 hS), r_200_43 hS]; exact eX1_workLoop (h (h 200 39 + 4) a8) 406 (h (h 200 39) 2) hS) (fun v67 h68 r4 => ?_)
      replace r4 : Sh S h68 := r4
      refine EQ_jgd ⟨(show h68 (h 200 44) (-2) = 101 from by rw [r_200_44 hS, k_407 r4]), (show 200 ≤ h 200 44 from by rw [r_200_44 hS]; exact (by decide)), ((show jI a8 (h68 (h 200 44) (-1)) ↔ jI a8 3 from by rw [r_200_44 hS, l_407 r4]).mpr g3)⟩ ?_
      refine EQ_jl (by rw [r_200_44 hS]) (fun h69 eh69 => ?_)
      have s5 := Sh_of eh69 (Sh_sta r4 (by decide +kernel) (jI_nn g3) (fun e => absurd ((k_407 r4).symm.trans e) (by decide)))
      clear eh69
      refine EQ_jgd (show h69 200 (-2) = 2 from by rw [k_200 s5]) ?_
      refine EQ_jgd ⟨(show h69 (h69 200 44) (-2) = 101 from by rw [r_200_44 s5, k_407 s5]), ((show jI a8 (h69 (h69 200 44) (-1)) ↔ jI a8 3 from by rw [r_200_44 s5, l_407 s5]).mpr g3)⟩ ?_
      refine EQ_if (show h69 (h69 200 44) a8 = (-1) ↔ h69 407 a8 = (-1) from by rw [r_200_44 s5]) (fun c6 => ?_) (fun c6 => ?_)
      · exact (eX1_goThrough_j375_310 i1 i2 i3 a8 0 s5)
      · exact (eX1_goThrough_j375_310 i1 i2 i3 a8 1 s5)
noncomputable def gX1_goThrough_l310 (i1 : Int) (i2 : Int) (i3 : Int) (a5 : Int) (a8 : Int) (h : AH) : Option (Int × AH) := jit (gX1_goThrough_b310 i1 i2 i3) (a5, a8, h)
theorem eX1_goThrough_l310 (i1 : Int) (i2 : Int) (i3 : Int) (a5 : Int) (a8 : Int) {h : AH} (hS : Sh S h) : EQ (fX1_goThrough_l310 200 i1 i2 i3 a5 a8 h) (gX1_goThrough_l310 i1 i2 i3 a5 a8 h) (fun r => Sh S r.2) := EQ_jit (I := (fun r => Sh S r.2.2)) (fun s hs => eX1_goThrough_b310 i1 i2 i3 hs) hS
noncomputable def gX1_goThrough_j305_163 (a1 : Int) (a2 : Int) (a3 : Int) (t0 : Int) (h : AH) : Option ((Int × AH) ⊕ ((AH) ⊕ ((AH) ⊕ ((AH))))) := jb (gX1_goThrough_l310 a1 a2 a3 t0 0 h) fun o54 => jt2 o54 fun y56 h57 => gX1_goThrough_j383_163 a1 a2 a3 y56 h57
theorem eX1_goThrough_j305_163 (a1 : Int) (a2 : Int) (a3 : Int) (t0 : Int) {h : AH} (hS : Sh S h) : EQ (fX1_goThrough_j305_163 200 a1 a2 a3 t0 h) (gX1_goThrough_j305_163 a1 a2 a3 t0 h) (Sum.elim (fun r => Sh S r.2) (Sum.elim (fun r => Sh S r) (Sum.elim (fun r => Sh S r) (fun r => Sh S r)))) := by
  unfold fX1_goThrough_j305_163 gX1_goThrough_j305_163
  refine EQ_jb (eX1_goThrough_l310 a1 a2 a3 t0 0 hS) (fun o54 r1 => ?_)
  obtain ⟨y56, h57⟩ := o54
  refine EQ_jt2 ?_
  replace r1 : Sh S h57 := r1
  exact (eX1_goThrough_j383_163 a1 a2 a3 y56 r1)
noncomputable def gX1_goThrough_b163 (i1 : Int) (i2 : Int) (i3 : Int) (s : Int × AH) : Option ((Int × AH) ⊕ ((AH) ⊕ ((AH) ⊕ ((AH))))) := jt2 s fun a5 h => if a5 = 0 then (some (.inr (.inr (.inr h)))) else (jb (gX1_stateNumber h) fun v43 => jg (jI v43 4096) <| if h 404 v43 = w32 (i1 + 1) then (some (.inr (.inl h))) else (jl (jst h 404 v43 (w32 (i1 + 1))) fun h45 => jb (gX1_meet_2 v43 i2 i3 h45) fun h47 => jl (jst h47 200 46 (w32 (h47 200 46 + 1))) fun h48 => jb2 (gX1_workLoop (h48 (h48 200 39) 6) 406 (h48 (h48 200 39) 2) h48) fun v50 h51 => if v50 = 0 then (some (.inr (.inr (.inl h51)))) else (if v50 = (-1) then (gX1_goThrough_j305_163 i1 i2 i3 0 h51) else (gX1_goThrough_j305_163 i1 i2 i3 1 h51))))
theorem eX1_goThrough_b163 (i1 : Int) (i2 : Int) (i3 : Int) {s : Int × AH} (hS : (fun r => Sh S r.2) s) : EQ (fX1_goThrough_b163 200 i1 i2 i3 s) (gX1_goThrough_b163 i1 i2 i3 s) (Sum.elim (fun r => Sh S r.2) (Sum.elim (fun r => Sh S r) (Sum.elim (fun r => Sh S r) (fun r => Sh S r)))) := by
  unfold fX1_goThrough_b163 gX1_goThrough_b163
  obtain ⟨a5, h⟩ := s
  refine EQ_jt2 ?_
  replace hS : Sh S h := hS
  refine EQ_if Iff.rfl (fun c1 => ?_) (fun c1 => ?_)
  · exact EQ_some hS
  · refine EQ_jgd (show h 200 (-2) = 2 from by rw [k_200 hS]) ?_
    refine EQ_jb (eX1_stateNumber hS) (fun v43 r2 => ?_)
    refine EQ_jgd (show h 200 (-2) = 2 from by rw [k_200 hS]) ?_
    refine EQ_jg ⟨fun ⟨_, x0⟩ => (show jI v43 (h (h 200 41) (-1)) ↔ jI v43 4096 from by rw [r_200_41 hS, l_404 hS]).mp x0, fun x0 => ⟨(show h (h 200 41) (-2) = 101 from by rw [r_200_41 hS, k_404 hS]), (show jI v43 (h (h 200 41) (-1)) ↔ jI v43 4096 from by rw [r_200_41 hS, l_404 hS]).mpr x0⟩⟩ (fun g3 => ?_)
    refine EQ_if (show h (h 200 41) v43 = w32 (i1 + 1) ↔ h 404 v43 = w32 (i1 + 1) from by rw [r_200_41 hS]) (fun c4 => ?_) (fun c4 => ?_)
    · exact EQ_some hS
    · refine EQ_jgd (show h 200 (-2) = 2 from by rw [k_200 hS]) ?_
      refine EQ_jgd ⟨(show h (h 200 41) (-2) = 101 from by rw [r_200_41 hS, k_404 hS]), (show 200 ≤ h 200 41 from by rw [r_200_41 hS]; exact (by decide)), ((show jI v43 (h (h 200 41) (-1)) ↔ jI v43 4096 from by rw [r_200_41 hS, l_404 hS]).mpr g3)⟩ ?_
      refine EQ_jl (by rw [r_200_41 hS]) (fun h45 eh45 => ?_)
      have s5 := Sh_of eh45 (Sh_sta hS (by decide +kernel) (jI_nn g3) (fun e => absurd ((k_404 hS).symm.trans e) (by decide)))
      clear eh45
      refine EQ_jgd (show h45 200 (-2) = 2 from by rw [k_200 s5]) ?_
      refine EQ_jb (eX1_meet_2 v43 i2 i3 s5) (fun h47 r6 => ?_)
      refine EQ_jgd (show h47 200 (-2) = 2 from by rw [k_200 r6]) ?_
      refine EQ_jgd ⟨(show h47 200 (-2) = 2 from by rw [k_200 r6]), (show (200 : Int) ≤ 200 from (by decide))⟩ ?_
      refine EQ_jl rfl (fun h48 eh48 => ?_)
      have s7 := Sh_of eh48 (Sh_sto r6 (a := 200) (i := 46) (by decide +kernel))
      clear eh48
      refine EQ_jgd (show h48 200 (-2) = 2 from by rw [k_200 s7]) ?_
      refine EQ_jgd (show h48 (h48 200 39) (-2) = 9 from by rw [kd_X8 s7 (dy_200_39 s7)]) ?_
      refine EQ_jgd (show h48 200 (-2) = 2 from by rw [k_200 s7]) ?_
      refine EQ_jgd (show h48 200 (-2) = 2 from by rw [k_200 s7]) ?_
      refine EQ_jgd (show h48 (h48 200 39) (-2) = 9 from by rw [kd_X8 s7 (dy_200_39 s7)]) ?_
      refine EQ_jgd (show h48 200 (-2) = 2 from by rw [k_200 s7]) ?_
      refine EQ_jb2 (by rw [r_200_43 s7]; exact eX1_workLoop (h48 (h48 200 39) 6) 406 (h48 (h48 200 39) 2) s7) (fun v50 h51 r8 => ?_)
      replace r8 : Sh S h51 := r8
      refine EQ_if Iff.rfl (fun c9 => ?_) (fun c9 => ?_)
      · exact EQ_some r8
      · refine EQ_if Iff.rfl (fun c10 => ?_) (fun c10 => ?_)
        · exact (eX1_goThrough_j305_163 i1 i2 i3 0 r8)
        · exact (eX1_goThrough_j305_163 i1 i2 i3 1 r8)
noncomputable def gX1_goThrough_l163 (i1 : Int) (i2 : Int) (i3 : Int) (a5 : Int) (h : AH) : Option ((AH) ⊕ ((AH) ⊕ ((AH)))) := jit (gX1_goThrough_b163 i1 i2 i3) (a5, h)
theorem eX1_goThrough_l163 (i1 : Int) (i2 : Int) (i3 : Int) (a5 : Int) {h : AH} (hS : Sh S h) : EQ (fX1_goThrough_l163 200 i1 i2 i3 a5 h) (gX1_goThrough_l163 i1 i2 i3 a5 h) (Sum.elim (fun r => Sh S r) (Sum.elim (fun r => Sh S r) (fun r => Sh S r))) := EQ_jit (I := (fun r => Sh S r.2)) (fun s hs => eX1_goThrough_b163 i1 i2 i3 hs) hS
noncomputable def gX1_goThrough (a1 : Int) (a2 : Int) (a3 : Int) (h : AH) : Option (AH) := jl (w32 (h (h 200 39) 1 - 1)) fun x1 => jb (gX1_goThrough_l14 a1 a2 a3 a1 x1 h) fun o2 => jl (jst o2 200 46 0) fun h4 => jl (jst h4 200 48 (-1)) fun h5 => jl (jst h5 200 47 (-1)) fun h6 => jl (jst h6 200 45 2) fun h7 => jb (gX1_goThrough_l92 a1 a2 a3 1 0 h7) fun o8 => jt2 o8 fun y10 h11 => jb (gX1_goThrough_l163 a1 a2 a3 y10 h11) fun o12 => jm o12 (fun o14 => jl (jst o14 200 45 0) fun h16 => some h16) (fun o15 => jm o15 (fun o17 => jb2 (gX1_workLoop (o17 (o17 200 39) 7) 406 (o17 (o17 200 39) 2) o17) fun v20 h21 => jl (jst h21 200 47 v20) fun h22 => if h22 200 47 = (-1) then (gX1_goThrough_j290 2 h22) else (gX1_goThrough_j290 1 h22)) (fun o18 => some o18))
theorem eX1_goThrough (a1 : Int) (a2 : Int) (a3 : Int) {h : AH} (hS : Sh S h) : EQ (fX1_goThrough 200 a1 a2 a3 h) (gX1_goThrough a1 a2 a3 h) (fun r => Sh S r) := by
  unfold fX1_goThrough gX1_goThrough
  refine EQ_jgd (show h 200 (-2) = 2 from by rw [k_200 hS]) ?_
  refine EQ_jgd (show h (h 200 39) (-2) = 9 from by rw [kd_X8 hS (dy_200_39 hS)]) ?_
  refine EQ_jl rfl (fun x1 ex1 => ?_)
  clear ex1
  refine EQ_jb (eX1_goThrough_l14 a1 a2 a3 a1 x1 hS) (fun o2 r1 => ?_)
  refine EQ_jgd ⟨(show o2 200 (-2) = 2 from by rw [k_200 r1]), (show (200 : Int) ≤ 200 from (by decide))⟩ ?_
  refine EQ_jl rfl (fun h4 eh4 => ?_)
  have s2 := Sh_of eh4 (Sh_sto r1 (a := 200) (i := 46) (by decide +kernel))
  clear eh4
  refine EQ_jgd ⟨(show h4 200 (-2) = 2 from by rw [k_200 s2]), (show (200 : Int) ≤ 200 from (by decide))⟩ ?_
  refine EQ_jl rfl (fun h5 eh5 => ?_)
  have s3 := Sh_of eh5 (Sh_sto s2 (a := 200) (i := 48) (by decide +kernel))
  clear eh5
  refine EQ_jgd ⟨(show h5 200 (-2) = 2 from by rw [k_200 s3]), (show (200 : Int) ≤ 200 from (by decide))⟩ ?_
  refine EQ_jl rfl (fun h6 eh6 => ?_)
  have s4 := Sh_of eh6 (Sh_sto s3 (a := 200) (i := 47) (by decide +kernel))
  clear eh6
  refine EQ_jgd ⟨(show h6 200 (-2) = 2 from by rw [k_200 s4]), (show (200 : Int) ≤ 200 from (by decide))⟩ ?_
  refine EQ_jl rfl (fun h7 eh7 => ?_)
  have s5 := Sh_of eh7 (Sh_sto s4 (a := 200) (i := 45) (by decide +kernel))
  clear eh7
  refine EQ_jb (eX1_goThrough_l92 a1 a2 a3 1 0 s5) (fun o8 r6 => ?_)
  obtain ⟨y10, h11⟩ := o8
  refine EQ_jt2 ?_
  replace r6 : Sh S h11 := r6
  refine EQ_jb (eX1_goThrough_l163 a1 a2 a3 y10 r6) (fun o12 r7 => ?_)
  refine EQ_jm r7 (fun o14 r8 => ?_) (fun o15 r9 => ?_)
  · refine EQ_jgd ⟨(show o14 200 (-2) = 2 from by rw [k_200 r8]), (show (200 : Int) ≤ 200 from (by decide))⟩ ?_
    refine EQ_jl rfl (fun h16 eh16 => ?_)
    have s10 := Sh_of eh16 (Sh_sto r8 (a := 200) (i := 45) (by decide +kernel))
    clear eh16
    exact EQ_some s10
  · refine EQ_jm r9 (fun o17 r11 => ?_) (fun o18 r12 => ?_)
    · refine EQ_jgd (show o17 200 (-2) = 2 from by rw [k_200 r11]) ?_
      refine EQ_jgd (show o17 (o17 200 39) (-2) = 9 from by rw [kd_X8 r11 (dy_200_39 r11)]) ?_
      refine EQ_jgd (show o17 200 (-2) = 2 from by rw [k_200 r11]) ?_
      refine EQ_jgd (show o17 200 (-2) = 2 from by rw [k_200 r11]) ?_
      refine EQ_jgd (show o17 (o17 200 39) (-2) = 9 from by rw [kd_X8 r11 (dy_200_39 r11)]) ?_
      refine EQ_jgd (show o17 200 (-2) = 2 from by rw [k_200 r11]) ?_
      refine EQ_jb2 (by rw [r_200_43 r11]; exact eX1_workLoop (o17 (o17 200 39) 7) 406 (o17 (o17 200 39) 2) r11) (fun v20 h21 r13 => ?_)
      replace r13 : Sh S h21 := r13
      refine EQ_jgd ⟨(show h21 200 (-2) = 2 from by rw [k_200 r13]), (show (200 : Int) ≤ 200 from (by decide))⟩ ?_
      refine EQ_jl rfl (fun h22 eh22 => ?_)
      have s14 := Sh_of eh22 (Sh_sto r13 (a := 200) (i := 47) (by decide +kernel))
      clear eh22
      refine EQ_jgd (show h22 200 (-2) = 2 from by rw [k_200 s14]) ?_
      refine EQ_if Iff.rfl (fun c15 => ?_) (fun c15 => ?_)
      · exact (eX1_goThrough_j290 2 s14)
      · exact (eX1_goThrough_j290 1 s14)
    · exact EQ_some r12
noncomputable def gX1_lookAtLoop_b44 (s : Int × AH) : Option ((Int × AH) ⊕ (AH)) := jt2 s fun a1 h => jb (gX8_many (h 200 39) h) fun v13 => if v13 ≤ a1 then (some (.inr h)) else (jb (gX1_goThrough a1 0 0 h) fun h16 => jl (w32 (a1 + 1)) fun x17 => some (.inl (x17, h16)))
theorem eX1_lookAtLoop_b44 {s : Int × AH} (hS : (fun r => Sh S r.2) s) : EQ (fX1_lookAtLoop_b44 200 s) (gX1_lookAtLoop_b44 s) (Sum.elim (fun r => Sh S r.2) (fun r => Sh S r)) := by
  unfold fX1_lookAtLoop_b44 gX1_lookAtLoop_b44
  obtain ⟨a1, h⟩ := s
  refine EQ_jt2 ?_
  replace hS : Sh S h := hS
  refine EQ_jgd (show h 200 (-2) = 2 from by rw [k_200 hS]) ?_
  refine EQ_jgd (show h (h 200 39) (-2) = 9 from by rw [kd_X8 hS (dy_200_39 hS)]) ?_
  refine EQ_jb (eX8_many (h 200 39) (dy_200_39 hS) hS) (fun v13 r1 => ?_)
  refine EQ_if Iff.rfl (fun c2 => ?_) (fun c2 => ?_)
  · exact EQ_some hS
  · refine EQ_jgd (show h 200 (-2) = 2 from by rw [k_200 hS]) ?_
    refine EQ_jb (eX1_goThrough a1 0 0 hS) (fun h16 r3 => ?_)
    refine EQ_jl rfl (fun x17 ex17 => ?_)
    clear ex17
    exact EQ_some r3
noncomputable def gX1_lookAtLoop_l44 (a1 : Int) (h : AH) : Option (AH) := jit gX1_lookAtLoop_b44 (a1, h)
theorem eX1_lookAtLoop_l44 (a1 : Int) {h : AH} (hS : Sh S h) : EQ (fX1_lookAtLoop_l44 200 a1 h) (gX1_lookAtLoop_l44 a1 h) (fun r => Sh S r) := EQ_jit (I := (fun r => Sh S r.2)) (fun s hs => eX1_lookAtLoop_b44 hs) hS
noncomputable def gX1_lookAtLoop (h : AH) : Option (AH) := jl (jst h (h 200 39) 10 0) fun h1 => jb (fJ6_fill_3 (h1 200 39 + 11) (-1) h1) fun h3 => jb (fJ6_fill_3 (h3 200 39 + 12) (-1) h3) fun h5 => jb (fJ6_fill_4 405 0 h5) fun h7 => jb (gX1_beginRuns h7) fun h9 => jb (gX1_lookAtLoop_l44 0 h9) fun o10 => some o10
theorem eX1_lookAtLoop {h : AH} (hS : Sh S h) : EQ (fX1_lookAtLoop 200 h) (gX1_lookAtLoop h) (fun r => Sh S r) := by
  unfold fX1_lookAtLoop gX1_lookAtLoop
  refine EQ_jgd (show h 200 (-2) = 2 from by rw [k_200 hS]) ?_
  refine EQ_jgd ⟨(show h (h 200 39) (-2) = 9 from by rw [kd_X8 hS (dy_200_39 hS)]), (show 200 ≤ h 200 39 from ge_X8 (dy_200_39 hS))⟩ ?_
  refine EQ_jl rfl (fun h1 eh1 => ?_)
  have s1 := Sh_of eh1 (Sh_sto_X8_10 hS (dy_200_39 hS))
  clear eh1
  refine EQ_jgd (show h1 200 (-2) = 2 from by rw [k_200 s1]) ?_
  refine EQ_jgd (show h1 (h1 200 39) (-2) = 9 from by rw [kd_X8 s1 (dy_200_39 s1)]) ?_
  refine EQ_jb (by rw [ft_X8_11 s1 (dy_200_39 s1)]; exact wJ6_fill_3 (h1 200 39 + 11) (-1) s1) (fun h3 r2 => ?_)
  refine EQ_jgd (show h3 200 (-2) = 2 from by rw [k_200 r2]) ?_
  refine EQ_jgd (show h3 (h3 200 39) (-2) = 9 from by rw [kd_X8 r2 (dy_200_39 r2)]) ?_
  refine EQ_jb (by rw [ft_X8_12 r2 (dy_200_39 r2)]; exact wJ6_fill_3 (h3 200 39 + 12) (-1) r2) (fun h5 r3 => ?_)
  refine EQ_jgd (show h5 200 (-2) = 2 from by rw [k_200 r3]) ?_
  refine EQ_jb (by rw [r_200_42 r3]; exact wJ6_fill_4 405 0 r3) (fun h7 r4 => ?_)
  refine EQ_jgd (show h7 200 (-2) = 2 from by rw [k_200 r4]) ?_
  refine EQ_jb (eX1_beginRuns r4) (fun h9 r5 => ?_)
  refine EQ_jb (eX1_lookAtLoop_l44 0 r5) (fun o10 r6 => ?_)
  exact EQ_some r6
noncomputable def gX1_loop (h : AH) : Option (Int × AH) := if h 200 53 = 0 then (jb (gX8_clear (h 200 40) h) fun h3 => jb2 (gX1_takeTape h3) fun v5 h6 => jb (gX13_begin 440 v5 (h6 200 40 + 5) h6) fun h8 => jb (gX13_loop (h8 200 40) h8) fun h10 => jb2 (gX13_result h10) fun v12 h13 => if 0 ≤ v12 then (jl (h13 200 39) fun x15 => jl (jst h13 200 39 (h13 200 40)) fun h16 => jl (jst h16 200 40 x15) fun h17 => jl (jst h17 (h17 200 39) 9 1) fun h18 => jb (gX1_lookAtLoop h18) fun h20 => some (h20 (h20 200 39) 10, h20)) else (some (v12, h13))) else (some ((-5), h))
theorem eX1_loop {h : AH} (hS : Sh S h) : EQ (fX1_loop 200 h) (gX1_loop h) (fun r => Sh S r.2) := by
  unfold fX1_loop gX1_loop
  refine EQ_jgd (show h 200 (-2) = 2 from by rw [k_200 hS]) ?_
  refine EQ_if Iff.rfl (fun c1 => ?_) (fun c1 => ?_)
  · refine EQ_jgd (show h 200 (-2) = 2 from by rw [k_200 hS]) ?_
    refine EQ_jgd (show h (h 200 40) (-2) = 9 from by rw [kd_X8 hS (dy_200_40 hS)]) ?_
    refine EQ_jb (eX8_clear (h 200 40) (dy_200_40 hS) hS) (fun h3 r2 => ?_)
    refine EQ_jgd (show h3 200 (-2) = 2 from by rw [k_200 r2]) ?_
    refine EQ_jgd (show h3 200 (-2) = 2 from by rw [k_200 r2]) ?_
    refine EQ_jgd (show h3 200 (-2) = 2 from by rw [k_200 r2]) ?_
    refine EQ_jb2 (eX1_takeTape r2) (fun v5 h6 r3 => ?_)
    replace r3 : Sh S h6 := r3
    refine EQ_jgd (show h6 200 (-2) = 2 from by rw [k_200 r3]) ?_
    refine EQ_jgd (show h6 (h6 200 40) (-2) = 9 from by rw [kd_X8 r3 (dy_200_40 r3)]) ?_
    refine EQ_jgd (show h6 (h3 200 57) (-2) = 14 from by rw [r_200_57 r2, k_441 r3]) ?_
    refine EQ_jb (by rw [r_200_57 r2, r_200_54 r2, ft_X8_8 r3 (dy_200_40 r3)]; exact eX13_begin 440 v5 (h6 200 40 + 5) (sub_X8_8 (dy_200_40 r3)) r3) (fun h8 r4 => ?_)
    refine EQ_jgd (show h8 200 (-2) = 2 from by rw [k_200 r4]) ?_
    refine EQ_jgd (show h8 200 (-2) = 2 from by rw [k_200 r4]) ?_
    refine EQ_jgd (show h8 (h8 200 57) (-2) = 14 from by rw [r_200_57 r4, k_441 r4]) ?_
    refine EQ_jb (by rw [r_200_57 r4]; exact eX13_loop (h8 200 40) (dy_200_40 r4) r4) (fun h10 r5 => ?_)
    refine EQ_jgd (show h10 200 (-2) = 2 from by rw [k_200 r5]) ?_
    refine EQ_jgd (show h10 (h10 200 57) (-2) = 14 from by rw [r_200_57 r5, k_441 r5]) ?_
    refine EQ_jb2 (by rw [r_200_57 r5]; exact eX13_result r5) (fun v12 h13 r6 => ?_)
    replace r6 : Sh S h13 := r6
    refine EQ_if Iff.rfl (fun c7 => ?_) (fun c7 => ?_)
    · refine EQ_jgd (show h13 200 (-2) = 2 from by rw [k_200 r6]) ?_
      refine EQ_jl rfl (fun x15 ex15 => ?_)
      refine EQ_jgd (show h13 200 (-2) = 2 from by rw [k_200 r6]) ?_
      refine EQ_jgd ⟨(show h13 200 (-2) = 2 from by rw [k_200 r6]), (show (200 : Int) ≤ 200 from (by decide))⟩ ?_
      refine EQ_jl rfl (fun h16 eh16 => ?_)
      have s8 := Sh_of eh16 (Sh_dy_200_39 r6 (dy_200_40 r6))
      clear eh16
      refine EQ_jgd ⟨(show h16 200 (-2) = 2 from by rw [k_200 s8]), (show (200 : Int) ≤ 200 from (by decide))⟩ ?_
      refine EQ_jl rfl (fun h17 eh17 => ?_)
      have s9 := Sh_of eh17 (Sh_dy_200_40 s8 (isof_X8 ex15 (dy_200_39 r6)))
      clear eh17
      refine EQ_jgd (show h17 200 (-2) = 2 from by rw [k_200 s9]) ?_
      refine EQ_jgd ⟨(show h17 (h17 200 39) (-2) = 9 from by rw [kd_X8 s9 (dy_200_39 s9)]), (show 200 ≤ h17 200 39 from ge_X8 (dy_200_39 s9)), (show jZ 1 from by unfold jZ; decide)⟩ ?_
      refine EQ_jl rfl (fun h18 eh18 => ?_)
      have s10 := Sh_of eh18 (Sh_sto_X8_9 s9 (dy_200_39 s9))
      clear eh18
      refine EQ_jgd (show h18 200 (-2) = 2 from by rw [k_200 s10]) ?_
      refine EQ_jb (eX1_lookAtLoop s10) (fun h20 r11 => ?_)
      refine EQ_jgd (show h20 200 (-2) = 2 from by rw [k_200 r11]) ?_
      refine EQ_jgd (show h20 (h20 200 39) (-2) = 9 from by rw [kd_X8 r11 (dy_200_39 r11)]) ?_
      exact EQ_some r11
    · exact EQ_some r6
  · exact EQ_some hS
noncomputable def gX1_runs (a1 : Int) (a2 : Int) (h : AH) : Option (Int × AH) := if h 200 53 = 0 then (if h (h 200 39) 9 = 0 then (some ((-2), h)) else (jb (gX8_many (h 200 39) h) fun v4 => jb (gX1_isIn a1 0 (w32 (v4 - 1))) fun v6 => if v6 = 0 then (some ((-1), h)) else (jb (gX1_isIn a2 0 2) fun v9 => if v9 = 0 then (some ((-1), h)) else (jb (gX1_beginRuns h) fun h12 => jb (gX1_goThrough a1 0 0 h12) fun h14 => if a2 = 0 then (some (h14 200 45, h14)) else (if a2 = 1 then (some (h14 200 46, h14)) else (if h14 200 45 = 1 then (some (h14 200 47, h14)) else (some ((-1), h14)))))))) else (some ((-5), h))
theorem eX1_runs (a1 : Int) (a2 : Int) {h : AH} (hS : Sh S h) : EQ (fX1_runs 200 a1 a2 h) (gX1_runs a1 a2 h) (fun r => Sh S r.2) := by
  unfold fX1_runs gX1_runs
  refine EQ_jgd (show h 200 (-2) = 2 from by rw [k_200 hS]) ?_
  refine EQ_if Iff.rfl (fun c1 => ?_) (fun c1 => ?_)
  · refine EQ_jgd (show h 200 (-2) = 2 from by rw [k_200 hS]) ?_
    refine EQ_jgd (show h (h 200 39) (-2) = 9 from by rw [kd_X8 hS (dy_200_39 hS)]) ?_
    refine EQ_if Iff.rfl (fun c2 => ?_) (fun c2 => ?_)
    · exact EQ_some hS
    · refine EQ_jgd (show h 200 (-2) = 2 from by rw [k_200 hS]) ?_
      refine EQ_jgd (show h (h 200 39) (-2) = 9 from by rw [kd_X8 hS (dy_200_39 hS)]) ?_
      refine EQ_jb (eX8_many (h 200 39) (dy_200_39 hS) hS) (fun v4 r3 => ?_)
      refine EQ_jb (eX1_isIn a1 0 (w32 (v4 - 1))) (fun v6 r4 => ?_)
      refine EQ_if Iff.rfl (fun c5 => ?_) (fun c5 => ?_)
      · exact EQ_some hS
      · refine EQ_jb (eX1_isIn a2 0 2) (fun v9 r6 => ?_)
        refine EQ_if Iff.rfl (fun c7 => ?_) (fun c7 => ?_)
        · exact EQ_some hS
        · refine EQ_jgd (show h 200 (-2) = 2 from by rw [k_200 hS]) ?_
          refine EQ_jb (eX1_beginRuns hS) (fun h12 r8 => ?_)
          refine EQ_jgd (show h12 200 (-2) = 2 from by rw [k_200 r8]) ?_
          refine EQ_jb (eX1_goThrough a1 0 0 r8) (fun h14 r9 => ?_)
          refine EQ_if Iff.rfl (fun c10 => ?_) (fun c10 => ?_)
          · refine EQ_jgd (show h14 200 (-2) = 2 from by rw [k_200 r9]) ?_
            exact EQ_some r9
          · refine EQ_if Iff.rfl (fun c11 => ?_) (fun c11 => ?_)
            · refine EQ_jgd (show h14 200 (-2) = 2 from by rw [k_200 r9]) ?_
              exact EQ_some r9
            · refine EQ_jgd (show h14 200 (-2) = 2 from by rw [k_200 r9]) ?_
              refine EQ_if Iff.rfl (fun c12 => ?_) (fun c12 => ?_)
              · refine EQ_jgd (show h14 200 (-2) = 2 from by rw [k_200 r9]) ?_
                exact EQ_some r9
              · exact EQ_some r9
  · exact EQ_some hS
noncomputable def gX1_span (a1 : Int) (a2 : Int) (h : AH) : Option (Int) := if h 200 53 = 0 then (if h (h 200 39) 9 = 0 then (some (-2)) else (jb (gX1_isIn a1 0 (w32 (h (h 200 39) 2 - 1))) fun v4 => if v4 = 0 then (some (-1)) else (jb (gX1_isIn a2 0 1) fun v7 => if v7 = 0 then (some (-1)) else (if a2 = 0 then (jg (jI a1 3) <| some (h (h 200 39 + 11) a1)) else (jg (jI a1 3) <| some (h (h 200 39 + 12) a1)))))) else (some (-5))
theorem eX1_span (a1 : Int) (a2 : Int) {h : AH} (hS : Sh S h) : EQ (fX1_span 200 a1 a2 h) (gX1_span a1 a2 h) (fun _ => True) := by
  unfold fX1_span gX1_span
  refine EQ_jgd (show h 200 (-2) = 2 from by rw [k_200 hS]) ?_
  refine EQ_if Iff.rfl (fun c1 => ?_) (fun c1 => ?_)
  · refine EQ_jgd (show h 200 (-2) = 2 from by rw [k_200 hS]) ?_
    refine EQ_jgd (show h (h 200 39) (-2) = 9 from by rw [kd_X8 hS (dy_200_39 hS)]) ?_
    refine EQ_if Iff.rfl (fun c2 => ?_) (fun c2 => ?_)
    · exact EQ_some trivial
    · refine EQ_jgd (show h 200 (-2) = 2 from by rw [k_200 hS]) ?_
      refine EQ_jgd (show h (h 200 39) (-2) = 9 from by rw [kd_X8 hS (dy_200_39 hS)]) ?_
      refine EQ_jb (eX1_isIn a1 0 (w32 (h (h 200 39) 2 - 1))) (fun v4 r3 => ?_)
      refine EQ_if Iff.rfl (fun c4 => ?_) (fun c4 => ?_)
      · exact EQ_some trivial
      · refine EQ_jb (eX1_isIn a2 0 1) (fun v7 r5 => ?_)
        refine EQ_if Iff.rfl (fun c6 => ?_) (fun c6 => ?_)
        · exact EQ_some trivial
        · refine EQ_if Iff.rfl (fun c7 => ?_) (fun c7 => ?_)
          · refine EQ_jgd (show h 200 (-2) = 2 from by rw [k_200 hS]) ?_
            refine EQ_jgd (show h (h 200 39) (-2) = 9 from by rw [kd_X8 hS (dy_200_39 hS)]) ?_
            refine EQ_jg ⟨fun ⟨_, x0⟩ => (show jI a1 (h (h (h 200 39) 11) (-1)) ↔ jI a1 3 from by rw [ft_X8_11 hS (dy_200_39 hS), la_X8_11 hS (dy_200_39 hS)]).mp x0, fun x0 => ⟨(show h (h (h 200 39) 11) (-2) = 101 from by rw [ft_X8_11 hS (dy_200_39 hS), ka_X8_11 hS (dy_200_39 hS)]), (show jI a1 (h (h (h 200 39) 11) (-1)) ↔ jI a1 3 from by rw [ft_X8_11 hS (dy_200_39 hS), la_X8_11 hS (dy_200_39 hS)]).mpr x0⟩⟩ (fun g8 => ?_)
            exact EQ_some' (by rw [ft_X8_11 hS (dy_200_39 hS)]) trivial
          · refine EQ_jgd (show h 200 (-2) = 2 from by rw [k_200 hS]) ?_
            refine EQ_jgd (show h (h 200 39) (-2) = 9 from by rw [kd_X8 hS (dy_200_39 hS)]) ?_
            refine EQ_jg ⟨fun ⟨_, x0⟩ => (show jI a1 (h (h (h 200 39) 12) (-1)) ↔ jI a1 3 from by rw [ft_X8_12 hS (dy_200_39 hS), la_X8_12 hS (dy_200_39 hS)]).mp x0, fun x0 => ⟨(show h (h (h 200 39) 12) (-2) = 101 from by rw [ft_X8_12 hS (dy_200_39 hS), ka_X8_12 hS (dy_200_39 hS)]), (show jI a1 (h (h (h 200 39) 12) (-1)) ↔ jI a1 3 from by rw [ft_X8_12 hS (dy_200_39 hS), la_X8_12 hS (dy_200_39 hS)]).mpr x0⟩⟩ (fun g9 => ?_)
            exact EQ_some' (by rw [ft_X8_12 hS (dy_200_39 hS)]) trivial
  · exact EQ_some trivial
noncomputable def gX1_keeps_b110 (i1 : Int) (s : Int × AH) : Option ((Int × AH) ⊕ ((Int × AH) ⊕ (AH))) := jt2 s fun a3 h => jb (gX8_many (h 200 39) h) fun v28 => if v28 ≤ a3 then (some (.inr (.inr h))) else (jb (gX1_goThrough a3 324 i1 h) fun h31 => if h31 200 48 = (-1) then (jl (w32 (a3 + 1)) fun x33 => some (.inl (x33, h31))) else (some (.inr (.inl (a3, h31)))))
theorem eX1_keeps_b110 (i1 : Int) {s : Int × AH} (hS : (fun r => Sh S r.2) s) : EQ (fX1_keeps_b110 200 i1 s) (gX1_keeps_b110 i1 s) (Sum.elim (fun r => Sh S r.2) (Sum.elim (fun r => Sh S r.2) (fun r => Sh S r))) := by
  unfold fX1_keeps_b110 gX1_keeps_b110
  obtain ⟨a3, h⟩ := s
  refine EQ_jt2 ?_
  replace hS : Sh S h := hS
  refine EQ_jgd (show h 200 (-2) = 2 from by rw [k_200 hS]) ?_
  refine EQ_jgd (show h (h 200 39) (-2) = 9 from by rw [kd_X8 hS (dy_200_39 hS)]) ?_
  refine EQ_jb (eX8_many (h 200 39) (dy_200_39 hS) hS) (fun v28 r1 => ?_)
  refine EQ_if Iff.rfl (fun c2 => ?_) (fun c2 => ?_)
  · exact EQ_some hS
  · refine EQ_jgd (show h 200 (-2) = 2 from by rw [k_200 hS]) ?_
    refine EQ_jgd (show h 200 (-2) = 2 from by rw [k_200 hS]) ?_
    refine EQ_jb (by rw [r_200_20 hS]; exact eX1_goThrough a3 324 i1 hS) (fun h31 r3 => ?_)
    refine EQ_jgd (show h31 200 (-2) = 2 from by rw [k_200 r3]) ?_
    refine EQ_if Iff.rfl (fun c4 => ?_) (fun c4 => ?_)
    · refine EQ_jl rfl (fun x33 ex33 => ?_)
      clear ex33
      exact EQ_some r3
    · exact EQ_some r3
noncomputable def gX1_keeps_l110 (i1 : Int) (a3 : Int) (h : AH) : Option ((Int × AH) ⊕ (AH)) := jit (gX1_keeps_b110 i1) (a3, h)
theorem eX1_keeps_l110 (i1 : Int) (a3 : Int) {h : AH} (hS : Sh S h) : EQ (fX1_keeps_l110 200 i1 a3 h) (gX1_keeps_l110 i1 a3 h) (Sum.elim (fun r => Sh S r.2) (fun r => Sh S r)) := EQ_jit (I := (fun r => Sh S r.2)) (fun s hs => eX1_keeps_b110 i1 hs) hS
noncomputable def gX1_keeps_j68 (h : AH) : Option (Int × AH) := jb2 (gX13_alone 1 h) fun v12 h13 => jb2 (gX13_result h13) fun v15 h16 => if 0 ≤ v15 then (if h16 (h16 200 39) 9 = 0 then (some ((-2), h16)) else (jb (gX1_beginRuns h16) fun h20 => jb (gX1_keeps_l110 v12 0 h20) fun o21 => jm o21 (fun o23 => jt2 o23 fun y25 h26 => some (w32 (w32 (10000 * y25) + h26 200 48), h26)) (fun o24 => some ((-1), o24)))) else (some (v15, h16))
theorem eX1_keeps_j68 {h : AH} (hS : Sh S h) : EQ (fX1_keeps_j68 200 h) (gX1_keeps_j68 h) (fun r => Sh S r.2) := by
  unfold fX1_keeps_j68 gX1_keeps_j68
  refine EQ_jgd (show h 200 (-2) = 2 from by rw [k_200 hS]) ?_
  refine EQ_jgd (show h (h 200 57) (-2) = 14 from by rw [r_200_57 hS, k_441 hS]) ?_
  refine EQ_jb2 (by rw [r_200_57 hS]; exact eX13_alone 1 hS) (fun v12 h13 r1 => ?_)
  replace r1 : Sh S h13 := r1
  refine EQ_jgd (show h13 200 (-2) = 2 from by rw [k_200 r1]) ?_
  refine EQ_jgd (show h13 (h13 200 57) (-2) = 14 from by rw [r_200_57 r1, k_441 r1]) ?_
  refine EQ_jb2 (by rw [r_200_57 r1]; exact eX13_result r1) (fun v15 h16 r2 => ?_)
  replace r2 : Sh S h16 := r2
  refine EQ_if Iff.rfl (fun c3 => ?_) (fun c3 => ?_)
  · refine EQ_jgd (show h16 200 (-2) = 2 from by rw [k_200 r2]) ?_
    refine EQ_jgd (show h16 (h16 200 39) (-2) = 9 from by rw [kd_X8 r2 (dy_200_39 r2)]) ?_
    refine EQ_if Iff.rfl (fun c4 => ?_) (fun c4 => ?_)
    · exact EQ_some r2
    · refine EQ_jgd (show h16 200 (-2) = 2 from by rw [k_200 r2]) ?_
      refine EQ_jb (eX1_beginRuns r2) (fun h20 r5 => ?_)
      refine EQ_jb (eX1_keeps_l110 v12 0 r5) (fun o21 r6 => ?_)
      refine EQ_jm r6 (fun o23 r7 => ?_) (fun o24 r8 => ?_)
      · obtain ⟨y25, h26⟩ := o23
        refine EQ_jt2 ?_
        replace r7 : Sh S h26 := r7
        refine EQ_jgd (show h26 200 (-2) = 2 from by rw [k_200 r7]) ?_
        exact EQ_some r7
      · exact EQ_some r8
  · exact EQ_some r2
noncomputable def gX1_keeps (h : AH) : Option (Int × AH) := if h 200 53 = 0 then (jl (jst h 324 0 0) fun h2 => jb2 (gX1_takeTape h2) fun v4 h5 => jb (gX13_begin 440 v4 324 h5) fun h7 => if h7 (h7 200 39) 9 = 0 then (gX1_keeps_j68 h7) else (jb (gX13_parameters (h7 (h7 200 39) 2) (h7 200 39 + 2) h7) fun h10 => gX1_keeps_j68 h10)) else (some ((-5), h))
theorem eX1_keeps {h : AH} (hS : Sh S h) : EQ (fX1_keeps 200 h) (gX1_keeps h) (fun r => Sh S r.2) := by
  unfold fX1_keeps gX1_keeps
  refine EQ_jgd (show h 200 (-2) = 2 from by rw [k_200 hS]) ?_
  refine EQ_if Iff.rfl (fun c1 => ?_) (fun c1 => ?_)
  · refine EQ_jgd (show h 200 (-2) = 2 from by rw [k_200 hS]) ?_
    refine EQ_jgd ⟨(show h (h 200 20) (-2) = 4 from by rw [r_200_20 hS, k_324 hS]), (show 200 ≤ h 200 20 from by rw [r_200_20 hS]; exact (by decide))⟩ ?_
    refine EQ_jl (by rw [r_200_20 hS]) (fun h2 eh2 => ?_)
    have s2 := Sh_of eh2 (Sh_sto hS (a := 324) (i := 0) (by decide +kernel))
    clear eh2
    refine EQ_jgd (show h2 200 (-2) = 2 from by rw [k_200 s2]) ?_
    refine EQ_jgd (show h2 200 (-2) = 2 from by rw [k_200 s2]) ?_
    refine EQ_jgd (show h2 200 (-2) = 2 from by rw [k_200 s2]) ?_
    refine EQ_jb2 (eX1_takeTape s2) (fun v4 h5 r3 => ?_)
    replace r3 : Sh S h5 := r3
    refine EQ_jgd (show h5 200 (-2) = 2 from by rw [k_200 r3]) ?_
    refine EQ_jgd (show h5 (h2 200 57) (-2) = 14 from by rw [r_200_57 s2, k_441 r3]) ?_
    refine EQ_jb (by rw [r_200_57 s2, r_200_54 s2, r_200_20 r3]; exact eX13_begin 440 v4 324 (by unfold isX3; decide) r3) (fun h7 r4 => ?_)
    refine EQ_jgd (show h7 200 (-2) = 2 from by rw [k_200 r4]) ?_
    refine EQ_jgd (show h7 (h7 200 39) (-2) = 9 from by rw [kd_X8 r4 (dy_200_39 r4)]) ?_
    refine EQ_if Iff.rfl (fun c5 => ?_) (fun c5 => ?_)
    · exact (eX1_keeps_j68 r4)
    · refine EQ_jgd (show h7 200 (-2) = 2 from by rw [k_200 r4]) ?_
      refine EQ_jgd (show h7 200 (-2) = 2 from by rw [k_200 r4]) ?_
      refine EQ_jgd (show h7 (h7 200 39) (-2) = 9 from by rw [kd_X8 r4 (dy_200_39 r4)]) ?_
      refine EQ_jgd (show h7 200 (-2) = 2 from by rw [k_200 r4]) ?_
      refine EQ_jgd (show h7 (h7 200 39) (-2) = 9 from by rw [kd_X8 r4 (dy_200_39 r4)]) ?_
      refine EQ_jgd (show h7 (h7 200 57) (-2) = 14 from by rw [r_200_57 r4, k_441 r4]) ?_
      refine EQ_jb (by rw [r_200_57 r4, ft_X8_3 r4 (dy_200_39 r4)]; exact eX13_parameters (h7 (h7 200 39) 2) (h7 200 39 + 2) r4) (fun h10 r6 => ?_)
      exact (eX1_keeps_j68 r6)
  · exact EQ_some hS
noncomputable def gX1_exampleMay_j78 (a4 : Int) (h : AH) : Option (Int) := if a4 = 0 then (some (-1)) else (if h 408 0 = 8 then (some (-3)) else (some 0))
theorem eX1_exampleMay_j78 (a4 : Int) {h : AH} (hS : Sh S h) : EQ (fX1_exampleMay_j78 200 a4 h) (gX1_exampleMay_j78 a4 h) (fun _ => True) := by
  unfold fX1_exampleMay_j78 gX1_exampleMay_j78
  refine EQ_if Iff.rfl (fun c1 => ?_) (fun c1 => ?_)
  · exact EQ_some trivial
  · refine EQ_jgd (show h 200 (-2) = 2 from by rw [k_200 hS]) ?_
    refine EQ_jgd (show h (h 200 49) (-2) = 10 from by rw [r_200_49 hS, k_408 hS]) ?_
    refine EQ_if (show h (h 200 49) 0 = 8 ↔ h 408 0 = 8 from by rw [r_200_49 hS]) (fun c2 => ?_) (fun c2 => ?_)
    · exact EQ_some trivial
    · exact EQ_some trivial
noncomputable def gX1_exampleMay_j70_36 (a1 : Int) (a3 : Int) (a5 : Int) (t0 : Int) (h : AH) : Option ((Int × Int) ⊕ (Int)) := jl (w32 (a5 + 1)) fun x13 => some (.inl (t0, x13))
theorem eX1_exampleMay_j70_36 (a1 : Int) (a3 : Int) (a5 : Int) (t0 : Int) {h : AH} (hS : Sh S h) : EQ (fX1_exampleMay_j70_36 200 a1 a3 a5 t0 h) (gX1_exampleMay_j70_36 a1 a3 a5 t0 h) (Sum.elim (fun _ => True) (fun _ => True)) := by
  unfold fX1_exampleMay_j70_36 gX1_exampleMay_j70_36
  refine EQ_jl rfl (fun x13 ex13 => ?_)
  clear ex13
  exact EQ_some trivial
noncomputable def gX1_exampleMay_b36 (i1 : Int) (i3 : Int) (h : AH) (s : Int × Int) : Option ((Int × Int) ⊕ (Int)) := jt2 s fun a4 a5 => if i3 ≤ a5 then (some (.inr a4)) else (if a4 = 0 then (some (.inr a4)) else (jg (h i1 (-2) = 103 ∧ jI a5 (h i1 (-1))) <| if h i1 a5 < 97 then (gX1_exampleMay_j70_36 i1 i3 a5 0 h) else (if 122 < h i1 a5 then (gX1_exampleMay_j70_36 i1 i3 a5 0 h) else (gX1_exampleMay_j70_36 i1 i3 a5 1 h))))
theorem eX1_exampleMay_b36 (i1 : Int) (i3 : Int) (s : Int × Int) {h : AH} (hS : Sh S h) : EQ (fX1_exampleMay_b36 200 i1 i3 h s) (gX1_exampleMay_b36 i1 i3 h s) (Sum.elim (fun _ => True) (fun _ => True)) := by
  unfold fX1_exampleMay_b36 gX1_exampleMay_b36
  obtain ⟨a4, a5⟩ := s
  refine EQ_jt2 ?_
  refine EQ_if Iff.rfl (fun c1 => ?_) (fun c1 => ?_)
  · exact EQ_some trivial
  · refine EQ_if Iff.rfl (fun c2 => ?_) (fun c2 => ?_)
    · exact EQ_some trivial
    · refine EQ_jg Iff.rfl (fun g3 => ?_)
      refine EQ_if Iff.rfl (fun c4 => ?_) (fun c4 => ?_)
      · exact (eX1_exampleMay_j70_36 i1 i3 a5 0 hS)
      · refine EQ_jgd ⟨(g3.1), (g3.2)⟩ ?_
        refine EQ_if Iff.rfl (fun c5 => ?_) (fun c5 => ?_)
        · exact (eX1_exampleMay_j70_36 i1 i3 a5 0 hS)
        · exact (eX1_exampleMay_j70_36 i1 i3 a5 1 hS)
noncomputable def gX1_exampleMay_l36 (i1 : Int) (i3 : Int) (a4 : Int) (a5 : Int) (h : AH) : Option (Int) := jit (gX1_exampleMay_b36 i1 i3 h) (a4, a5)
theorem eX1_exampleMay_l36 (i1 : Int) (i3 : Int) (a4 : Int) (a5 : Int) {h : AH} (hS : Sh S h) : EQ (fX1_exampleMay_l36 200 i1 i3 a4 a5 h) (gX1_exampleMay_l36 i1 i3 a4 a5 h) (fun _ => True) := EQ_jit (I := (fun _ => True)) (fun s _ => eX1_exampleMay_b36 i1 i3 s hS) trivial
noncomputable def gX1_exampleMay_j31 (a1 : Int) (a3 : Int) (t0 : Int) (h : AH) : Option (Int) := jb (gX1_exampleMay_l36 a1 a3 t0 0 h) fun o5 => gX1_exampleMay_j78 o5 h
theorem eX1_exampleMay_j31 (a1 : Int) (a3 : Int) (t0 : Int) {h : AH} (hS : Sh S h) : EQ (fX1_exampleMay_j31 200 a1 a3 t0 h) (gX1_exampleMay_j31 a1 a3 t0 h) (fun _ => True) := by
  unfold fX1_exampleMay_j31 gX1_exampleMay_j31
  refine EQ_jb (eX1_exampleMay_l36 a1 a3 t0 0 hS) (fun o5 r1 => ?_)
  exact (eX1_exampleMay_j78 o5 hS)
noncomputable def gX1_exampleMay (a1 : Int) (a2 : Int) (a3 : Int) (h : AH) : Option (Int) := jb (gX1_isIn a2 0 (min 10 (w32 (a3 - 1)))) fun v2 => if v2 = 0 then (gX1_exampleMay_j31 a1 a3 0 h) else (if 10 < w32 (a3 - a2) then (gX1_exampleMay_j31 a1 a3 0 h) else (gX1_exampleMay_j31 a1 a3 1 h))
theorem eX1_exampleMay (a1 : Int) (a2 : Int) (a3 : Int) {h : AH} (hS : Sh S h) : EQ (fX1_exampleMay 200 a1 a2 a3 h) (gX1_exampleMay a1 a2 a3 h) (fun _ => True) := by
  unfold fX1_exampleMay gX1_exampleMay
  refine EQ_jb (eX1_isIn a2 0 (min 10 (w32 (a3 - 1)))) (fun v2 r1 => ?_)
  refine EQ_if Iff.rfl (fun c2 => ?_) (fun c2 => ?_)
  · exact (eX1_exampleMay_j31 a1 a3 0 hS)
  · refine EQ_if Iff.rfl (fun c3 => ?_) (fun c3 => ?_)
    · exact (eX1_exampleMay_j31 a1 a3 0 hS)
    · exact (eX1_exampleMay_j31 a1 a3 1 hS)
noncomputable def gX9_add_j58_3 (a1 : Int) (a2 : Int) (a3 : Int) (a4 : Int) (h : AH) : Option ((Int × AH) ⊕ (AH)) := jl (w32 (a4 + 1)) fun x11 => some (.inl (x11, h))
theorem eX9_add_j58_3 (a1 : Int) (a2 : Int) (a3 : Int) (a4 : Int) {h : AH} (hS : Sh S h) : EQ (fX9_add_j58_3 408 a1 a2 a3 a4 h) (gX9_add_j58_3 a1 a2 a3 a4 h) (Sum.elim (fun r => Sh S r.2) (fun r => Sh S r)) := by
  unfold fX9_add_j58_3 gX9_add_j58_3
  refine EQ_jl rfl (fun x11 ex11 => ?_)
  clear ex11
  exact EQ_some hS
noncomputable def gX9_add_b3 (i1 : Int) (i2 : Int) (i3 : Int) (s : Int × AH) : Option ((Int × AH) ⊕ (AH)) := jt2 s fun a4 h => if i3 ≤ a4 then (some (.inr h)) else (if i2 ≤ a4 then (jg (h i1 (-2) = 103 ∧ jI a4 (h i1 (-1))) <| jg (jI (w32 (w32 (w32 (10 * h 408 0) + a4) - i2)) 80) <| jl (jst h 410 (w32 (w32 (w32 (10 * h 408 0) + a4) - i2)) (ji2b (h i1 a4))) fun h9 => gX9_add_j58_3 i1 i2 i3 a4 h9) else (jg (h i1 (-2) = 103 ∧ jI a4 (h i1 (-1))) <| jg (jI (w32 (w32 (10 * h 408 0) + a4)) 80) <| jl (jst h 409 (w32 (w32 (10 * h 408 0) + a4)) (ji2b (h i1 a4))) fun h10 => gX9_add_j58_3 i1 i2 i3 a4 h10))
theorem eX9_add_b3 (i1 : Int) (i2 : Int) (i3 : Int) {s : Int × AH} (hS : (fun r => Sh S r.2) s) : EQ (fX9_add_b3 408 i1 i2 i3 s) (gX9_add_b3 i1 i2 i3 s) (Sum.elim (fun r => Sh S r.2) (fun r => Sh S r)) := by
  unfold fX9_add_b3 gX9_add_b3
  obtain ⟨a4, h⟩ := s
  refine EQ_jt2 ?_
  replace hS : Sh S h := hS
  refine EQ_if Iff.rfl (fun c1 => ?_) (fun c1 => ?_)
  · exact EQ_some hS
  · refine EQ_if Iff.rfl (fun c2 => ?_) (fun c2 => ?_)
    · refine EQ_jgd (show h 408 (-2) = 10 from by rw [k_408 hS]) ?_
      refine EQ_jgd (show h 408 (-2) = 10 from by rw [k_408 hS]) ?_
      refine EQ_jg Iff.rfl (fun g3 => ?_)
      refine EQ_jg ⟨fun ⟨_, _, x0⟩ => (show jI (w32 (w32 (w32 (10 * h 408 0) + a4) - i2)) (h (h 408 2) (-1)) ↔ jI (w32 (w32 (w32 (10 * h 408 0) + a4) - i2)) 80 from by rw [r_408_2 hS, l_410 hS]).mp x0, fun x0 => ⟨(show h (h 408 2) (-2) = 103 from by rw [r_408_2 hS, k_410 hS]), (show 200 ≤ h 408 2 from by rw [r_408_2 hS]; exact (by decide)), (show jI (w32 (w32 (w32 (10 * h 408 0) + a4) - i2)) (h (h 408 2) (-1)) ↔ jI (w32 (w32 (w32 (10 * h 408 0) + a4) - i2)) 80 from by rw [r_408_2 hS, l_410 hS]).mpr x0⟩⟩ (fun g4 => ?_)
      refine EQ_jl (by rw [r_408_2 hS]) (fun h9 eh9 => ?_)
      have s5 := Sh_of eh9 (Sh_sta hS (by decide +kernel) (jI_nn g4) (fun _ => jBy_b _))
      clear eh9
      exact (eX9_add_j58_3 i1 i2 i3 a4 s5)
    · refine EQ_jgd (show h 408 (-2) = 10 from by rw [k_408 hS]) ?_
      refine EQ_jgd (show h 408 (-2) = 10 from by rw [k_408 hS]) ?_
      refine EQ_jg Iff.rfl (fun g6 => ?_)
      refine EQ_jg ⟨fun ⟨_, _, x0⟩ => (show jI (w32 (w32 (10 * h 408 0) + a4)) (h (h 408 1) (-1)) ↔ jI (w32 (w32 (10 * h 408 0) + a4)) 80 from by rw [r_408_1 hS, l_409 hS]).mp x0, fun x0 => ⟨(show h (h 408 1) (-2) = 103 from by rw [r_408_1 hS, k_409 hS]), (show 200 ≤ h 408 1 from by rw [r_408_1 hS]; exact (by decide)), (show jI (w32 (w32 (10 * h 408 0) + a4)) (h (h 408 1) (-1)) ↔ jI (w32 (w32 (10 * h 408 0) + a4)) 80 from by rw [r_408_1 hS, l_409 hS]).mpr x0⟩⟩ (fun g7 => ?_)
      refine EQ_jl (by rw [r_408_1 hS]) (fun h10 eh10 => ?_)
      have s8 := Sh_of eh10 (Sh_sta hS (by decide +kernel) (jI_nn g7) (fun _ => jBy_b _))
      clear eh10
      exact (eX9_add_j58_3 i1 i2 i3 a4 s8)
noncomputable def gX9_add_l3 (i1 : Int) (i2 : Int) (i3 : Int) (a4 : Int) (h : AH) : Option (AH) := jit (gX9_add_b3 i1 i2 i3) (a4, h)
theorem eX9_add_l3 (i1 : Int) (i2 : Int) (i3 : Int) (a4 : Int) {h : AH} (hS : Sh S h) : EQ (fX9_add_l3 408 i1 i2 i3 a4 h) (gX9_add_l3 i1 i2 i3 a4 h) (fun r => Sh S r) := EQ_jit (I := (fun r => Sh S r.2)) (fun s hs => eX9_add_b3 i1 i2 i3 hs) hS
noncomputable def gX9_add (a1 : Int) (a2 : Int) (a3 : Int) (h : AH) : Option (AH) := jb (gX9_add_l3 a1 a2 a3 0 h) fun o1 => jg (jI (o1 408 0) 8) <| jl (jst o1 411 (o1 408 0) a2) fun h3 => jg (jI (h3 408 0) 8) <| jl (jst h3 412 (h3 408 0) (w32 (a3 - a2))) fun h4 => jl (jst h4 408 0 (w32 (h4 408 0 + 1))) fun h5 => jl (jst h5 408 10 0) fun h6 => some h6
theorem eX9_add (a1 : Int) (a2 : Int) (a3 : Int) {h : AH} (hS : Sh S h) : EQ (fX9_add 408 a1 a2 a3 h) (gX9_add a1 a2 a3 h) (fun r => Sh S r) := by
  unfold fX9_add gX9_add
  refine EQ_jb (eX9_add_l3 a1 a2 a3 0 hS) (fun o1 r1 => ?_)
  refine EQ_jgd (show o1 408 (-2) = 10 from by rw [k_408 r1]) ?_
  refine EQ_jgd (show o1 408 (-2) = 10 from by rw [k_408 r1]) ?_
  refine EQ_jg ⟨fun ⟨_, _, x0⟩ => (show jI (o1 408 0) (o1 (o1 408 3) (-1)) ↔ jI (o1 408 0) 8 from by rw [r_408_3 r1, l_411 r1]).mp x0, fun x0 => ⟨(show o1 (o1 408 3) (-2) = 101 from by rw [r_408_3 r1, k_411 r1]), (show 200 ≤ o1 408 3 from by rw [r_408_3 r1]; exact (by decide)), (show jI (o1 408 0) (o1 (o1 408 3) (-1)) ↔ jI (o1 408 0) 8 from by rw [r_408_3 r1, l_411 r1]).mpr x0⟩⟩ (fun g2 => ?_)
  refine EQ_jl (by rw [r_408_3 r1]) (fun h3 eh3 => ?_)
  have s3 := Sh_of eh3 (Sh_sta r1 (by decide +kernel) (jI_nn g2) (fun e => absurd ((k_411 r1).symm.trans e) (by decide)))
  clear eh3
  refine EQ_jgd (show h3 408 (-2) = 10 from by rw [k_408 s3]) ?_
  refine EQ_jgd (show h3 408 (-2) = 10 from by rw [k_408 s3]) ?_
  refine EQ_jg ⟨fun ⟨_, _, x0⟩ => (show jI (h3 408 0) (h3 (h3 408 4) (-1)) ↔ jI (h3 408 0) 8 from by rw [r_408_4 s3, l_412 s3]).mp x0, fun x0 => ⟨(show h3 (h3 408 4) (-2) = 101 from by rw [r_408_4 s3, k_412 s3]), (show 200 ≤ h3 408 4 from by rw [r_408_4 s3]; exact (by decide)), (show jI (h3 408 0) (h3 (h3 408 4) (-1)) ↔ jI (h3 408 0) 8 from by rw [r_408_4 s3, l_412 s3]).mpr x0⟩⟩ (fun g4 => ?_)
  refine EQ_jl (by rw [r_408_4 s3]) (fun h4 eh4 => ?_)
  have s5 := Sh_of eh4 (Sh_sta s3 (by decide +kernel) (jI_nn g4) (fun e => absurd ((k_412 s3).symm.trans e) (by decide)))
  clear eh4
  refine EQ_jgd (show h4 408 (-2) = 10 from by rw [k_408 s5]) ?_
  refine EQ_jgd ⟨(show h4 408 (-2) = 10 from by rw [k_408 s5]), (show (200 : Int) ≤ 408 from (by decide))⟩ ?_
  refine EQ_jl rfl (fun h5 eh5 => ?_)
  have s6 := Sh_of eh5 (Sh_sto s5 (a := 408) (i := 0) (by decide +kernel))
  clear eh5
  refine EQ_jgd ⟨(show h5 408 (-2) = 10 from by rw [k_408 s6]), (show (200 : Int) ≤ 408 from (by decide)), (show jZ 0 from by unfold jZ; decide)⟩ ?_
  refine EQ_jl rfl (fun h6 eh6 => ?_)
  have s7 := Sh_of eh6 (Sh_sto s6 (a := 408) (i := 10) (by decide +kernel))
  clear eh6
  exact EQ_some s7
noncomputable def gX1_example (a1 : Int) (h : AH) : Option (Int × AH) := if h 200 53 = 0 then (jb2 (gX1_takeTape h) fun v3 h4 => jb (gX1_exampleMay 440 a1 v3 h4) fun v6 => if 0 ≤ v6 then (jb2 (gX12_begin 6 (w32 (v3 + 1)) h4) fun v9 h10 => if v9 = 0 then (some ((-3), h10)) else (jb (gX12_put a1 h10) fun h13 => jb (gX12_put_2 440 v3 h13) fun h15 => jb (gX12_end h15) fun h17 => jb (gX9_add 440 a1 v3 h17) fun h19 => some (h19 408 0, h19))) else (some (v6, h4))) else (some ((-5), h))
theorem eX1_example (a1 : Int) {h : AH} (hS : Sh S h) : EQ (fX1_example 200 a1 h) (gX1_example a1 h) (fun r => Sh S r.2) := by
  unfold fX1_example gX1_example
  refine EQ_jgd (show h 200 (-2) = 2 from by rw [k_200 hS]) ?_
  refine EQ_if Iff.rfl (fun c1 => ?_) (fun c1 => ?_)
  · refine EQ_jgd (show h 200 (-2) = 2 from by rw [k_200 hS]) ?_
    refine EQ_jb2 (eX1_takeTape hS) (fun v3 h4 r2 => ?_)
    replace r2 : Sh S h4 := r2
    refine EQ_jgd (show h4 200 (-2) = 2 from by rw [k_200 r2]) ?_
    refine EQ_jgd (show h4 200 (-2) = 2 from by rw [k_200 r2]) ?_
    refine EQ_jb (by rw [r_200_54 r2]; exact eX1_exampleMay 440 a1 v3 r2) (fun v6 r3 => ?_)
    refine EQ_if Iff.rfl (fun c4 => ?_) (fun c4 => ?_)
    · refine EQ_jgd (show h4 200 (-2) = 2 from by rw [k_200 r2]) ?_
      refine EQ_jgd (show h4 (h4 200 52) (-2) = 13 from by rw [r_200_52 r2, k_434 r2]) ?_
      refine EQ_jb2 (by rw [r_200_52 r2]; exact eX12_begin 6 (w32 (v3 + 1)) r2) (fun v9 h10 r5 => ?_)
      replace r5 : Sh S h10 := r5
      refine EQ_if Iff.rfl (fun c6 => ?_) (fun c6 => ?_)
      · exact EQ_some r5
      · refine EQ_jgd (show h10 200 (-2) = 2 from by rw [k_200 r5]) ?_
        refine EQ_jgd (show h10 (h10 200 52) (-2) = 13 from by rw [r_200_52 r5, k_434 r5]) ?_
        refine EQ_jb (by rw [r_200_52 r5]; exact eX12_put a1 r5) (fun h13 r7 => ?_)
        refine EQ_jgd (show h13 200 (-2) = 2 from by rw [k_200 r7]) ?_
        refine EQ_jgd (show h13 200 (-2) = 2 from by rw [k_200 r7]) ?_
        refine EQ_jgd (show h13 (h13 200 52) (-2) = 13 from by rw [r_200_52 r7, k_434 r7]) ?_
        refine EQ_jb (by rw [r_200_52 r7, r_200_54 r7]; exact eX12_put_2 440 v3 r7) (fun h15 r8 => ?_)
        refine EQ_jgd (show h15 200 (-2) = 2 from by rw [k_200 r8]) ?_
        refine EQ_jgd (show h15 (h15 200 52) (-2) = 13 from by rw [r_200_52 r8, k_434 r8]) ?_
        refine EQ_jb (by rw [r_200_52 r8]; exact eX12_end r8) (fun h17 r9 => ?_)
        refine EQ_jgd (show h17 200 (-2) = 2 from by rw [k_200 r9]) ?_
        refine EQ_jgd (show h17 200 (-2) = 2 from by rw [k_200 r9]) ?_
        refine EQ_jgd (show h17 (h17 200 49) (-2) = 10 from by rw [r_200_49 r9, k_408 r9]) ?_
        refine EQ_jb (by rw [r_200_49 r9, r_200_54 r9]; exact eX9_add 440 a1 v3 r9) (fun h19 r10 => ?_)
        refine EQ_jgd (show h19 200 (-2) = 2 from by rw [k_200 r10]) ?_
        refine EQ_jgd (show h19 (h19 200 49) (-2) = 10 from by rw [r_200_49 r10, k_408 r10]) ?_
        exact EQ_some' (by rw [r_200_49 r10]) r10
    · exact EQ_some r2
  · exact EQ_some hS
noncomputable def gX9_clear (h : AH) : Option (AH) := jl (jst h 408 0 0) fun h1 => jl (jst h1 408 10 0) fun h2 => some h2
theorem eX9_clear {h : AH} (hS : Sh S h) : EQ (fX9_clear 408 h) (gX9_clear h) (fun r => Sh S r) := by
  unfold fX9_clear gX9_clear
  refine EQ_jgd ⟨(show h 408 (-2) = 10 from by rw [k_408 hS]), (show (200 : Int) ≤ 408 from (by decide))⟩ ?_
  refine EQ_jl rfl (fun h1 eh1 => ?_)
  have s1 := Sh_of eh1 (Sh_sto hS (a := 408) (i := 0) (by decide +kernel))
  clear eh1
  refine EQ_jgd ⟨(show h1 408 (-2) = 10 from by rw [k_408 s1]), (show (200 : Int) ≤ 408 from (by decide)), (show jZ 0 from by unfold jZ; decide)⟩ ?_
  refine EQ_jl rfl (fun h2 eh2 => ?_)
  have s2 := Sh_of eh2 (Sh_sto s1 (a := 408) (i := 10) (by decide +kernel))
  clear eh2
  exact EQ_some s2
noncomputable def gX1_clearRows (h : AH) : Option (Int × AH) := jl (h 408 0) fun x1 => jb (gX9_clear h) fun h3 => some (x1, h3)
theorem eX1_clearRows {h : AH} (hS : Sh S h) : EQ (fX1_clearRows 200 h) (gX1_clearRows h) (fun r => Sh S r.2) := by
  unfold fX1_clearRows gX1_clearRows
  refine EQ_jgd (show h 200 (-2) = 2 from by rw [k_200 hS]) ?_
  refine EQ_jgd (show h (h 200 49) (-2) = 10 from by rw [r_200_49 hS, k_408 hS]) ?_
  refine EQ_jl (by rw [r_200_49 hS]) (fun x1 ex1 => ?_)
  clear ex1
  refine EQ_jgd (show h 200 (-2) = 2 from by rw [k_200 hS]) ?_
  refine EQ_jgd (show h (h 200 49) (-2) = 10 from by rw [r_200_49 hS, k_408 hS]) ?_
  refine EQ_jb (by rw [r_200_49 hS]; exact eX9_clear hS) (fun h3 r1 => ?_)
  exact EQ_some r1
noncomputable def gX1_clear (h : AH) : Option (Int × AH) := if h 200 53 = 0 then (if h 408 0 = 0 then (some (0, h)) else (jb2 (gX12_begin 7 0 h) fun v4 h5 => if v4 = 0 then (some ((-3), h5)) else (jb (gX12_end h5) fun h8 => jb2 (gX1_clearRows h8) fun v10 h11 => some (v10, h11)))) else (some ((-5), h))
theorem eX1_clear {h : AH} (hS : Sh S h) : EQ (fX1_clear 200 h) (gX1_clear h) (fun r => Sh S r.2) := by
  unfold fX1_clear gX1_clear
  refine EQ_jgd (show h 200 (-2) = 2 from by rw [k_200 hS]) ?_
  refine EQ_if Iff.rfl (fun c1 => ?_) (fun c1 => ?_)
  · refine EQ_jgd (show h 200 (-2) = 2 from by rw [k_200 hS]) ?_
    refine EQ_jgd (show h (h 200 49) (-2) = 10 from by rw [r_200_49 hS, k_408 hS]) ?_
    refine EQ_if (show h (h 200 49) 0 = 0 ↔ h 408 0 = 0 from by rw [r_200_49 hS]) (fun c2 => ?_) (fun c2 => ?_)
    · exact EQ_some hS
    · refine EQ_jgd (show h 200 (-2) = 2 from by rw [k_200 hS]) ?_
      refine EQ_jgd (show h (h 200 52) (-2) = 13 from by rw [r_200_52 hS, k_434 hS]) ?_
      refine EQ_jb2 (by rw [r_200_52 hS]; exact eX12_begin 7 0 hS) (fun v4 h5 r3 => ?_)
      replace r3 : Sh S h5 := r3
      refine EQ_if Iff.rfl (fun c4 => ?_) (fun c4 => ?_)
      · exact EQ_some r3
      · refine EQ_jgd (show h5 200 (-2) = 2 from by rw [k_200 r3]) ?_
        refine EQ_jgd (show h5 (h5 200 52) (-2) = 13 from by rw [r_200_52 r3, k_434 r3]) ?_
        refine EQ_jb (by rw [r_200_52 r3]; exact eX12_end r3) (fun h8 r5 => ?_)
        refine EQ_jgd (show h8 200 (-2) = 2 from by rw [k_200 r5]) ?_
        refine EQ_jb2 (eX1_clearRows r5) (fun v10 h11 r6 => ?_)
        replace r6 : Sh S h11 := r6
        exact EQ_some r6
  · exact EQ_some hS
noncomputable def gX9_find_j132_83 (a2 : Int) (a3 : Int) (a4 : Int) (a5 : Int) (a6 : Int) (a7 : Int) (a8 : Int) (h : AH) : Option ((Int × Int) ⊕ ((Int) ⊕ (Unit))) := jl (w32 (a8 + 1)) fun x18 => some (.inl (a7, x18))
theorem eX9_find_j132_83 (a2 : Int) (a3 : Int) (a4 : Int) (a5 : Int) (a6 : Int) (a7 : Int) (a8 : Int) {h : AH} (hS : Sh S h) : EQ (fX9_find_j132_83 a2 a3 a4 a5 a6 a7 a8 h) (gX9_find_j132_83 a2 a3 a4 a5 a6 a7 a8 h) (Sum.elim (fun _ => True) (Sum.elim (fun _ => True) (fun _ => True))) := by
  unfold fX9_find_j132_83 gX9_find_j132_83
  refine EQ_jl rfl (fun x18 ex18 => ?_)
  clear ex18
  exact EQ_some trivial
noncomputable def gX9_find_b83 (i2 : Int) (i3 : Int) (i4 : Int) (i5 : Int) (i6 : Int) (h : AH) (s : Int × Int) : Option ((Int × Int) ⊕ ((Int) ⊕ (Unit))) := jt2 s fun a7 a8 => if i4 ≤ a8 then (some (.inr (.inr ()))) else (jg (h i2 (-2) = 103 ∧ jI (w32 (i3 + a8)) (h i2 (-1))) <| if h i2 (w32 (i3 + a8)) = w32 (97 + jdiv i6 3) then (if a7 = 0 then (some (.inr (.inl a8))) else (jl (w32 (a7 + (-1))) fun x17 => gX9_find_j132_83 i2 i3 i4 i5 i6 x17 a8 h)) else (gX9_find_j132_83 i2 i3 i4 i5 i6 a7 a8 h))
theorem eX9_find_b83 (i2 : Int) (i3 : Int) (i4 : Int) (i5 : Int) (i6 : Int) (s : Int × Int) {h : AH} (hS : Sh S h) : EQ (fX9_find_b83 i2 i3 i4 i5 i6 h s) (gX9_find_b83 i2 i3 i4 i5 i6 h s) (Sum.elim (fun _ => True) (Sum.elim (fun _ => True) (fun _ => True))) := by
  unfold fX9_find_b83 gX9_find_b83
  obtain ⟨a7, a8⟩ := s
  refine EQ_jt2 ?_
  refine EQ_if Iff.rfl (fun c1 => ?_) (fun c1 => ?_)
  · exact EQ_some trivial
  · refine EQ_jg Iff.rfl (fun g2 => ?_)
    refine EQ_if Iff.rfl (fun c3 => ?_) (fun c3 => ?_)
    · refine EQ_if Iff.rfl (fun c4 => ?_) (fun c4 => ?_)
      · exact EQ_some trivial
      · refine EQ_jl rfl (fun x17 ex17 => ?_)
        clear ex17
        exact (eX9_find_j132_83 i2 i3 i4 i5 i6 x17 a8 hS)
    · exact (eX9_find_j132_83 i2 i3 i4 i5 i6 a7 a8 hS)
noncomputable def gX9_find_l83 (i2 : Int) (i3 : Int) (i4 : Int) (i5 : Int) (i6 : Int) (a7 : Int) (a8 : Int) (h : AH) : Option ((Int) ⊕ (Unit)) := jit (gX9_find_b83 i2 i3 i4 i5 i6 h) (a7, a8)
theorem eX9_find_l83 (i2 : Int) (i3 : Int) (i4 : Int) (i5 : Int) (i6 : Int) (a7 : Int) (a8 : Int) {h : AH} (hS : Sh S h) : EQ (fX9_find_l83 i2 i3 i4 i5 i6 a7 a8 h) (gX9_find_l83 i2 i3 i4 i5 i6 a7 a8 h) (Sum.elim (fun _ => True) (fun _ => True)) := EQ_jit (I := (fun _ => True)) (fun s _ => eX9_find_b83 i2 i3 i4 i5 i6 s hS) trivial
noncomputable def gX9_find_j71 (a2 : Int) (a3 : Int) (a4 : Int) (a5 : Int) (t0 : Int) (t1 : Int) (h : AH) : Option (Int) := jl (w32 (t0 - t1)) fun x7 => jl (jrem x7 3) fun x8 => jb (gX9_find_l83 a2 a3 a4 a5 x7 x8 0 h) fun o9 => jm o9 (fun o11 => if a5 = 0 then (some o11) else (some (w32 (o11 + 1)))) (fun o12 => some (-1))
theorem eX9_find_j71 (a2 : Int) (a3 : Int) (a4 : Int) (a5 : Int) (t0 : Int) (t1 : Int) {h : AH} (hS : Sh S h) : EQ (fX9_find_j71 a2 a3 a4 a5 t0 t1 h) (gX9_find_j71 a2 a3 a4 a5 t0 t1 h) (fun _ => True) := by
  unfold fX9_find_j71 gX9_find_j71
  refine EQ_jl rfl (fun x7 ex7 => ?_)
  clear ex7
  refine EQ_jl rfl (fun x8 ex8 => ?_)
  clear ex8
  refine EQ_jb (eX9_find_l83 a2 a3 a4 a5 x7 x8 0 hS) (fun o9 r1 => ?_)
  refine EQ_jm r1 (fun o11 r2 => ?_) (fun o12 r3 => ?_)
  · refine EQ_if Iff.rfl (fun c4 => ?_) (fun c4 => ?_)
    · exact EQ_some trivial
    · exact EQ_some trivial
  · exact EQ_some trivial
noncomputable def gX9_find_j56 (a1 : Int) (a2 : Int) (a3 : Int) (a4 : Int) (t0 : Int) (h : AH) : Option (Int) := if t0 = 0 then (gX9_find_j71 a2 a3 a4 t0 a1 22 h) else (gX9_find_j71 a2 a3 a4 t0 a1 100 h)
theorem eX9_find_j56 (a1 : Int) (a2 : Int) (a3 : Int) (a4 : Int) (t0 : Int) {h : AH} (hS : Sh S h) : EQ (fX9_find_j56 a1 a2 a3 a4 t0 h) (gX9_find_j56 a1 a2 a3 a4 t0 h) (fun _ => True) := by
  unfold fX9_find_j56 gX9_find_j56
  refine EQ_if Iff.rfl (fun c1 => ?_) (fun c1 => ?_)
  · exact (eX9_find_j71 a2 a3 a4 t0 a1 22 hS)
  · exact (eX9_find_j71 a2 a3 a4 t0 a1 100 hS)
noncomputable def gX9_find (a1 : Int) (a2 : Int) (a3 : Int) (a4 : Int) (h : AH) : Option (Int) := if 11 ≤ a1 then (if 22 ≤ a1 then (if a1 < 100 then (gX9_find_j56 a1 a2 a3 a4 0 h) else (gX9_find_j56 a1 a2 a3 a4 1 h)) else (if a4 < w32 (a1 - 11) then (some (-1)) else (some (w32 (a4 - w32 (a1 - 11)))))) else (if a4 < a1 then (some (-1)) else (some a1))
theorem eX9_find (a1 : Int) (a2 : Int) (a3 : Int) (a4 : Int) {h : AH} (hS : Sh S h) : EQ (fX9_find 408 a1 a2 a3 a4 h) (gX9_find a1 a2 a3 a4 h) (fun _ => True) := by
  unfold fX9_find gX9_find
  refine EQ_if Iff.rfl (fun c1 => ?_) (fun c1 => ?_)
  · refine EQ_if Iff.rfl (fun c2 => ?_) (fun c2 => ?_)
    · refine EQ_if Iff.rfl (fun c3 => ?_) (fun c3 => ?_)
      · exact (eX9_find_j56 a1 a2 a3 a4 0 hS)
      · exact (eX9_find_j56 a1 a2 a3 a4 1 hS)
    · refine EQ_if Iff.rfl (fun c4 => ?_) (fun c4 => ?_)
      · exact EQ_some trivial
      · exact EQ_some trivial
  · refine EQ_if Iff.rfl (fun c5 => ?_) (fun c5 => ?_)
    · exact EQ_some trivial
    · exact EQ_some trivial
noncomputable def gX9_findSpots_j82_18 (a1 : Int) (a2 : Int) (t1 : Int) (t2 : Int) (t3 : Int) (h : AH) : Option ((Int × AH) ⊕ (AH)) := jg (jI t1 178) <| jl (jst h 414 t1 (ji2z (jand t2 t3))) fun h13 => jl (w32 (a2 + 1)) fun x14 => some (.inl (x14, h13))
theorem eX9_findSpots_j82_18 (a1 : Int) (a2 : Int) (t1 : Int) (t2 : Int) (t3 : Int) {h : AH} (hS : Sh S h) : EQ (fX9_findSpots_j82_18 408 a1 a2 414 t1 t2 t3 h) (gX9_findSpots_j82_18 a1 a2 t1 t2 t3 h) (Sum.elim (fun r => Sh S r.2) (fun r => Sh S r)) := by
  unfold fX9_findSpots_j82_18 gX9_findSpots_j82_18
  refine EQ_jg ⟨fun ⟨_, _, x0⟩ => (show jI t1 (h 414 (-1)) ↔ jI t1 178 from by rw [l_414 hS]).mp x0, fun x0 => ⟨(show h 414 (-2) = 104 from by rw [k_414 hS]), (show (200 : Int) ≤ 414 from (by decide)), (show jI t1 (h 414 (-1)) ↔ jI t1 178 from by rw [l_414 hS]).mpr x0⟩⟩ (fun g1 => ?_)
  refine EQ_jl rfl (fun h13 eh13 => ?_)
  have s2 := Sh_of eh13 (Sh_sta hS (by decide +kernel) (jI_nn g1) (fun e => absurd ((k_414 hS).symm.trans e) (by decide)))
  clear eh13
  refine EQ_jl rfl (fun x14 ex14 => ?_)
  clear ex14
  exact EQ_some s2
noncomputable def gX9_findSpots_b18 (i1 : Int) (s : Int × AH) : Option ((Int × AH) ⊕ (AH)) := jt2 s fun a2 h => if h 408 0 ≤ a2 then (some (.inr h)) else (jg (jI a2 8) <| jb (gX9_find i1 409 (w32 (10 * a2)) (h 411 a2) h) fun v10 => jg (jI (w32 (w32 (8 * i1) + a2)) 1424) <| jl (jst h 413 (w32 (w32 (8 * i1) + a2)) v10) fun h11 => jg (jI i1 178) <| if h11 413 (w32 (w32 (8 * i1) + a2)) < 0 then (gX9_findSpots_j82_18 i1 a2 i1 (h11 414 i1) 0 h11) else (gX9_findSpots_j82_18 i1 a2 i1 (h11 414 i1) 1 h11))
theorem eX9_findSpots_b18 (i1 : Int) {s : Int × AH} (hS : (fun r => Sh S r.2) s) : EQ (fX9_findSpots_b18 408 i1 s) (gX9_findSpots_b18 i1 s) (Sum.elim (fun r => Sh S r.2) (fun r => Sh S r)) := by
  unfold fX9_findSpots_b18 gX9_findSpots_b18
  obtain ⟨a2, h⟩ := s
  refine EQ_jt2 ?_
  replace hS : Sh S h := hS
  refine EQ_jgd (show h 408 (-2) = 10 from by rw [k_408 hS]) ?_
  refine EQ_if Iff.rfl (fun c1 => ?_) (fun c1 => ?_)
  · exact EQ_some hS
  · refine EQ_jgd (show h 408 (-2) = 10 from by rw [k_408 hS]) ?_
    refine EQ_jgd (show h 408 (-2) = 10 from by rw [k_408 hS]) ?_
    refine EQ_jgd (show h 408 (-2) = 10 from by rw [k_408 hS]) ?_
    refine EQ_jg ⟨fun ⟨_, x0⟩ => (show jI a2 (h (h 408 3) (-1)) ↔ jI a2 8 from by rw [r_408_3 hS, l_411 hS]).mp x0, fun x0 => ⟨(show h (h 408 3) (-2) = 101 from by rw [r_408_3 hS, k_411 hS]), (show jI a2 (h (h 408 3) (-1)) ↔ jI a2 8 from by rw [r_408_3 hS, l_411 hS]).mpr x0⟩⟩ (fun g2 => ?_)
    refine EQ_jgd (show h 408 (-2) = 10 from by rw [k_408 hS]) ?_
    refine EQ_jb (by rw [r_408_1 hS, r_408_3 hS]; exact eX9_find i1 409 (w32 (10 * a2)) (h 411 a2) hS) (fun v10 r3 => ?_)
    refine EQ_jg ⟨fun ⟨_, _, x0⟩ => (show jI (w32 (w32 (8 * i1) + a2)) (h (h 408 5) (-1)) ↔ jI (w32 (w32 (8 * i1) + a2)) 1424 from by rw [r_408_5 hS, l_413 hS]).mp x0, fun x0 => ⟨(show h (h 408 5) (-2) = 101 from by rw [r_408_5 hS, k_413 hS]), (show 200 ≤ h 408 5 from by rw [r_408_5 hS]; exact (by decide)), (show jI (w32 (w32 (8 * i1) + a2)) (h (h 408 5) (-1)) ↔ jI (w32 (w32 (8 * i1) + a2)) 1424 from by rw [r_408_5 hS, l_413 hS]).mpr x0⟩⟩ (fun g4 => ?_)
    refine EQ_jl (by rw [r_408_5 hS]) (fun h11 eh11 => ?_)
    have s5 := Sh_of eh11 (Sh_sta hS (by decide +kernel) (jI_nn g4) (fun e => absurd ((k_413 hS).symm.trans e) (by decide)))
    clear eh11
    refine EQ_jgd (show h11 408 (-2) = 10 from by rw [k_408 s5]) ?_
    refine EQ_jg ⟨fun ⟨_, x0⟩ => (show jI i1 (h11 (h11 408 6) (-1)) ↔ jI i1 178 from by rw [r_408_6 s5, l_414 s5]).mp x0, fun x0 => ⟨(show h11 (h11 408 6) (-2) = 104 from by rw [r_408_6 s5, k_414 s5]), (show jI i1 (h11 (h11 408 6) (-1)) ↔ jI i1 178 from by rw [r_408_6 s5, l_414 s5]).mpr x0⟩⟩ (fun g6 => ?_)
    refine EQ_jgd (show h11 408 (-2) = 10 from by rw [k_408 s5]) ?_
    refine EQ_jgd ⟨(show h11 (h11 408 5) (-2) = 101 from by rw [r_408_5 s5, k_413 s5]), ((show jI (w32 (w32 (8 * i1) + a2)) (h11 (h11 408 5) (-1)) ↔ jI (w32 (w32 (8 * i1) + a2)) 1424 from by rw [r_408_5 s5, l_413 s5]).mpr g4)⟩ ?_
    refine EQ_if (show h11 (h11 408 5) (w32 (w32 (8 * i1) + a2)) < 0 ↔ h11 413 (w32 (w32 (8 * i1) + a2)) < 0 from by rw [r_408_5 s5]) (fun c7 => ?_) (fun c7 => ?_)
    · exact (by rw [r_408_6 s5]; exact eX9_findSpots_j82_18 i1 a2 i1 (h11 414 i1) 0 s5)
    · exact (by rw [r_408_6 s5]; exact eX9_findSpots_j82_18 i1 a2 i1 (h11 414 i1) 1 s5)
noncomputable def gX9_findSpots_l18 (i1 : Int) (a2 : Int) (h : AH) : Option (AH) := jit (gX9_findSpots_b18 i1) (a2, h)
theorem eX9_findSpots_l18 (i1 : Int) (a2 : Int) {h : AH} (hS : Sh S h) : EQ (fX9_findSpots_l18 408 i1 a2 h) (gX9_findSpots_l18 i1 a2 h) (fun r => Sh S r) := EQ_jit (I := (fun r => Sh S r.2)) (fun s hs => eX9_findSpots_b18 i1 hs) hS
noncomputable def gX9_findSpots_b2 (s : Int × AH) : Option ((Int × AH) ⊕ (AH)) := jt2 s fun a1 h => if 178 ≤ a1 then (some (.inr h)) else (jg (jI a1 178) <| jl (jst h 414 a1 (ji2z 1)) fun h4 => jb (gX9_findSpots_l18 a1 0 h4) fun o5 => jl (w32 (a1 + 1)) fun x7 => some (.inl (x7, o5)))
theorem eX9_findSpots_b2 {s : Int × AH} (hS : (fun r => Sh S r.2) s) : EQ (fX9_findSpots_b2 408 s) (gX9_findSpots_b2 s) (Sum.elim (fun r => Sh S r.2) (fun r => Sh S r)) := by
  unfold fX9_findSpots_b2 gX9_findSpots_b2
  obtain ⟨a1, h⟩ := s
  refine EQ_jt2 ?_
  replace hS : Sh S h := hS
  refine EQ_if Iff.rfl (fun c1 => ?_) (fun c1 => ?_)
  · exact EQ_some hS
  · refine EQ_jgd (show h 408 (-2) = 10 from by rw [k_408 hS]) ?_
    refine EQ_jg ⟨fun ⟨_, _, x0⟩ => (show jI a1 (h (h 408 6) (-1)) ↔ jI a1 178 from by rw [r_408_6 hS, l_414 hS]).mp x0, fun x0 => ⟨(show h (h 408 6) (-2) = 104 from by rw [r_408_6 hS, k_414 hS]), (show 200 ≤ h 408 6 from by rw [r_408_6 hS]; exact (by decide)), (show jI a1 (h (h 408 6) (-1)) ↔ jI a1 178 from by rw [r_408_6 hS, l_414 hS]).mpr x0⟩⟩ (fun g2 => ?_)
    refine EQ_jl (by rw [r_408_6 hS]) (fun h4 eh4 => ?_)
    have s3 := Sh_of eh4 (Sh_sta hS (by decide +kernel) (jI_nn g2) (fun e => absurd ((k_414 hS).symm.trans e) (by decide)))
    clear eh4
    refine EQ_jb (eX9_findSpots_l18 a1 0 s3) (fun o5 r4 => ?_)
    refine EQ_jl rfl (fun x7 ex7 => ?_)
    clear ex7
    exact EQ_some r4
noncomputable def gX9_findSpots_l2 (a1 : Int) (h : AH) : Option (AH) := jit gX9_findSpots_b2 (a1, h)
theorem eX9_findSpots_l2 (a1 : Int) {h : AH} (hS : Sh S h) : EQ (fX9_findSpots_l2 408 a1 h) (gX9_findSpots_l2 a1 h) (fun r => Sh S r) := EQ_jit (I := (fun r => Sh S r.2)) (fun s hs => eX9_findSpots_b2 hs) hS
noncomputable def gX9_findSpots (h : AH) : Option (AH) := jb (gX9_findSpots_l2 0 h) fun o1 => some o1
theorem eX9_findSpots {h : AH} (hS : Sh S h) : EQ (fX9_findSpots 408 h) (gX9_findSpots h) (fun r => Sh S r) := by
  unfold fX9_findSpots gX9_findSpots
  refine EQ_jb (eX9_findSpots_l2 0 hS) (fun o1 r1 => ?_)
  exact EQ_some r1
noncomputable def gX9_place_b3 (i1 : Int) (i3 : Int) (h : AH) (a4 : Int) : Option ((Int) ⊕ ((Int) ⊕ (Unit))) := if h 408 9 ≤ a4 then (some (.inr (.inr ()))) else (jg (jI a4 401) <| if jcmp (h 415 a4) i1 = 0 then (some (.inr (.inl a4))) else (jl (w32 (a4 + 1)) fun x11 => some (.inl x11)))
theorem eX9_place_b3 (i1 : Int) (i3 : Int) (a4 : Int) {h : AH} (hS : Sh S h) : EQ (fX9_place_b3 408 i1 i3 h a4) (gX9_place_b3 i1 i3 h a4) (Sum.elim (fun _ => True) (Sum.elim (fun _ => True) (fun _ => True))) := by
  unfold fX9_place_b3 gX9_place_b3
  refine EQ_jgd (show h 408 (-2) = 10 from by rw [k_408 hS]) ?_
  refine EQ_if Iff.rfl (fun c1 => ?_) (fun c1 => ?_)
  · exact EQ_some trivial
  · refine EQ_jgd (show h 408 (-2) = 10 from by rw [k_408 hS]) ?_
    refine EQ_jg ⟨fun ⟨_, x0⟩ => (show jI a4 (h (h 408 7) (-1)) ↔ jI a4 401 from by rw [r_408_7 hS, l_415 hS]).mp x0, fun x0 => ⟨(show h (h 408 7) (-2) = 102 from by rw [r_408_7 hS, k_415 hS]), (show jI a4 (h (h 408 7) (-1)) ↔ jI a4 401 from by rw [r_408_7 hS, l_415 hS]).mpr x0⟩⟩ (fun g2 => ?_)
    refine EQ_if (show jcmp (h (h 408 7) a4) i1 = 0 ↔ jcmp (h 415 a4) i1 = 0 from by rw [r_408_7 hS]) (fun c3 => ?_) (fun c3 => ?_)
    · exact EQ_some trivial
    · refine EQ_jl rfl (fun x11 ex11 => ?_)
      clear ex11
      exact EQ_some trivial
noncomputable def gX9_place_l3 (i1 : Int) (i3 : Int) (a4 : Int) (h : AH) : Option ((Int) ⊕ (Unit)) := jit (gX9_place_b3 i1 i3 h) a4
theorem eX9_place_l3 (i1 : Int) (i3 : Int) (a4 : Int) {h : AH} (hS : Sh S h) : EQ (fX9_place_l3 408 i1 i3 a4 h) (gX9_place_l3 i1 i3 a4 h) (Sum.elim (fun _ => True) (fun _ => True)) := EQ_jit (I := (fun _ => True)) (fun s _ => eX9_place_b3 i1 i3 s hS) trivial
noncomputable def gX9_place (a1 : Int) (a3 : Int) (h : AH) : Option (Int × AH) := jb (gX9_place_l3 a1 a3 0 h) fun o1 => jm o1 (fun o3 => some (o3, h)) (fun o4 => if h 408 9 = 400 then (some ((-1), h)) else (jg (jI (h 408 9) 401) <| jl (jst h 415 (h 408 9) a1) fun h6 => jg (jI (h6 408 9) 401) <| jl (jst h6 416 (h6 408 9) a3) fun h7 => jl (jst h7 408 9 (w32 (h7 408 9 + 1))) fun h8 => some (h7 408 9, h8)))
theorem eX9_place (a1 : Int) (a3 : Int) {h : AH} (hS : Sh S h) : EQ (fX9_place 408 a1 a3 h) (gX9_place a1 a3 h) (fun r => Sh S r.2) := by
  unfold fX9_place gX9_place
  refine EQ_jb (eX9_place_l3 a1 a3 0 hS) (fun o1 r1 => ?_)
  refine EQ_jm r1 (fun o3 r2 => ?_) (fun o4 r3 => ?_)
  · exact EQ_some hS
  · refine EQ_jgd (show h 408 (-2) = 10 from by rw [k_408 hS]) ?_
    refine EQ_if Iff.rfl (fun c4 => ?_) (fun c4 => ?_)
    · exact EQ_some hS
    · refine EQ_jgd (show h 408 (-2) = 10 from by rw [k_408 hS]) ?_
      refine EQ_jgd (show h 408 (-2) = 10 from by rw [k_408 hS]) ?_
      refine EQ_jg ⟨fun ⟨_, _, x0⟩ => (show jI (h 408 9) (h (h 408 7) (-1)) ↔ jI (h 408 9) 401 from by rw [r_408_7 hS, l_415 hS]).mp x0, fun x0 => ⟨(show h (h 408 7) (-2) = 102 from by rw [r_408_7 hS, k_415 hS]), (show 200 ≤ h 408 7 from by rw [r_408_7 hS]; exact (by decide)), (show jI (h 408 9) (h (h 408 7) (-1)) ↔ jI (h 408 9) 401 from by rw [r_408_7 hS, l_415 hS]).mpr x0⟩⟩ (fun g5 => ?_)
      refine EQ_jl (by rw [r_408_7 hS]) (fun h6 eh6 => ?_)
      have s6 := Sh_of eh6 (Sh_sta hS (by decide +kernel) (jI_nn g5) (fun e => absurd ((k_415 hS).symm.trans e) (by decide)))
      clear eh6
      refine EQ_jgd (show h6 408 (-2) = 10 from by rw [k_408 s6]) ?_
      refine EQ_jgd (show h6 408 (-2) = 10 from by rw [k_408 s6]) ?_
      refine EQ_jg ⟨fun ⟨_, _, x0⟩ => (show jI (h6 408 9) (h6 (h6 408 8) (-1)) ↔ jI (h6 408 9) 401 from by rw [r_408_8 s6, l_416 s6]).mp x0, fun x0 => ⟨(show h6 (h6 408 8) (-2) = 101 from by rw [r_408_8 s6, k_416 s6]), (show 200 ≤ h6 408 8 from by rw [r_408_8 s6]; exact (by decide)), (show jI (h6 408 9) (h6 (h6 408 8) (-1)) ↔ jI (h6 408 9) 401 from by rw [r_408_8 s6, l_416 s6]).mpr x0⟩⟩ (fun g7 => ?_)
      refine EQ_jl (by rw [r_408_8 s6]) (fun h7 eh7 => ?_)
      have s8 := Sh_of eh7 (Sh_sta s6 (by decide +kernel) (jI_nn g7) (fun e => absurd ((k_416 s6).symm.trans e) (by decide)))
      clear eh7
      refine EQ_jgd (show h7 408 (-2) = 10 from by rw [k_408 s8]) ?_
      refine EQ_jgd ⟨(show h7 408 (-2) = 10 from by rw [k_408 s8]), (show (200 : Int) ≤ 408 from (by decide))⟩ ?_
      refine EQ_jl rfl (fun h8 eh8 => ?_)
      have s9 := Sh_of eh8 (Sh_sto s8 (a := 408) (i := 9) (by decide +kernel))
      clear eh8
      exact EQ_some s9
noncomputable def gX9_placeIn (a1 : Int) (a3 : Int) : Option (Int) := some (w32 (jandL (jshrL a1 (w32 (4 * a3))) 15))
theorem eX9_placeIn (a1 : Int) (a3 : Int) : EQ (fX9_placeIn 408 a1 a3) (gX9_placeIn a1 a3) (fun _ => True) := by
  unfold fX9_placeIn gX9_placeIn
  exact EQ_some trivial
noncomputable def gX9_behindWord_b53 (i1 : Int) (i3 : Int) (i4 : Int) (i6 : Int) (i7 : Int) (i8 : Int) (h : AH) (a9 : Int) : Option ((Int) ⊕ ((Unit) ⊕ (Unit))) := if i3 ≤ a9 then (some (.inr (.inr ()))) else (jg (jI (w32 (w32 (w32 (10 * i7) + i8) + a9)) 80) <| jg (jI (w32 (i6 + a9)) 80) <| if h 410 (w32 (w32 (w32 (10 * i7) + i8) + a9)) = h 410 (w32 (i6 + a9)) then (jl (w32 (a9 + 1)) fun x21 => some (.inl x21)) else (some (.inr (.inl ()))))
theorem eX9_behindWord_b53 (i1 : Int) (i3 : Int) (i4 : Int) (i6 : Int) (i7 : Int) (i8 : Int) (a9 : Int) {h : AH} (hS : Sh S h) : EQ (fX9_behindWord_b53 408 i1 i3 i4 i6 i7 i8 h a9) (gX9_behindWord_b53 i1 i3 i4 i6 i7 i8 h a9) (Sum.elim (fun _ => True) (Sum.elim (fun _ => True) (fun _ => True))) := by
  unfold fX9_behindWord_b53 gX9_behindWord_b53
  refine EQ_if Iff.rfl (fun c1 => ?_) (fun c1 => ?_)
  · exact EQ_some trivial
  · refine EQ_jgd (show h 408 (-2) = 10 from by rw [k_408 hS]) ?_
    refine EQ_jg ⟨fun ⟨_, x0⟩ => (show jI (w32 (w32 (w32 (10 * i7) + i8) + a9)) (h (h 408 2) (-1)) ↔ jI (w32 (w32 (w32 (10 * i7) + i8) + a9)) 80 from by rw [r_408_2 hS, l_410 hS]).mp x0, fun x0 => ⟨(show h (h 408 2) (-2) = 103 from by rw [r_408_2 hS, k_410 hS]), (show jI (w32 (w32 (w32 (10 * i7) + i8) + a9)) (h (h 408 2) (-1)) ↔ jI (w32 (w32 (w32 (10 * i7) + i8) + a9)) 80 from by rw [r_408_2 hS, l_410 hS]).mpr x0⟩⟩ (fun g2 => ?_)
    refine EQ_jgd (show h 408 (-2) = 10 from by rw [k_408 hS]) ?_
    refine EQ_jg ⟨fun ⟨_, x0⟩ => (show jI (w32 (i6 + a9)) (h (h 408 2) (-1)) ↔ jI (w32 (i6 + a9)) 80 from by rw [r_408_2 hS, l_410 hS]).mp x0, fun x0 => ⟨(show h (h 408 2) (-2) = 103 from by rw [r_408_2 hS, k_410 hS]), (show jI (w32 (i6 + a9)) (h (h 408 2) (-1)) ↔ jI (w32 (i6 + a9)) 80 from by rw [r_408_2 hS, l_410 hS]).mpr x0⟩⟩ (fun g3 => ?_)
    refine EQ_if (show h (h 408 2) (w32 (w32 (w32 (10 * i7) + i8) + a9)) = h (h 408 2) (w32 (i6 + a9)) ↔ h 410 (w32 (w32 (w32 (10 * i7) + i8) + a9)) = h 410 (w32 (i6 + a9)) from by rw [r_408_2 hS]) (fun c4 => ?_) (fun c4 => ?_)
    · refine EQ_jl rfl (fun x21 ex21 => ?_)
      clear ex21
      exact EQ_some trivial
    · exact EQ_some trivial
noncomputable def gX9_behindWord_l53 (i1 : Int) (i3 : Int) (i4 : Int) (i6 : Int) (i7 : Int) (i8 : Int) (a9 : Int) (h : AH) : Option ((Unit) ⊕ (Unit)) := jit (gX9_behindWord_b53 i1 i3 i4 i6 i7 i8 h) a9
theorem eX9_behindWord_l53 (i1 : Int) (i3 : Int) (i4 : Int) (i6 : Int) (i7 : Int) (i8 : Int) (a9 : Int) {h : AH} (hS : Sh S h) : EQ (fX9_behindWord_l53 408 i1 i3 i4 i6 i7 i8 a9 h) (gX9_behindWord_l53 i1 i3 i4 i6 i7 i8 a9 h) (Sum.elim (fun _ => True) (fun _ => True)) := EQ_jit (I := (fun _ => True)) (fun s _ => eX9_behindWord_b53 i1 i3 i4 i6 i7 i8 s hS) trivial
noncomputable def gX9_behindWord_b14 (i1 : Int) (i3 : Int) (i6 : Int) (h : AH) (s : Int × Int) : Option ((Int × Int) ⊕ ((Unit) ⊕ ((Unit) ⊕ ((Int))))) := jt2 s fun a4 a7 => if h 408 0 ≤ a7 then (some (.inr (.inr (.inr a4)))) else (jb (gX9_placeIn i1 a7) fun v11 => jg (jI a7 8) <| if w32 (v11 + i3) ≤ h 412 a7 then (jb (gX9_behindWord_l53 i1 i3 a4 i6 a7 v11 0 h) fun o13 => jm o13 (fun o15 => some (.inr (.inr (.inl ())))) (fun o16 => jl (jorL a4 (jshlL (w32 (v11 + i3)) (w32 (4 * a7)))) fun x17 => jl (w32 (a7 + 1)) fun x18 => some (.inl (x17, x18)))) else (some (.inr (.inl ()))))
theorem eX9_behindWord_b14 (i1 : Int) (i3 : Int) (i6 : Int) (s : Int × Int) {h : AH} (hS : Sh S h) : EQ (fX9_behindWord_b14 408 i1 i3 i6 h s) (gX9_behindWord_b14 i1 i3 i6 h s) (Sum.elim (fun _ => True) (Sum.elim (fun _ => True) (Sum.elim (fun _ => True) (fun _ => True)))) := by
  unfold fX9_behindWord_b14 gX9_behindWord_b14
  obtain ⟨a4, a7⟩ := s
  refine EQ_jt2 ?_
  refine EQ_jgd (show h 408 (-2) = 10 from by rw [k_408 hS]) ?_
  refine EQ_if Iff.rfl (fun c1 => ?_) (fun c1 => ?_)
  · exact EQ_some trivial
  · refine EQ_jgd (show h 408 (-2) = 10 from by rw [k_408 hS]) ?_
    refine EQ_jb (eX9_placeIn i1 a7) (fun v11 r2 => ?_)
    refine EQ_jgd (show h 408 (-2) = 10 from by rw [k_408 hS]) ?_
    refine EQ_jg ⟨fun ⟨_, x0⟩ => (show jI a7 (h (h 408 4) (-1)) ↔ jI a7 8 from by rw [r_408_4 hS, l_412 hS]).mp x0, fun x0 => ⟨(show h (h 408 4) (-2) = 101 from by rw [r_408_4 hS, k_412 hS]), (show jI a7 (h (h 408 4) (-1)) ↔ jI a7 8 from by rw [r_408_4 hS, l_412 hS]).mpr x0⟩⟩ (fun g3 => ?_)
    refine EQ_if (show w32 (v11 + i3) ≤ h (h 408 4) a7 ↔ w32 (v11 + i3) ≤ h 412 a7 from by rw [r_408_4 hS]) (fun c4 => ?_) (fun c4 => ?_)
    · refine EQ_jb (eX9_behindWord_l53 i1 i3 a4 i6 a7 v11 0 hS) (fun o13 r5 => ?_)
      refine EQ_jm r5 (fun o15 r6 => ?_) (fun o16 r7 => ?_)
      · exact EQ_some trivial
      · refine EQ_jl rfl (fun x17 ex17 => ?_)
        clear ex17
        refine EQ_jl rfl (fun x18 ex18 => ?_)
        clear ex18
        exact EQ_some trivial
    · exact EQ_some trivial
noncomputable def gX9_behindWord_l14 (i1 : Int) (i3 : Int) (i6 : Int) (a4 : Int) (a7 : Int) (h : AH) : Option ((Unit) ⊕ ((Unit) ⊕ ((Int)))) := jit (gX9_behindWord_b14 i1 i3 i6 h) (a4, a7)
theorem eX9_behindWord_l14 (i1 : Int) (i3 : Int) (i6 : Int) (a4 : Int) (a7 : Int) {h : AH} (hS : Sh S h) : EQ (fX9_behindWord_l14 408 i1 i3 i6 a4 a7 h) (gX9_behindWord_l14 i1 i3 i6 a4 a7 h) (Sum.elim (fun _ => True) (Sum.elim (fun _ => True) (fun _ => True))) := EQ_jit (I := (fun _ => True)) (fun s _ => eX9_behindWord_b14 i1 i3 i6 s hS) trivial
noncomputable def gX9_behindWord (a1 : Int) (a3 : Int) (h : AH) : Option (Int) := jb (gX9_placeIn a1 0) fun v2 => jb (gX9_behindWord_l14 a1 a3 v2 0 0 h) fun o3 => jm o3 (fun o5 => some (-1)) (fun o6 => jm o6 (fun o7 => some (-1)) (fun o8 => some o8))
theorem eX9_behindWord (a1 : Int) (a3 : Int) {h : AH} (hS : Sh S h) : EQ (fX9_behindWord 408 a1 a3 h) (gX9_behindWord a1 a3 h) (fun _ => True) := by
  unfold fX9_behindWord gX9_behindWord
  refine EQ_jgd (show h 408 (-2) = 10 from by rw [k_408 hS]) ?_
  refine EQ_jb (eX9_placeIn a1 0) (fun v2 r1 => ?_)
  refine EQ_jb (eX9_behindWord_l14 a1 a3 v2 0 0 hS) (fun o3 r2 => ?_)
  refine EQ_jm r2 (fun o5 r3 => ?_) (fun o6 r4 => ?_)
  · exact EQ_some trivial
  · refine EQ_jm r4 (fun o7 r5 => ?_) (fun o8 r6 => ?_)
    · exact EQ_some trivial
    · exact EQ_some trivial
noncomputable def gX9_lead_j81 (a6 : Int) (t1 : Int) (t2 : Int) (h : AH) : Option (AH) := jg (jI t1 160000) <| jl (jst h 418 t1 t2) fun h9 => jg (jI a6 160000) <| jl (jst h9 417 a6 (w64 (h9 417 a6 + 1))) fun h10 => some h10
theorem eX9_lead_j81 (a6 : Int) (t1 : Int) (t2 : Int) {h : AH} (hS : Sh S h) : EQ (fX9_lead_j81 408 a6 418 t1 t2 h) (gX9_lead_j81 a6 t1 t2 h) (fun r => Sh S r) := by
  unfold fX9_lead_j81 gX9_lead_j81
  refine EQ_jg ⟨fun ⟨_, _, x0⟩ => (show jI t1 (h 418 (-1)) ↔ jI t1 160000 from by rw [l_418 hS]).mp x0, fun x0 => ⟨(show h 418 (-2) = 101 from by rw [k_418 hS]), (show (200 : Int) ≤ 418 from (by decide)), (show jI t1 (h 418 (-1)) ↔ jI t1 160000 from by rw [l_418 hS]).mpr x0⟩⟩ (fun g1 => ?_)
  refine EQ_jl rfl (fun h9 eh9 => ?_)
  have s2 := Sh_of eh9 (Sh_sta hS (by decide +kernel) (jI_nn g1) (fun e => absurd ((k_418 hS).symm.trans e) (by decide)))
  clear eh9
  refine EQ_jgd (show h9 408 (-2) = 10 from by rw [k_408 s2]) ?_
  refine EQ_jg ⟨fun ⟨_, x0⟩ => (show jI a6 (h9 (h9 408 12) (-1)) ↔ jI a6 160000 from by rw [r_408_12 s2, l_417 s2]).mp x0, fun x0 => ⟨(show h9 (h9 408 12) (-2) = 102 from by rw [r_408_12 s2, k_417 s2]), (show jI a6 (h9 (h9 408 12) (-1)) ↔ jI a6 160000 from by rw [r_408_12 s2, l_417 s2]).mpr x0⟩⟩ (fun g3 => ?_)
  refine EQ_jgd ⟨(show h9 (h9 408 12) (-2) = 102 from by rw [r_408_12 s2, k_417 s2]), (show 200 ≤ h9 408 12 from by rw [r_408_12 s2]; exact (by decide)), ((show jI a6 (h9 (h9 408 12) (-1)) ↔ jI a6 160000 from by rw [r_408_12 s2, l_417 s2]).mpr g3)⟩ ?_
  refine EQ_jl (by rw [r_408_12 s2]) (fun h10 eh10 => ?_)
  have s4 := Sh_of eh10 (Sh_sta s2 (by decide +kernel) (jI_nn g3) (fun e => absurd ((k_417 s2).symm.trans e) (by decide)))
  clear eh10
  exact EQ_some s4
