set_option maxRecDepth 100000
variable {S : Nat → Nat}
noncomputable def gX14_meets_2_l102 (i2 : Int) (i3 : Int) (i4 : Int) (i5 : Int) (a6 : Int) (h : AH) : Option ((AH) ⊕ (AH)) := jit (gX14_meets_2_b102 i2 i3 i4 i5) (a6, h)
theorem eX14_meets_2_l102 (i2 : Int) (i3 : Int) (i4 : Int) (i5 : Int) (a6 : Int) {h : AH} (hS : Sh S h) : EQ (fX14_meets_2_l102 454 i2 i3 i4 i5 a6 h) (gX14_meets_2_l102 i2 i3 i4 i5 a6 h) (Sum.elim (fun r => Sh S r) (fun r => Sh S r)) := EQ_jit (I := (fun r => Sh S r.2)) (fun s hs => eX14_meets_2_b102 i2 i3 i4 i5 hs) hS
noncomputable def gX14_meets_2_b60 (i2 : Int) (s : Int × AH) : Option ((Int × AH) ⊕ ((AH) ⊕ (AH))) := jt2 s fun a3 h => jg (isX16 (h 454 38)) <| if h (h 454 38) 12 ≤ a3 then (some (.inr (.inr h))) else (jg (jI a3 4) <| jl (h (h 454 38 + 7) a3) fun x17 => jb (gX14_rowsOf (h 454 38 + 8) (w32 (2 * a3)) x17 h) fun v19 => jb (gX14_meets_2_l102 i2 a3 x17 v19 0 h) fun o20 => jm o20 (fun o22 => some (.inr (.inl o22))) (fun o23 => jl (w32 (a3 + 1)) fun x24 => some (.inl (x24, o23))))
theorem eX14_meets_2_b60 (i2 : Int) {s : Int × AH} (hS : (fun r => Sh S r.2) s) : EQ (fX14_meets_2_b60 454 i2 s) (gX14_meets_2_b60 i2 s) (Sum.elim (fun r => Sh S r.2) (Sum.elim (fun r => Sh S r) (fun r => Sh S r))) := by
  unfold fX14_meets_2_b60 gX14_meets_2_b60
  obtain ⟨a3, h⟩ := s
  refine EQ_jt2 ?_
  replace hS : Sh S h := hS
  refine EQ_jgd (show h 454 (-2) = 15 from by rw [k_454 hS]) ?_
  refine EQ_jg ⟨fun x0 => (ik_X16 hS).mp x0, fun x0 => (ik_X16 hS).mpr x0⟩ (fun g1 => ?_)
  refine EQ_if Iff.rfl (fun c2 => ?_) (fun c2 => ?_)
  · exact EQ_some hS
  · refine EQ_jgd (show h 454 (-2) = 15 from by rw [k_454 hS]) ?_
    refine EQ_jgd (show h (h 454 38) (-2) = 17 from by rw [kd_X16 hS g1]) ?_
    refine EQ_jg ⟨fun ⟨_, x0⟩ => (show jI a3 (h (h (h 454 38) 13) (-1)) ↔ jI a3 4 from by rw [ft_X16_13 hS g1, la_X16_13 hS g1]).mp x0, fun x0 => ⟨(show h (h (h 454 38) 13) (-2) = 101 from by rw [ft_X16_13 hS g1, ka_X16_13 hS g1]), (show jI a3 (h (h (h 454 38) 13) (-1)) ↔ jI a3 4 from by rw [ft_X16_13 hS g1, la_X16_13 hS g1]).mpr x0⟩⟩ (fun g3 => ?_)
    refine EQ_jl (by rw [ft_X16_13 hS g1]) (fun x17 ex17 => ?_)
    clear ex17
    refine EQ_jgd (show h 454 (-2) = 15 from by rw [k_454 hS]) ?_
    refine EQ_jgd (show h (h 454 38) (-2) = 17 from by rw [kd_X16 hS g1]) ?_
    refine EQ_jb (by rw [ft_X16_14 hS g1]; exact eX14_rowsOf (h 454 38 + 8) (w32 (2 * a3)) x17 hS) (fun v19 r4 => ?_)
    refine EQ_jb (eX14_meets_2_l102 i2 a3 x17 v19 0 hS) (fun o20 r5 => ?_)
    refine EQ_jm r5 (fun o22 r6 => ?_) (fun o23 r7 => ?_)
    · exact EQ_some r6
    · refine EQ_jl rfl (fun x24 ex24 => ?_)
      clear ex24
      exact EQ_some r7
noncomputable def gX14_meets_2_l60 (i2 : Int) (a3 : Int) (h : AH) : Option ((AH) ⊕ (AH)) := jit (gX14_meets_2_b60 i2) (a3, h)
theorem eX14_meets_2_l60 (i2 : Int) (a3 : Int) {h : AH} (hS : Sh S h) : EQ (fX14_meets_2_l60 454 i2 a3 h) (gX14_meets_2_l60 i2 a3 h) (Sum.elim (fun r => Sh S r) (fun r => Sh S r)) := EQ_jit (I := (fun r => Sh S r.2)) (fun s hs => eX14_meets_2_b60 i2 hs) hS
noncomputable def gX14_meets_2 (a1 : Int) (a2 : Int) (h : AH) : Option (Int × AH) := jg (isX16 (h 454 38)) <| if a1 = h (h 454 38) 4 then (jb (gX14_meets_2_l15 a2 0 h) fun o2 => jm o2 (fun o4 => some (0, h)) (fun o5 => jl (jst h 454 21 (-1)) fun h6 => jb (gX14_meets_2_l60 a2 0 h6) fun o7 => jm o7 (fun o9 => some (0, o9)) (fun o10 => some (1, o10)))) else (some (0, h))
theorem eX14_meets_2 (a1 : Int) (a2 : Int) {h : AH} (hS : Sh S h) : EQ (fX14_meets_2 454 a1 a2 h) (gX14_meets_2 a1 a2 h) (fun r => Sh S r.2) := by
  unfold fX14_meets_2 gX14_meets_2
  refine EQ_jgd (show h 454 (-2) = 15 from by rw [k_454 hS]) ?_
  refine EQ_jg ⟨fun x0 => (ik_X16 hS).mp x0, fun x0 => (ik_X16 hS).mpr x0⟩ (fun g1 => ?_)
  refine EQ_if Iff.rfl (fun c2 => ?_) (fun c2 => ?_)
  · refine EQ_jb (eX14_meets_2_l15 a2 0 hS) (fun o2 r3 => ?_)
    refine EQ_jm r3 (fun o4 r4 => ?_) (fun o5 r5 => ?_)
    · exact EQ_some hS
    · refine EQ_jgd ⟨(show h 454 (-2) = 15 from by rw [k_454 hS]), (show (200 : Int) ≤ 454 from (by decide))⟩ ?_
      refine EQ_jl rfl (fun h6 eh6 => ?_)
      have s6 := Sh_of eh6 (Sh_sto hS (a := 454) (i := 21) (by decide +kernel))
      clear eh6
      refine EQ_jb (eX14_meets_2_l60 a2 0 s6) (fun o7 r7 => ?_)
      refine EQ_jm r7 (fun o9 r8 => ?_) (fun o10 r9 => ?_)
      · exact EQ_some r8
      · exact EQ_some r9
  · exact EQ_some hS
noncomputable def gX14_meets (a1 : Int) (h : AH) : Option (Int × AH) := jg (isX16 (h 454 38)) <| jg (jI a1 122) <| jb2 (gX14_meets_2 (h (h 454 38 + 12) a1) (h 454 38 + 17 + a1) h) fun v2 h3 => jg (jZ v2) <| some (v2, h3)
theorem eX14_meets (a1 : Int) {h : AH} (hS : Sh S h) : EQ (fX14_meets 454 a1 h) (gX14_meets a1 h) (fun r => Sh S r.2) := by
  unfold fX14_meets gX14_meets
  refine EQ_jgd (show h 454 (-2) = 15 from by rw [k_454 hS]) ?_
  refine EQ_jg ⟨fun x0 => (ik_X16 hS).mp x0, fun x0 => (ik_X16 hS).mpr x0⟩ (fun g1 => ?_)
  refine EQ_jg ⟨fun ⟨_, x0⟩ => (show jI a1 (h (h (h 454 38) 21) (-1)) ↔ jI a1 122 from by rw [ft_X16_21 hS g1, la_X16_21 hS g1]).mp x0, fun x0 => ⟨(show h (h (h 454 38) 21) (-2) = 101 from by rw [ft_X16_21 hS g1, ka_X16_21 hS g1]), (show jI a1 (h (h (h 454 38) 21) (-1)) ↔ jI a1 122 from by rw [ft_X16_21 hS g1, la_X16_21 hS g1]).mpr x0⟩⟩ (fun g2 => ?_)
  refine EQ_jgd (show h 454 (-2) = 15 from by rw [k_454 hS]) ?_
  refine EQ_jgd (show h (h 454 38) (-2) = 17 from by rw [kd_X16 hS g1]) ?_
  refine EQ_jgd ⟨(show h (h (h 454 38) 25) (-2) = 105 from by rw [ft_X16_25 hS g1, ka_X16_25 hS g1]), ((show jI a1 (h (h (h 454 38) 25) (-1)) ↔ jI a1 122 from by rw [ft_X16_25 hS g1, la_X16_25 hS g1]).mpr g2)⟩ ?_
  refine EQ_jgd (show h 454 (-2) = 15 from by rw [k_454 hS]) ?_
  refine EQ_jb2 (by rw [ft_X16_21 hS g1, ft_X16_25 hS g1, rro_X16_25 hS g1 g2]; exact eX14_meets_2 (h (h 454 38 + 12) a1) (h 454 38 + 17 + a1) hS) (fun v2 h3 r3 => ?_)
  replace r3 : Sh S h3 := r3
  refine EQ_jg Iff.rfl (fun g4 => ?_)
  exact EQ_some r3
noncomputable def gX14_letter (a1 : Int) (h : AH) : Option (AH) := jg (jI (h 454 19) 4000) <| jl (jst h 471 (h 454 19) a1) fun h1 => jl (jst h1 454 19 (w32 (h1 454 19 + 1))) fun h2 => some h2
theorem eX14_letter (a1 : Int) {h : AH} (hS : Sh S h) : EQ (fX14_letter 454 a1 h) (gX14_letter a1 h) (fun r => Sh S r) := by
  unfold fX14_letter gX14_letter
  refine EQ_jgd (show h 454 (-2) = 15 from by rw [k_454 hS]) ?_
  refine EQ_jgd (show h 454 (-2) = 15 from by rw [k_454 hS]) ?_
  refine EQ_jg ⟨fun ⟨_, _, x0⟩ => (show jI (h 454 19) (h (h 454 18) (-1)) ↔ jI (h 454 19) 4000 from by rw [r_454_18 hS, l_471 hS]).mp x0, fun x0 => ⟨(show h (h 454 18) (-2) = 101 from by rw [r_454_18 hS, k_471 hS]), (show 200 ≤ h 454 18 from by rw [r_454_18 hS]; exact (by decide)), (show jI (h 454 19) (h (h 454 18) (-1)) ↔ jI (h 454 19) 4000 from by rw [r_454_18 hS, l_471 hS]).mpr x0⟩⟩ (fun g1 => ?_)
  refine EQ_jl (by rw [r_454_18 hS]) (fun h1 eh1 => ?_)
  have s2 := Sh_of eh1 (Sh_sta hS (by decide +kernel) (jI_nn g1) (fun e => absurd ((k_471 hS).symm.trans e) (by decide)))
  clear eh1
  refine EQ_jgd (show h1 454 (-2) = 15 from by rw [k_454 s2]) ?_
  refine EQ_jgd ⟨(show h1 454 (-2) = 15 from by rw [k_454 s2]), (show (200 : Int) ≤ 454 from (by decide))⟩ ?_
  refine EQ_jl rfl (fun h2 eh2 => ?_)
  have s3 := Sh_of eh2 (Sh_sto s2 (a := 454) (i := 19) (by decide +kernel))
  clear eh2
  exact EQ_some s3
noncomputable def gX14_say_b2 (i1 : Int) (h : AH) (a3 : Int) : Option ((Int) ⊕ (Int)) := if 0 < jcmp (w64 (a3 * 27)) i1 then (some (.inr a3)) else (jl (w64 (a3 * 27)) fun x6 => some (.inl x6))
theorem eX14_say_b2 (i1 : Int) (a3 : Int) {h : AH} (hS : Sh S h) : EQ (fX14_say_b2 454 i1 h a3) (gX14_say_b2 i1 h a3) (Sum.elim (fun _ => True) (fun _ => True)) := by
  unfold fX14_say_b2 gX14_say_b2
  refine EQ_if Iff.rfl (fun c1 => ?_) (fun c1 => ?_)
  · exact EQ_some trivial
  · refine EQ_jl rfl (fun x6 ex6 => ?_)
    clear ex6
    exact EQ_some trivial
noncomputable def gX14_say_l2 (i1 : Int) (a3 : Int) (h : AH) : Option (Int) := jit (gX14_say_b2 i1 h) a3
theorem eX14_say_l2 (i1 : Int) (a3 : Int) {h : AH} (hS : Sh S h) : EQ (fX14_say_l2 454 i1 a3 h) (gX14_say_l2 i1 a3 h) (fun _ => True) := EQ_jit (I := (fun _ => True)) (fun s _ => eX14_say_b2 i1 s hS) trivial
noncomputable def gX14_say_b21 (i1 : Int) (s : Int × AH) : Option ((Int × AH) ⊕ (AH)) := jt2 s fun a3 h => if jcmp a3 0 ≤ 0 then (some (.inr h)) else (if jcmp i1 0 ≤ 0 then (some (.inr h)) else (jg (¬ a3 = (0 : Int)) <| jb (gX14_letter (w32 (w32 (w32 (jremL (jdivL i1 a3) 27) + 97) - 1)) h) fun h10 => jl (jdivL a3 27) fun x11 => some (.inl (x11, h10))))
theorem eX14_say_b21 (i1 : Int) {s : Int × AH} (hS : (fun r => Sh S r.2) s) : EQ (fX14_say_b21 454 i1 s) (gX14_say_b21 i1 s) (Sum.elim (fun r => Sh S r.2) (fun r => Sh S r)) := by
  unfold fX14_say_b21 gX14_say_b21
  obtain ⟨a3, h⟩ := s
  refine EQ_jt2 ?_
  replace hS : Sh S h := hS
  refine EQ_if Iff.rfl (fun c1 => ?_) (fun c1 => ?_)
  · exact EQ_some hS
  · refine EQ_if Iff.rfl (fun c2 => ?_) (fun c2 => ?_)
    · exact EQ_some hS
    · refine EQ_jg Iff.rfl (fun g3 => ?_)
      refine EQ_jgd (show h 454 (-2) = 15 from by rw [k_454 hS]) ?_
      refine EQ_jb (eX14_letter (w32 (w32 (w32 (jremL (jdivL i1 a3) 27) + 97) - 1)) hS) (fun h10 r4 => ?_)
      refine EQ_jl rfl (fun x11 ex11 => ?_)
      clear ex11
      exact EQ_some r4
noncomputable def gX14_say_l21 (i1 : Int) (a3 : Int) (h : AH) : Option (AH) := jit (gX14_say_b21 i1) (a3, h)
theorem eX14_say_l21 (i1 : Int) (a3 : Int) {h : AH} (hS : Sh S h) : EQ (fX14_say_l21 454 i1 a3 h) (gX14_say_l21 i1 a3 h) (fun r => Sh S r) := EQ_jit (I := (fun r => Sh S r.2)) (fun s hs => eX14_say_b21 i1 hs) hS
noncomputable def gX14_say (a1 : Int) (h : AH) : Option (AH) := jb (gX14_say_l2 a1 1 h) fun o1 => jb (gX14_say_l21 a1 o1 h) fun o3 => some o3
theorem eX14_say (a1 : Int) {h : AH} (hS : Sh S h) : EQ (fX14_say 454 a1 h) (gX14_say a1 h) (fun r => Sh S r) := by
  unfold fX14_say gX14_say
  refine EQ_jb (eX14_say_l2 a1 1 hS) (fun o1 r1 => ?_)
  refine EQ_jb (eX14_say_l21 a1 o1 hS) (fun o3 r2 => ?_)
  exact EQ_some r2
noncomputable def gX14_text_j63 (F : Int → AH → Option (AH)) (a1 : Int) (h : AH) : Option (AH) := jg (jI a1 8800) <| jb (gX14_letter (w32 (48 + jrem (h 462 a1) 10)) h) fun h10 => some h10
theorem eX14_text_j63 {F0 : Int → Int → AH → Option (AH)} {F : Int → AH → Option (AH)} (hF : ∀ (b_a1 : Int), ∀ {b_h : AH}, Sh S b_h → EQ (F0 454 b_a1 b_h) (F b_a1 b_h) (fun r => Sh S r)) (a1 : Int) {h : AH} (hS : Sh S h) : EQ (fX14_text_j63 F0 454 a1 h) (gX14_text_j63 F a1 h) (fun r => Sh S r) := by
  unfold fX14_text_j63 gX14_text_j63
  refine EQ_jgd (show h 454 (-2) = 15 from by rw [k_454 hS]) ?_
  refine EQ_jg ⟨fun ⟨_, x0⟩ => (show jI a1 (h (h 454 8) (-1)) ↔ jI a1 8800 from by rw [r_454_8 hS, l_462 hS]).mp x0, fun x0 => ⟨(show h (h 454 8) (-2) = 101 from by rw [r_454_8 hS, k_462 hS]), (show jI a1 (h (h 454 8) (-1)) ↔ jI a1 8800 from by rw [r_454_8 hS, l_462 hS]).mpr x0⟩⟩ (fun g1 => ?_)
  refine EQ_jgd (show h 454 (-2) = 15 from by rw [k_454 hS]) ?_
  refine EQ_jb (by rw [r_454_8 hS]; exact eX14_letter (w32 (48 + jrem (h 462 a1) 10)) hS) (fun h10 r2 => ?_)
  exact EQ_some r2
noncomputable def gX14_text_j122 (F : Int → AH → Option (AH)) (t1 : Int) (h : AH) : Option (AH) := jb (gX14_say t1 h) fun h15 => some h15
theorem eX14_text_j122 {F0 : Int → Int → AH → Option (AH)} {F : Int → AH → Option (AH)} (hF : ∀ (b_a1 : Int), ∀ {b_h : AH}, Sh S b_h → EQ (F0 454 b_a1 b_h) (F b_a1 b_h) (fun r => Sh S r)) (t1 : Int) {h : AH} (hS : Sh S h) : EQ (fX14_text_j122 F0 454 t1 h) (gX14_text_j122 F t1 h) (fun r => Sh S r) := by
  unfold fX14_text_j122 gX14_text_j122
  refine EQ_jgd (show h 454 (-2) = 15 from by rw [k_454 hS]) ?_
  refine EQ_jb (eX14_say t1 hS) (fun h15 r1 => ?_)
  exact EQ_some r1
noncomputable def gX14_text_j206_186 (F : Int → AH → Option (AH)) (a1 : Int) (a2 : Int) (h : AH) : Option ((Int × AH) ⊕ (AH)) := jg (jI (w32 (w32 (3 * a1) + a2)) 26400) <| jb (F (h 464 (w32 (w32 (3 * a1) + a2))) h) fun h36 => jl (w32 (a2 + 1)) fun x37 => some (.inl (x37, h36))
theorem eX14_text_j206_186 {F0 : Int → Int → AH → Option (AH)} {F : Int → AH → Option (AH)} (hF : ∀ (b_a1 : Int), ∀ {b_h : AH}, Sh S b_h → EQ (F0 454 b_a1 b_h) (F b_a1 b_h) (fun r => Sh S r)) (a1 : Int) (a2 : Int) {h : AH} (hS : Sh S h) : EQ (fX14_text_j206_186 F0 454 a1 a2 h) (gX14_text_j206_186 F a1 a2 h) (Sum.elim (fun r => Sh S r.2) (fun r => Sh S r)) := by
  unfold fX14_text_j206_186 gX14_text_j206_186
  refine EQ_jgd (show h 454 (-2) = 15 from by rw [k_454 hS]) ?_
  refine EQ_jg ⟨fun ⟨_, x0⟩ => (show jI (w32 (w32 (3 * a1) + a2)) (h (h 454 10) (-1)) ↔ jI (w32 (w32 (3 * a1) + a2)) 26400 from by rw [r_454_10 hS, l_464 hS]).mp x0, fun x0 => ⟨(show h (h 454 10) (-2) = 101 from by rw [r_454_10 hS, k_464 hS]), (show jI (w32 (w32 (3 * a1) + a2)) (h (h 454 10) (-1)) ↔ jI (w32 (w32 (3 * a1) + a2)) 26400 from by rw [r_454_10 hS, l_464 hS]).mpr x0⟩⟩ (fun g1 => ?_)
  refine EQ_jgd (show h 454 (-2) = 15 from by rw [k_454 hS]) ?_
  refine EQ_jb (by rw [r_454_10 hS]; exact hF (h 464 (w32 (w32 (3 * a1) + a2))) hS) (fun h36 r2 => ?_)
  refine EQ_jl rfl (fun x37 ex37 => ?_)
  clear ex37
  exact EQ_some r2
noncomputable def gX14_text_b186 (F : Int → AH → Option (AH)) (i1 : Int) (s : Int × AH) : Option ((Int × AH) ⊕ (AH)) := jt2 s fun a2 h => jg (jI i1 8800) <| if h 465 i1 ≤ a2 then (some (.inr h)) else (if a2 ≤ 0 then (gX14_text_j206_186 F i1 a2 h) else (jb (gX14_letter 44 h) fun h34 => gX14_text_j206_186 F i1 a2 h34))
theorem eX14_text_b186 {F0 : Int → Int → AH → Option (AH)} {F : Int → AH → Option (AH)} (hF : ∀ (b_a1 : Int), ∀ {b_h : AH}, Sh S b_h → EQ (F0 454 b_a1 b_h) (F b_a1 b_h) (fun r => Sh S r)) (i1 : Int) {s : Int × AH} (hS : (fun r => Sh S r.2) s) : EQ (fX14_text_b186 F0 454 i1 s) (gX14_text_b186 F i1 s) (Sum.elim (fun r => Sh S r.2) (fun r => Sh S r)) := by
  unfold fX14_text_b186 gX14_text_b186
  obtain ⟨a2, h⟩ := s
  refine EQ_jt2 ?_
  replace hS : Sh S h := hS
  refine EQ_jgd (show h 454 (-2) = 15 from by rw [k_454 hS]) ?_
  refine EQ_jg ⟨fun ⟨_, x0⟩ => (show jI i1 (h (h 454 11) (-1)) ↔ jI i1 8800 from by rw [r_454_11 hS, l_465 hS]).mp x0, fun x0 => ⟨(show h (h 454 11) (-2) = 101 from by rw [r_454_11 hS, k_465 hS]), (show jI i1 (h (h 454 11) (-1)) ↔ jI i1 8800 from by rw [r_454_11 hS, l_465 hS]).mpr x0⟩⟩ (fun g1 => ?_)
  refine EQ_if (show h (h 454 11) i1 ≤ a2 ↔ h 465 i1 ≤ a2 from by rw [r_454_11 hS]) (fun c2 => ?_) (fun c2 => ?_)
  · exact EQ_some hS
  · refine EQ_if Iff.rfl (fun c3 => ?_) (fun c3 => ?_)
    · exact (eX14_text_j206_186 hF i1 a2 hS)
    · refine EQ_jgd (show h 454 (-2) = 15 from by rw [k_454 hS]) ?_
      refine EQ_jb (eX14_letter 44 hS) (fun h34 r4 => ?_)
      exact (eX14_text_j206_186 hF i1 a2 r4)
noncomputable def gX14_text_l186 (F : Int → AH → Option (AH)) (i1 : Int) (a2 : Int) (h : AH) : Option (AH) := jit (gX14_text_b186 F i1) (a2, h)
theorem eX14_text_l186 {F0 : Int → Int → AH → Option (AH)} {F : Int → AH → Option (AH)} (hF : ∀ (b_a1 : Int), ∀ {b_h : AH}, Sh S b_h → EQ (F0 454 b_a1 b_h) (F b_a1 b_h) (fun r => Sh S r)) (i1 : Int) (a2 : Int) {h : AH} (hS : Sh S h) : EQ (fX14_text_l186 F0 454 i1 a2 h) (gX14_text_l186 F i1 a2 h) (fun r => Sh S r) := EQ_jit (I := (fun r => Sh S r.2)) (fun s hs => eX14_text_b186 hF i1 hs) hS
noncomputable def gX14_text_j128 (F : Int → AH → Option (AH)) (a1 : Int) (h : AH) : Option (AH) := jg (jI a1 8800) <| if h 460 a1 = 0 then (jb (gX14_letter 34 h) fun h18 => jb (gX14_say (h18 462 a1) h18) fun h20 => jb (gX14_letter 34 h20) fun h22 => some h22) else (jg (jI (h 463 a1) 36) <| jb (gX14_say (h 455 (h 463 a1)) h) fun h24 => jb (gX14_letter 40 h24) fun h26 => jb (gX14_text_l186 F a1 0 h26) fun o27 => jb (gX14_letter 41 o27) fun h30 => some h30)
theorem eX14_text_j128 {F0 : Int → Int → AH → Option (AH)} {F : Int → AH → Option (AH)} (hF : ∀ (b_a1 : Int), ∀ {b_h : AH}, Sh S b_h → EQ (F0 454 b_a1 b_h) (F b_a1 b_h) (fun r => Sh S r)) (a1 : Int) {h : AH} (hS : Sh S h) : EQ (fX14_text_j128 F0 454 a1 h) (gX14_text_j128 F a1 h) (fun r => Sh S r) := by
  unfold fX14_text_j128 gX14_text_j128
  refine EQ_jgd (show h 454 (-2) = 15 from by rw [k_454 hS]) ?_
  refine EQ_jg ⟨fun ⟨_, x0⟩ => (show jI a1 (h (h 454 6) (-1)) ↔ jI a1 8800 from by rw [r_454_6 hS, l_460 hS]).mp x0, fun x0 => ⟨(show h (h 454 6) (-2) = 101 from by rw [r_454_6 hS, k_460 hS]), (show jI a1 (h (h 454 6) (-1)) ↔ jI a1 8800 from by rw [r_454_6 hS, l_460 hS]).mpr x0⟩⟩ (fun g1 => ?_)
  refine EQ_if (show h (h 454 6) a1 = 0 ↔ h 460 a1 = 0 from by rw [r_454_6 hS]) (fun c2 => ?_) (fun c2 => ?_)
  · refine EQ_jgd (show h 454 (-2) = 15 from by rw [k_454 hS]) ?_
    refine EQ_jb (eX14_letter 34 hS) (fun h18 r3 => ?_)
    refine EQ_jgd (show h18 454 (-2) = 15 from by rw [k_454 r3]) ?_
    refine EQ_jgd ⟨(show h18 (h18 454 8) (-2) = 101 from by rw [r_454_8 r3, k_462 r3]), ((show jI a1 (h18 (h18 454 8) (-1)) ↔ jI a1 8800 from by rw [r_454_8 r3, l_462 r3]).mpr g1)⟩ ?_
    refine EQ_jgd (show h18 454 (-2) = 15 from by rw [k_454 r3]) ?_
    refine EQ_jb (by rw [r_454_8 r3]; exact eX14_say (h18 462 a1) r3) (fun h20 r4 => ?_)
    refine EQ_jgd (show h20 454 (-2) = 15 from by rw [k_454 r4]) ?_
    refine EQ_jb (eX14_letter 34 r4) (fun h22 r5 => ?_)
    exact EQ_some r5
  · refine EQ_jgd (show h 454 (-2) = 15 from by rw [k_454 hS]) ?_
    refine EQ_jgd (show h 454 (-2) = 15 from by rw [k_454 hS]) ?_
    refine EQ_jgd ⟨(show h (h 454 9) (-2) = 101 from by rw [r_454_9 hS, k_463 hS]), ((show jI a1 (h (h 454 9) (-1)) ↔ jI a1 8800 from by rw [r_454_9 hS, l_463 hS]).mpr g1)⟩ ?_
    refine EQ_jg ⟨fun ⟨_, x0⟩ => (show jI (h (h 454 9) a1) (h (h 454 0) (-1)) ↔ jI (h 463 a1) 36 from by rw [r_454_9 hS, r_454_0 hS, l_455 hS]).mp x0, fun x0 => ⟨(show h (h 454 0) (-2) = 102 from by rw [r_454_0 hS, k_455 hS]), (show jI (h (h 454 9) a1) (h (h 454 0) (-1)) ↔ jI (h 463 a1) 36 from by rw [r_454_9 hS, r_454_0 hS, l_455 hS]).mpr x0⟩⟩ (fun g6 => ?_)
    refine EQ_jgd (show h 454 (-2) = 15 from by rw [k_454 hS]) ?_
    refine EQ_jb (by rw [r_454_0 hS, r_454_9 hS]; exact eX14_say (h 455 (h 463 a1)) hS) (fun h24 r7 => ?_)
    refine EQ_jgd (show h24 454 (-2) = 15 from by rw [k_454 r7]) ?_
    refine EQ_jb (eX14_letter 40 r7) (fun h26 r8 => ?_)
    refine EQ_jb (eX14_text_l186 hF a1 0 r8) (fun o27 r9 => ?_)
    refine EQ_jgd (show o27 454 (-2) = 15 from by rw [k_454 r9]) ?_
    refine EQ_jb (eX14_letter 41 r9) (fun h30 r10 => ?_)
    exact EQ_some r10
noncomputable def gX14_text_j82 (F : Int → AH → Option (AH)) (a1 : Int) (h : AH) : Option (AH) := jg (jI a1 8800) <| if h 460 a1 = 0 then (if h 461 a1 = 116 then (if h 462 a1 = 1 then (gX14_text_j122 F 407354 h) else (gX14_text_j122 F 3217595 h)) else (gX14_text_j128 F a1 h)) else (gX14_text_j128 F a1 h)
theorem eX14_text_j82 {F0 : Int → Int → AH → Option (AH)} {F : Int → AH → Option (AH)} (hF : ∀ (b_a1 : Int), ∀ {b_h : AH}, Sh S b_h → EQ (F0 454 b_a1 b_h) (F b_a1 b_h) (fun r => Sh S r)) (a1 : Int) {h : AH} (hS : Sh S h) : EQ (fX14_text_j82 F0 454 a1 h) (gX14_text_j82 F a1 h) (fun r => Sh S r) := by
  unfold fX14_text_j82 gX14_text_j82
  refine EQ_jgd (show h 454 (-2) = 15 from by rw [k_454 hS]) ?_
  refine EQ_jg ⟨fun ⟨_, x0⟩ => (show jI a1 (h (h 454 6) (-1)) ↔ jI a1 8800 from by rw [r_454_6 hS, l_460 hS]).mp x0, fun x0 => ⟨(show h (h 454 6) (-2) = 101 from by rw [r_454_6 hS, k_460 hS]), (show jI a1 (h (h 454 6) (-1)) ↔ jI a1 8800 from by rw [r_454_6 hS, l_460 hS]).mpr x0⟩⟩ (fun g1 => ?_)
  refine EQ_if (show h (h 454 6) a1 = 0 ↔ h 460 a1 = 0 from by rw [r_454_6 hS]) (fun c2 => ?_) (fun c2 => ?_)
  · refine EQ_jgd (show h 454 (-2) = 15 from by rw [k_454 hS]) ?_
    refine EQ_jgd ⟨(show h (h 454 7) (-2) = 101 from by rw [r_454_7 hS, k_461 hS]), ((show jI a1 (h (h 454 7) (-1)) ↔ jI a1 8800 from by rw [r_454_7 hS, l_461 hS]).mpr g1)⟩ ?_
    refine EQ_if (show h (h 454 7) a1 = 116 ↔ h 461 a1 = 116 from by rw [r_454_7 hS]) (fun c3 => ?_) (fun c3 => ?_)
    · refine EQ_jgd (show h 454 (-2) = 15 from by rw [k_454 hS]) ?_
      refine EQ_jgd ⟨(show h (h 454 8) (-2) = 101 from by rw [r_454_8 hS, k_462 hS]), ((show jI a1 (h (h 454 8) (-1)) ↔ jI a1 8800 from by rw [r_454_8 hS, l_462 hS]).mpr g1)⟩ ?_
      refine EQ_if (show h (h 454 8) a1 = 1 ↔ h 462 a1 = 1 from by rw [r_454_8 hS]) (fun c4 => ?_) (fun c4 => ?_)
      · exact (eX14_text_j122 hF 407354 hS)
      · exact (eX14_text_j122 hF 3217595 hS)
    · exact (eX14_text_j128 hF a1 hS)
  · exact (eX14_text_j128 hF a1 hS)
noncomputable def gX14_text_ (F : Int → AH → Option (AH)) (a1 : Int) (h : AH) : Option (AH) := jg (jI a1 8800) <| if h 460 a1 = 1 then (jb (gX14_letter (w32 (97 + h 462 a1)) h) fun h3 => some h3) else (if h 460 a1 = 0 then (if h 461 a1 = 110 then (if h 462 a1 ≤ 9 then (gX14_text_j63 F a1 h) else (jb (gX14_letter 49 h) fun h8 => gX14_text_j63 F a1 h8)) else (gX14_text_j82 F a1 h)) else (gX14_text_j82 F a1 h))
theorem eX14_text_ {F0 : Int → Int → AH → Option (AH)} {F : Int → AH → Option (AH)} (hF : ∀ (b_a1 : Int), ∀ {b_h : AH}, Sh S b_h → EQ (F0 454 b_a1 b_h) (F b_a1 b_h) (fun r => Sh S r)) (a1 : Int) {h : AH} (hS : Sh S h) : EQ (fX14_text_ F0 454 a1 h) (gX14_text_ F a1 h) (fun r => Sh S r) := by
  unfold fX14_text_ gX14_text_
  refine EQ_jgd (show h 454 (-2) = 15 from by rw [k_454 hS]) ?_
  refine EQ_jg ⟨fun ⟨_, x0⟩ => (show jI a1 (h (h 454 6) (-1)) ↔ jI a1 8800 from by rw [r_454_6 hS, l_460 hS]).mp x0, fun x0 => ⟨(show h (h 454 6) (-2) = 101 from by rw [r_454_6 hS, k_460 hS]), (show jI a1 (h (h 454 6) (-1)) ↔ jI a1 8800 from by rw [r_454_6 hS, l_460 hS]).mpr x0⟩⟩ (fun g1 => ?_)
  refine EQ_if (show h (h 454 6) a1 = 1 ↔ h 460 a1 = 1 from by rw [r_454_6 hS]) (fun c2 => ?_) (fun c2 => ?_)
  · refine EQ_jgd (show h 454 (-2) = 15 from by rw [k_454 hS]) ?_
    refine EQ_jgd ⟨(show h (h 454 8) (-2) = 101 from by rw [r_454_8 hS, k_462 hS]), ((show jI a1 (h (h 454 8) (-1)) ↔ jI a1 8800 from by rw [r_454_8 hS, l_462 hS]).mpr g1)⟩ ?_
    refine EQ_jgd (show h 454 (-2) = 15 from by rw [k_454 hS]) ?_
    refine EQ_jb (by rw [r_454_8 hS]; exact eX14_letter (w32 (97 + h 462 a1)) hS) (fun h3 r3 => ?_)
    exact EQ_some r3
  · refine EQ_jgd (show h 454 (-2) = 15 from by rw [k_454 hS]) ?_
    refine EQ_jgd ⟨(show h (h 454 6) (-2) = 101 from by rw [r_454_6 hS, k_460 hS]), ((show jI a1 (h (h 454 6) (-1)) ↔ jI a1 8800 from by rw [r_454_6 hS, l_460 hS]).mpr g1)⟩ ?_
    refine EQ_if (show h (h 454 6) a1 = 0 ↔ h 460 a1 = 0 from by rw [r_454_6 hS]) (fun c4 => ?_) (fun c4 => ?_)
    · refine EQ_jgd (show h 454 (-2) = 15 from by rw [k_454 hS]) ?_
      refine EQ_jgd ⟨(show h (h 454 7) (-2) = 101 from by rw [r_454_7 hS, k_461 hS]), ((show jI a1 (h (h 454 7) (-1)) ↔ jI a1 8800 from by rw [r_454_7 hS, l_461 hS]).mpr g1)⟩ ?_
      refine EQ_if (show h (h 454 7) a1 = 110 ↔ h 461 a1 = 110 from by rw [r_454_7 hS]) (fun c5 => ?_) (fun c5 => ?_)
      · refine EQ_jgd (show h 454 (-2) = 15 from by rw [k_454 hS]) ?_
        refine EQ_jgd ⟨(show h (h 454 8) (-2) = 101 from by rw [r_454_8 hS, k_462 hS]), ((show jI a1 (h (h 454 8) (-1)) ↔ jI a1 8800 from by rw [r_454_8 hS, l_462 hS]).mpr g1)⟩ ?_
        refine EQ_if (show h (h 454 8) a1 ≤ 9 ↔ h 462 a1 ≤ 9 from by rw [r_454_8 hS]) (fun c6 => ?_) (fun c6 => ?_)
        · exact (eX14_text_j63 hF a1 hS)
        · refine EQ_jgd (show h 454 (-2) = 15 from by rw [k_454 hS]) ?_
          refine EQ_jb (eX14_letter 49 hS) (fun h8 r7 => ?_)
          exact (eX14_text_j63 hF a1 r7)
      · exact (eX14_text_j82 hF a1 hS)
    · exact (eX14_text_j82 hF a1 hS)
noncomputable def gX14_textD : Nat → Int → AH → Option (AH)
  | 0 => fun _ _ => none
  | d + 1 => gX14_text_ (gX14_textD d)
theorem eX14_textD : ∀ (d : Nat) (a1 : Int) {h : AH} (hS : Sh S h) , EQ (fX14_textD d 454 a1 h) (gX14_textD d a1 h) (fun r => Sh S r) := by
  intro d
  induction d with
  | zero => intro a1 h hS; exact EQ_none
  | succ d ih => intro a1 h hS; exact eX14_text_ ih a1 hS
noncomputable def gX14_text : Int → AH → Option (AH) := gX14_textD 40
theorem eX14_text (a1 : Int) {h : AH} (hS : Sh S h) : EQ (fX14_text 454 a1 h) (gX14_text a1 h) (fun r => Sh S r) := eX14_textD 40 a1 hS
noncomputable def gX14_textOf (a1 : Int) (h : AH) : Option (Int × AH) := jl (jst h 454 19 0) fun h1 => jb (gX14_text a1 h1) fun h3 => some (h3 454 19, h3)
theorem eX14_textOf (a1 : Int) {h : AH} (hS : Sh S h) : EQ (fX14_textOf 454 a1 h) (gX14_textOf a1 h) (fun r => Sh S r.2) := by
  unfold fX14_textOf gX14_textOf
  refine EQ_jgd ⟨(show h 454 (-2) = 15 from by rw [k_454 hS]), (show (200 : Int) ≤ 454 from (by decide))⟩ ?_
  refine EQ_jl rfl (fun h1 eh1 => ?_)
  have s1 := Sh_of eh1 (Sh_sto hS (a := 454) (i := 19) (by decide +kernel))
  clear eh1
  refine EQ_jgd (show h1 454 (-2) = 15 from by rw [k_454 s1]) ?_
  refine EQ_jb (eX14_text a1 s1) (fun h3 r2 => ?_)
  refine EQ_jgd (show h3 454 (-2) = 15 from by rw [k_454 r2]) ?_
  exact EQ_some r2
noncomputable def gX14_tell_b31 (s : Int × AH) : Option ((Int × AH) ⊕ (AH)) := jt2 s fun a2 h => if 3 ≤ a2 then (some (.inr h)) else (jg (isX16 (h 454 38)) <| jg (jI a2 3) <| jl (jst h 791 a2 (h (h 454 38 + 1) a2)) fun h21 => jl (w32 (a2 + 1)) fun x22 => some (.inl (x22, h21)))
theorem eX14_tell_b31 {s : Int × AH} (hS : (fun r => Sh S r.2) s) : EQ (fX14_tell_b31 454 s) (gX14_tell_b31 s) (Sum.elim (fun r => Sh S r.2) (fun r => Sh S r)) := by
  unfold fX14_tell_b31 gX14_tell_b31
  obtain ⟨a2, h⟩ := s
  refine EQ_jt2 ?_
  replace hS : Sh S h := hS
  refine EQ_if Iff.rfl (fun c1 => ?_) (fun c1 => ?_)
  · exact EQ_some hS
  · refine EQ_jgd (show h 454 (-2) = 15 from by rw [k_454 hS]) ?_
    refine EQ_jgd (show h 454 (-2) = 15 from by rw [k_454 hS]) ?_
    refine EQ_jg ⟨fun x0 => (ik_X16 hS).mp x0, fun x0 => (ik_X16 hS).mpr x0⟩ (fun g2 => ?_)
    refine EQ_jg ⟨fun ⟨_, x0⟩ => (show jI a2 (h (h (h 454 38) 2) (-1)) ↔ jI a2 3 from by rw [ft_X16_2 hS g2, la_X16_2 hS g2]).mp x0, fun x0 => ⟨(show h (h (h 454 38) 2) (-2) = 101 from by rw [ft_X16_2 hS g2, ka_X16_2 hS g2]), (show jI a2 (h (h (h 454 38) 2) (-1)) ↔ jI a2 3 from by rw [ft_X16_2 hS g2, la_X16_2 hS g2]).mpr x0⟩⟩ (fun g3 => ?_)
    refine EQ_jgd ⟨(show h (h 454 57) (-2) = 101 from by rw [r_454_57 hS, k_791 hS]), (show 200 ≤ h 454 57 from by rw [r_454_57 hS]; exact (by decide)), ((show jI a2 (h (h 454 57) (-1)) ↔ jI a2 3 from by rw [r_454_57 hS, l_791 hS]).mpr g3)⟩ ?_
    refine EQ_jl (by rw [r_454_57 hS, ft_X16_2 hS g2]) (fun h21 eh21 => ?_)
    have s4 := Sh_of eh21 (Sh_sta hS (by decide +kernel) (jI_nn g3) (fun e => absurd ((k_791 hS).symm.trans e) (by decide)))
    clear eh21
    refine EQ_jl rfl (fun x22 ex22 => ?_)
    clear ex22
    exact EQ_some s4
noncomputable def gX14_tell_l31 (a2 : Int) (h : AH) : Option (AH) := jit gX14_tell_b31 (a2, h)
theorem eX14_tell_l31 (a2 : Int) {h : AH} (hS : Sh S h) : EQ (fX14_tell_l31 454 a2 h) (gX14_tell_l31 a2 h) (fun r => Sh S r) := EQ_jit (I := (fun r => Sh S r.2)) (fun s hs => eX14_tell_b31 hs) hS
noncomputable def gX14_tell_b80 (s : Int × AH) : Option ((Int × AH) ⊕ (AH)) := jt2 s fun a2 h => if h 454 60 ≤ a2 then (some (.inr h)) else (jg (jI a2 256) <| jl (jst h 792 a2 (h 754 a2)) fun h24 => jl (w32 (a2 + 1)) fun x25 => some (.inl (x25, h24)))
theorem eX14_tell_b80 {s : Int × AH} (hS : (fun r => Sh S r.2) s) : EQ (fX14_tell_b80 454 s) (gX14_tell_b80 s) (Sum.elim (fun r => Sh S r.2) (fun r => Sh S r)) := by
  unfold fX14_tell_b80 gX14_tell_b80
  obtain ⟨a2, h⟩ := s
  refine EQ_jt2 ?_
  replace hS : Sh S h := hS
  refine EQ_jgd (show h 454 (-2) = 15 from by rw [k_454 hS]) ?_
  refine EQ_if Iff.rfl (fun c1 => ?_) (fun c1 => ?_)
  · exact EQ_some hS
  · refine EQ_jgd (show h 454 (-2) = 15 from by rw [k_454 hS]) ?_
    refine EQ_jgd (show h 454 (-2) = 15 from by rw [k_454 hS]) ?_
    refine EQ_jg ⟨fun ⟨_, x0⟩ => (show jI a2 (h (h 454 39) (-1)) ↔ jI a2 256 from by rw [r_454_39 hS, l_754 hS]).mp x0, fun x0 => ⟨(show h (h 454 39) (-2) = 101 from by rw [r_454_39 hS, k_754 hS]), (show jI a2 (h (h 454 39) (-1)) ↔ jI a2 256 from by rw [r_454_39 hS, l_754 hS]).mpr x0⟩⟩ (fun g2 => ?_)
    refine EQ_jgd ⟨(show h (h 454 59) (-2) = 101 from by rw [r_454_59 hS, k_792 hS]), (show 200 ≤ h 454 59 from by rw [r_454_59 hS]; exact (by decide)), ((show jI a2 (h (h 454 59) (-1)) ↔ jI a2 256 from by rw [r_454_59 hS, l_792 hS]).mpr g2)⟩ ?_
    refine EQ_jl (by rw [r_454_59 hS, r_454_39 hS]) (fun h24 eh24 => ?_)
    have s3 := Sh_of eh24 (Sh_sta hS (by decide +kernel) (jI_nn g2) (fun e => absurd ((k_792 hS).symm.trans e) (by decide)))
    clear eh24
    refine EQ_jl rfl (fun x25 ex25 => ?_)
    clear ex25
    exact EQ_some s3
noncomputable def gX14_tell_l80 (a2 : Int) (h : AH) : Option (AH) := jit gX14_tell_b80 (a2, h)
theorem eX14_tell_l80 (a2 : Int) {h : AH} (hS : Sh S h) : EQ (fX14_tell_l80 454 a2 h) (gX14_tell_l80 a2 h) (fun r => Sh S r) := EQ_jit (I := (fun r => Sh S r.2)) (fun s hs => eX14_tell_b80 hs) hS
noncomputable def gX14_tell_b120 (s : Int × AH) : Option ((Int × AH) ⊕ (AH)) := jt2 s fun a2 h => if h 454 62 ≤ a2 then (some (.inr h)) else (jg (jI a2 4000) <| jl (jst h 793 a2 (h 471 a2)) fun h27 => jl (w32 (a2 + 1)) fun x28 => some (.inl (x28, h27)))
theorem eX14_tell_b120 {s : Int × AH} (hS : (fun r => Sh S r.2) s) : EQ (fX14_tell_b120 454 s) (gX14_tell_b120 s) (Sum.elim (fun r => Sh S r.2) (fun r => Sh S r)) := by
  unfold fX14_tell_b120 gX14_tell_b120
  obtain ⟨a2, h⟩ := s
  refine EQ_jt2 ?_
  replace hS : Sh S h := hS
  refine EQ_jgd (show h 454 (-2) = 15 from by rw [k_454 hS]) ?_
  refine EQ_if Iff.rfl (fun c1 => ?_) (fun c1 => ?_)
  · exact EQ_some hS
  · refine EQ_jgd (show h 454 (-2) = 15 from by rw [k_454 hS]) ?_
    refine EQ_jgd (show h 454 (-2) = 15 from by rw [k_454 hS]) ?_
    refine EQ_jg ⟨fun ⟨_, x0⟩ => (show jI a2 (h (h 454 18) (-1)) ↔ jI a2 4000 from by rw [r_454_18 hS, l_471 hS]).mp x0, fun x0 => ⟨(show h (h 454 18) (-2) = 101 from by rw [r_454_18 hS, k_471 hS]), (show jI a2 (h (h 454 18) (-1)) ↔ jI a2 4000 from by rw [r_454_18 hS, l_471 hS]).mpr x0⟩⟩ (fun g2 => ?_)
    refine EQ_jgd ⟨(show h (h 454 61) (-2) = 101 from by rw [r_454_61 hS, k_793 hS]), (show 200 ≤ h 454 61 from by rw [r_454_61 hS]; exact (by decide)), ((show jI a2 (h (h 454 61) (-1)) ↔ jI a2 4000 from by rw [r_454_61 hS, l_793 hS]).mpr g2)⟩ ?_
    refine EQ_jl (by rw [r_454_61 hS, r_454_18 hS]) (fun h27 eh27 => ?_)
    have s3 := Sh_of eh27 (Sh_sta hS (by decide +kernel) (jI_nn g2) (fun e => absurd ((k_793 hS).symm.trans e) (by decide)))
    clear eh27
    refine EQ_jl rfl (fun x28 ex28 => ?_)
    clear ex28
    exact EQ_some s3
noncomputable def gX14_tell_l120 (a2 : Int) (h : AH) : Option (AH) := jit gX14_tell_b120 (a2, h)
theorem eX14_tell_l120 (a2 : Int) {h : AH} (hS : Sh S h) : EQ (fX14_tell_l120 454 a2 h) (gX14_tell_l120 a2 h) (fun r => Sh S r) := EQ_jit (I := (fun r => Sh S r.2)) (fun s hs => eX14_tell_b120 hs) hS
noncomputable def gX14_tell (a1 : Int) (h : AH) : Option (AH) := jl (jst h 454 17 7600) fun h1 => jb2 (gX14_copy a1 (-1) (-1) h1) fun v3 h4 => jl (jst h4 454 56 v3) fun h5 => jg (isX16 (h5 454 38)) <| jl (jst h5 454 58 (h5 (h5 454 38) 3)) fun h6 => jb (gX14_tell_l31 0 h6) fun o7 => jb (gX14_function (o7 454 56) (-1) 0 o7) fun h10 => jg (isX16 (h10 454 38)) <| jl (jst h10 454 60 (h10 (h10 454 38) 18)) fun h11 => jb (gX14_tell_l80 0 h11) fun o12 => jb2 (gX14_textOf (o12 454 56) o12) fun v15 h16 => jl (jst h16 454 62 v15) fun h17 => jb (gX14_tell_l120 0 h17) fun o18 => some o18
theorem eX14_tell (a1 : Int) {h : AH} (hS : Sh S h) : EQ (fX14_tell 454 a1 h) (gX14_tell a1 h) (fun r => Sh S r) := by
  unfold fX14_tell gX14_tell
  refine EQ_jgd ⟨(show h 454 (-2) = 15 from by rw [k_454 hS]), (show (200 : Int) ≤ 454 from (by decide))⟩ ?_
  refine EQ_jl rfl (fun h1 eh1 => ?_)
  have s1 := Sh_of eh1 (Sh_sto hS (a := 454) (i := 17) (by decide +kernel))
  clear eh1
  refine EQ_jgd (show h1 454 (-2) = 15 from by rw [k_454 s1]) ?_
  refine EQ_jb2 (eX14_copy a1 (-1) (-1) s1) (fun v3 h4 r2 => ?_)
  replace r2 : Sh S h4 := r2
  refine EQ_jgd ⟨(show h4 454 (-2) = 15 from by rw [k_454 r2]), (show (200 : Int) ≤ 454 from (by decide))⟩ ?_
  refine EQ_jl rfl (fun h5 eh5 => ?_)
  have s3 := Sh_of eh5 (Sh_sto r2 (a := 454) (i := 56) (by decide +kernel))
  clear eh5
  refine EQ_jgd (show h5 454 (-2) = 15 from by rw [k_454 s3]) ?_
  refine EQ_jg ⟨fun x0 => (ik_X16 s3).mp x0, fun x0 => (ik_X16 s3).mpr x0⟩ (fun g4 => ?_)
  refine EQ_jgd ⟨(show h5 454 (-2) = 15 from by rw [k_454 s3]), (show (200 : Int) ≤ 454 from (by decide))⟩ ?_
  refine EQ_jl rfl (fun h6 eh6 => ?_)
  have s5 := Sh_of eh6 (Sh_sto s3 (a := 454) (i := 58) (by decide +kernel))
  clear eh6
  refine EQ_jb (eX14_tell_l31 0 s5) (fun o7 r6 => ?_)
  refine EQ_jgd (show o7 454 (-2) = 15 from by rw [k_454 r6]) ?_
  refine EQ_jgd (show o7 454 (-2) = 15 from by rw [k_454 r6]) ?_
  refine EQ_jb (eX14_function (o7 454 56) (-1) 0 r6) (fun h10 r7 => ?_)
  refine EQ_jgd (show h10 454 (-2) = 15 from by rw [k_454 r7]) ?_
  refine EQ_jg ⟨fun x0 => (ik_X16 r7).mp x0, fun x0 => (ik_X16 r7).mpr x0⟩ (fun g8 => ?_)
  refine EQ_jgd ⟨(show h10 454 (-2) = 15 from by rw [k_454 r7]), (show (200 : Int) ≤ 454 from (by decide))⟩ ?_
  refine EQ_jl rfl (fun h11 eh11 => ?_)
  have s9 := Sh_of eh11 (Sh_sto r7 (a := 454) (i := 60) (by decide +kernel))
  clear eh11
  refine EQ_jb (eX14_tell_l80 0 s9) (fun o12 r10 => ?_)
  refine EQ_jgd (show o12 454 (-2) = 15 from by rw [k_454 r10]) ?_
  refine EQ_jgd (show o12 454 (-2) = 15 from by rw [k_454 r10]) ?_
  refine EQ_jb2 (eX14_textOf (o12 454 56) r10) (fun v15 h16 r11 => ?_)
  replace r11 : Sh S h16 := r11
  refine EQ_jgd ⟨(show h16 454 (-2) = 15 from by rw [k_454 r11]), (show (200 : Int) ≤ 454 from (by decide))⟩ ?_
  refine EQ_jl rfl (fun h17 eh17 => ?_)
  have s12 := Sh_of eh17 (Sh_sto r11 (a := 454) (i := 62) (by decide +kernel))
  clear eh17
  refine EQ_jb (eX14_tell_l120 0 s12) (fun o18 r13 => ?_)
  exact EQ_some r13
noncomputable def gX14_find_j69_17 (a1 : Int) (a3 : Int) (a4 : Int) (h : AH) : Option ((Int × Int × AH) ⊕ (Int × AH)) := jl (w32 (a4 + 1)) fun x23 => some (.inl (a3, x23, h))
theorem eX14_find_j69_17 (a1 : Int) (a3 : Int) (a4 : Int) {h : AH} (hS : Sh S h) : EQ (fX14_find_j69_17 454 a1 a3 a4 h) (gX14_find_j69_17 a1 a3 a4 h) (Sum.elim (fun r => Sh S r.2.2) (fun r => Sh S r.2)) := by
  unfold fX14_find_j69_17 gX14_find_j69_17
  refine EQ_jl rfl (fun x23 ex23 => ?_)
  clear ex23
  exact EQ_some hS
noncomputable def gX14_find_b17 (i1 : Int) (s : Int × Int × AH) : Option ((Int × Int × AH) ⊕ (Int × AH)) := jt3 s fun a3 a4 h => jb (gX14_upTo i1 h) fun v13 => if v13 ≤ a4 then (some (.inr (a3, h))) else (jb2 (gX14_meets a4 h) fun v16 h17 => if v16 = 0 then (gX14_find_j69_17 i1 a3 a4 h17) else (if a3 < 0 then (gX14_find_j69_17 i1 a4 a4 h17) else (jg (isX16 (h17 454 38)) <| jg (jI a4 122) <| jg (jI a3 122) <| jb (gX14_order (h17 (h17 454 38 + 13) a4) (h17 (h17 454 38 + 13) a3) h17) fun v21 => if 0 ≤ v21 then (gX14_find_j69_17 i1 a3 a4 h17) else (gX14_find_j69_17 i1 a4 a4 h17))))
theorem eX14_find_b17 (i1 : Int) {s : Int × Int × AH} (hS : (fun r => Sh S r.2.2) s) : EQ (fX14_find_b17 454 i1 s) (gX14_find_b17 i1 s) (Sum.elim (fun r => Sh S r.2.2) (fun r => Sh S r.2)) := by
  unfold fX14_find_b17 gX14_find_b17
  obtain ⟨a3, a4, h⟩ := s
  refine EQ_jt3 ?_
  replace hS : Sh S h := hS
  refine EQ_jgd (show h 454 (-2) = 15 from by rw [k_454 hS]) ?_
  refine EQ_jb (eX14_upTo i1 hS) (fun v13 r1 => ?_)
  refine EQ_if Iff.rfl (fun c2 => ?_) (fun c2 => ?_)
  · exact EQ_some hS
  · refine EQ_jgd (show h 454 (-2) = 15 from by rw [k_454 hS]) ?_
    refine EQ_jb2 (eX14_meets a4 hS) (fun v16 h17 r3 => ?_)
    replace r3 : Sh S h17 := r3
    refine EQ_if Iff.rfl (fun c4 => ?_) (fun c4 => ?_)
    · exact (eX14_find_j69_17 i1 a3 a4 r3)
    · refine EQ_if Iff.rfl (fun c5 => ?_) (fun c5 => ?_)
      · exact (eX14_find_j69_17 i1 a4 a4 r3)
      · refine EQ_jgd (show h17 454 (-2) = 15 from by rw [k_454 r3]) ?_
        refine EQ_jg ⟨fun x0 => (ik_X16 r3).mp x0, fun x0 => (ik_X16 r3).mpr x0⟩ (fun g6 => ?_)
        refine EQ_jg ⟨fun ⟨_, x0⟩ => (show jI a4 (h17 (h17 (h17 454 38) 22) (-1)) ↔ jI a4 122 from by rw [ft_X16_22 r3 g6, la_X16_22 r3 g6]).mp x0, fun x0 => ⟨(show h17 (h17 (h17 454 38) 22) (-2) = 101 from by rw [ft_X16_22 r3 g6, ka_X16_22 r3 g6]), (show jI a4 (h17 (h17 (h17 454 38) 22) (-1)) ↔ jI a4 122 from by rw [ft_X16_22 r3 g6, la_X16_22 r3 g6]).mpr x0⟩⟩ (fun g7 => ?_)
        refine EQ_jgd (show h17 454 (-2) = 15 from by rw [k_454 r3]) ?_
        refine EQ_jgd (show h17 (h17 454 38) (-2) = 17 from by rw [kd_X16 r3 g6]) ?_
        refine EQ_jg ⟨fun ⟨_, x0⟩ => (show jI a3 (h17 (h17 (h17 454 38) 22) (-1)) ↔ jI a3 122 from by rw [ft_X16_22 r3 g6, la_X16_22 r3 g6]).mp x0, fun x0 => ⟨(show h17 (h17 (h17 454 38) 22) (-2) = 101 from by rw [ft_X16_22 r3 g6, ka_X16_22 r3 g6]), (show jI a3 (h17 (h17 (h17 454 38) 22) (-1)) ↔ jI a3 122 from by rw [ft_X16_22 r3 g6, la_X16_22 r3 g6]).mpr x0⟩⟩ (fun g8 => ?_)
        refine EQ_jgd (show h17 454 (-2) = 15 from by rw [k_454 r3]) ?_
        refine EQ_jb (by rw [ft_X16_22 r3 g6]; exact eX14_order (h17 (h17 454 38 + 13) a4) (h17 (h17 454 38 + 13) a3) r3) (fun v21 r9 => ?_)
        refine EQ_if Iff.rfl (fun c10 => ?_) (fun c10 => ?_)
        · exact (eX14_find_j69_17 i1 a3 a4 r3)
        · exact (eX14_find_j69_17 i1 a4 a4 r3)
noncomputable def gX14_find_l17 (i1 : Int) (a3 : Int) (a4 : Int) (h : AH) : Option (Int × AH) := jit (gX14_find_b17 i1) (a3, a4, h)
theorem eX14_find_l17 (i1 : Int) (a3 : Int) (a4 : Int) {h : AH} (hS : Sh S h) : EQ (fX14_find_l17 454 i1 a3 a4 h) (gX14_find_l17 i1 a3 a4 h) (fun r => Sh S r.2) := EQ_jit (I := (fun r => Sh S r.2.2)) (fun s hs => eX14_find_b17 i1 hs) hS
noncomputable def gX14_find (a1 : Int) (h : AH) : Option (Int × AH) := jb2 (gX14_refusal a1 h) fun v2 h3 => if 0 ≤ v2 then (jb (gX14_find_l17 a1 (-1) 0 h3) fun o5 => jt2 o5 fun y7 h8 => if 0 ≤ y7 then (jg (isX16 (h8 454 38)) <| jg (jI y7 122) <| jb (gX14_tell (h8 (h8 454 38 + 13) y7) h8) fun h11 => jg (isX16 (h11 454 38)) <| some (h11 (h11 454 38 + 14) y7, h11)) else (some (0, h8))) else (some (v2, h3))
theorem eX14_find (a1 : Int) {h : AH} (hS : Sh S h) : EQ (fX14_find 454 a1 h) (gX14_find a1 h) (fun r => Sh S r.2) := by
  unfold fX14_find gX14_find
  refine EQ_jgd (show h 454 (-2) = 15 from by rw [k_454 hS]) ?_
  refine EQ_jb2 (eX14_refusal a1 hS) (fun v2 h3 r1 => ?_)
  replace r1 : Sh S h3 := r1
  refine EQ_if Iff.rfl (fun c2 => ?_) (fun c2 => ?_)
  · refine EQ_jb (eX14_find_l17 a1 (-1) 0 r1) (fun o5 r3 => ?_)
    obtain ⟨y7, h8⟩ := o5
    refine EQ_jt2 ?_
    replace r3 : Sh S h8 := r3
    refine EQ_if Iff.rfl (fun c4 => ?_) (fun c4 => ?_)
    · refine EQ_jgd (show h8 454 (-2) = 15 from by rw [k_454 r3]) ?_
      refine EQ_jg ⟨fun x0 => (ik_X16 r3).mp x0, fun x0 => (ik_X16 r3).mpr x0⟩ (fun g5 => ?_)
      refine EQ_jg ⟨fun ⟨_, x0⟩ => (show jI y7 (h8 (h8 (h8 454 38) 22) (-1)) ↔ jI y7 122 from by rw [ft_X16_22 r3 g5, la_X16_22 r3 g5]).mp x0, fun x0 => ⟨(show h8 (h8 (h8 454 38) 22) (-2) = 101 from by rw [ft_X16_22 r3 g5, ka_X16_22 r3 g5]), (show jI y7 (h8 (h8 (h8 454 38) 22) (-1)) ↔ jI y7 122 from by rw [ft_X16_22 r3 g5, la_X16_22 r3 g5]).mpr x0⟩⟩ (fun g6 => ?_)
      refine EQ_jgd (show h8 454 (-2) = 15 from by rw [k_454 r3]) ?_
      refine EQ_jb (by rw [ft_X16_22 r3 g5]; exact eX14_tell (h8 (h8 454 38 + 13) y7) r3) (fun h11 r7 => ?_)
      refine EQ_jgd (show h11 454 (-2) = 15 from by rw [k_454 r7]) ?_
      refine EQ_jg ⟨fun x0 => (ik_X16 r7).mp x0, fun x0 => (ik_X16 r7).mpr x0⟩ (fun g8 => ?_)
      refine EQ_jgd ⟨(show h11 (h11 (h11 454 38) 23) (-2) = 101 from by rw [ft_X16_23 r7 g8, ka_X16_23 r7 g8]), ((show jI y7 (h11 (h11 (h11 454 38) 23) (-1)) ↔ jI y7 122 from by rw [ft_X16_23 r7 g8, la_X16_23 r7 g8]).mpr g6)⟩ ?_
      exact EQ_some' (by rw [ft_X16_23 r7 g8]) r7
    · exact EQ_some r3
  · exact EQ_some r1
noncomputable def gX14_kindNumber (a0 : Int) : Option (Int) := if a0 = 110 then (some 0) else (if a0 = 116 then (some 1) else (some 2))
theorem eX14_kindNumber (a0 : Int) : EQ (fX14_kindNumber a0) (gX14_kindNumber a0) (fun _ => True) := by
  unfold fX14_kindNumber gX14_kindNumber
  refine EQ_if Iff.rfl (fun c1 => ?_) (fun c1 => ?_)
  · exact EQ_some trivial
  · refine EQ_if Iff.rfl (fun c2 => ?_) (fun c2 => ?_)
    · exact EQ_some trivial
    · exact EQ_some trivial
noncomputable def gX14_startAnew_b2 (s : Int × AH) : Option ((Int × AH) ⊕ (AH)) := jt2 s fun a1 h => if 518400 ≤ a1 then (some (.inr h)) else (jg (jI a1 518400) <| jl (jst h 786 a1 (-2)) fun h10 => jl (w32 (a1 + 1)) fun x11 => some (.inl (x11, h10)))
theorem eX14_startAnew_b2 {s : Int × AH} (hS : (fun r => Sh S r.2) s) : EQ (fX14_startAnew_b2 454 s) (gX14_startAnew_b2 s) (Sum.elim (fun r => Sh S r.2) (fun r => Sh S r)) := by
  unfold fX14_startAnew_b2 gX14_startAnew_b2
  obtain ⟨a1, h⟩ := s
  refine EQ_jt2 ?_
  replace hS : Sh S h := hS
  refine EQ_if Iff.rfl (fun c1 => ?_) (fun c1 => ?_)
  · exact EQ_some hS
  · refine EQ_jgd (show h 454 (-2) = 15 from by rw [k_454 hS]) ?_
    refine EQ_jg ⟨fun ⟨_, _, x0⟩ => (show jI a1 (h (h 454 45) (-1)) ↔ jI a1 518400 from by rw [r_454_45 hS, l_786 hS]).mp x0, fun x0 => ⟨(show h (h 454 45) (-2) = 101 from by rw [r_454_45 hS, k_786 hS]), (show 200 ≤ h 454 45 from by rw [r_454_45 hS]; exact (by decide)), (show jI a1 (h (h 454 45) (-1)) ↔ jI a1 518400 from by rw [r_454_45 hS, l_786 hS]).mpr x0⟩⟩ (fun g2 => ?_)
    refine EQ_jl (by rw [r_454_45 hS]) (fun h10 eh10 => ?_)
    have s3 := Sh_of eh10 (Sh_sta hS (by decide +kernel) (jI_nn g2) (fun e => absurd ((k_786 hS).symm.trans e) (by decide)))
    clear eh10
    refine EQ_jl rfl (fun x11 ex11 => ?_)
    clear ex11
    exact EQ_some s3
noncomputable def gX14_startAnew_l2 (a1 : Int) (h : AH) : Option (AH) := jit gX14_startAnew_b2 (a1, h)
theorem eX14_startAnew_l2 (a1 : Int) {h : AH} (hS : Sh S h) : EQ (fX14_startAnew_l2 454 a1 h) (gX14_startAnew_l2 a1 h) (fun r => Sh S r) := EQ_jit (I := (fun r => Sh S r.2)) (fun s hs => eX14_startAnew_b2 hs) hS
noncomputable def gX14_startAnew_b24 (s : Int × AH) : Option ((Int × AH) ⊕ (AH)) := jt2 s fun a1 h => if 256000 ≤ a1 then (some (.inr h)) else (jg (jI a1 256000) <| jl (jst h 787 a1 (-2)) fun h13 => jl (w32 (a1 + 1)) fun x14 => some (.inl (x14, h13)))
theorem eX14_startAnew_b24 {s : Int × AH} (hS : (fun r => Sh S r.2) s) : EQ (fX14_startAnew_b24 454 s) (gX14_startAnew_b24 s) (Sum.elim (fun r => Sh S r.2) (fun r => Sh S r)) := by
  unfold fX14_startAnew_b24 gX14_startAnew_b24
  obtain ⟨a1, h⟩ := s
  refine EQ_jt2 ?_
  replace hS : Sh S h := hS
  refine EQ_if Iff.rfl (fun c1 => ?_) (fun c1 => ?_)
  · exact EQ_some hS
  · refine EQ_jgd (show h 454 (-2) = 15 from by rw [k_454 hS]) ?_
    refine EQ_jg ⟨fun ⟨_, _, x0⟩ => (show jI a1 (h (h 454 46) (-1)) ↔ jI a1 256000 from by rw [r_454_46 hS, l_787 hS]).mp x0, fun x0 => ⟨(show h (h 454 46) (-2) = 101 from by rw [r_454_46 hS, k_787 hS]), (show 200 ≤ h 454 46 from by rw [r_454_46 hS]; exact (by decide)), (show jI a1 (h (h 454 46) (-1)) ↔ jI a1 256000 from by rw [r_454_46 hS, l_787 hS]).mpr x0⟩⟩ (fun g2 => ?_)
    refine EQ_jl (by rw [r_454_46 hS]) (fun h13 eh13 => ?_)
    have s3 := Sh_of eh13 (Sh_sta hS (by decide +kernel) (jI_nn g2) (fun e => absurd ((k_787 hS).symm.trans e) (by decide)))
    clear eh13
    refine EQ_jl rfl (fun x14 ex14 => ?_)
    clear ex14
    exact EQ_some s3
noncomputable def gX14_startAnew_l24 (a1 : Int) (h : AH) : Option (AH) := jit gX14_startAnew_b24 (a1, h)
theorem eX14_startAnew_l24 (a1 : Int) {h : AH} (hS : Sh S h) : EQ (fX14_startAnew_l24 454 a1 h) (gX14_startAnew_l24 a1 h) (fun r => Sh S r) := EQ_jit (I := (fun r => Sh S r.2)) (fun s hs => eX14_startAnew_b24 hs) hS
noncomputable def gX14_startAnew_b46 (s : Int × AH) : Option ((Int × AH) ⊕ (AH)) := jt2 s fun a1 h => if 3 ≤ a1 then (some (.inr h)) else (jg (jI a1 3) <| jl (jst h 789 a1 0) fun h16 => jl (w32 (a1 + 1)) fun x17 => some (.inl (x17, h16)))
theorem eX14_startAnew_b46 {s : Int × AH} (hS : (fun r => Sh S r.2) s) : EQ (fX14_startAnew_b46 454 s) (gX14_startAnew_b46 s) (Sum.elim (fun r => Sh S r.2) (fun r => Sh S r)) := by
  unfold fX14_startAnew_b46 gX14_startAnew_b46
  obtain ⟨a1, h⟩ := s
  refine EQ_jt2 ?_
  replace hS : Sh S h := hS
  refine EQ_if Iff.rfl (fun c1 => ?_) (fun c1 => ?_)
  · exact EQ_some hS
  · refine EQ_jgd (show h 454 (-2) = 15 from by rw [k_454 hS]) ?_
    refine EQ_jg ⟨fun ⟨_, _, x0⟩ => (show jI a1 (h (h 454 48) (-1)) ↔ jI a1 3 from by rw [r_454_48 hS, l_789 hS]).mp x0, fun x0 => ⟨(show h (h 454 48) (-2) = 101 from by rw [r_454_48 hS, k_789 hS]), (show 200 ≤ h 454 48 from by rw [r_454_48 hS]; exact (by decide)), (show jI a1 (h (h 454 48) (-1)) ↔ jI a1 3 from by rw [r_454_48 hS, l_789 hS]).mpr x0⟩⟩ (fun g2 => ?_)
    refine EQ_jl (by rw [r_454_48 hS]) (fun h16 eh16 => ?_)
    have s3 := Sh_of eh16 (Sh_sta hS (by decide +kernel) (jI_nn g2) (fun e => absurd ((k_789 hS).symm.trans e) (by decide)))
    clear eh16
    refine EQ_jl rfl (fun x17 ex17 => ?_)
    clear ex17
    exact EQ_some s3
noncomputable def gX14_startAnew_l46 (a1 : Int) (h : AH) : Option (AH) := jit gX14_startAnew_b46 (a1, h)
theorem eX14_startAnew_l46 (a1 : Int) {h : AH} (hS : Sh S h) : EQ (fX14_startAnew_l46 454 a1 h) (gX14_startAnew_l46 a1 h) (fun r => Sh S r) := EQ_jit (I := (fun r => Sh S r.2)) (fun s hs => eX14_startAnew_b46 hs) hS
noncomputable def gX14_startAnew_b66 (s : Int × AH) : Option ((Int × AH) ⊕ (AH)) := jt2 s fun a1 h => if h 454 44 ≤ a1 then (some (.inr h)) else (jg (isX16 (h 454 38)) <| jg (jI a1 122) <| jb (gX14_kindNumber (h (h 454 38 + 12) a1)) fun v20 => jg (jI v20 3) <| jl (jst h 788 a1 (h 789 v20)) fun h21 => jl (jst h21 789 v20 (w32 (h21 789 v20 + 1))) fun h22 => jl (w32 (a1 + 1)) fun x23 => some (.inl (x23, h22)))
theorem eX14_startAnew_b66 {s : Int × AH} (hS : (fun r => Sh S r.2) s) : EQ (fX14_startAnew_b66 454 s) (gX14_startAnew_b66 s) (Sum.elim (fun r => Sh S r.2) (fun r => Sh S r)) := by
  unfold fX14_startAnew_b66 gX14_startAnew_b66
  obtain ⟨a1, h⟩ := s
  refine EQ_jt2 ?_
  replace hS : Sh S h := hS
  refine EQ_jgd (show h 454 (-2) = 15 from by rw [k_454 hS]) ?_
  refine EQ_if Iff.rfl (fun c1 => ?_) (fun c1 => ?_)
  · exact EQ_some hS
  · refine EQ_jgd (show h 454 (-2) = 15 from by rw [k_454 hS]) ?_
    refine EQ_jg ⟨fun x0 => (ik_X16 hS).mp x0, fun x0 => (ik_X16 hS).mpr x0⟩ (fun g2 => ?_)
    refine EQ_jg ⟨fun ⟨_, x0⟩ => (show jI a1 (h (h (h 454 38) 21) (-1)) ↔ jI a1 122 from by rw [ft_X16_21 hS g2, la_X16_21 hS g2]).mp x0, fun x0 => ⟨(show h (h (h 454 38) 21) (-2) = 101 from by rw [ft_X16_21 hS g2, ka_X16_21 hS g2]), (show jI a1 (h (h (h 454 38) 21) (-1)) ↔ jI a1 122 from by rw [ft_X16_21 hS g2, la_X16_21 hS g2]).mpr x0⟩⟩ (fun g3 => ?_)
    refine EQ_jb (by rw [ft_X16_21 hS g2]; exact eX14_kindNumber (h (h 454 38 + 12) a1)) (fun v20 r4 => ?_)
    refine EQ_jgd (show h 454 (-2) = 15 from by rw [k_454 hS]) ?_
    refine EQ_jgd (show h 454 (-2) = 15 from by rw [k_454 hS]) ?_
    refine EQ_jg ⟨fun ⟨_, x0⟩ => (show jI v20 (h (h 454 48) (-1)) ↔ jI v20 3 from by rw [r_454_48 hS, l_789 hS]).mp x0, fun x0 => ⟨(show h (h 454 48) (-2) = 101 from by rw [r_454_48 hS, k_789 hS]), (show jI v20 (h (h 454 48) (-1)) ↔ jI v20 3 from by rw [r_454_48 hS, l_789 hS]).mpr x0⟩⟩ (fun g5 => ?_)
    refine EQ_jgd ⟨(show h (h 454 47) (-2) = 101 from by rw [r_454_47 hS, k_788 hS]), (show 200 ≤ h 454 47 from by rw [r_454_47 hS]; exact (by decide)), ((show jI a1 (h (h 454 47) (-1)) ↔ jI a1 122 from by rw [r_454_47 hS, l_788 hS]).mpr g3)⟩ ?_
    refine EQ_jl (by rw [r_454_47 hS, r_454_48 hS]) (fun h21 eh21 => ?_)
    have s6 := Sh_of eh21 (Sh_sta hS (by decide +kernel) (jI_nn g3) (fun e => absurd ((k_788 hS).symm.trans e) (by decide)))
    clear eh21
    refine EQ_jgd (show h21 454 (-2) = 15 from by rw [k_454 s6]) ?_
    refine EQ_jgd ⟨(show h21 (h21 454 48) (-2) = 101 from by rw [r_454_48 s6, k_789 s6]), ((show jI v20 (h21 (h21 454 48) (-1)) ↔ jI v20 3 from by rw [r_454_48 s6, l_789 s6]).mpr g5)⟩ ?_
    refine EQ_jgd ⟨(show h21 (h21 454 48) (-2) = 101 from by rw [r_454_48 s6, k_789 s6]), (show 200 ≤ h21 454 48 from by rw [r_454_48 s6]; exact (by decide)), ((show jI v20 (h21 (h21 454 48) (-1)) ↔ jI v20 3 from by rw [r_454_48 s6, l_789 s6]).mpr g5)⟩ ?_
    refine EQ_jl (by rw [r_454_48 s6]) (fun h22 eh22 => ?_)
    have s7 := Sh_of eh22 (Sh_sta s6 (by decide +kernel) (jI_nn g5) (fun e => absurd ((k_789 s6).symm.trans e) (by decide)))
    clear eh22
    refine EQ_jl rfl (fun x23 ex23 => ?_)
    clear ex23
    exact EQ_some s7
noncomputable def gX14_startAnew_l66 (a1 : Int) (h : AH) : Option (AH) := jit gX14_startAnew_b66 (a1, h)
theorem eX14_startAnew_l66 (a1 : Int) {h : AH} (hS : Sh S h) : EQ (fX14_startAnew_l66 454 a1 h) (gX14_startAnew_l66 a1 h) (fun r => Sh S r) := EQ_jit (I := (fun r => Sh S r.2)) (fun s hs => eX14_startAnew_b66 hs) hS
noncomputable def gX14_startAnew (h : AH) : Option (AH) := jb (gX14_startAnew_l2 0 h) fun o1 => jb (gX14_startAnew_l24 0 o1) fun o3 => jb (gX14_startAnew_l46 0 o3) fun o5 => jb (gX14_startAnew_l66 0 o5) fun o7 => some o7
theorem eX14_startAnew {h : AH} (hS : Sh S h) : EQ (fX14_startAnew 454 h) (gX14_startAnew h) (fun r => Sh S r) := by
  unfold fX14_startAnew gX14_startAnew
  refine EQ_jb (eX14_startAnew_l2 0 hS) (fun o1 r1 => ?_)
  refine EQ_jb (eX14_startAnew_l24 0 r1) (fun o3 r2 => ?_)
  refine EQ_jb (eX14_startAnew_l46 0 r2) (fun o5 r3 => ?_)
  refine EQ_jb (eX14_startAnew_l66 0 r3) (fun o7 r4 => ?_)
  exact EQ_some r4
noncomputable def gX14_leafFunction_b2 (i1 : Int) (s : Int × AH) : Option ((Int × AH) ⊕ (AH)) := jt2 s fun a2 h => jg (isX16 (h 454 38)) <| if h (h 454 38) 18 ≤ a2 then (some (.inr h)) else (jg (jI (w32 (w32 (3 * a2) + i1)) 768) <| jg (jI a2 256) <| jl (jst h 754 a2 (h (h 454 38 + 11) (w32 (w32 (3 * a2) + i1)))) fun h6 => jl (w32 (a2 + 1)) fun x7 => some (.inl (x7, h6)))
theorem eX14_leafFunction_b2 (i1 : Int) {s : Int × AH} (hS : (fun r => Sh S r.2) s) : EQ (fX14_leafFunction_b2 454 i1 s) (gX14_leafFunction_b2 i1 s) (Sum.elim (fun r => Sh S r.2) (fun r => Sh S r)) := by
  unfold fX14_leafFunction_b2 gX14_leafFunction_b2
  obtain ⟨a2, h⟩ := s
  refine EQ_jt2 ?_
  replace hS : Sh S h := hS
  refine EQ_jgd (show h 454 (-2) = 15 from by rw [k_454 hS]) ?_
  refine EQ_jg ⟨fun x0 => (ik_X16 hS).mp x0, fun x0 => (ik_X16 hS).mpr x0⟩ (fun g1 => ?_)
  refine EQ_if Iff.rfl (fun c2 => ?_) (fun c2 => ?_)
  · exact EQ_some hS
  · refine EQ_jgd (show h 454 (-2) = 15 from by rw [k_454 hS]) ?_
    refine EQ_jgd (show h 454 (-2) = 15 from by rw [k_454 hS]) ?_
    refine EQ_jgd (show h (h 454 38) (-2) = 17 from by rw [kd_X16 hS g1]) ?_
    refine EQ_jg ⟨fun ⟨_, x0⟩ => (show jI (w32 (w32 (3 * a2) + i1)) (h (h (h 454 38) 19) (-1)) ↔ jI (w32 (w32 (3 * a2) + i1)) 768 from by rw [ft_X16_19 hS g1, la_X16_19 hS g1]).mp x0, fun x0 => ⟨(show h (h (h 454 38) 19) (-2) = 101 from by rw [ft_X16_19 hS g1, ka_X16_19 hS g1]), (show jI (w32 (w32 (3 * a2) + i1)) (h (h (h 454 38) 19) (-1)) ↔ jI (w32 (w32 (3 * a2) + i1)) 768 from by rw [ft_X16_19 hS g1, la_X16_19 hS g1]).mpr x0⟩⟩ (fun g3 => ?_)
    refine EQ_jg ⟨fun ⟨_, _, x0⟩ => (show jI a2 (h (h 454 39) (-1)) ↔ jI a2 256 from by rw [r_454_39 hS, l_754 hS]).mp x0, fun x0 => ⟨(show h (h 454 39) (-2) = 101 from by rw [r_454_39 hS, k_754 hS]), (show 200 ≤ h 454 39 from by rw [r_454_39 hS]; exact (by decide)), (show jI a2 (h (h 454 39) (-1)) ↔ jI a2 256 from by rw [r_454_39 hS, l_754 hS]).mpr x0⟩⟩ (fun g4 => ?_)
    refine EQ_jl (by rw [r_454_39 hS, ft_X16_19 hS g1]) (fun h6 eh6 => ?_)
    have s5 := Sh_of eh6 (Sh_sta hS (by decide +kernel) (jI_nn g4) (fun e => absurd ((k_754 hS).symm.trans e) (by decide)))
    clear eh6
    refine EQ_jl rfl (fun x7 ex7 => ?_)
    clear ex7
    exact EQ_some s5
noncomputable def gX14_leafFunction_l2 (i1 : Int) (a2 : Int) (h : AH) : Option (AH) := jit (gX14_leafFunction_b2 i1) (a2, h)
theorem eX14_leafFunction_l2 (i1 : Int) (a2 : Int) {h : AH} (hS : Sh S h) : EQ (fX14_leafFunction_l2 454 i1 a2 h) (gX14_leafFunction_l2 i1 a2 h) (fun r => Sh S r) := EQ_jit (I := (fun r => Sh S r.2)) (fun s hs => eX14_leafFunction_b2 i1 hs) hS
noncomputable def gX14_leafFunction (a1 : Int) (h : AH) : Option (Int × AH) := jb (gX14_leafFunction_l2 a1 0 h) fun o1 => jg (isX16 (o1 454 38)) <| jg (jI a1 3) <| jb (gX14_indexOf (o1 (o1 454 38 + 1) a1) (o1 (o1 454 38) 20) o1) fun v4 => some (v4, o1)
theorem eX14_leafFunction (a1 : Int) {h : AH} (hS : Sh S h) : EQ (fX14_leafFunction 454 a1 h) (gX14_leafFunction a1 h) (fun r => Sh S r.2) := by
  unfold fX14_leafFunction gX14_leafFunction
  refine EQ_jb (eX14_leafFunction_l2 a1 0 hS) (fun o1 r1 => ?_)
  refine EQ_jgd (show o1 454 (-2) = 15 from by rw [k_454 r1]) ?_
  refine EQ_jg ⟨fun x0 => (ik_X16 r1).mp x0, fun x0 => (ik_X16 r1).mpr x0⟩ (fun g2 => ?_)
  refine EQ_jg ⟨fun ⟨_, x0⟩ => (show jI a1 (o1 (o1 (o1 454 38) 2) (-1)) ↔ jI a1 3 from by rw [ft_X16_2 r1 g2, la_X16_2 r1 g2]).mp x0, fun x0 => ⟨(show o1 (o1 (o1 454 38) 2) (-2) = 101 from by rw [ft_X16_2 r1 g2, ka_X16_2 r1 g2]), (show jI a1 (o1 (o1 (o1 454 38) 2) (-1)) ↔ jI a1 3 from by rw [ft_X16_2 r1 g2, la_X16_2 r1 g2]).mpr x0⟩⟩ (fun g3 => ?_)
  refine EQ_jgd (show o1 454 (-2) = 15 from by rw [k_454 r1]) ?_
  refine EQ_jgd (show o1 (o1 454 38) (-2) = 17 from by rw [kd_X16 r1 g2]) ?_
  refine EQ_jgd (show o1 454 (-2) = 15 from by rw [k_454 r1]) ?_
  refine EQ_jb (by rw [ft_X16_2 r1 g2]; exact eX14_indexOf (o1 (o1 454 38 + 1) a1) (o1 (o1 454 38) 20) r1) (fun v4 r4 => ?_)
  exact EQ_some r1
noncomputable def gX14_valueFunction_b2 (i1 : Int) (s : Int × AH) : Option ((Int × AH) ⊕ (AH)) := jt2 s fun a2 h => jg (isX16 (h 454 38)) <| if h (h 454 38) 18 ≤ a2 then (some (.inr h)) else (jg (jI i1 13) <| jg (jI (h (h 454 38 + 2) i1) 8800) <| jg (jI a2 256) <| jl (jst h 754 a2 (h 462 (h (h 454 38 + 2) i1))) fun h6 => jl (w32 (a2 + 1)) fun x7 => some (.inl (x7, h6)))
theorem eX14_valueFunction_b2 (i1 : Int) {s : Int × AH} (hS : (fun r => Sh S r.2) s) : EQ (fX14_valueFunction_b2 454 i1 s) (gX14_valueFunction_b2 i1 s) (Sum.elim (fun r => Sh S r.2) (fun r => Sh S r)) := by
  unfold fX14_valueFunction_b2 gX14_valueFunction_b2
  obtain ⟨a2, h⟩ := s
  refine EQ_jt2 ?_
  replace hS : Sh S h := hS
  refine EQ_jgd (show h 454 (-2) = 15 from by rw [k_454 hS]) ?_
  refine EQ_jg ⟨fun x0 => (ik_X16 hS).mp x0, fun x0 => (ik_X16 hS).mpr x0⟩ (fun g1 => ?_)
  refine EQ_if Iff.rfl (fun c2 => ?_) (fun c2 => ?_)
  · exact EQ_some hS
  · refine EQ_jgd (show h 454 (-2) = 15 from by rw [k_454 hS]) ?_
    refine EQ_jgd (show h 454 (-2) = 15 from by rw [k_454 hS]) ?_
    refine EQ_jgd (show h 454 (-2) = 15 from by rw [k_454 hS]) ?_
    refine EQ_jgd (show h (h 454 38) (-2) = 17 from by rw [kd_X16 hS g1]) ?_
    refine EQ_jg ⟨fun ⟨_, x0⟩ => (show jI i1 (h (h (h 454 38) 6) (-1)) ↔ jI i1 13 from by rw [ft_X16_6 hS g1, la_X16_6 hS g1]).mp x0, fun x0 => ⟨(show h (h (h 454 38) 6) (-2) = 101 from by rw [ft_X16_6 hS g1, ka_X16_6 hS g1]), (show jI i1 (h (h (h 454 38) 6) (-1)) ↔ jI i1 13 from by rw [ft_X16_6 hS g1, la_X16_6 hS g1]).mpr x0⟩⟩ (fun g3 => ?_)
    refine EQ_jg ⟨fun ⟨_, x0⟩ => (show jI (h (h (h 454 38) 6) i1) (h (h 454 8) (-1)) ↔ jI (h (h 454 38 + 2) i1) 8800 from by rw [ft_X16_6 hS g1, r_454_8 hS, l_462 hS]).mp x0, fun x0 => ⟨(show h (h 454 8) (-2) = 101 from by rw [r_454_8 hS, k_462 hS]), (show jI (h (h (h 454 38) 6) i1) (h (h 454 8) (-1)) ↔ jI (h (h 454 38 + 2) i1) 8800 from by rw [ft_X16_6 hS g1, r_454_8 hS, l_462 hS]).mpr x0⟩⟩ (fun g4 => ?_)
    refine EQ_jg ⟨fun ⟨_, _, x0⟩ => (show jI a2 (h (h 454 39) (-1)) ↔ jI a2 256 from by rw [r_454_39 hS, l_754 hS]).mp x0, fun x0 => ⟨(show h (h 454 39) (-2) = 101 from by rw [r_454_39 hS, k_754 hS]), (show 200 ≤ h 454 39 from by rw [r_454_39 hS]; exact (by decide)), (show jI a2 (h (h 454 39) (-1)) ↔ jI a2 256 from by rw [r_454_39 hS, l_754 hS]).mpr x0⟩⟩ (fun g5 => ?_)
    refine EQ_jl (by rw [r_454_39 hS, r_454_8 hS, ft_X16_6 hS g1]) (fun h6 eh6 => ?_)
    have s6 := Sh_of eh6 (Sh_sta hS (by decide +kernel) (jI_nn g5) (fun e => absurd ((k_754 hS).symm.trans e) (by decide)))
    clear eh6
    refine EQ_jl rfl (fun x7 ex7 => ?_)
    clear ex7
    exact EQ_some s6
noncomputable def gX14_valueFunction_l2 (i1 : Int) (a2 : Int) (h : AH) : Option (AH) := jit (gX14_valueFunction_b2 i1) (a2, h)
theorem eX14_valueFunction_l2 (i1 : Int) (a2 : Int) {h : AH} (hS : Sh S h) : EQ (fX14_valueFunction_l2 454 i1 a2 h) (gX14_valueFunction_l2 i1 a2 h) (fun r => Sh S r) := EQ_jit (I := (fun r => Sh S r.2)) (fun s hs => eX14_valueFunction_b2 i1 hs) hS
noncomputable def gX14_valueFunction (a1 : Int) (h : AH) : Option (Int × AH) := jb (gX14_valueFunction_l2 a1 0 h) fun o1 => jg (isX16 (o1 454 38)) <| jg (jI a1 13) <| jg (jI (o1 (o1 454 38 + 2) a1) 8800) <| jb (gX14_indexOf (o1 461 (o1 (o1 454 38 + 2) a1)) (o1 (o1 454 38) 20) o1) fun v4 => some (v4, o1)
theorem eX14_valueFunction (a1 : Int) {h : AH} (hS : Sh S h) : EQ (fX14_valueFunction 454 a1 h) (gX14_valueFunction a1 h) (fun r => Sh S r.2) := by
  unfold fX14_valueFunction gX14_valueFunction
  refine EQ_jb (eX14_valueFunction_l2 a1 0 hS) (fun o1 r1 => ?_)
  refine EQ_jgd (show o1 454 (-2) = 15 from by rw [k_454 r1]) ?_
  refine EQ_jgd (show o1 454 (-2) = 15 from by rw [k_454 r1]) ?_
  refine EQ_jg ⟨fun x0 => (ik_X16 r1).mp x0, fun x0 => (ik_X16 r1).mpr x0⟩ (fun g2 => ?_)
  refine EQ_jg ⟨fun ⟨_, x0⟩ => (show jI a1 (o1 (o1 (o1 454 38) 6) (-1)) ↔ jI a1 13 from by rw [ft_X16_6 r1 g2, la_X16_6 r1 g2]).mp x0, fun x0 => ⟨(show o1 (o1 (o1 454 38) 6) (-2) = 101 from by rw [ft_X16_6 r1 g2, ka_X16_6 r1 g2]), (show jI a1 (o1 (o1 (o1 454 38) 6) (-1)) ↔ jI a1 13 from by rw [ft_X16_6 r1 g2, la_X16_6 r1 g2]).mpr x0⟩⟩ (fun g3 => ?_)
  refine EQ_jg ⟨fun ⟨_, x0⟩ => (show jI (o1 (o1 (o1 454 38) 6) a1) (o1 (o1 454 7) (-1)) ↔ jI (o1 (o1 454 38 + 2) a1) 8800 from by rw [ft_X16_6 r1 g2, r_454_7 r1, l_461 r1]).mp x0, fun x0 => ⟨(show o1 (o1 454 7) (-2) = 101 from by rw [r_454_7 r1, k_461 r1]), (show jI (o1 (o1 (o1 454 38) 6) a1) (o1 (o1 454 7) (-1)) ↔ jI (o1 (o1 454 38 + 2) a1) 8800 from by rw [ft_X16_6 r1 g2, r_454_7 r1, l_461 r1]).mpr x0⟩⟩ (fun g4 => ?_)
  refine EQ_jgd (show o1 454 (-2) = 15 from by rw [k_454 r1]) ?_
  refine EQ_jgd (show o1 (o1 454 38) (-2) = 17 from by rw [kd_X16 r1 g2]) ?_
  refine EQ_jgd (show o1 454 (-2) = 15 from by rw [k_454 r1]) ?_
  refine EQ_jb (by rw [r_454_7 r1, ft_X16_6 r1 g2]; exact eX14_indexOf (o1 461 (o1 (o1 454 38 + 2) a1)) (o1 (o1 454 38) 20) r1) (fun v4 r5 => ?_)
  exact EQ_some r1
noncomputable def gX14_ways_j134_19 (a1 : Int) (a2 : Int) (a3 : Int) (a4 : Int) (a5 : Int) (a7 : Int) (h : AH) : Option ((Int × Int) ⊕ (Int)) := jl (w32 (a7 + 1)) fun x10 => some (.inl (a5, x10))
theorem eX14_ways_j134_19 (a1 : Int) (a2 : Int) (a3 : Int) (a4 : Int) (a5 : Int) (a7 : Int) {h : AH} (hS : Sh S h) : EQ (fX14_ways_j134_19 454 a1 a2 a3 a4 a5 a7 h) (gX14_ways_j134_19 a1 a2 a3 a4 a5 a7 h) (Sum.elim (fun _ => True) (fun _ => True)) := by
  unfold fX14_ways_j134_19 gX14_ways_j134_19
  refine EQ_jl rfl (fun x10 ex10 => ?_)
  clear ex10
  exact EQ_some trivial
noncomputable def gX14_ways_b79 (i1 : Int) (i2 : Int) (i3 : Int) (i4 : Int) (i7 : Int) (h : AH) (s : Int × Int) : Option ((Int × Int) ⊕ (Int)) := jt2 s fun a5 a8 => if w32 (i1 - i7) ≤ a8 then (some (.inr a5)) else (jg (jI i7 13) <| jg (jI i2 122) <| jg (jI a8 13) <| jg (jI i3 122) <| jg (jI (w32 (w32 (i1 - i7) - a8)) 13) <| jg (jI i4 122) <| jl (w64 (a5 + w64 (w64 (h (756 + i7) i2 * h (756 + a8) i3) * h (756 + w32 (w32 (i1 - i7) - a8)) i4))) fun x12 => jl (w32 (a8 + 1)) fun x13 => some (.inl (x12, x13)))
theorem eX14_ways_b79 (i1 : Int) (i2 : Int) (i3 : Int) (i4 : Int) (i7 : Int) (s : Int × Int) {h : AH} (hS : Sh S h) : EQ (fX14_ways_b79 454 i1 i2 i3 i4 i7 h s) (gX14_ways_b79 i1 i2 i3 i4 i7 h s) (Sum.elim (fun _ => True) (fun _ => True)) := by
  unfold fX14_ways_b79 gX14_ways_b79
  obtain ⟨a5, a8⟩ := s
  refine EQ_jt2 ?_
  refine EQ_if Iff.rfl (fun c1 => ?_) (fun c1 => ?_)
  · exact EQ_some trivial
  · refine EQ_jgd (show h 454 (-2) = 15 from by rw [k_454 hS]) ?_
    refine EQ_jg ⟨fun ⟨_, x0⟩ => (show jI i7 (h (h 454 41) (-1)) ↔ jI i7 13 from by rw [r_454_41 hS, l_755 hS]).mp x0, fun x0 => ⟨(show h (h 454 41) (-2) = 106 from by rw [r_454_41 hS, k_755 hS]), (show jI i7 (h (h 454 41) (-1)) ↔ jI i7 13 from by rw [r_454_41 hS, l_755 hS]).mpr x0⟩⟩ (fun g2 => ?_)
    refine EQ_jg ⟨fun ⟨_, x0⟩ => (show jI i2 (h (h (h 454 41) i7) (-1)) ↔ jI i2 122 from by rw [r_454_41 hS, rr_755 hS g2, rl_755 hS g2]).mp x0, fun x0 => ⟨(show h (h (h 454 41) i7) (-2) = 102 from by rw [r_454_41 hS, rr_755 hS g2, rk_755 hS g2]), (show jI i2 (h (h (h 454 41) i7) (-1)) ↔ jI i2 122 from by rw [r_454_41 hS, rr_755 hS g2, rl_755 hS g2]).mpr x0⟩⟩ (fun g3 => ?_)
    refine EQ_jgd (show h 454 (-2) = 15 from by rw [k_454 hS]) ?_
    refine EQ_jg ⟨fun ⟨_, x0⟩ => (show jI a8 (h (h 454 41) (-1)) ↔ jI a8 13 from by rw [r_454_41 hS, l_755 hS]).mp x0, fun x0 => ⟨(show h (h 454 41) (-2) = 106 from by rw [r_454_41 hS, k_755 hS]), (show jI a8 (h (h 454 41) (-1)) ↔ jI a8 13 from by rw [r_454_41 hS, l_755 hS]).mpr x0⟩⟩ (fun g4 => ?_)
    refine EQ_jg ⟨fun ⟨_, x0⟩ => (show jI i3 (h (h (h 454 41) a8) (-1)) ↔ jI i3 122 from by rw [r_454_41 hS, rr_755 hS g4, rl_755 hS g4]).mp x0, fun x0 => ⟨(show h (h (h 454 41) a8) (-2) = 102 from by rw [r_454_41 hS, rr_755 hS g4, rk_755 hS g4]), (show jI i3 (h (h (h 454 41) a8) (-1)) ↔ jI i3 122 from by rw [r_454_41 hS, rr_755 hS g4, rl_755 hS g4]).mpr x0⟩⟩ (fun g5 => ?_)
    refine EQ_jgd (show h 454 (-2) = 15 from by rw [k_454 hS]) ?_
    refine EQ_jg ⟨fun ⟨_, x0⟩ => (show jI (w32 (w32 (i1 - i7) - a8)) (h (h 454 41) (-1)) ↔ jI (w32 (w32 (i1 - i7) - a8)) 13 from by rw [r_454_41 hS, l_755 hS]).mp x0, fun x0 => ⟨(show h (h 454 41) (-2) = 106 from by rw [r_454_41 hS, k_755 hS]), (show jI (w32 (w32 (i1 - i7) - a8)) (h (h 454 41) (-1)) ↔ jI (w32 (w32 (i1 - i7) - a8)) 13 from by rw [r_454_41 hS, l_755 hS]).mpr x0⟩⟩ (fun g6 => ?_)
    refine EQ_jg ⟨fun ⟨_, x0⟩ => (show jI i4 (h (h (h 454 41) (w32 (w32 (i1 - i7) - a8))) (-1)) ↔ jI i4 122 from by rw [r_454_41 hS, rr_755 hS g6, rl_755 hS g6]).mp x0, fun x0 => ⟨(show h (h (h 454 41) (w32 (w32 (i1 - i7) - a8))) (-2) = 102 from by rw [r_454_41 hS, rr_755 hS g6, rk_755 hS g6]), (show jI i4 (h (h (h 454 41) (w32 (w32 (i1 - i7) - a8))) (-1)) ↔ jI i4 122 from by rw [r_454_41 hS, rr_755 hS g6, rl_755 hS g6]).mpr x0⟩⟩ (fun g7 => ?_)
    refine EQ_jl (by rw [r_454_41 hS, rr_755 hS g2, rr_755 hS g4, rr_755 hS g6]) (fun x12 ex12 => ?_)
    clear ex12
    refine EQ_jl rfl (fun x13 ex13 => ?_)
    clear ex13
    exact EQ_some trivial
noncomputable def gX14_ways_l79 (i1 : Int) (i2 : Int) (i3 : Int) (i4 : Int) (i7 : Int) (a5 : Int) (a8 : Int) (h : AH) : Option (Int) := jit (gX14_ways_b79 i1 i2 i3 i4 i7 h) (a5, a8)
theorem eX14_ways_l79 (i1 : Int) (i2 : Int) (i3 : Int) (i4 : Int) (i7 : Int) (a5 : Int) (a8 : Int) {h : AH} (hS : Sh S h) : EQ (fX14_ways_l79 454 i1 i2 i3 i4 i7 a5 a8 h) (gX14_ways_l79 i1 i2 i3 i4 i7 a5 a8 h) (fun _ => True) := EQ_jit (I := (fun _ => True)) (fun s _ => eX14_ways_b79 i1 i2 i3 i4 i7 s hS) trivial
noncomputable def gX14_ways_b19 (i1 : Int) (i2 : Int) (i3 : Int) (i4 : Int) (h : AH) (s : Int × Int) : Option ((Int × Int) ⊕ (Int)) := jt2 s fun a5 a7 => if i1 ≤ a7 then (some (.inr a5)) else (jg (jI a7 13) <| jg (jI i2 122) <| if jcmp (h (756 + a7) i2) 0 = 0 then (gX14_ways_j134_19 i1 i2 i3 i4 a5 a7 h) else (if 0 ≤ i4 then (jb (gX14_ways_l79 i1 i2 i3 i4 a7 a5 1 h) fun o7 => gX14_ways_j134_19 i1 i2 i3 i4 o7 a7 h) else (jg (jI (w32 (i1 - a7)) 13) <| jg (jI i3 122) <| jl (w64 (a5 + w64 (h (756 + a7) i2 * h (756 + w32 (i1 - a7)) i3))) fun x9 => gX14_ways_j134_19 i1 i2 i3 i4 x9 a7 h)))
theorem eX14_ways_b19 (i1 : Int) (i2 : Int) (i3 : Int) (i4 : Int) (s : Int × Int) {h : AH} (hS : Sh S h) : EQ (fX14_ways_b19 454 i1 i2 i3 i4 h s) (gX14_ways_b19 i1 i2 i3 i4 h s) (Sum.elim (fun _ => True) (fun _ => True)) := by
  unfold fX14_ways_b19 gX14_ways_b19
  obtain ⟨a5, a7⟩ := s
  refine EQ_jt2 ?_
  refine EQ_if Iff.rfl (fun c1 => ?_) (fun c1 => ?_)
  · exact EQ_some trivial
  · refine EQ_jgd (show h 454 (-2) = 15 from by rw [k_454 hS]) ?_
    refine EQ_jg ⟨fun ⟨_, x0⟩ => (show jI a7 (h (h 454 41) (-1)) ↔ jI a7 13 from by rw [r_454_41 hS, l_755 hS]).mp x0, fun x0 => ⟨(show h (h 454 41) (-2) = 106 from by rw [r_454_41 hS, k_755 hS]), (show jI a7 (h (h 454 41) (-1)) ↔ jI a7 13 from by rw [r_454_41 hS, l_755 hS]).mpr x0⟩⟩ (fun g2 => ?_)
    refine EQ_jg ⟨fun ⟨_, x0⟩ => (show jI i2 (h (h (h 454 41) a7) (-1)) ↔ jI i2 122 from by rw [r_454_41 hS, rr_755 hS g2, rl_755 hS g2]).mp x0, fun x0 => ⟨(show h (h (h 454 41) a7) (-2) = 102 from by rw [r_454_41 hS, rr_755 hS g2, rk_755 hS g2]), (show jI i2 (h (h (h 454 41) a7) (-1)) ↔ jI i2 122 from by rw [r_454_41 hS, rr_755 hS g2, rl_755 hS g2]).mpr x0⟩⟩ (fun g3 => ?_)
    refine EQ_if (show jcmp (h (h (h 454 41) a7) i2) 0 = 0 ↔ jcmp (h (756 + a7) i2) 0 = 0 from by rw [r_454_41 hS, rr_755 hS g2]) (fun c4 => ?_) (fun c4 => ?_)
    · exact (eX14_ways_j134_19 i1 i2 i3 i4 a5 a7 hS)
    · refine EQ_if Iff.rfl (fun c5 => ?_) (fun c5 => ?_)
      · refine EQ_jb (eX14_ways_l79 i1 i2 i3 i4 a7 a5 1 hS) (fun o7 r6 => ?_)
        exact (eX14_ways_j134_19 i1 i2 i3 i4 o7 a7 hS)
      · refine EQ_jgd (show h 454 (-2) = 15 from by rw [k_454 hS]) ?_
        refine EQ_jgd ⟨(show h (h 454 41) (-2) = 106 from by rw [r_454_41 hS, k_755 hS]), ((show jI a7 (h (h 454 41) (-1)) ↔ jI a7 13 from by rw [r_454_41 hS, l_755 hS]).mpr g2)⟩ ?_
        refine EQ_jgd ⟨(show h (h (h 454 41) a7) (-2) = 102 from by rw [r_454_41 hS, rr_755 hS g2, rk_755 hS g2]), ((show jI i2 (h (h (h 454 41) a7) (-1)) ↔ jI i2 122 from by rw [r_454_41 hS, rr_755 hS g2, rl_755 hS g2]).mpr g3)⟩ ?_
        refine EQ_jgd (show h 454 (-2) = 15 from by rw [k_454 hS]) ?_
        refine EQ_jg ⟨fun ⟨_, x0⟩ => (show jI (w32 (i1 - a7)) (h (h 454 41) (-1)) ↔ jI (w32 (i1 - a7)) 13 from by rw [r_454_41 hS, l_755 hS]).mp x0, fun x0 => ⟨(show h (h 454 41) (-2) = 106 from by rw [r_454_41 hS, k_755 hS]), (show jI (w32 (i1 - a7)) (h (h 454 41) (-1)) ↔ jI (w32 (i1 - a7)) 13 from by rw [r_454_41 hS, l_755 hS]).mpr x0⟩⟩ (fun g7 => ?_)
        refine EQ_jg ⟨fun ⟨_, x0⟩ => (show jI i3 (h (h (h 454 41) (w32 (i1 - a7))) (-1)) ↔ jI i3 122 from by rw [r_454_41 hS, rr_755 hS g7, rl_755 hS g7]).mp x0, fun x0 => ⟨(show h (h (h 454 41) (w32 (i1 - a7))) (-2) = 102 from by rw [r_454_41 hS, rr_755 hS g7, rk_755 hS g7]), (show jI i3 (h (h (h 454 41) (w32 (i1 - a7))) (-1)) ↔ jI i3 122 from by rw [r_454_41 hS, rr_755 hS g7, rl_755 hS g7]).mpr x0⟩⟩ (fun g8 => ?_)
        refine EQ_jl (by rw [r_454_41 hS, rr_755 hS g2, rr_755 hS g7]) (fun x9 ex9 => ?_)
        clear ex9
        exact (eX14_ways_j134_19 i1 i2 i3 i4 x9 a7 hS)
noncomputable def gX14_ways_l19 (i1 : Int) (i2 : Int) (i3 : Int) (i4 : Int) (a5 : Int) (a7 : Int) (h : AH) : Option (Int) := jit (gX14_ways_b19 i1 i2 i3 i4 h) (a5, a7)
theorem eX14_ways_l19 (i1 : Int) (i2 : Int) (i3 : Int) (i4 : Int) (a5 : Int) (a7 : Int) {h : AH} (hS : Sh S h) : EQ (fX14_ways_l19 454 i1 i2 i3 i4 a5 a7 h) (gX14_ways_l19 i1 i2 i3 i4 a5 a7 h) (fun _ => True) := EQ_jit (I := (fun _ => True)) (fun s _ => eX14_ways_b19 i1 i2 i3 i4 s hS) trivial
noncomputable def gX14_ways (a1 : Int) (a2 : Int) (a3 : Int) (a4 : Int) (h : AH) : Option (Int) := if 0 ≤ a3 then (jb (gX14_ways_l19 a1 a2 a3 a4 0 1 h) fun o2 => some o2) else (jg (jI a1 13) <| jg (jI a2 122) <| some (h (756 + a1) a2))
theorem eX14_ways (a1 : Int) (a2 : Int) (a3 : Int) (a4 : Int) {h : AH} (hS : Sh S h) : EQ (fX14_ways 454 a1 a2 a3 a4 h) (gX14_ways a1 a2 a3 a4 h) (fun _ => True) := by
  unfold fX14_ways gX14_ways
  refine EQ_if Iff.rfl (fun c1 => ?_) (fun c1 => ?_)
  · refine EQ_jb (eX14_ways_l19 a1 a2 a3 a4 0 1 hS) (fun o2 r2 => ?_)
    exact EQ_some trivial
  · refine EQ_jgd (show h 454 (-2) = 15 from by rw [k_454 hS]) ?_
    refine EQ_jg ⟨fun ⟨_, x0⟩ => (show jI a1 (h (h 454 41) (-1)) ↔ jI a1 13 from by rw [r_454_41 hS, l_755 hS]).mp x0, fun x0 => ⟨(show h (h 454 41) (-2) = 106 from by rw [r_454_41 hS, k_755 hS]), (show jI a1 (h (h 454 41) (-1)) ↔ jI a1 13 from by rw [r_454_41 hS, l_755 hS]).mpr x0⟩⟩ (fun g3 => ?_)
    refine EQ_jg ⟨fun ⟨_, x0⟩ => (show jI a2 (h (h (h 454 41) a1) (-1)) ↔ jI a2 122 from by rw [r_454_41 hS, rr_755 hS g3, rl_755 hS g3]).mp x0, fun x0 => ⟨(show h (h (h 454 41) a1) (-2) = 102 from by rw [r_454_41 hS, rr_755 hS g3, rk_755 hS g3]), (show jI a2 (h (h (h 454 41) a1) (-1)) ↔ jI a2 122 from by rw [r_454_41 hS, rr_755 hS g3, rl_755 hS g3]).mpr x0⟩⟩ (fun g4 => ?_)
    exact EQ_some' (by rw [r_454_41 hS, rr_755 hS g3]) trivial
noncomputable def gX14_result_j214 (a7 : Int) (h : AH) : Option (Int × AH) := jg (jI a7 256000) <| some (h 787 a7, h)
theorem eX14_result_j214 (a7 : Int) {h : AH} (hS : Sh S h) : EQ (fX14_result_j214 454 a7 h) (gX14_result_j214 a7 h) (fun r => Sh S r.2) := by
  unfold fX14_result_j214 gX14_result_j214
  refine EQ_jgd (show h 454 (-2) = 15 from by rw [k_454 hS]) ?_
  refine EQ_jg ⟨fun ⟨_, x0⟩ => (show jI a7 (h (h 454 46) (-1)) ↔ jI a7 256000 from by rw [r_454_46 hS, l_787 hS]).mp x0, fun x0 => ⟨(show h (h 454 46) (-2) = 101 from by rw [r_454_46 hS, k_787 hS]), (show jI a7 (h (h 454 46) (-1)) ↔ jI a7 256000 from by rw [r_454_46 hS, l_787 hS]).mpr x0⟩⟩ (fun g1 => ?_)
  exact EQ_some' (by rw [r_454_46 hS]) hS
noncomputable def gX14_result_j136 (a1 : Int) (a2 : Int) (a3 : Int) (a4 : Int) (a5 : Int) (t0 : Int) (h : AH) : Option (Int × AH) := jg (jI a2 122) <| jg (jI a3 122) <| jg (jI a4 122) <| jl (w32 (w32 (t0 + w32 (w32 (w32 (h 788 a2 * a5) + h 788 a3) * a5)) + h 788 a4)) fun x7 => jg (jI x7 256000) <| if (-1) ≤ h 787 x7 then (gX14_result_j214 x7 h) else (jb (gX14_together a1 a2 a3 a4 h) fun h10 => jg (jI a1 36) <| jg (isX16 (h10 454 38)) <| jb (gX14_indexOf (h10 458 a1) (h10 (h10 454 38) 20) h10) fun v12 => jl (jst h10 787 x7 v12) fun h13 => gX14_result_j214 x7 h13)
theorem eX14_result_j136 (a1 : Int) (a2 : Int) (a3 : Int) (a4 : Int) (a5 : Int) (t0 : Int) {h : AH} (hS : Sh S h) : EQ (fX14_result_j136 454 a1 a2 a3 a4 a5 t0 h) (gX14_result_j136 a1 a2 a3 a4 a5 t0 h) (fun r => Sh S r.2) := by
  unfold fX14_result_j136 gX14_result_j136
  refine EQ_jgd (show h 454 (-2) = 15 from by rw [k_454 hS]) ?_
  refine EQ_jg ⟨fun ⟨_, x0⟩ => (show jI a2 (h (h 454 47) (-1)) ↔ jI a2 122 from by rw [r_454_47 hS, l_788 hS]).mp x0, fun x0 => ⟨(show h (h 454 47) (-2) = 101 from by rw [r_454_47 hS, k_788 hS]), (show jI a2 (h (h 454 47) (-1)) ↔ jI a2 122 from by rw [r_454_47 hS, l_788 hS]).mpr x0⟩⟩ (fun g1 => ?_)
  refine EQ_jgd (show h 454 (-2) = 15 from by rw [k_454 hS]) ?_
  refine EQ_jg ⟨fun ⟨_, x0⟩ => (show jI a3 (h (h 454 47) (-1)) ↔ jI a3 122 from by rw [r_454_47 hS, l_788 hS]).mp x0, fun x0 => ⟨(show h (h 454 47) (-2) = 101 from by rw [r_454_47 hS, k_788 hS]), (show jI a3 (h (h 454 47) (-1)) ↔ jI a3 122 from by rw [r_454_47 hS, l_788 hS]).mpr x0⟩⟩ (fun g2 => ?_)
  refine EQ_jgd (show h 454 (-2) = 15 from by rw [k_454 hS]) ?_
  refine EQ_jg ⟨fun ⟨_, x0⟩ => (show jI a4 (h (h 454 47) (-1)) ↔ jI a4 122 from by rw [r_454_47 hS, l_788 hS]).mp x0, fun x0 => ⟨(show h (h 454 47) (-2) = 101 from by rw [r_454_47 hS, k_788 hS]), (show jI a4 (h (h 454 47) (-1)) ↔ jI a4 122 from by rw [r_454_47 hS, l_788 hS]).mpr x0⟩⟩ (fun g3 => ?_)
  refine EQ_jl (by rw [r_454_47 hS]) (fun x7 ex7 => ?_)
  clear ex7
  refine EQ_jgd (show h 454 (-2) = 15 from by rw [k_454 hS]) ?_
  refine EQ_jg ⟨fun ⟨_, x0⟩ => (show jI x7 (h (h 454 46) (-1)) ↔ jI x7 256000 from by rw [r_454_46 hS, l_787 hS]).mp x0, fun x0 => ⟨(show h (h 454 46) (-2) = 101 from by rw [r_454_46 hS, k_787 hS]), (show jI x7 (h (h 454 46) (-1)) ↔ jI x7 256000 from by rw [r_454_46 hS, l_787 hS]).mpr x0⟩⟩ (fun g4 => ?_)
  refine EQ_if (show (-1) ≤ h (h 454 46) x7 ↔ (-1) ≤ h 787 x7 from by rw [r_454_46 hS]) (fun c5 => ?_) (fun c5 => ?_)
  · exact (eX14_result_j214 x7 hS)
  · refine EQ_jgd (show h 454 (-2) = 15 from by rw [k_454 hS]) ?_
    refine EQ_jb (eX14_together a1 a2 a3 a4 hS) (fun h10 r6 => ?_)
    refine EQ_jgd (show h10 454 (-2) = 15 from by rw [k_454 r6]) ?_
    refine EQ_jgd (show h10 454 (-2) = 15 from by rw [k_454 r6]) ?_
    refine EQ_jg ⟨fun ⟨_, x0⟩ => (show jI a1 (h10 (h10 454 3) (-1)) ↔ jI a1 36 from by rw [r_454_3 r6, l_458 r6]).mp x0, fun x0 => ⟨(show h10 (h10 454 3) (-2) = 101 from by rw [r_454_3 r6, k_458 r6]), (show jI a1 (h10 (h10 454 3) (-1)) ↔ jI a1 36 from by rw [r_454_3 r6, l_458 r6]).mpr x0⟩⟩ (fun g7 => ?_)
    refine EQ_jgd (show h10 454 (-2) = 15 from by rw [k_454 r6]) ?_
    refine EQ_jg ⟨fun x0 => (ik_X16 r6).mp x0, fun x0 => (ik_X16 r6).mpr x0⟩ (fun g8 => ?_)
    refine EQ_jgd (show h10 454 (-2) = 15 from by rw [k_454 r6]) ?_
    refine EQ_jb (by rw [r_454_3 r6]; exact eX14_indexOf (h10 458 a1) (h10 (h10 454 38) 20) r6) (fun v12 r9 => ?_)
    refine EQ_jgd ⟨(show h10 (h10 454 46) (-2) = 101 from by rw [r_454_46 r6, k_787 r6]), (show 200 ≤ h10 454 46 from by rw [r_454_46 r6]; exact (by decide)), ((show jI x7 (h10 (h10 454 46) (-1)) ↔ jI x7 256000 from by rw [r_454_46 r6, l_787 r6]).mpr g4)⟩ ?_
    refine EQ_jl (by rw [r_454_46 r6]) (fun h13 eh13 => ?_)
    have s10 := Sh_of eh13 (Sh_sta r6 (by decide +kernel) (jI_nn g4) (fun e => absurd ((k_787 r6).symm.trans e) (by decide)))
    clear eh13
    exact (eX14_result_j214 x7 s10)
noncomputable def gX14_result_j71 (a5 : Int) (h : AH) : Option (Int × AH) := jg (jI a5 518400) <| some (h 786 a5, h)
theorem eX14_result_j71 (a5 : Int) {h : AH} (hS : Sh S h) : EQ (fX14_result_j71 454 a5 h) (gX14_result_j71 a5 h) (fun r => Sh S r.2) := by
  unfold fX14_result_j71 gX14_result_j71
  refine EQ_jgd (show h 454 (-2) = 15 from by rw [k_454 hS]) ?_
  refine EQ_jg ⟨fun ⟨_, x0⟩ => (show jI a5 (h (h 454 45) (-1)) ↔ jI a5 518400 from by rw [r_454_45 hS, l_786 hS]).mp x0, fun x0 => ⟨(show h (h 454 45) (-2) = 101 from by rw [r_454_45 hS, k_786 hS]), (show jI a5 (h (h 454 45) (-1)) ↔ jI a5 518400 from by rw [r_454_45 hS, l_786 hS]).mpr x0⟩⟩ (fun g1 => ?_)
  exact EQ_some' (by rw [r_454_45 hS]) hS
noncomputable def gX14_result_j24 (a1 : Int) (a2 : Int) (a3 : Int) (a4 : Int) (t0 : Int) (t1 : Int) (h : AH) : Option (Int × AH) := jl (w32 (t0 + t1)) fun x14 => jg (jI x14 518400) <| if (-1) ≤ h 786 x14 then (gX14_result_j71 x14 h) else (jb (gX14_together a1 a2 a3 a4 h) fun h17 => jg (jI a1 36) <| jg (isX16 (h17 454 38)) <| jb (gX14_indexOf (h17 458 a1) (h17 (h17 454 38) 20) h17) fun v19 => jl (jst h17 786 x14 v19) fun h20 => gX14_result_j71 x14 h20)
theorem eX14_result_j24 (a1 : Int) (a2 : Int) (a3 : Int) (a4 : Int) (t0 : Int) (t1 : Int) {h : AH} (hS : Sh S h) : EQ (fX14_result_j24 454 a1 a2 a3 a4 t0 t1 h) (gX14_result_j24 a1 a2 a3 a4 t0 t1 h) (fun r => Sh S r.2) := by
  unfold fX14_result_j24 gX14_result_j24
  refine EQ_jl rfl (fun x14 ex14 => ?_)
  clear ex14
  refine EQ_jgd (show h 454 (-2) = 15 from by rw [k_454 hS]) ?_
  refine EQ_jg ⟨fun ⟨_, x0⟩ => (show jI x14 (h (h 454 45) (-1)) ↔ jI x14 518400 from by rw [r_454_45 hS, l_786 hS]).mp x0, fun x0 => ⟨(show h (h 454 45) (-2) = 101 from by rw [r_454_45 hS, k_786 hS]), (show jI x14 (h (h 454 45) (-1)) ↔ jI x14 518400 from by rw [r_454_45 hS, l_786 hS]).mpr x0⟩⟩ (fun g1 => ?_)
  refine EQ_if (show (-1) ≤ h (h 454 45) x14 ↔ (-1) ≤ h 786 x14 from by rw [r_454_45 hS]) (fun c2 => ?_) (fun c2 => ?_)
  · exact (eX14_result_j71 x14 hS)
  · refine EQ_jgd (show h 454 (-2) = 15 from by rw [k_454 hS]) ?_
    refine EQ_jb (eX14_together a1 a2 a3 a4 hS) (fun h17 r3 => ?_)
    refine EQ_jgd (show h17 454 (-2) = 15 from by rw [k_454 r3]) ?_
    refine EQ_jgd (show h17 454 (-2) = 15 from by rw [k_454 r3]) ?_
    refine EQ_jg ⟨fun ⟨_, x0⟩ => (show jI a1 (h17 (h17 454 3) (-1)) ↔ jI a1 36 from by rw [r_454_3 r3, l_458 r3]).mp x0, fun x0 => ⟨(show h17 (h17 454 3) (-2) = 101 from by rw [r_454_3 r3, k_458 r3]), (show jI a1 (h17 (h17 454 3) (-1)) ↔ jI a1 36 from by rw [r_454_3 r3, l_458 r3]).mpr x0⟩⟩ (fun g4 => ?_)
    refine EQ_jgd (show h17 454 (-2) = 15 from by rw [k_454 r3]) ?_
    refine EQ_jg ⟨fun x0 => (ik_X16 r3).mp x0, fun x0 => (ik_X16 r3).mpr x0⟩ (fun g5 => ?_)
    refine EQ_jgd (show h17 454 (-2) = 15 from by rw [k_454 r3]) ?_
    refine EQ_jb (by rw [r_454_3 r3]; exact eX14_indexOf (h17 458 a1) (h17 (h17 454 38) 20) r3) (fun v19 r6 => ?_)
    refine EQ_jgd ⟨(show h17 (h17 454 45) (-2) = 101 from by rw [r_454_45 r3, k_786 r3]), (show 200 ≤ h17 454 45 from by rw [r_454_45 r3]; exact (by decide)), ((show jI x14 (h17 (h17 454 45) (-1)) ↔ jI x14 518400 from by rw [r_454_45 r3, l_786 r3]).mpr g1)⟩ ?_
    refine EQ_jl (by rw [r_454_45 r3]) (fun h20 eh20 => ?_)
    have s7 := Sh_of eh20 (Sh_sta r3 (by decide +kernel) (jI_nn g1) (fun e => absurd ((k_786 r3).symm.trans e) (by decide)))
    clear eh20
    exact (eX14_result_j71 x14 s7)
noncomputable def gX14_result (a1 : Int) (a2 : Int) (a3 : Int) (a4 : Int) (h : AH) : Option (Int × AH) := if 0 ≤ a4 then (jg (isX16 (h 454 38)) <| jg (jI a3 122) <| jb (gX14_kindNumber (h (h 454 38 + 12) a3)) fun v3 => jg (jI v3 3) <| jl (h 789 v3) fun x4 => if h (h 454 38 + 12) a3 = 110 then (gX14_result_j136 a1 a2 a3 a4 x4 0 h) else (gX14_result_j136 a1 a2 a3 a4 x4 (w32 (w32 (h 789 1 * h 789 0) * h 789 0)) h)) else (if 0 ≤ a3 then (gX14_result_j24 a1 a2 a3 a4 (w32 (w32 (14400 * a1) + w32 (120 * a2))) a3 h) else (gX14_result_j24 a1 a2 a3 a4 (w32 (w32 (14400 * a1) + w32 (120 * a2))) 0 h))
theorem eX14_result (a1 : Int) (a2 : Int) (a3 : Int) (a4 : Int) {h : AH} (hS : Sh S h) : EQ (fX14_result 454 a1 a2 a3 a4 h) (gX14_result a1 a2 a3 a4 h) (fun r => Sh S r.2) := by
  unfold fX14_result gX14_result
  refine EQ_if Iff.rfl (fun c1 => ?_) (fun c1 => ?_)
  · refine EQ_jgd (show h 454 (-2) = 15 from by rw [k_454 hS]) ?_
    refine EQ_jgd (show h 454 (-2) = 15 from by rw [k_454 hS]) ?_
    refine EQ_jg ⟨fun x0 => (ik_X16 hS).mp x0, fun x0 => (ik_X16 hS).mpr x0⟩ (fun g2 => ?_)
    refine EQ_jg ⟨fun ⟨_, x0⟩ => (show jI a3 (h (h (h 454 38) 21) (-1)) ↔ jI a3 122 from by rw [ft_X16_21 hS g2, la_X16_21 hS g2]).mp x0, fun x0 => ⟨(show h (h (h 454 38) 21) (-2) = 101 from by rw [ft_X16_21 hS g2, ka_X16_21 hS g2]), (show jI a3 (h (h (h 454 38) 21) (-1)) ↔ jI a3 122 from by rw [ft_X16_21 hS g2, la_X16_21 hS g2]).mpr x0⟩⟩ (fun g3 => ?_)
    refine EQ_jb (by rw [ft_X16_21 hS g2]; exact eX14_kindNumber (h (h 454 38 + 12) a3)) (fun v3 r4 => ?_)
    refine EQ_jg ⟨fun ⟨_, x0⟩ => (show jI v3 (h (h 454 48) (-1)) ↔ jI v3 3 from by rw [r_454_48 hS, l_789 hS]).mp x0, fun x0 => ⟨(show h (h 454 48) (-2) = 101 from by rw [r_454_48 hS, k_789 hS]), (show jI v3 (h (h 454 48) (-1)) ↔ jI v3 3 from by rw [r_454_48 hS, l_789 hS]).mpr x0⟩⟩ (fun g5 => ?_)
    refine EQ_jl (by rw [r_454_48 hS]) (fun x4 ex4 => ?_)
    clear ex4
    refine EQ_jgd (show h 454 (-2) = 15 from by rw [k_454 hS]) ?_
    refine EQ_jgd (show h (h 454 38) (-2) = 17 from by rw [kd_X16 hS g2]) ?_
    refine EQ_jgd ⟨(show h (h (h 454 38) 21) (-2) = 101 from by rw [ft_X16_21 hS g2, ka_X16_21 hS g2]), ((show jI a3 (h (h (h 454 38) 21) (-1)) ↔ jI a3 122 from by rw [ft_X16_21 hS g2, la_X16_21 hS g2]).mpr g3)⟩ ?_
    refine EQ_if (show h (h (h 454 38) 21) a3 = 110 ↔ h (h 454 38 + 12) a3 = 110 from by rw [ft_X16_21 hS g2]) (fun c6 => ?_) (fun c6 => ?_)
    · exact (eX14_result_j136 a1 a2 a3 a4 x4 0 hS)
    · refine EQ_jgd (show h 454 (-2) = 15 from by rw [k_454 hS]) ?_
      refine EQ_jgd ⟨(show h (h 454 48) (-2) = 101 from by rw [r_454_48 hS, k_789 hS]), (show jI 1 (h (h 454 48) (-1)) from by rw [r_454_48 hS, l_789 hS]; unfold jI; decide)⟩ ?_
      refine EQ_jgd (show h 454 (-2) = 15 from by rw [k_454 hS]) ?_
      refine EQ_jgd ⟨(show h (h 454 48) (-2) = 101 from by rw [r_454_48 hS, k_789 hS]), (show jI 0 (h (h 454 48) (-1)) from by rw [r_454_48 hS, l_789 hS]; unfold jI; decide)⟩ ?_
      refine EQ_jgd (show h 454 (-2) = 15 from by rw [k_454 hS]) ?_
      refine EQ_jgd ⟨(show h (h 454 48) (-2) = 101 from by rw [r_454_48 hS, k_789 hS]), (show jI 0 (h (h 454 48) (-1)) from by rw [r_454_48 hS, l_789 hS]; unfold jI; decide)⟩ ?_
      exact (by rw [r_454_48 hS]; exact eX14_result_j136 a1 a2 a3 a4 x4 (w32 (w32 (h 789 1 * h 789 0) * h 789 0)) hS)
  · refine EQ_if Iff.rfl (fun c7 => ?_) (fun c7 => ?_)
    · exact (eX14_result_j24 a1 a2 a3 a4 (w32 (w32 (14400 * a1) + w32 (120 * a2))) a3 hS)
    · exact (eX14_result_j24 a1 a2 a3 a4 (w32 (w32 (14400 * a1) + w32 (120 * a2))) 0 hS)
noncomputable def gX14_reckonAll_j296_35 (a2 : Int) (a3 : Int) (a4 : Int) (a5 : Int) (a6 : Int) (h : AH) : Option ((Int × AH) ⊕ (AH)) := jl (w32 (a6 + 1)) fun x12 => some (.inl (x12, h))
theorem eX14_reckonAll_j296_35 (a2 : Int) (a3 : Int) (a4 : Int) (a5 : Int) (a6 : Int) {h : AH} (hS : Sh S h) : EQ (fX14_reckonAll_j296_35 454 a2 a3 a4 a5 a6 h) (gX14_reckonAll_j296_35 a2 a3 a4 a5 a6 h) (Sum.elim (fun r => Sh S r.2) (fun r => Sh S r)) := by
  unfold fX14_reckonAll_j296_35 gX14_reckonAll_j296_35
  refine EQ_jl rfl (fun x12 ex12 => ?_)
  clear ex12
  exact EQ_some hS
noncomputable def gX14_reckonAll_j290_86 (a2 : Int) (a3 : Int) (a4 : Int) (a5 : Int) (a6 : Int) (a7 : Int) (h : AH) : Option ((Int × AH) ⊕ (AH)) := jl (w32 (a7 + 1)) fun x25 => some (.inl (x25, h))
theorem eX14_reckonAll_j290_86 (a2 : Int) (a3 : Int) (a4 : Int) (a5 : Int) (a6 : Int) (a7 : Int) {h : AH} (hS : Sh S h) : EQ (fX14_reckonAll_j290_86 454 a2 a3 a4 a5 a6 a7 h) (gX14_reckonAll_j290_86 a2 a3 a4 a5 a6 a7 h) (Sum.elim (fun r => Sh S r.2) (fun r => Sh S r)) := by
  unfold fX14_reckonAll_j290_86 gX14_reckonAll_j290_86
  refine EQ_jl rfl (fun x25 ex25 => ?_)
  clear ex25
  exact EQ_some hS
noncomputable def gX14_reckonAll_j284_164 (a2 : Int) (a3 : Int) (a4 : Int) (a5 : Int) (a6 : Int) (a7 : Int) (a8 : Int) (h : AH) : Option ((Int × AH) ⊕ (AH)) := jl (w32 (a8 + 1)) fun x40 => some (.inl (x40, h))
theorem eX14_reckonAll_j284_164 (a2 : Int) (a3 : Int) (a4 : Int) (a5 : Int) (a6 : Int) (a7 : Int) (a8 : Int) {h : AH} (hS : Sh S h) : EQ (fX14_reckonAll_j284_164 454 a2 a3 a4 a5 a6 a7 a8 h) (gX14_reckonAll_j284_164 a2 a3 a4 a5 a6 a7 a8 h) (Sum.elim (fun r => Sh S r.2) (fun r => Sh S r)) := by
  unfold fX14_reckonAll_j284_164 gX14_reckonAll_j284_164
  refine EQ_jl rfl (fun x40 ex40 => ?_)
  clear ex40
  exact EQ_some hS
noncomputable def gX14_reckonAll_j240_164 (a2 : Int) (a3 : Int) (a4 : Int) (a5 : Int) (a6 : Int) (a7 : Int) (a8 : Int) (h : AH) : Option ((Int × AH) ⊕ (AH)) := jb (gX14_ways a3 a6 a7 a8 h) fun v34 => if jcmp v34 0 ≤ 0 then (gX14_reckonAll_j284_164 a2 a3 a4 a5 a6 a7 a8 h) else (jg (jI a2 13) <| jb2 (gX14_result a4 a6 a7 a8 h) fun v37 h38 => jg (jI v37 122) <| jl (jst h38 (756 + a2) v37 (w64 (h38 (756 + a2) v37 + v34))) fun h39 => gX14_reckonAll_j284_164 a2 a3 a4 a5 a6 a7 a8 h39)
theorem eX14_reckonAll_j240_164 (a2 : Int) (a3 : Int) (a4 : Int) (a5 : Int) (a6 : Int) (a7 : Int) (a8 : Int) {h : AH} (hS : Sh S h) : EQ (fX14_reckonAll_j240_164 454 a2 a3 a4 a5 a6 a7 a8 h) (gX14_reckonAll_j240_164 a2 a3 a4 a5 a6 a7 a8 h) (Sum.elim (fun r => Sh S r.2) (fun r => Sh S r)) := by
  unfold fX14_reckonAll_j240_164 gX14_reckonAll_j240_164
  refine EQ_jgd (show h 454 (-2) = 15 from by rw [k_454 hS]) ?_
  refine EQ_jb (eX14_ways a3 a6 a7 a8 hS) (fun v34 r1 => ?_)
  refine EQ_if Iff.rfl (fun c2 => ?_) (fun c2 => ?_)
  · exact (eX14_reckonAll_j284_164 a2 a3 a4 a5 a6 a7 a8 hS)
  · refine EQ_jgd (show h 454 (-2) = 15 from by rw [k_454 hS]) ?_
    refine EQ_jg ⟨fun ⟨_, x0⟩ => (show jI a2 (h (h 454 41) (-1)) ↔ jI a2 13 from by rw [r_454_41 hS, l_755 hS]).mp x0, fun x0 => ⟨(show h (h 454 41) (-2) = 106 from by rw [r_454_41 hS, k_755 hS]), (show jI a2 (h (h 454 41) (-1)) ↔ jI a2 13 from by rw [r_454_41 hS, l_755 hS]).mpr x0⟩⟩ (fun g3 => ?_)
    refine EQ_jgd (show h 454 (-2) = 15 from by rw [k_454 hS]) ?_
    refine EQ_jb2 (eX14_result a4 a6 a7 a8 hS) (fun v37 h38 r4 => ?_)
    replace r4 : Sh S h38 := r4
    refine EQ_jg ⟨fun ⟨_, x0⟩ => (show jI v37 (h38 (h (h 454 41) a2) (-1)) ↔ jI v37 122 from by rw [r_454_41 hS, rr_755 hS g3, rl_755 r4 g3]).mp x0, fun x0 => ⟨(show h38 (h (h 454 41) a2) (-2) = 102 from by rw [r_454_41 hS, rr_755 hS g3, rk_755 r4 g3]), (show jI v37 (h38 (h (h 454 41) a2) (-1)) ↔ jI v37 122 from by rw [r_454_41 hS, rr_755 hS g3, rl_755 r4 g3]).mpr x0⟩⟩ (fun g5 => ?_)
    refine EQ_jgd ⟨(show h38 (h (h 454 41) a2) (-2) = 102 from by rw [r_454_41 hS, rr_755 hS g3, rk_755 r4 g3]), (show 200 ≤ h (h 454 41) a2 from by rw [r_454_41 hS, rr_755 hS g3]; exact rge_755 g3), ((show jI v37 (h38 (h (h 454 41) a2) (-1)) ↔ jI v37 122 from by rw [r_454_41 hS, rr_755 hS g3, rl_755 r4 g3]).mpr g5)⟩ ?_
    refine EQ_jl (by rw [r_454_41 hS, rr_755 hS g3]) (fun h39 eh39 => ?_)
    have s6 := Sh_of eh39 (Sh_sta r4 (arr_755 g3) (jI_nn g5) (fun e => absurd ((rk_755 r4 g3).symm.trans e) (by decide)))
    clear eh39
    exact (eX14_reckonAll_j284_164 a2 a3 a4 a5 a6 a7 a8 s6)
noncomputable def gX14_reckonAll_j180_164 (a2 : Int) (a3 : Int) (a4 : Int) (a5 : Int) (a6 : Int) (a7 : Int) (a8 : Int) (t0 : Int) (t1 : Int) (h : AH) : Option ((Int × AH) ⊕ (AH)) := if t1 ≤ t0 then (some (.inr h)) else (if a5 ≤ 2 then (gX14_reckonAll_j240_164 a2 a3 a4 a5 a6 a7 a8 h) else (jb (gX14_isOf a8 a4 2 h) fun v30 => if v30 = 0 then (gX14_reckonAll_j284_164 a2 a3 a4 a5 a6 a7 a8 h) else (jg (isX16 (h 454 38)) <| jg (jI a6 122) <| jg (jI a7 122) <| jg (jI a8 122) <| if w32 (w32 (h (h 454 38 + 14) a6 + h (h 454 38 + 14) a7) + h (h 454 38 + 14) a8) ≤ a3 then (gX14_reckonAll_j240_164 a2 a3 a4 a5 a6 a7 a8 h) else (gX14_reckonAll_j284_164 a2 a3 a4 a5 a6 a7 a8 h))))
theorem eX14_reckonAll_j180_164 (a2 : Int) (a3 : Int) (a4 : Int) (a5 : Int) (a6 : Int) (a7 : Int) (a8 : Int) (t0 : Int) (t1 : Int) {h : AH} (hS : Sh S h) : EQ (fX14_reckonAll_j180_164 454 a2 a3 a4 a5 a6 a7 a8 t0 t1 h) (gX14_reckonAll_j180_164 a2 a3 a4 a5 a6 a7 a8 t0 t1 h) (Sum.elim (fun r => Sh S r.2) (fun r => Sh S r)) := by
  unfold fX14_reckonAll_j180_164 gX14_reckonAll_j180_164
  refine EQ_if Iff.rfl (fun c1 => ?_) (fun c1 => ?_)
  · exact EQ_some hS
  · refine EQ_if Iff.rfl (fun c2 => ?_) (fun c2 => ?_)
    · exact (eX14_reckonAll_j240_164 a2 a3 a4 a5 a6 a7 a8 hS)
    · refine EQ_jgd (show h 454 (-2) = 15 from by rw [k_454 hS]) ?_
      refine EQ_jb (eX14_isOf a8 a4 2 hS) (fun v30 r3 => ?_)
      refine EQ_if Iff.rfl (fun c4 => ?_) (fun c4 => ?_)
      · exact (eX14_reckonAll_j284_164 a2 a3 a4 a5 a6 a7 a8 hS)
      · refine EQ_jgd (show h 454 (-2) = 15 from by rw [k_454 hS]) ?_
        refine EQ_jg ⟨fun x0 => (ik_X16 hS).mp x0, fun x0 => (ik_X16 hS).mpr x0⟩ (fun g5 => ?_)
        refine EQ_jg ⟨fun ⟨_, x0⟩ => (show jI a6 (h (h (h 454 38) 23) (-1)) ↔ jI a6 122 from by rw [ft_X16_23 hS g5, la_X16_23 hS g5]).mp x0, fun x0 => ⟨(show h (h (h 454 38) 23) (-2) = 101 from by rw [ft_X16_23 hS g5, ka_X16_23 hS g5]), (show jI a6 (h (h (h 454 38) 23) (-1)) ↔ jI a6 122 from by rw [ft_X16_23 hS g5, la_X16_23 hS g5]).mpr x0⟩⟩ (fun g6 => ?_)
        refine EQ_jgd (show h 454 (-2) = 15 from by rw [k_454 hS]) ?_
        refine EQ_jgd (show h (h 454 38) (-2) = 17 from by rw [kd_X16 hS g5]) ?_
        refine EQ_jg ⟨fun ⟨_, x0⟩ => (show jI a7 (h (h (h 454 38) 23) (-1)) ↔ jI a7 122 from by rw [ft_X16_23 hS g5, la_X16_23 hS g5]).mp x0, fun x0 => ⟨(show h (h (h 454 38) 23) (-2) = 101 from by rw [ft_X16_23 hS g5, ka_X16_23 hS g5]), (show jI a7 (h (h (h 454 38) 23) (-1)) ↔ jI a7 122 from by rw [ft_X16_23 hS g5, la_X16_23 hS g5]).mpr x0⟩⟩ (fun g7 => ?_)
        refine EQ_jgd (show h 454 (-2) = 15 from by rw [k_454 hS]) ?_
        refine EQ_jgd (show h (h 454 38) (-2) = 17 from by rw [kd_X16 hS g5]) ?_
        refine EQ_jg ⟨fun ⟨_, x0⟩ => (show jI a8 (h (h (h 454 38) 23) (-1)) ↔ jI a8 122 from by rw [ft_X16_23 hS g5, la_X16_23 hS g5]).mp x0, fun x0 => ⟨(show h (h (h 454 38) 23) (-2) = 101 from by rw [ft_X16_23 hS g5, ka_X16_23 hS g5]), (show jI a8 (h (h (h 454 38) 23) (-1)) ↔ jI a8 122 from by rw [ft_X16_23 hS g5, la_X16_23 hS g5]).mpr x0⟩⟩ (fun g8 => ?_)
        refine EQ_if (show w32 (w32 (h (h (h 454 38) 23) a6 + h (h (h 454 38) 23) a7) + h (h (h 454 38) 23) a8) ≤ a3 ↔ w32 (w32 (h (h 454 38 + 14) a6 + h (h 454 38 + 14) a7) + h (h 454 38 + 14) a8) ≤ a3 from by rw [ft_X16_23 hS g5]) (fun c9 => ?_) (fun c9 => ?_)
        · exact (eX14_reckonAll_j240_164 a2 a3 a4 a5 a6 a7 a8 hS)
        · exact (eX14_reckonAll_j284_164 a2 a3 a4 a5 a6 a7 a8 hS)
noncomputable def gX14_reckonAll_b164 (i2 : Int) (i3 : Int) (i4 : Int) (i5 : Int) (i6 : Int) (i7 : Int) (s : Int × AH) : Option ((Int × AH) ⊕ (AH)) := jt2 s fun a8 h => if i5 ≤ 2 then (gX14_reckonAll_j180_164 i2 i3 i4 i5 i6 i7 a8 a8 0 h) else (gX14_reckonAll_j180_164 i2 i3 i4 i5 i6 i7 a8 a8 (h 454 44) h)
theorem eX14_reckonAll_b164 (i2 : Int) (i3 : Int) (i4 : Int) (i5 : Int) (i6 : Int) (i7 : Int) {s : Int × AH} (hS : (fun r => Sh S r.2) s) : EQ (fX14_reckonAll_b164 454 i2 i3 i4 i5 i6 i7 s) (gX14_reckonAll_b164 i2 i3 i4 i5 i6 i7 s) (Sum.elim (fun r => Sh S r.2) (fun r => Sh S r)) := by
  unfold fX14_reckonAll_b164 gX14_reckonAll_b164
  obtain ⟨a8, h⟩ := s
  refine EQ_jt2 ?_
  replace hS : Sh S h := hS
  refine EQ_if Iff.rfl (fun c1 => ?_) (fun c1 => ?_)
  · exact (eX14_reckonAll_j180_164 i2 i3 i4 i5 i6 i7 a8 a8 0 hS)
  · refine EQ_jgd (show h 454 (-2) = 15 from by rw [k_454 hS]) ?_
    exact (eX14_reckonAll_j180_164 i2 i3 i4 i5 i6 i7 a8 a8 (h 454 44) hS)
noncomputable def gX14_reckonAll_l164 (i2 : Int) (i3 : Int) (i4 : Int) (i5 : Int) (i6 : Int) (i7 : Int) (a8 : Int) (h : AH) : Option (AH) := jit (gX14_reckonAll_b164 i2 i3 i4 i5 i6 i7) (a8, h)
theorem eX14_reckonAll_l164 (i2 : Int) (i3 : Int) (i4 : Int) (i5 : Int) (i6 : Int) (i7 : Int) (a8 : Int) {h : AH} (hS : Sh S h) : EQ (fX14_reckonAll_l164 454 i2 i3 i4 i5 i6 i7 a8 h) (gX14_reckonAll_l164 i2 i3 i4 i5 i6 i7 a8 h) (fun r => Sh S r) := EQ_jit (I := (fun r => Sh S r.2)) (fun s hs => eX14_reckonAll_b164 i2 i3 i4 i5 i6 i7 hs) hS
noncomputable def gX14_reckonAll_j162_86 (a2 : Int) (a3 : Int) (a4 : Int) (a5 : Int) (a6 : Int) (a7 : Int) (t0 : Int) (h : AH) : Option ((Int × AH) ⊕ (AH)) := jb (gX14_reckonAll_l164 a2 a3 a4 a5 a6 a7 t0 h) fun o23 => gX14_reckonAll_j290_86 a2 a3 a4 a5 a6 a7 o23
theorem eX14_reckonAll_j162_86 (a2 : Int) (a3 : Int) (a4 : Int) (a5 : Int) (a6 : Int) (a7 : Int) (t0 : Int) {h : AH} (hS : Sh S h) : EQ (fX14_reckonAll_j162_86 454 a2 a3 a4 a5 a6 a7 t0 h) (gX14_reckonAll_j162_86 a2 a3 a4 a5 a6 a7 t0 h) (Sum.elim (fun r => Sh S r.2) (fun r => Sh S r)) := by
  unfold fX14_reckonAll_j162_86 gX14_reckonAll_j162_86
  refine EQ_jb (eX14_reckonAll_l164 a2 a3 a4 a5 a6 a7 t0 hS) (fun o23 r1 => ?_)
  exact (eX14_reckonAll_j290_86 a2 a3 a4 a5 a6 a7 r1)
noncomputable def gX14_reckonAll_j151_86 (a2 : Int) (a3 : Int) (a4 : Int) (a5 : Int) (a6 : Int) (a7 : Int) (h : AH) : Option ((Int × AH) ⊕ (AH)) := if a5 ≤ 2 then (gX14_reckonAll_j162_86 a2 a3 a4 a5 a6 a7 (-1) h) else (gX14_reckonAll_j162_86 a2 a3 a4 a5 a6 a7 0 h)
theorem eX14_reckonAll_j151_86 (a2 : Int) (a3 : Int) (a4 : Int) (a5 : Int) (a6 : Int) (a7 : Int) {h : AH} (hS : Sh S h) : EQ (fX14_reckonAll_j151_86 454 a2 a3 a4 a5 a6 a7 h) (gX14_reckonAll_j151_86 a2 a3 a4 a5 a6 a7 h) (Sum.elim (fun r => Sh S r.2) (fun r => Sh S r)) := by
  unfold fX14_reckonAll_j151_86 gX14_reckonAll_j151_86
  refine EQ_if Iff.rfl (fun c1 => ?_) (fun c1 => ?_)
  · exact (eX14_reckonAll_j162_86 a2 a3 a4 a5 a6 a7 (-1) hS)
  · exact (eX14_reckonAll_j162_86 a2 a3 a4 a5 a6 a7 0 hS)
noncomputable def gX14_reckonAll_j102_86 (a2 : Int) (a3 : Int) (a4 : Int) (a5 : Int) (a6 : Int) (a7 : Int) (t0 : Int) (t1 : Int) (h : AH) : Option ((Int × AH) ⊕ (AH)) := if t1 ≤ t0 then (some (.inr h)) else (if a5 ≤ 1 then (gX14_reckonAll_j151_86 a2 a3 a4 a5 a6 a7 h) else (jb (gX14_isOf a7 a4 1 h) fun v19 => if v19 = 0 then (gX14_reckonAll_j290_86 a2 a3 a4 a5 a6 a7 h) else (jg (isX16 (h 454 38)) <| jg (jI a6 122) <| jg (jI a7 122) <| if w32 (h (h 454 38 + 14) a6 + h (h 454 38 + 14) a7) ≤ a3 then (gX14_reckonAll_j151_86 a2 a3 a4 a5 a6 a7 h) else (gX14_reckonAll_j290_86 a2 a3 a4 a5 a6 a7 h))))
theorem eX14_reckonAll_j102_86 (a2 : Int) (a3 : Int) (a4 : Int) (a5 : Int) (a6 : Int) (a7 : Int) (t0 : Int) (t1 : Int) {h : AH} (hS : Sh S h) : EQ (fX14_reckonAll_j102_86 454 a2 a3 a4 a5 a6 a7 t0 t1 h) (gX14_reckonAll_j102_86 a2 a3 a4 a5 a6 a7 t0 t1 h) (Sum.elim (fun r => Sh S r.2) (fun r => Sh S r)) := by
  unfold fX14_reckonAll_j102_86 gX14_reckonAll_j102_86
  refine EQ_if Iff.rfl (fun c1 => ?_) (fun c1 => ?_)
  · exact EQ_some hS
  · refine EQ_if Iff.rfl (fun c2 => ?_) (fun c2 => ?_)
    · exact (eX14_reckonAll_j151_86 a2 a3 a4 a5 a6 a7 hS)
    · refine EQ_jgd (show h 454 (-2) = 15 from by rw [k_454 hS]) ?_
      refine EQ_jb (eX14_isOf a7 a4 1 hS) (fun v19 r3 => ?_)
      refine EQ_if Iff.rfl (fun c4 => ?_) (fun c4 => ?_)
      · exact (eX14_reckonAll_j290_86 a2 a3 a4 a5 a6 a7 hS)
      · refine EQ_jgd (show h 454 (-2) = 15 from by rw [k_454 hS]) ?_
        refine EQ_jg ⟨fun x0 => (ik_X16 hS).mp x0, fun x0 => (ik_X16 hS).mpr x0⟩ (fun g5 => ?_)
        refine EQ_jg ⟨fun ⟨_, x0⟩ => (show jI a6 (h (h (h 454 38) 23) (-1)) ↔ jI a6 122 from by rw [ft_X16_23 hS g5, la_X16_23 hS g5]).mp x0, fun x0 => ⟨(show h (h (h 454 38) 23) (-2) = 101 from by rw [ft_X16_23 hS g5, ka_X16_23 hS g5]), (show jI a6 (h (h (h 454 38) 23) (-1)) ↔ jI a6 122 from by rw [ft_X16_23 hS g5, la_X16_23 hS g5]).mpr x0⟩⟩ (fun g6 => ?_)
        refine EQ_jgd (show h 454 (-2) = 15 from by rw [k_454 hS]) ?_
        refine EQ_jgd (show h (h 454 38) (-2) = 17 from by rw [kd_X16 hS g5]) ?_
        refine EQ_jg ⟨fun ⟨_, x0⟩ => (show jI a7 (h (h (h 454 38) 23) (-1)) ↔ jI a7 122 from by rw [ft_X16_23 hS g5, la_X16_23 hS g5]).mp x0, fun x0 => ⟨(show h (h (h 454 38) 23) (-2) = 101 from by rw [ft_X16_23 hS g5, ka_X16_23 hS g5]), (show jI a7 (h (h (h 454 38) 23) (-1)) ↔ jI a7 122 from by rw [ft_X16_23 hS g5, la_X16_23 hS g5]).mpr x0⟩⟩ (fun g7 => ?_)
        refine EQ_if (show w32 (h (h (h 454 38) 23) a6 + h (h (h 454 38) 23) a7) ≤ a3 ↔ w32 (h (h 454 38 + 14) a6 + h (h 454 38 + 14) a7) ≤ a3 from by rw [ft_X16_23 hS g5]) (fun c8 => ?_) (fun c8 => ?_)
        · exact (eX14_reckonAll_j151_86 a2 a3 a4 a5 a6 a7 hS)
        · exact (eX14_reckonAll_j290_86 a2 a3 a4 a5 a6 a7 hS)
noncomputable def gX14_reckonAll_b86 (i2 : Int) (i3 : Int) (i4 : Int) (i5 : Int) (i6 : Int) (s : Int × AH) : Option ((Int × AH) ⊕ (AH)) := jt2 s fun a7 h => if i5 ≤ 1 then (gX14_reckonAll_j102_86 i2 i3 i4 i5 i6 a7 a7 0 h) else (gX14_reckonAll_j102_86 i2 i3 i4 i5 i6 a7 a7 (h 454 44) h)
theorem eX14_reckonAll_b86 (i2 : Int) (i3 : Int) (i4 : Int) (i5 : Int) (i6 : Int) {s : Int × AH} (hS : (fun r => Sh S r.2) s) : EQ (fX14_reckonAll_b86 454 i2 i3 i4 i5 i6 s) (gX14_reckonAll_b86 i2 i3 i4 i5 i6 s) (Sum.elim (fun r => Sh S r.2) (fun r => Sh S r)) := by
  unfold fX14_reckonAll_b86 gX14_reckonAll_b86
  obtain ⟨a7, h⟩ := s
  refine EQ_jt2 ?_
  replace hS : Sh S h := hS
  refine EQ_if Iff.rfl (fun c1 => ?_) (fun c1 => ?_)
  · exact (eX14_reckonAll_j102_86 i2 i3 i4 i5 i6 a7 a7 0 hS)
  · refine EQ_jgd (show h 454 (-2) = 15 from by rw [k_454 hS]) ?_
    exact (eX14_reckonAll_j102_86 i2 i3 i4 i5 i6 a7 a7 (h 454 44) hS)
noncomputable def gX14_reckonAll_l86 (i2 : Int) (i3 : Int) (i4 : Int) (i5 : Int) (i6 : Int) (a7 : Int) (h : AH) : Option (AH) := jit (gX14_reckonAll_b86 i2 i3 i4 i5 i6) (a7, h)
theorem eX14_reckonAll_l86 (i2 : Int) (i3 : Int) (i4 : Int) (i5 : Int) (i6 : Int) (a7 : Int) {h : AH} (hS : Sh S h) : EQ (fX14_reckonAll_l86 454 i2 i3 i4 i5 i6 a7 h) (gX14_reckonAll_l86 i2 i3 i4 i5 i6 a7 h) (fun r => Sh S r) := EQ_jit (I := (fun r => Sh S r.2)) (fun s hs => eX14_reckonAll_b86 i2 i3 i4 i5 i6 hs) hS
noncomputable def gX14_reckonAll_j84_35 (a2 : Int) (a3 : Int) (a4 : Int) (a5 : Int) (a6 : Int) (t0 : Int) (h : AH) : Option ((Int × AH) ⊕ (AH)) := jb (gX14_reckonAll_l86 a2 a3 a4 a5 a6 t0 h) fun o13 => gX14_reckonAll_j296_35 a2 a3 a4 a5 a6 o13
theorem eX14_reckonAll_j84_35 (a2 : Int) (a3 : Int) (a4 : Int) (a5 : Int) (a6 : Int) (t0 : Int) {h : AH} (hS : Sh S h) : EQ (fX14_reckonAll_j84_35 454 a2 a3 a4 a5 a6 t0 h) (gX14_reckonAll_j84_35 a2 a3 a4 a5 a6 t0 h) (Sum.elim (fun r => Sh S r.2) (fun r => Sh S r)) := by
  unfold fX14_reckonAll_j84_35 gX14_reckonAll_j84_35
  refine EQ_jb (eX14_reckonAll_l86 a2 a3 a4 a5 a6 t0 hS) (fun o13 r1 => ?_)
  exact (eX14_reckonAll_j296_35 a2 a3 a4 a5 a6 r1)
noncomputable def gX14_reckonAll_b35 (i2 : Int) (i3 : Int) (i4 : Int) (i5 : Int) (s : Int × AH) : Option ((Int × AH) ⊕ (AH)) := jt2 s fun a6 h => if h 454 44 ≤ a6 then (some (.inr h)) else (jb (gX14_isOf a6 i4 0 h) fun v8 => if v8 = 0 then (gX14_reckonAll_j296_35 i2 i3 i4 i5 a6 h) else (jg (isX16 (h 454 38)) <| jg (jI a6 122) <| if h (h 454 38 + 14) a6 ≤ i3 then (if i5 ≤ 1 then (gX14_reckonAll_j84_35 i2 i3 i4 i5 a6 (-1) h) else (gX14_reckonAll_j84_35 i2 i3 i4 i5 a6 0 h)) else (gX14_reckonAll_j296_35 i2 i3 i4 i5 a6 h)))
theorem eX14_reckonAll_b35 (i2 : Int) (i3 : Int) (i4 : Int) (i5 : Int) {s : Int × AH} (hS : (fun r => Sh S r.2) s) : EQ (fX14_reckonAll_b35 454 i2 i3 i4 i5 s) (gX14_reckonAll_b35 i2 i3 i4 i5 s) (Sum.elim (fun r => Sh S r.2) (fun r => Sh S r)) := by
  unfold fX14_reckonAll_b35 gX14_reckonAll_b35
  obtain ⟨a6, h⟩ := s
  refine EQ_jt2 ?_
  replace hS : Sh S h := hS
  refine EQ_jgd (show h 454 (-2) = 15 from by rw [k_454 hS]) ?_
  refine EQ_if Iff.rfl (fun c1 => ?_) (fun c1 => ?_)
  · exact EQ_some hS
  · refine EQ_jgd (show h 454 (-2) = 15 from by rw [k_454 hS]) ?_
    refine EQ_jb (eX14_isOf a6 i4 0 hS) (fun v8 r2 => ?_)
    refine EQ_if Iff.rfl (fun c3 => ?_) (fun c3 => ?_)
    · exact (eX14_reckonAll_j296_35 i2 i3 i4 i5 a6 hS)
    · refine EQ_jgd (show h 454 (-2) = 15 from by rw [k_454 hS]) ?_
      refine EQ_jg ⟨fun x0 => (ik_X16 hS).mp x0, fun x0 => (ik_X16 hS).mpr x0⟩ (fun g4 => ?_)
      refine EQ_jg ⟨fun ⟨_, x0⟩ => (show jI a6 (h (h (h 454 38) 23) (-1)) ↔ jI a6 122 from by rw [ft_X16_23 hS g4, la_X16_23 hS g4]).mp x0, fun x0 => ⟨(show h (h (h 454 38) 23) (-2) = 101 from by rw [ft_X16_23 hS g4, ka_X16_23 hS g4]), (show jI a6 (h (h (h 454 38) 23) (-1)) ↔ jI a6 122 from by rw [ft_X16_23 hS g4, la_X16_23 hS g4]).mpr x0⟩⟩ (fun g5 => ?_)
      refine EQ_if (show h (h (h 454 38) 23) a6 ≤ i3 ↔ h (h 454 38 + 14) a6 ≤ i3 from by rw [ft_X16_23 hS g4]) (fun c6 => ?_) (fun c6 => ?_)
      · refine EQ_if Iff.rfl (fun c7 => ?_) (fun c7 => ?_)
        · exact (eX14_reckonAll_j84_35 i2 i3 i4 i5 a6 (-1) hS)
        · exact (eX14_reckonAll_j84_35 i2 i3 i4 i5 a6 0 hS)
      · exact (eX14_reckonAll_j296_35 i2 i3 i4 i5 a6 hS)
noncomputable def gX14_reckonAll_l35 (i2 : Int) (i3 : Int) (i4 : Int) (i5 : Int) (a6 : Int) (h : AH) : Option (AH) := jit (gX14_reckonAll_b35 i2 i3 i4 i5) (a6, h)
theorem eX14_reckonAll_l35 (i2 : Int) (i3 : Int) (i4 : Int) (i5 : Int) (a6 : Int) {h : AH} (hS : Sh S h) : EQ (fX14_reckonAll_l35 454 i2 i3 i4 i5 a6 h) (gX14_reckonAll_l35 i2 i3 i4 i5 a6 h) (fun r => Sh S r) := EQ_jit (I := (fun r => Sh S r.2)) (fun s hs => eX14_reckonAll_b35 i2 i3 i4 i5 hs) hS
noncomputable def gX14_reckonAll (a1 : Int) (a2 : Int) (h : AH) : Option (AH) := jg (isX16 (h 454 38)) <| jg (jI a1 13) <| jl (w32 (a2 - h (h 454 38 + 4) a1)) fun x1 => jl (h (h 454 38 + 3) a1) fun x2 => jg (jI x2 36) <| jl (h 456 x2) fun x3 => jb (gX14_reckonAll_l35 a2 x1 x2 x3 0 h) fun o4 => some o4
theorem eX14_reckonAll (a1 : Int) (a2 : Int) {h : AH} (hS : Sh S h) : EQ (fX14_reckonAll 454 a1 a2 h) (gX14_reckonAll a1 a2 h) (fun r => Sh S r) := by
  unfold fX14_reckonAll gX14_reckonAll
  refine EQ_jgd (show h 454 (-2) = 15 from by rw [k_454 hS]) ?_
  refine EQ_jg ⟨fun x0 => (ik_X16 hS).mp x0, fun x0 => (ik_X16 hS).mpr x0⟩ (fun g1 => ?_)
  refine EQ_jg ⟨fun ⟨_, x0⟩ => (show jI a1 (h (h (h 454 38) 8) (-1)) ↔ jI a1 13 from by rw [ft_X16_8 hS g1, la_X16_8 hS g1]).mp x0, fun x0 => ⟨(show h (h (h 454 38) 8) (-2) = 101 from by rw [ft_X16_8 hS g1, ka_X16_8 hS g1]), (show jI a1 (h (h (h 454 38) 8) (-1)) ↔ jI a1 13 from by rw [ft_X16_8 hS g1, la_X16_8 hS g1]).mpr x0⟩⟩ (fun g2 => ?_)
  refine EQ_jl (by rw [ft_X16_8 hS g1]) (fun x1 ex1 => ?_)
  clear ex1
  refine EQ_jgd (show h 454 (-2) = 15 from by rw [k_454 hS]) ?_
  refine EQ_jgd (show h (h 454 38) (-2) = 17 from by rw [kd_X16 hS g1]) ?_
  refine EQ_jgd ⟨(show h (h (h 454 38) 7) (-2) = 101 from by rw [ft_X16_7 hS g1, ka_X16_7 hS g1]), ((show jI a1 (h (h (h 454 38) 7) (-1)) ↔ jI a1 13 from by rw [ft_X16_7 hS g1, la_X16_7 hS g1]).mpr g2)⟩ ?_
  refine EQ_jl (by rw [ft_X16_7 hS g1]) (fun x2 ex2 => ?_)
  clear ex2
  refine EQ_jgd (show h 454 (-2) = 15 from by rw [k_454 hS]) ?_
  refine EQ_jg ⟨fun ⟨_, x0⟩ => (show jI x2 (h (h 454 1) (-1)) ↔ jI x2 36 from by rw [r_454_1 hS, l_456 hS]).mp x0, fun x0 => ⟨(show h (h 454 1) (-2) = 101 from by rw [r_454_1 hS, k_456 hS]), (show jI x2 (h (h 454 1) (-1)) ↔ jI x2 36 from by rw [r_454_1 hS, l_456 hS]).mpr x0⟩⟩ (fun g3 => ?_)
  refine EQ_jl (by rw [r_454_1 hS]) (fun x3 ex3 => ?_)
  clear ex3
  refine EQ_jb (eX14_reckonAll_l35 a2 x1 x2 x3 0 hS) (fun o4 r4 => ?_)
  exact EQ_some r4
noncomputable def gX14_reckon_j170_87 (a1 : Int) (a2 : Int) (a3 : Int) (h : AH) : Option ((Int × AH) ⊕ (AH)) := jl (w32 (a3 + 1)) fun x27 => some (.inl (x27, h))
theorem eX14_reckon_j170_87 (a1 : Int) (a2 : Int) (a3 : Int) {h : AH} (hS : Sh S h) : EQ (fX14_reckon_j170_87 454 a1 a2 a3 h) (gX14_reckon_j170_87 a1 a2 a3 h) (Sum.elim (fun r => Sh S r.2) (fun r => Sh S r)) := by
  unfold fX14_reckon_j170_87 gX14_reckon_j170_87
  refine EQ_jl rfl (fun x27 ex27 => ?_)
  clear ex27
  exact EQ_some hS
noncomputable def gX14_reckon_j139_87 (a1 : Int) (a2 : Int) (a3 : Int) (h : AH) : Option ((Int × AH) ⊕ (AH)) := jg (isX16 (h 454 38)) <| jg (jI a3 13) <| if h (h 454 38 + 3) a3 < 0 then (gX14_reckon_j170_87 a1 a2 a3 h) else (if a2 ≤ h (h 454 38 + 4) a3 then (gX14_reckon_j170_87 a1 a2 a3 h) else (jb (gX14_reckonAll a3 a2 h) fun h26 => gX14_reckon_j170_87 a1 a2 a3 h26))
theorem eX14_reckon_j139_87 (a1 : Int) (a2 : Int) (a3 : Int) {h : AH} (hS : Sh S h) : EQ (fX14_reckon_j139_87 454 a1 a2 a3 h) (gX14_reckon_j139_87 a1 a2 a3 h) (Sum.elim (fun r => Sh S r.2) (fun r => Sh S r)) := by
  unfold fX14_reckon_j139_87 gX14_reckon_j139_87
  refine EQ_jgd (show h 454 (-2) = 15 from by rw [k_454 hS]) ?_
  refine EQ_jg ⟨fun x0 => (ik_X16 hS).mp x0, fun x0 => (ik_X16 hS).mpr x0⟩ (fun g1 => ?_)
  refine EQ_jg ⟨fun ⟨_, x0⟩ => (show jI a3 (h (h (h 454 38) 7) (-1)) ↔ jI a3 13 from by rw [ft_X16_7 hS g1, la_X16_7 hS g1]).mp x0, fun x0 => ⟨(show h (h (h 454 38) 7) (-2) = 101 from by rw [ft_X16_7 hS g1, ka_X16_7 hS g1]), (show jI a3 (h (h (h 454 38) 7) (-1)) ↔ jI a3 13 from by rw [ft_X16_7 hS g1, la_X16_7 hS g1]).mpr x0⟩⟩ (fun g2 => ?_)
  refine EQ_if (show h (h (h 454 38) 7) a3 < 0 ↔ h (h 454 38 + 3) a3 < 0 from by rw [ft_X16_7 hS g1]) (fun c3 => ?_) (fun c3 => ?_)
  · exact (eX14_reckon_j170_87 a1 a2 a3 hS)
  · refine EQ_jgd (show h 454 (-2) = 15 from by rw [k_454 hS]) ?_
    refine EQ_jgd (show h (h 454 38) (-2) = 17 from by rw [kd_X16 hS g1]) ?_
    refine EQ_jgd ⟨(show h (h (h 454 38) 8) (-2) = 101 from by rw [ft_X16_8 hS g1, ka_X16_8 hS g1]), ((show jI a3 (h (h (h 454 38) 8) (-1)) ↔ jI a3 13 from by rw [ft_X16_8 hS g1, la_X16_8 hS g1]).mpr g2)⟩ ?_
    refine EQ_if (show a2 ≤ h (h (h 454 38) 8) a3 ↔ a2 ≤ h (h 454 38 + 4) a3 from by rw [ft_X16_8 hS g1]) (fun c4 => ?_) (fun c4 => ?_)
    · exact (eX14_reckon_j170_87 a1 a2 a3 hS)
    · refine EQ_jgd (show h 454 (-2) = 15 from by rw [k_454 hS]) ?_
      refine EQ_jb (eX14_reckonAll a3 a2 hS) (fun h26 r5 => ?_)
      exact (eX14_reckon_j170_87 a1 a2 a3 r5)
noncomputable def gX14_reckon_b87 (i1 : Int) (i2 : Int) (s : Int × AH) : Option ((Int × AH) ⊕ (AH)) := jt2 s fun a3 h => jg (isX16 (h 454 38)) <| if h (h 454 38) 5 ≤ a3 then (some (.inr h)) else (jg (jI a3 13) <| if h (h 454 38 + 2) a3 < 0 then (gX14_reckon_j139_87 i1 i2 a3 h) else (if h (h 454 38 + 4) a3 = i2 then (jg (jI i2 13) <| jb2 (gX14_valueFunction a3 h) fun v20 h21 => jg (jI v20 122) <| jl (jst h21 (756 + i2) v20 (w64 (h21 (756 + i2) v20 + 1))) fun h22 => gX14_reckon_j139_87 i1 i2 a3 h22) else (gX14_reckon_j139_87 i1 i2 a3 h)))
theorem eX14_reckon_b87 (i1 : Int) (i2 : Int) {s : Int × AH} (hS : (fun r => Sh S r.2) s) : EQ (fX14_reckon_b87 454 i1 i2 s) (gX14_reckon_b87 i1 i2 s) (Sum.elim (fun r => Sh S r.2) (fun r => Sh S r)) := by
  unfold fX14_reckon_b87 gX14_reckon_b87
  obtain ⟨a3, h⟩ := s
  refine EQ_jt2 ?_
  replace hS : Sh S h := hS
  refine EQ_jgd (show h 454 (-2) = 15 from by rw [k_454 hS]) ?_
  refine EQ_jg ⟨fun x0 => (ik_X16 hS).mp x0, fun x0 => (ik_X16 hS).mpr x0⟩ (fun g1 => ?_)
  refine EQ_if Iff.rfl (fun c2 => ?_) (fun c2 => ?_)
  · exact EQ_some hS
  · refine EQ_jgd (show h 454 (-2) = 15 from by rw [k_454 hS]) ?_
    refine EQ_jgd (show h (h 454 38) (-2) = 17 from by rw [kd_X16 hS g1]) ?_
    refine EQ_jg ⟨fun ⟨_, x0⟩ => (show jI a3 (h (h (h 454 38) 6) (-1)) ↔ jI a3 13 from by rw [ft_X16_6 hS g1, la_X16_6 hS g1]).mp x0, fun x0 => ⟨(show h (h (h 454 38) 6) (-2) = 101 from by rw [ft_X16_6 hS g1, ka_X16_6 hS g1]), (show jI a3 (h (h (h 454 38) 6) (-1)) ↔ jI a3 13 from by rw [ft_X16_6 hS g1, la_X16_6 hS g1]).mpr x0⟩⟩ (fun g3 => ?_)
    refine EQ_if (show h (h (h 454 38) 6) a3 < 0 ↔ h (h 454 38 + 2) a3 < 0 from by rw [ft_X16_6 hS g1]) (fun c4 => ?_) (fun c4 => ?_)
    · exact (eX14_reckon_j139_87 i1 i2 a3 hS)
    · refine EQ_jgd (show h 454 (-2) = 15 from by rw [k_454 hS]) ?_
      refine EQ_jgd (show h (h 454 38) (-2) = 17 from by rw [kd_X16 hS g1]) ?_
      refine EQ_jgd ⟨(show h (h (h 454 38) 8) (-2) = 101 from by rw [ft_X16_8 hS g1, ka_X16_8 hS g1]), ((show jI a3 (h (h (h 454 38) 8) (-1)) ↔ jI a3 13 from by rw [ft_X16_8 hS g1, la_X16_8 hS g1]).mpr g3)⟩ ?_
      refine EQ_if (show h (h (h 454 38) 8) a3 = i2 ↔ h (h 454 38 + 4) a3 = i2 from by rw [ft_X16_8 hS g1]) (fun c5 => ?_) (fun c5 => ?_)
      · refine EQ_jgd (show h 454 (-2) = 15 from by rw [k_454 hS]) ?_
        refine EQ_jg ⟨fun ⟨_, x0⟩ => (show jI i2 (h (h 454 41) (-1)) ↔ jI i2 13 from by rw [r_454_41 hS, l_755 hS]).mp x0, fun x0 => ⟨(show h (h 454 41) (-2) = 106 from by rw [r_454_41 hS, k_755 hS]), (show jI i2 (h (h 454 41) (-1)) ↔ jI i2 13 from by rw [r_454_41 hS, l_755 hS]).mpr x0⟩⟩ (fun g6 => ?_)
        refine EQ_jgd (show h 454 (-2) = 15 from by rw [k_454 hS]) ?_
        refine EQ_jb2 (eX14_valueFunction a3 hS) (fun v20 h21 r7 => ?_)
        replace r7 : Sh S h21 := r7
        refine EQ_jg ⟨fun ⟨_, x0⟩ => (show jI v20 (h21 (h (h 454 41) i2) (-1)) ↔ jI v20 122 from by rw [r_454_41 hS, rr_755 hS g6, rl_755 r7 g6]).mp x0, fun x0 => ⟨(show h21 (h (h 454 41) i2) (-2) = 102 from by rw [r_454_41 hS, rr_755 hS g6, rk_755 r7 g6]), (show jI v20 (h21 (h (h 454 41) i2) (-1)) ↔ jI v20 122 from by rw [r_454_41 hS, rr_755 hS g6, rl_755 r7 g6]).mpr x0⟩⟩ (fun g8 => ?_)
        refine EQ_jgd ⟨(show h21 (h (h 454 41) i2) (-2) = 102 from by rw [r_454_41 hS, rr_755 hS g6, rk_755 r7 g6]), (show 200 ≤ h (h 454 41) i2 from by rw [r_454_41 hS, rr_755 hS g6]; exact rge_755 g6), ((show jI v20 (h21 (h (h 454 41) i2) (-1)) ↔ jI v20 122 from by rw [r_454_41 hS, rr_755 hS g6, rl_755 r7 g6]).mpr g8)⟩ ?_
        refine EQ_jl (by rw [r_454_41 hS, rr_755 hS g6]) (fun h22 eh22 => ?_)
        have s9 := Sh_of eh22 (Sh_sta r7 (arr_755 g6) (jI_nn g8) (fun e => absurd ((rk_755 r7 g6).symm.trans e) (by decide)))
        clear eh22
        exact (eX14_reckon_j139_87 i1 i2 a3 s9)
      · exact (eX14_reckon_j139_87 i1 i2 a3 hS)
noncomputable def gX14_reckon_l87 (i1 : Int) (i2 : Int) (a3 : Int) (h : AH) : Option (AH) := jit (gX14_reckon_b87 i1 i2) (a3, h)
theorem eX14_reckon_l87 (i1 : Int) (i2 : Int) (a3 : Int) {h : AH} (hS : Sh S h) : EQ (fX14_reckon_l87 454 i1 i2 a3 h) (gX14_reckon_l87 i1 i2 a3 h) (fun r => Sh S r) := EQ_jit (I := (fun r => Sh S r.2)) (fun s hs => eX14_reckon_b87 i1 i2 hs) hS
noncomputable def gX14_reckon_j85_15 (a1 : Int) (a2 : Int) (h : AH) : Option ((Int × AH) ⊕ (AH)) := jb (gX14_reckon_l87 a1 a2 0 h) fun o13 => jl (w32 (a2 + 1)) fun x15 => some (.inl (x15, o13))
theorem eX14_reckon_j85_15 (a1 : Int) (a2 : Int) {h : AH} (hS : Sh S h) : EQ (fX14_reckon_j85_15 454 a1 a2 h) (gX14_reckon_j85_15 a1 a2 h) (Sum.elim (fun r => Sh S r.2) (fun r => Sh S r)) := by
  unfold fX14_reckon_j85_15 gX14_reckon_j85_15
  refine EQ_jb (eX14_reckon_l87 a1 a2 0 hS) (fun o13 r1 => ?_)
  refine EQ_jl rfl (fun x15 ex15 => ?_)
  clear ex15
  exact EQ_some r1
noncomputable def gX14_reckon_b22 (i1 : Int) (i2 : Int) (s : Int × AH) : Option ((Int × AH) ⊕ (AH)) := jt2 s fun a3 h => if h 454 44 ≤ a3 then (some (.inr h)) else (jg (jI i2 13) <| jg (jI a3 122) <| jl (jst h (756 + i2) a3 0) fun h29 => jl (w32 (a3 + 1)) fun x30 => some (.inl (x30, h29)))
theorem eX14_reckon_b22 (i1 : Int) (i2 : Int) {s : Int × AH} (hS : (fun r => Sh S r.2) s) : EQ (fX14_reckon_b22 454 i1 i2 s) (gX14_reckon_b22 i1 i2 s) (Sum.elim (fun r => Sh S r.2) (fun r => Sh S r)) := by
  unfold fX14_reckon_b22 gX14_reckon_b22
  obtain ⟨a3, h⟩ := s
  refine EQ_jt2 ?_
  replace hS : Sh S h := hS
  refine EQ_jgd (show h 454 (-2) = 15 from by rw [k_454 hS]) ?_
  refine EQ_if Iff.rfl (fun c1 => ?_) (fun c1 => ?_)
  · exact EQ_some hS
  · refine EQ_jgd (show h 454 (-2) = 15 from by rw [k_454 hS]) ?_
    refine EQ_jg ⟨fun ⟨_, x0⟩ => (show jI i2 (h (h 454 41) (-1)) ↔ jI i2 13 from by rw [r_454_41 hS, l_755 hS]).mp x0, fun x0 => ⟨(show h (h 454 41) (-2) = 106 from by rw [r_454_41 hS, k_755 hS]), (show jI i2 (h (h 454 41) (-1)) ↔ jI i2 13 from by rw [r_454_41 hS, l_755 hS]).mpr x0⟩⟩ (fun g2 => ?_)
    refine EQ_jg ⟨fun ⟨_, _, x0⟩ => (show jI a3 (h (h (h 454 41) i2) (-1)) ↔ jI a3 122 from by rw [r_454_41 hS, rr_755 hS g2, rl_755 hS g2]).mp x0, fun x0 => ⟨(show h (h (h 454 41) i2) (-2) = 102 from by rw [r_454_41 hS, rr_755 hS g2, rk_755 hS g2]), (show 200 ≤ h (h 454 41) i2 from by rw [r_454_41 hS, rr_755 hS g2]; exact rge_755 g2), (show jI a3 (h (h (h 454 41) i2) (-1)) ↔ jI a3 122 from by rw [r_454_41 hS, rr_755 hS g2, rl_755 hS g2]).mpr x0⟩⟩ (fun g3 => ?_)
    refine EQ_jl (by rw [r_454_41 hS, rr_755 hS g2]) (fun h29 eh29 => ?_)
    have s4 := Sh_of eh29 (Sh_sta hS (arr_755 g2) (jI_nn g3) (fun e => absurd ((rk_755 hS g2).symm.trans e) (by decide)))
    clear eh29
    refine EQ_jl rfl (fun x30 ex30 => ?_)
    clear ex30
    exact EQ_some s4
noncomputable def gX14_reckon_l22 (i1 : Int) (i2 : Int) (a3 : Int) (h : AH) : Option (AH) := jit (gX14_reckon_b22 i1 i2) (a3, h)
theorem eX14_reckon_l22 (i1 : Int) (i2 : Int) (a3 : Int) {h : AH} (hS : Sh S h) : EQ (fX14_reckon_l22 454 i1 i2 a3 h) (gX14_reckon_l22 i1 i2 a3 h) (fun r => Sh S r) := EQ_jit (I := (fun r => Sh S r.2)) (fun s hs => eX14_reckon_b22 i1 i2 hs) hS
noncomputable def gX14_reckon_b47 (i1 : Int) (i2 : Int) (s : Int × AH) : Option ((Int × AH) ⊕ (AH)) := jt2 s fun a3 h => jg (isX16 (h 454 38)) <| if h (h 454 38) 3 ≤ a3 then (some (.inr h)) else (if i2 = 1 then (jg (jI i2 13) <| jb2 (gX14_leafFunction a3 h) fun v34 h35 => jg (jI v34 122) <| jl (jst h35 (756 + i2) v34 (w64 (h35 (756 + i2) v34 + 1))) fun h36 => jl (w32 (a3 + 1)) fun x37 => some (.inl (x37, h36))) else (some (.inr h)))
theorem eX14_reckon_b47 (i1 : Int) (i2 : Int) {s : Int × AH} (hS : (fun r => Sh S r.2) s) : EQ (fX14_reckon_b47 454 i1 i2 s) (gX14_reckon_b47 i1 i2 s) (Sum.elim (fun r => Sh S r.2) (fun r => Sh S r)) := by
  unfold fX14_reckon_b47 gX14_reckon_b47
  obtain ⟨a3, h⟩ := s
  refine EQ_jt2 ?_
  replace hS : Sh S h := hS
  refine EQ_jgd (show h 454 (-2) = 15 from by rw [k_454 hS]) ?_
  refine EQ_jg ⟨fun x0 => (ik_X16 hS).mp x0, fun x0 => (ik_X16 hS).mpr x0⟩ (fun g1 => ?_)
  refine EQ_if Iff.rfl (fun c2 => ?_) (fun c2 => ?_)
  · exact EQ_some hS
  · refine EQ_if Iff.rfl (fun c3 => ?_) (fun c3 => ?_)
    · refine EQ_jgd (show h 454 (-2) = 15 from by rw [k_454 hS]) ?_
      refine EQ_jg ⟨fun ⟨_, x0⟩ => (show jI i2 (h (h 454 41) (-1)) ↔ jI i2 13 from by rw [r_454_41 hS, l_755 hS]).mp x0, fun x0 => ⟨(show h (h 454 41) (-2) = 106 from by rw [r_454_41 hS, k_755 hS]), (show jI i2 (h (h 454 41) (-1)) ↔ jI i2 13 from by rw [r_454_41 hS, l_755 hS]).mpr x0⟩⟩ (fun g4 => ?_)
      refine EQ_jgd (show h 454 (-2) = 15 from by rw [k_454 hS]) ?_
      refine EQ_jb2 (eX14_leafFunction a3 hS) (fun v34 h35 r5 => ?_)
      replace r5 : Sh S h35 := r5
      refine EQ_jg ⟨fun ⟨_, x0⟩ => (show jI v34 (h35 (h (h 454 41) i2) (-1)) ↔ jI v34 122 from by rw [r_454_41 hS, rr_755 hS g4, rl_755 r5 g4]).mp x0, fun x0 => ⟨(show h35 (h (h 454 41) i2) (-2) = 102 from by rw [r_454_41 hS, rr_755 hS g4, rk_755 r5 g4]), (show jI v34 (h35 (h (h 454 41) i2) (-1)) ↔ jI v34 122 from by rw [r_454_41 hS, rr_755 hS g4, rl_755 r5 g4]).mpr x0⟩⟩ (fun g6 => ?_)
      refine EQ_jgd ⟨(show h35 (h (h 454 41) i2) (-2) = 102 from by rw [r_454_41 hS, rr_755 hS g4, rk_755 r5 g4]), (show 200 ≤ h (h 454 41) i2 from by rw [r_454_41 hS, rr_755 hS g4]; exact rge_755 g4), ((show jI v34 (h35 (h (h 454 41) i2) (-1)) ↔ jI v34 122 from by rw [r_454_41 hS, rr_755 hS g4, rl_755 r5 g4]).mpr g6)⟩ ?_
      refine EQ_jl (by rw [r_454_41 hS, rr_755 hS g4]) (fun h36 eh36 => ?_)
      have s7 := Sh_of eh36 (Sh_sta r5 (arr_755 g4) (jI_nn g6) (fun e => absurd ((rk_755 r5 g4).symm.trans e) (by decide)))
      clear eh36
      refine EQ_jl rfl (fun x37 ex37 => ?_)
      clear ex37
      exact EQ_some s7
    · exact EQ_some hS
noncomputable def gX14_reckon_l47 (i1 : Int) (i2 : Int) (a3 : Int) (h : AH) : Option (AH) := jit (gX14_reckon_b47 i1 i2) (a3, h)
theorem eX14_reckon_l47 (i1 : Int) (i2 : Int) (a3 : Int) {h : AH} (hS : Sh S h) : EQ (fX14_reckon_l47 454 i1 i2 a3 h) (gX14_reckon_l47 i1 i2 a3 h) (fun r => Sh S r) := EQ_jit (I := (fun r => Sh S r.2)) (fun s hs => eX14_reckon_b47 i1 i2 hs) hS
noncomputable def gX14_reckon_b15 (i1 : Int) (s : Int × AH) : Option ((Int × AH) ⊕ (AH)) := jt2 s fun a2 h => if i1 < a2 then (some (.inr h)) else (jb (gX14_reckon_l22 i1 a2 0 h) fun o9 => jb (gX14_reckon_l47 i1 a2 0 o9) fun o11 => gX14_reckon_j85_15 i1 a2 o11)
theorem eX14_reckon_b15 (i1 : Int) {s : Int × AH} (hS : (fun r => Sh S r.2) s) : EQ (fX14_reckon_b15 454 i1 s) (gX14_reckon_b15 i1 s) (Sum.elim (fun r => Sh S r.2) (fun r => Sh S r)) := by
  unfold fX14_reckon_b15 gX14_reckon_b15
  obtain ⟨a2, h⟩ := s
  refine EQ_jt2 ?_
  replace hS : Sh S h := hS
  refine EQ_if Iff.rfl (fun c1 => ?_) (fun c1 => ?_)
  · exact EQ_some hS
  · refine EQ_jb (eX14_reckon_l22 i1 a2 0 hS) (fun o9 r2 => ?_)
    refine EQ_jb (eX14_reckon_l47 i1 a2 0 r2) (fun o11 r3 => ?_)
    exact (eX14_reckon_j85_15 i1 a2 r3)
noncomputable def gX14_reckon_l15 (i1 : Int) (a2 : Int) (h : AH) : Option (AH) := jit (gX14_reckon_b15 i1) (a2, h)
theorem eX14_reckon_l15 (i1 : Int) (a2 : Int) {h : AH} (hS : Sh S h) : EQ (fX14_reckon_l15 454 i1 a2 h) (gX14_reckon_l15 i1 a2 h) (fun r => Sh S r) := EQ_jit (I := (fun r => Sh S r.2)) (fun s hs => eX14_reckon_b15 i1 hs) hS
noncomputable def gX14_reckon (a1 : Int) (h : AH) : Option (AH) := jb (gX14_upTo a1 h) fun v2 => jl (jst h 454 44 v2) fun h3 => jb (gX14_startAnew h3) fun h5 => jb (gX14_reckon_l15 a1 1 h5) fun o6 => some o6
theorem eX14_reckon (a1 : Int) {h : AH} (hS : Sh S h) : EQ (fX14_reckon 454 a1 h) (gX14_reckon a1 h) (fun r => Sh S r) := by
  unfold fX14_reckon gX14_reckon
  refine EQ_jgd (show h 454 (-2) = 15 from by rw [k_454 hS]) ?_
  refine EQ_jb (eX14_upTo a1 hS) (fun v2 r1 => ?_)
  refine EQ_jgd ⟨(show h 454 (-2) = 15 from by rw [k_454 hS]), (show (200 : Int) ≤ 454 from (by decide))⟩ ?_
  refine EQ_jl rfl (fun h3 eh3 => ?_)
  have s2 := Sh_of eh3 (Sh_sto hS (a := 454) (i := 44) (by decide +kernel))
  clear eh3
  refine EQ_jgd (show h3 454 (-2) = 15 from by rw [k_454 s2]) ?_
  refine EQ_jb (eX14_startAnew s2) (fun h5 r3 => ?_)
  refine EQ_jb (eX14_reckon_l15 a1 1 r3) (fun o6 r4 => ?_)
  exact EQ_some r4
noncomputable def gX14_weigh_j41_10 (a1 : Int) (a2 : Int) (a4 : Int) (t0 : Int) (t1 : Int) (t2 : Int) (h : AH) : Option ((Int × Int × AH) ⊕ (Int × AH)) := jg (h t0 (-2) = 102 ∧ 200 ≤ t0 ∧ jI t1 (h t0 (-1))) <| jl (jst h t0 t1 t2) fun h12 => jg (h12 (h12 769 0) (-2) = 102 ∧ jI a4 (h12 (h12 769 0) (-1))) <| jg (jI a1 13) <| jg (jI a4 122) <| jl (w64 (a2 + w64 (h12 (h12 769 0) a4 * h12 (756 + a1) a4))) fun x13 => jl (w32 (a4 + 1)) fun x14 => some (.inl (x13, x14, h12))
theorem eX14_weigh_j41_10 (a1 : Int) (a2 : Int) (a4 : Int) (t0 : Int) (t1 : Int) (t2 : Int) {h : AH} (hS : Sh S h) : EQ (fX14_weigh_j41_10 454 a1 a2 a4 t0 t1 t2 h) (gX14_weigh_j41_10 a1 a2 a4 t0 t1 t2 h) (Sum.elim (fun r => Sh S r.2.2) (fun r => Sh S r.2)) := by
  unfold fX14_weigh_j41_10 gX14_weigh_j41_10
  refine EQ_jg Iff.rfl (fun g1 => ?_)
  refine EQ_jl rfl (fun h12 eh12 => ?_)
  have s2 := Sh_of eh12 (Sh_stk hS (Or.inr (Or.inl (g1.1))) (g1.2.1) (jI_nn (g1.2.2)) (fun e => absurd (((g1.1)).symm.trans e) (by decide)))
  clear eh12
  refine EQ_jgd (show h12 454 (-2) = 15 from by rw [k_454 s2]) ?_
  refine EQ_jgd ⟨(show h12 (h12 454 42) (-2) = 106 from by rw [r_454_42 s2, k_769 s2]), (show jI 0 (h12 (h12 454 42) (-1)) from by rw [r_454_42 s2, l_769 s2]; unfold jI; decide)⟩ ?_
  refine EQ_jg ⟨fun ⟨x0, x1⟩ => ⟨(show h12 (h12 (h12 454 42) 0) (-2) = 102 ↔ h12 (h12 769 0) (-2) = 102 from by rw [r_454_42 s2]).mp x0, (show jI a4 (h12 (h12 (h12 454 42) 0) (-1)) ↔ jI a4 (h12 (h12 769 0) (-1)) from by rw [r_454_42 s2]).mp x1⟩, fun ⟨x0, x1⟩ => ⟨(show h12 (h12 (h12 454 42) 0) (-2) = 102 ↔ h12 (h12 769 0) (-2) = 102 from by rw [r_454_42 s2]).mpr x0, (show jI a4 (h12 (h12 (h12 454 42) 0) (-1)) ↔ jI a4 (h12 (h12 769 0) (-1)) from by rw [r_454_42 s2]).mpr x1⟩⟩ (fun g3 => ?_)
  refine EQ_jgd (show h12 454 (-2) = 15 from by rw [k_454 s2]) ?_
  refine EQ_jg ⟨fun ⟨_, x0⟩ => (show jI a1 (h12 (h12 454 41) (-1)) ↔ jI a1 13 from by rw [r_454_41 s2, l_755 s2]).mp x0, fun x0 => ⟨(show h12 (h12 454 41) (-2) = 106 from by rw [r_454_41 s2, k_755 s2]), (show jI a1 (h12 (h12 454 41) (-1)) ↔ jI a1 13 from by rw [r_454_41 s2, l_755 s2]).mpr x0⟩⟩ (fun g4 => ?_)
  refine EQ_jg ⟨fun ⟨_, x0⟩ => (show jI a4 (h12 (h12 (h12 454 41) a1) (-1)) ↔ jI a4 122 from by rw [r_454_41 s2, rr_755 s2 g4, rl_755 s2 g4]).mp x0, fun x0 => ⟨(show h12 (h12 (h12 454 41) a1) (-2) = 102 from by rw [r_454_41 s2, rr_755 s2 g4, rk_755 s2 g4]), (show jI a4 (h12 (h12 (h12 454 41) a1) (-1)) ↔ jI a4 122 from by rw [r_454_41 s2, rr_755 s2 g4, rl_755 s2 g4]).mpr x0⟩⟩ (fun g5 => ?_)
  refine EQ_jl (by rw [r_454_42 s2, r_454_41 s2, rr_755 s2 g4]) (fun x13 ex13 => ?_)
  clear ex13
  refine EQ_jl rfl (fun x14 ex14 => ?_)
  clear ex14
  exact EQ_some s2
noncomputable def gX14_weigh_b10 (i1 : Int) (s : Int × Int × AH) : Option ((Int × Int × AH) ⊕ (Int × AH)) := jt3 s fun a2 a4 h => if h 454 44 ≤ a4 then (some (.inr (a2, h))) else (jb2 (gX14_meets a4 h) fun v9 h10 => if v9 = 0 then (gX14_weigh_j41_10 i1 a2 a4 (h 769 0) a4 0 h10) else (gX14_weigh_j41_10 i1 a2 a4 (h 769 0) a4 1 h10))
theorem eX14_weigh_b10 (i1 : Int) {s : Int × Int × AH} (hS : (fun r => Sh S r.2.2) s) : EQ (fX14_weigh_b10 454 i1 s) (gX14_weigh_b10 i1 s) (Sum.elim (fun r => Sh S r.2.2) (fun r => Sh S r.2)) := by
  unfold fX14_weigh_b10 gX14_weigh_b10
  obtain ⟨a2, a4, h⟩ := s
  refine EQ_jt3 ?_
  replace hS : Sh S h := hS
  refine EQ_jgd (show h 454 (-2) = 15 from by rw [k_454 hS]) ?_
  refine EQ_if Iff.rfl (fun c1 => ?_) (fun c1 => ?_)
  · exact EQ_some hS
  · refine EQ_jgd (show h 454 (-2) = 15 from by rw [k_454 hS]) ?_
    refine EQ_jgd ⟨(show h (h 454 42) (-2) = 106 from by rw [r_454_42 hS, k_769 hS]), (show jI 0 (h (h 454 42) (-1)) from by rw [r_454_42 hS, l_769 hS]; unfold jI; decide)⟩ ?_
    refine EQ_jgd (show h 454 (-2) = 15 from by rw [k_454 hS]) ?_
    refine EQ_jb2 (eX14_meets a4 hS) (fun v9 h10 r2 => ?_)
    replace r2 : Sh S h10 := r2
    refine EQ_if Iff.rfl (fun c3 => ?_) (fun c3 => ?_)
    · exact (by rw [r_454_42 hS]; exact eX14_weigh_j41_10 i1 a2 a4 (h 769 0) a4 0 r2)
    · exact (by rw [r_454_42 hS]; exact eX14_weigh_j41_10 i1 a2 a4 (h 769 0) a4 1 r2)
noncomputable def gX14_weigh_l10 (i1 : Int) (a2 : Int) (a4 : Int) (h : AH) : Option (Int × AH) := jit (gX14_weigh_b10 i1) (a2, a4, h)
theorem eX14_weigh_l10 (i1 : Int) (a2 : Int) (a4 : Int) {h : AH} (hS : Sh S h) : EQ (fX14_weigh_l10 454 i1 a2 a4 h) (gX14_weigh_l10 i1 a2 a4 h) (fun r => Sh S r.2) := EQ_jit (I := (fun r => Sh S r.2.2)) (fun s hs => eX14_weigh_b10 i1 hs) hS
noncomputable def gX14_weigh (a1 : Int) (h : AH) : Option (Int × AH) := jb (gX14_reckon a1 h) fun h2 => jb (gX14_weigh_l10 a1 0 0 h2) fun o3 => jt2 o3 fun y5 h6 => some (y5, h6)
theorem eX14_weigh (a1 : Int) {h : AH} (hS : Sh S h) : EQ (fX14_weigh 454 a1 h) (gX14_weigh a1 h) (fun r => Sh S r.2) := by
  unfold fX14_weigh gX14_weigh
  refine EQ_jgd (show h 454 (-2) = 15 from by rw [k_454 hS]) ?_
  refine EQ_jb (eX14_reckon a1 hS) (fun h2 r1 => ?_)
  refine EQ_jb (eX14_weigh_l10 a1 0 0 r1) (fun o3 r2 => ?_)
  obtain ⟨y5, h6⟩ := o3
  refine EQ_jt2 ?_
  replace r2 : Sh S h6 := r2
  exact EQ_some r2
noncomputable def gX14_count (a1 : Int) (h : AH) : Option (Int × AH) := jb2 (gX14_refusal a1 h) fun v2 h3 => if 0 ≤ v2 then (jb2 (gX14_weigh a1 h3) fun v6 h7 => some (v6, h7)) else (some (v2, h3))
theorem eX14_count (a1 : Int) {h : AH} (hS : Sh S h) : EQ (fX14_count 454 a1 h) (gX14_count a1 h) (fun r => Sh S r.2) := by
  unfold fX14_count gX14_count
  refine EQ_jgd (show h 454 (-2) = 15 from by rw [k_454 hS]) ?_
  refine EQ_jb2 (eX14_refusal a1 hS) (fun v2 h3 r1 => ?_)
  replace r1 : Sh S h3 := r1
  refine EQ_if Iff.rfl (fun c2 => ?_) (fun c2 => ?_)
  · refine EQ_jgd (show h3 454 (-2) = 15 from by rw [k_454 r1]) ?_
    refine EQ_jb2 (eX14_weigh a1 r1) (fun v6 h7 r3 => ?_)
    replace r3 : Sh S h7 := r3
    exact EQ_some r3
  · exact EQ_some r1
noncomputable def gX14_rest_j411_83 (a2 : Int) (a3 : Int) (a4 : Int) (a6 : Int) (a7 : Int) (a8 : Int) (a10 : Int) (a12 : Int) (a13 : Int) (h : AH) : Option ((Int × Int × AH) ⊕ (Int × AH)) := jl (w32 (a13 + 1)) fun x21 => some (.inl (a10, x21, h))
theorem eX14_rest_j411_83 (a2 : Int) (a3 : Int) (a4 : Int) (a6 : Int) (a7 : Int) (a8 : Int) (a10 : Int) (a12 : Int) (a13 : Int) {h : AH} (hS : Sh S h) : EQ (fX14_rest_j411_83 454 a2 a3 a4 a6 a7 a8 a10 a12 a13 h) (gX14_rest_j411_83 a2 a3 a4 a6 a7 a8 a10 a12 a13 h) (Sum.elim (fun r => Sh S r.2.2) (fun r => Sh S r.2)) := by
  unfold fX14_rest_j411_83 gX14_rest_j411_83
  refine EQ_jl rfl (fun x21 ex21 => ?_)
  clear ex21
  exact EQ_some hS
noncomputable def gX14_rest_j405_135 (a2 : Int) (a3 : Int) (a4 : Int) (a6 : Int) (a7 : Int) (a8 : Int) (a10 : Int) (a12 : Int) (a13 : Int) (a14 : Int) (h : AH) : Option ((Int × Int × AH) ⊕ (Int × AH)) := jl (w32 (a14 + 1)) fun x38 => some (.inl (a10, x38, h))
theorem eX14_rest_j405_135 (a2 : Int) (a3 : Int) (a4 : Int) (a6 : Int) (a7 : Int) (a8 : Int) (a10 : Int) (a12 : Int) (a13 : Int) (a14 : Int) {h : AH} (hS : Sh S h) : EQ (fX14_rest_j405_135 454 a2 a3 a4 a6 a7 a8 a10 a12 a13 a14 h) (gX14_rest_j405_135 a2 a3 a4 a6 a7 a8 a10 a12 a13 a14 h) (Sum.elim (fun r => Sh S r.2.2) (fun r => Sh S r.2)) := by
  unfold fX14_rest_j405_135 gX14_rest_j405_135
  refine EQ_jl rfl (fun x38 ex38 => ?_)
  clear ex38
  exact EQ_some hS
noncomputable def gX14_rest_j399_216 (a2 : Int) (a3 : Int) (a4 : Int) (a6 : Int) (a7 : Int) (a8 : Int) (a10 : Int) (a12 : Int) (a13 : Int) (a14 : Int) (a15 : Int) (h : AH) : Option ((Int × Int × AH) ⊕ (Int × AH)) := jl (w32 (a15 + 1)) fun x60 => some (.inl (a10, x60, h))
theorem eX14_rest_j399_216 (a2 : Int) (a3 : Int) (a4 : Int) (a6 : Int) (a7 : Int) (a8 : Int) (a10 : Int) (a12 : Int) (a13 : Int) (a14 : Int) (a15 : Int) {h : AH} (hS : Sh S h) : EQ (fX14_rest_j399_216 454 a2 a3 a4 a6 a7 a8 a10 a12 a13 a14 a15 h) (gX14_rest_j399_216 a2 a3 a4 a6 a7 a8 a10 a12 a13 a14 a15 h) (Sum.elim (fun r => Sh S r.2.2) (fun r => Sh S r.2)) := by
  unfold fX14_rest_j399_216 gX14_rest_j399_216
  refine EQ_jl rfl (fun x60 ex60 => ?_)
  clear ex60
  exact EQ_some hS
noncomputable def gX14_rest_j366_216 (a2 : Int) (a3 : Int) (a4 : Int) (a6 : Int) (a7 : Int) (a8 : Int) (a10 : Int) (a12 : Int) (a13 : Int) (a14 : Int) (a15 : Int) (a16 : Int) (t0 : Int) (h : AH) : Option ((Int × Int × AH) ⊕ (Int × AH)) := if t0 < 0 then (jl (w64 (a10 + 0)) fun x62 => gX14_rest_j399_216 a2 a3 a4 a6 a7 a8 x62 a12 a13 a14 a15 h) else (if t0 < h 454 44 then (jg (h a7 (-2) = 102 ∧ jI t0 (h a7 (-1))) <| jl (w64 (a10 + w64 (a16 * h a7 t0))) fun x64 => gX14_rest_j399_216 a2 a3 a4 a6 a7 a8 x64 a12 a13 a14 a15 h) else (jl (w64 (a10 + 0)) fun x65 => gX14_rest_j399_216 a2 a3 a4 a6 a7 a8 x65 a12 a13 a14 a15 h))
theorem eX14_rest_j366_216 (a2 : Int) (a3 : Int) (a4 : Int) (a6 : Int) (a7 : Int) (a8 : Int) (a10 : Int) (a12 : Int) (a13 : Int) (a14 : Int) (a15 : Int) (a16 : Int) (t0 : Int) {h : AH} (hS : Sh S h) : EQ (fX14_rest_j366_216 454 a2 a3 a4 a6 a7 a8 a10 a12 a13 a14 a15 a16 t0 h) (gX14_rest_j366_216 a2 a3 a4 a6 a7 a8 a10 a12 a13 a14 a15 a16 t0 h) (Sum.elim (fun r => Sh S r.2.2) (fun r => Sh S r.2)) := by
  unfold fX14_rest_j366_216 gX14_rest_j366_216
  refine EQ_if Iff.rfl (fun c1 => ?_) (fun c1 => ?_)
  · refine EQ_jl rfl (fun x62 ex62 => ?_)
    clear ex62
    exact (eX14_rest_j399_216 a2 a3 a4 a6 a7 a8 x62 a12 a13 a14 a15 hS)
  · refine EQ_jgd (show h 454 (-2) = 15 from by rw [k_454 hS]) ?_
    refine EQ_if Iff.rfl (fun c2 => ?_) (fun c2 => ?_)
    · refine EQ_jg Iff.rfl (fun g3 => ?_)
      refine EQ_jl rfl (fun x64 ex64 => ?_)
      clear ex64
      exact (eX14_rest_j399_216 a2 a3 a4 a6 a7 a8 x64 a12 a13 a14 a15 hS)
    · refine EQ_jl rfl (fun x65 ex65 => ?_)
      clear ex65
      exact (eX14_rest_j399_216 a2 a3 a4 a6 a7 a8 x65 a12 a13 a14 a15 hS)
noncomputable def gX14_rest_j292_216 (a2 : Int) (a3 : Int) (a4 : Int) (a6 : Int) (a7 : Int) (a8 : Int) (a10 : Int) (a12 : Int) (a13 : Int) (a14 : Int) (a15 : Int) (h : AH) : Option ((Int × Int × AH) ⊕ (Int × AH)) := jb (gX14_ways a2 a13 a14 a15 h) fun v47 => if jcmp v47 0 = 0 then (gX14_rest_j399_216 a2 a3 a4 a6 a7 a8 a10 a12 a13 a14 a15 h) else (if a6 = 0 then (jb2 (gX14_result a8 a13 a14 a15 h) fun v51 h52 => gX14_rest_j366_216 a2 a3 a4 a6 a7 a8 a10 a12 a13 a14 a15 v47 v51 h52) else (if a6 = 1 then (jb2 (gX14_result a8 a3 a13 a14 h) fun v55 h56 => gX14_rest_j366_216 a2 a3 a4 a6 a7 a8 a10 a12 a13 a14 a15 v47 v55 h56) else (jb2 (gX14_result a8 a3 a4 a13 h) fun v58 h59 => gX14_rest_j366_216 a2 a3 a4 a6 a7 a8 a10 a12 a13 a14 a15 v47 v58 h59)))
theorem eX14_rest_j292_216 (a2 : Int) (a3 : Int) (a4 : Int) (a6 : Int) (a7 : Int) (a8 : Int) (a10 : Int) (a12 : Int) (a13 : Int) (a14 : Int) (a15 : Int) {h : AH} (hS : Sh S h) : EQ (fX14_rest_j292_216 454 a2 a3 a4 a6 a7 a8 a10 a12 a13 a14 a15 h) (gX14_rest_j292_216 a2 a3 a4 a6 a7 a8 a10 a12 a13 a14 a15 h) (Sum.elim (fun r => Sh S r.2.2) (fun r => Sh S r.2)) := by
  unfold fX14_rest_j292_216 gX14_rest_j292_216
  refine EQ_jgd (show h 454 (-2) = 15 from by rw [k_454 hS]) ?_
  refine EQ_jb (eX14_ways a2 a13 a14 a15 hS) (fun v47 r1 => ?_)
  refine EQ_if Iff.rfl (fun c2 => ?_) (fun c2 => ?_)
  · exact (eX14_rest_j399_216 a2 a3 a4 a6 a7 a8 a10 a12 a13 a14 a15 hS)
  · refine EQ_if Iff.rfl (fun c3 => ?_) (fun c3 => ?_)
    · refine EQ_jgd (show h 454 (-2) = 15 from by rw [k_454 hS]) ?_
      refine EQ_jb2 (eX14_result a8 a13 a14 a15 hS) (fun v51 h52 r4 => ?_)
      replace r4 : Sh S h52 := r4
      exact (eX14_rest_j366_216 a2 a3 a4 a6 a7 a8 a10 a12 a13 a14 a15 v47 v51 r4)
    · refine EQ_if Iff.rfl (fun c5 => ?_) (fun c5 => ?_)
      · refine EQ_jgd (show h 454 (-2) = 15 from by rw [k_454 hS]) ?_
        refine EQ_jb2 (eX14_result a8 a3 a13 a14 hS) (fun v55 h56 r6 => ?_)
        replace r6 : Sh S h56 := r6
        exact (eX14_rest_j366_216 a2 a3 a4 a6 a7 a8 a10 a12 a13 a14 a15 v47 v55 r6)
      · refine EQ_jgd (show h 454 (-2) = 15 from by rw [k_454 hS]) ?_
        refine EQ_jb2 (eX14_result a8 a3 a4 a13 hS) (fun v58 h59 r7 => ?_)
        replace r7 : Sh S h59 := r7
        exact (eX14_rest_j366_216 a2 a3 a4 a6 a7 a8 a10 a12 a13 a14 a15 v47 v58 r7)
noncomputable def gX14_rest_j232_216 (a2 : Int) (a3 : Int) (a4 : Int) (a6 : Int) (a7 : Int) (a8 : Int) (a10 : Int) (a12 : Int) (a13 : Int) (a14 : Int) (a15 : Int) (t0 : Int) (t1 : Int) (h : AH) : Option ((Int × Int × AH) ⊕ (Int × AH)) := if t1 ≤ t0 then (some (.inr (a10, h))) else (if a12 ≤ 2 then (gX14_rest_j292_216 a2 a3 a4 a6 a7 a8 a10 a12 a13 a14 a15 h) else (jb (gX14_isOf a15 a8 2 h) fun v43 => if v43 = 0 then (gX14_rest_j399_216 a2 a3 a4 a6 a7 a8 a10 a12 a13 a14 a15 h) else (jg (isX16 (h 454 38)) <| jg (jI a13 122) <| jg (jI a14 122) <| jg (jI a15 122) <| if w32 (w32 (h (h 454 38 + 14) a13 + h (h 454 38 + 14) a14) + h (h 454 38 + 14) a15) ≤ a2 then (gX14_rest_j292_216 a2 a3 a4 a6 a7 a8 a10 a12 a13 a14 a15 h) else (gX14_rest_j399_216 a2 a3 a4 a6 a7 a8 a10 a12 a13 a14 a15 h))))
theorem eX14_rest_j232_216 (a2 : Int) (a3 : Int) (a4 : Int) (a6 : Int) (a7 : Int) (a8 : Int) (a10 : Int) (a12 : Int) (a13 : Int) (a14 : Int) (a15 : Int) (t0 : Int) (t1 : Int) {h : AH} (hS : Sh S h) : EQ (fX14_rest_j232_216 454 a2 a3 a4 a6 a7 a8 a10 a12 a13 a14 a15 t0 t1 h) (gX14_rest_j232_216 a2 a3 a4 a6 a7 a8 a10 a12 a13 a14 a15 t0 t1 h) (Sum.elim (fun r => Sh S r.2.2) (fun r => Sh S r.2)) := by
  unfold fX14_rest_j232_216 gX14_rest_j232_216
  refine EQ_if Iff.rfl (fun c1 => ?_) (fun c1 => ?_)
  · exact EQ_some hS
  · refine EQ_if Iff.rfl (fun c2 => ?_) (fun c2 => ?_)
    · exact (eX14_rest_j292_216 a2 a3 a4 a6 a7 a8 a10 a12 a13 a14 a15 hS)
    · refine EQ_jgd (show h 454 (-2) = 15 from by rw [k_454 hS]) ?_
      refine EQ_jb (eX14_isOf a15 a8 2 hS) (fun v43 r3 => ?_)
      refine EQ_if Iff.rfl (fun c4 => ?_) (fun c4 => ?_)
      · exact (eX14_rest_j399_216 a2 a3 a4 a6 a7 a8 a10 a12 a13 a14 a15 hS)
      · refine EQ_jgd (show h 454 (-2) = 15 from by rw [k_454 hS]) ?_
        refine EQ_jg ⟨fun x0 => (ik_X16 hS).mp x0, fun x0 => (ik_X16 hS).mpr x0⟩ (fun g5 => ?_)
        refine EQ_jg ⟨fun ⟨_, x0⟩ => (show jI a13 (h (h (h 454 38) 23) (-1)) ↔ jI a13 122 from by rw [ft_X16_23 hS g5, la_X16_23 hS g5]).mp x0, fun x0 => ⟨(show h (h (h 454 38) 23) (-2) = 101 from by rw [ft_X16_23 hS g5, ka_X16_23 hS g5]), (show jI a13 (h (h (h 454 38) 23) (-1)) ↔ jI a13 122 from by rw [ft_X16_23 hS g5, la_X16_23 hS g5]).mpr x0⟩⟩ (fun g6 => ?_)
        refine EQ_jgd (show h 454 (-2) = 15 from by rw [k_454 hS]) ?_
        refine EQ_jgd (show h (h 454 38) (-2) = 17 from by rw [kd_X16 hS g5]) ?_
        refine EQ_jg ⟨fun ⟨_, x0⟩ => (show jI a14 (h (h (h 454 38) 23) (-1)) ↔ jI a14 122 from by rw [ft_X16_23 hS g5, la_X16_23 hS g5]).mp x0, fun x0 => ⟨(show h (h (h 454 38) 23) (-2) = 101 from by rw [ft_X16_23 hS g5, ka_X16_23 hS g5]), (show jI a14 (h (h (h 454 38) 23) (-1)) ↔ jI a14 122 from by rw [ft_X16_23 hS g5, la_X16_23 hS g5]).mpr x0⟩⟩ (fun g7 => ?_)
        refine EQ_jgd (show h 454 (-2) = 15 from by rw [k_454 hS]) ?_
        refine EQ_jgd (show h (h 454 38) (-2) = 17 from by rw [kd_X16 hS g5]) ?_
        refine EQ_jg ⟨fun ⟨_, x0⟩ => (show jI a15 (h (h (h 454 38) 23) (-1)) ↔ jI a15 122 from by rw [ft_X16_23 hS g5, la_X16_23 hS g5]).mp x0, fun x0 => ⟨(show h (h (h 454 38) 23) (-2) = 101 from by rw [ft_X16_23 hS g5, ka_X16_23 hS g5]), (show jI a15 (h (h (h 454 38) 23) (-1)) ↔ jI a15 122 from by rw [ft_X16_23 hS g5, la_X16_23 hS g5]).mpr x0⟩⟩ (fun g8 => ?_)
        refine EQ_if (show w32 (w32 (h (h (h 454 38) 23) a13 + h (h (h 454 38) 23) a14) + h (h (h 454 38) 23) a15) ≤ a2 ↔ w32 (w32 (h (h 454 38 + 14) a13 + h (h 454 38 + 14) a14) + h (h 454 38 + 14) a15) ≤ a2 from by rw [ft_X16_23 hS g5]) (fun c9 => ?_) (fun c9 => ?_)
        · exact (eX14_rest_j292_216 a2 a3 a4 a6 a7 a8 a10 a12 a13 a14 a15 hS)
        · exact (eX14_rest_j399_216 a2 a3 a4 a6 a7 a8 a10 a12 a13 a14 a15 hS)
noncomputable def gX14_rest_b216 (i2 : Int) (i3 : Int) (i4 : Int) (i6 : Int) (i7 : Int) (i8 : Int) (i12 : Int) (i13 : Int) (i14 : Int) (s : Int × Int × AH) : Option ((Int × Int × AH) ⊕ (Int × AH)) := jt3 s fun a10 a15 h => if i12 ≤ 2 then (gX14_rest_j232_216 i2 i3 i4 i6 i7 i8 a10 i12 i13 i14 a15 a15 0 h) else (gX14_rest_j232_216 i2 i3 i4 i6 i7 i8 a10 i12 i13 i14 a15 a15 (h 454 44) h)
theorem eX14_rest_b216 (i2 : Int) (i3 : Int) (i4 : Int) (i6 : Int) (i7 : Int) (i8 : Int) (i12 : Int) (i13 : Int) (i14 : Int) {s : Int × Int × AH} (hS : (fun r => Sh S r.2.2) s) : EQ (fX14_rest_b216 454 i2 i3 i4 i6 i7 i8 i12 i13 i14 s) (gX14_rest_b216 i2 i3 i4 i6 i7 i8 i12 i13 i14 s) (Sum.elim (fun r => Sh S r.2.2) (fun r => Sh S r.2)) := by
  unfold fX14_rest_b216 gX14_rest_b216
  obtain ⟨a10, a15, h⟩ := s
  refine EQ_jt3 ?_
  replace hS : Sh S h := hS
  refine EQ_if Iff.rfl (fun c1 => ?_) (fun c1 => ?_)
  · exact (eX14_rest_j232_216 i2 i3 i4 i6 i7 i8 a10 i12 i13 i14 a15 a15 0 hS)
  · refine EQ_jgd (show h 454 (-2) = 15 from by rw [k_454 hS]) ?_
    exact (eX14_rest_j232_216 i2 i3 i4 i6 i7 i8 a10 i12 i13 i14 a15 a15 (h 454 44) hS)
noncomputable def gX14_rest_l216 (i2 : Int) (i3 : Int) (i4 : Int) (i6 : Int) (i7 : Int) (i8 : Int) (i12 : Int) (i13 : Int) (i14 : Int) (a10 : Int) (a15 : Int) (h : AH) : Option (Int × AH) := jit (gX14_rest_b216 i2 i3 i4 i6 i7 i8 i12 i13 i14) (a10, a15, h)
theorem eX14_rest_l216 (i2 : Int) (i3 : Int) (i4 : Int) (i6 : Int) (i7 : Int) (i8 : Int) (i12 : Int) (i13 : Int) (i14 : Int) (a10 : Int) (a15 : Int) {h : AH} (hS : Sh S h) : EQ (fX14_rest_l216 454 i2 i3 i4 i6 i7 i8 i12 i13 i14 a10 a15 h) (gX14_rest_l216 i2 i3 i4 i6 i7 i8 i12 i13 i14 a10 a15 h) (fun r => Sh S r.2) := EQ_jit (I := (fun r => Sh S r.2.2)) (fun s hs => eX14_rest_b216 i2 i3 i4 i6 i7 i8 i12 i13 i14 hs) hS
noncomputable def gX14_rest_j214_135 (a2 : Int) (a3 : Int) (a4 : Int) (a6 : Int) (a7 : Int) (a8 : Int) (a10 : Int) (a12 : Int) (a13 : Int) (a14 : Int) (t0 : Int) (h : AH) : Option ((Int × Int × AH) ⊕ (Int × AH)) := jb (gX14_rest_l216 a2 a3 a4 a6 a7 a8 a12 a13 a14 a10 t0 h) fun o34 => jt2 o34 fun y36 h37 => gX14_rest_j405_135 a2 a3 a4 a6 a7 a8 y36 a12 a13 a14 h37
theorem eX14_rest_j214_135 (a2 : Int) (a3 : Int) (a4 : Int) (a6 : Int) (a7 : Int) (a8 : Int) (a10 : Int) (a12 : Int) (a13 : Int) (a14 : Int) (t0 : Int) {h : AH} (hS : Sh S h) : EQ (fX14_rest_j214_135 454 a2 a3 a4 a6 a7 a8 a10 a12 a13 a14 t0 h) (gX14_rest_j214_135 a2 a3 a4 a6 a7 a8 a10 a12 a13 a14 t0 h) (Sum.elim (fun r => Sh S r.2.2) (fun r => Sh S r.2)) := by
  unfold fX14_rest_j214_135 gX14_rest_j214_135
  refine EQ_jb (eX14_rest_l216 a2 a3 a4 a6 a7 a8 a12 a13 a14 a10 t0 hS) (fun o34 r1 => ?_)
  obtain ⟨y36, h37⟩ := o34
  refine EQ_jt2 ?_
  replace r1 : Sh S h37 := r1
  exact (eX14_rest_j405_135 a2 a3 a4 a6 a7 a8 y36 a12 a13 a14 r1)
noncomputable def gX14_rest_j203_135 (a2 : Int) (a3 : Int) (a4 : Int) (a6 : Int) (a7 : Int) (a8 : Int) (a10 : Int) (a12 : Int) (a13 : Int) (a14 : Int) (h : AH) : Option ((Int × Int × AH) ⊕ (Int × AH)) := if a12 ≤ 2 then (gX14_rest_j214_135 a2 a3 a4 a6 a7 a8 a10 a12 a13 a14 (-1) h) else (gX14_rest_j214_135 a2 a3 a4 a6 a7 a8 a10 a12 a13 a14 0 h)
theorem eX14_rest_j203_135 (a2 : Int) (a3 : Int) (a4 : Int) (a6 : Int) (a7 : Int) (a8 : Int) (a10 : Int) (a12 : Int) (a13 : Int) (a14 : Int) {h : AH} (hS : Sh S h) : EQ (fX14_rest_j203_135 454 a2 a3 a4 a6 a7 a8 a10 a12 a13 a14 h) (gX14_rest_j203_135 a2 a3 a4 a6 a7 a8 a10 a12 a13 a14 h) (Sum.elim (fun r => Sh S r.2.2) (fun r => Sh S r.2)) := by
  unfold fX14_rest_j203_135 gX14_rest_j203_135
  refine EQ_if Iff.rfl (fun c1 => ?_) (fun c1 => ?_)
  · exact (eX14_rest_j214_135 a2 a3 a4 a6 a7 a8 a10 a12 a13 a14 (-1) hS)
  · exact (eX14_rest_j214_135 a2 a3 a4 a6 a7 a8 a10 a12 a13 a14 0 hS)
noncomputable def gX14_rest_j151_135 (a2 : Int) (a3 : Int) (a4 : Int) (a6 : Int) (a7 : Int) (a8 : Int) (a10 : Int) (a12 : Int) (a13 : Int) (a14 : Int) (t0 : Int) (t1 : Int) (h : AH) : Option ((Int × Int × AH) ⊕ (Int × AH)) := if t1 ≤ t0 then (some (.inr (a10, h))) else (if a12 ≤ 1 then (gX14_rest_j203_135 a2 a3 a4 a6 a7 a8 a10 a12 a13 a14 h) else (jb (gX14_isOf a14 a8 (w32 (a6 + 1)) h) fun v30 => if v30 = 0 then (gX14_rest_j405_135 a2 a3 a4 a6 a7 a8 a10 a12 a13 a14 h) else (jg (isX16 (h 454 38)) <| jg (jI a13 122) <| jg (jI a14 122) <| if w32 (h (h 454 38 + 14) a13 + h (h 454 38 + 14) a14) ≤ a2 then (gX14_rest_j203_135 a2 a3 a4 a6 a7 a8 a10 a12 a13 a14 h) else (gX14_rest_j405_135 a2 a3 a4 a6 a7 a8 a10 a12 a13 a14 h))))
theorem eX14_rest_j151_135 (a2 : Int) (a3 : Int) (a4 : Int) (a6 : Int) (a7 : Int) (a8 : Int) (a10 : Int) (a12 : Int) (a13 : Int) (a14 : Int) (t0 : Int) (t1 : Int) {h : AH} (hS : Sh S h) : EQ (fX14_rest_j151_135 454 a2 a3 a4 a6 a7 a8 a10 a12 a13 a14 t0 t1 h) (gX14_rest_j151_135 a2 a3 a4 a6 a7 a8 a10 a12 a13 a14 t0 t1 h) (Sum.elim (fun r => Sh S r.2.2) (fun r => Sh S r.2)) := by
  unfold fX14_rest_j151_135 gX14_rest_j151_135
  refine EQ_if Iff.rfl (fun c1 => ?_) (fun c1 => ?_)
  · exact EQ_some hS
  · refine EQ_if Iff.rfl (fun c2 => ?_) (fun c2 => ?_)
    · exact (eX14_rest_j203_135 a2 a3 a4 a6 a7 a8 a10 a12 a13 a14 hS)
    · refine EQ_jgd (show h 454 (-2) = 15 from by rw [k_454 hS]) ?_
      refine EQ_jb (eX14_isOf a14 a8 (w32 (a6 + 1)) hS) (fun v30 r3 => ?_)
      refine EQ_if Iff.rfl (fun c4 => ?_) (fun c4 => ?_)
      · exact (eX14_rest_j405_135 a2 a3 a4 a6 a7 a8 a10 a12 a13 a14 hS)
      · refine EQ_jgd (show h 454 (-2) = 15 from by rw [k_454 hS]) ?_
        refine EQ_jg ⟨fun x0 => (ik_X16 hS).mp x0, fun x0 => (ik_X16 hS).mpr x0⟩ (fun g5 => ?_)
        refine EQ_jg ⟨fun ⟨_, x0⟩ => (show jI a13 (h (h (h 454 38) 23) (-1)) ↔ jI a13 122 from by rw [ft_X16_23 hS g5, la_X16_23 hS g5]).mp x0, fun x0 => ⟨(show h (h (h 454 38) 23) (-2) = 101 from by rw [ft_X16_23 hS g5, ka_X16_23 hS g5]), (show jI a13 (h (h (h 454 38) 23) (-1)) ↔ jI a13 122 from by rw [ft_X16_23 hS g5, la_X16_23 hS g5]).mpr x0⟩⟩ (fun g6 => ?_)
        refine EQ_jgd (show h 454 (-2) = 15 from by rw [k_454 hS]) ?_
        refine EQ_jgd (show h (h 454 38) (-2) = 17 from by rw [kd_X16 hS g5]) ?_
        refine EQ_jg ⟨fun ⟨_, x0⟩ => (show jI a14 (h (h (h 454 38) 23) (-1)) ↔ jI a14 122 from by rw [ft_X16_23 hS g5, la_X16_23 hS g5]).mp x0, fun x0 => ⟨(show h (h (h 454 38) 23) (-2) = 101 from by rw [ft_X16_23 hS g5, ka_X16_23 hS g5]), (show jI a14 (h (h (h 454 38) 23) (-1)) ↔ jI a14 122 from by rw [ft_X16_23 hS g5, la_X16_23 hS g5]).mpr x0⟩⟩ (fun g7 => ?_)
        refine EQ_if (show w32 (h (h (h 454 38) 23) a13 + h (h (h 454 38) 23) a14) ≤ a2 ↔ w32 (h (h 454 38 + 14) a13 + h (h 454 38 + 14) a14) ≤ a2 from by rw [ft_X16_23 hS g5]) (fun c8 => ?_) (fun c8 => ?_)
        · exact (eX14_rest_j203_135 a2 a3 a4 a6 a7 a8 a10 a12 a13 a14 hS)
        · exact (eX14_rest_j405_135 a2 a3 a4 a6 a7 a8 a10 a12 a13 a14 hS)
noncomputable def gX14_rest_b135 (i2 : Int) (i3 : Int) (i4 : Int) (i6 : Int) (i7 : Int) (i8 : Int) (i12 : Int) (i13 : Int) (s : Int × Int × AH) : Option ((Int × Int × AH) ⊕ (Int × AH)) := jt3 s fun a10 a14 h => if i12 ≤ 1 then (gX14_rest_j151_135 i2 i3 i4 i6 i7 i8 a10 i12 i13 a14 a14 0 h) else (gX14_rest_j151_135 i2 i3 i4 i6 i7 i8 a10 i12 i13 a14 a14 (h 454 44) h)
theorem eX14_rest_b135 (i2 : Int) (i3 : Int) (i4 : Int) (i6 : Int) (i7 : Int) (i8 : Int) (i12 : Int) (i13 : Int) {s : Int × Int × AH} (hS : (fun r => Sh S r.2.2) s) : EQ (fX14_rest_b135 454 i2 i3 i4 i6 i7 i8 i12 i13 s) (gX14_rest_b135 i2 i3 i4 i6 i7 i8 i12 i13 s) (Sum.elim (fun r => Sh S r.2.2) (fun r => Sh S r.2)) := by
  unfold fX14_rest_b135 gX14_rest_b135
  obtain ⟨a10, a14, h⟩ := s
  refine EQ_jt3 ?_
  replace hS : Sh S h := hS
  refine EQ_if Iff.rfl (fun c1 => ?_) (fun c1 => ?_)
  · exact (eX14_rest_j151_135 i2 i3 i4 i6 i7 i8 a10 i12 i13 a14 a14 0 hS)
  · refine EQ_jgd (show h 454 (-2) = 15 from by rw [k_454 hS]) ?_
    exact (eX14_rest_j151_135 i2 i3 i4 i6 i7 i8 a10 i12 i13 a14 a14 (h 454 44) hS)
noncomputable def gX14_rest_l135 (i2 : Int) (i3 : Int) (i4 : Int) (i6 : Int) (i7 : Int) (i8 : Int) (i12 : Int) (i13 : Int) (a10 : Int) (a14 : Int) (h : AH) : Option (Int × AH) := jit (gX14_rest_b135 i2 i3 i4 i6 i7 i8 i12 i13) (a10, a14, h)
theorem eX14_rest_l135 (i2 : Int) (i3 : Int) (i4 : Int) (i6 : Int) (i7 : Int) (i8 : Int) (i12 : Int) (i13 : Int) (a10 : Int) (a14 : Int) {h : AH} (hS : Sh S h) : EQ (fX14_rest_l135 454 i2 i3 i4 i6 i7 i8 i12 i13 a10 a14 h) (gX14_rest_l135 i2 i3 i4 i6 i7 i8 i12 i13 a10 a14 h) (fun r => Sh S r.2) := EQ_jit (I := (fun r => Sh S r.2.2)) (fun s hs => eX14_rest_b135 i2 i3 i4 i6 i7 i8 i12 i13 hs) hS
noncomputable def gX14_rest_j133_83 (a2 : Int) (a3 : Int) (a4 : Int) (a6 : Int) (a7 : Int) (a8 : Int) (a10 : Int) (a12 : Int) (a13 : Int) (t0 : Int) (h : AH) : Option ((Int × Int × AH) ⊕ (Int × AH)) := jb (gX14_rest_l135 a2 a3 a4 a6 a7 a8 a12 a13 a10 t0 h) fun o22 => jt2 o22 fun y24 h25 => gX14_rest_j411_83 a2 a3 a4 a6 a7 a8 y24 a12 a13 h25
theorem eX14_rest_j133_83 (a2 : Int) (a3 : Int) (a4 : Int) (a6 : Int) (a7 : Int) (a8 : Int) (a10 : Int) (a12 : Int) (a13 : Int) (t0 : Int) {h : AH} (hS : Sh S h) : EQ (fX14_rest_j133_83 454 a2 a3 a4 a6 a7 a8 a10 a12 a13 t0 h) (gX14_rest_j133_83 a2 a3 a4 a6 a7 a8 a10 a12 a13 t0 h) (Sum.elim (fun r => Sh S r.2.2) (fun r => Sh S r.2)) := by
  unfold fX14_rest_j133_83 gX14_rest_j133_83
  refine EQ_jb (eX14_rest_l135 a2 a3 a4 a6 a7 a8 a12 a13 a10 t0 hS) (fun o22 r1 => ?_)
  obtain ⟨y24, h25⟩ := o22
  refine EQ_jt2 ?_
  replace r1 : Sh S h25 := r1
  exact (eX14_rest_j411_83 a2 a3 a4 a6 a7 a8 y24 a12 a13 r1)
noncomputable def gX14_rest_b83 (i2 : Int) (i3 : Int) (i4 : Int) (i6 : Int) (i7 : Int) (i8 : Int) (i12 : Int) (s : Int × Int × AH) : Option ((Int × Int × AH) ⊕ (Int × AH)) := jt3 s fun a10 a13 h => if h 454 44 ≤ a13 then (some (.inr (a10, h))) else (jb (gX14_isOf a13 i8 i6 h) fun v17 => if v17 = 0 then (gX14_rest_j411_83 i2 i3 i4 i6 i7 i8 a10 i12 a13 h) else (jg (isX16 (h 454 38)) <| jg (jI a13 122) <| if h (h 454 38 + 14) a13 ≤ i2 then (if i12 ≤ 1 then (gX14_rest_j133_83 i2 i3 i4 i6 i7 i8 a10 i12 a13 (-1) h) else (gX14_rest_j133_83 i2 i3 i4 i6 i7 i8 a10 i12 a13 0 h)) else (gX14_rest_j411_83 i2 i3 i4 i6 i7 i8 a10 i12 a13 h)))
theorem eX14_rest_b83 (i2 : Int) (i3 : Int) (i4 : Int) (i6 : Int) (i7 : Int) (i8 : Int) (i12 : Int) {s : Int × Int × AH} (hS : (fun r => Sh S r.2.2) s) : EQ (fX14_rest_b83 454 i2 i3 i4 i6 i7 i8 i12 s) (gX14_rest_b83 i2 i3 i4 i6 i7 i8 i12 s) (Sum.elim (fun r => Sh S r.2.2) (fun r => Sh S r.2)) := by
  unfold fX14_rest_b83 gX14_rest_b83
  obtain ⟨a10, a13, h⟩ := s
  refine EQ_jt3 ?_
  replace hS : Sh S h := hS
  refine EQ_jgd (show h 454 (-2) = 15 from by rw [k_454 hS]) ?_
  refine EQ_if Iff.rfl (fun c1 => ?_) (fun c1 => ?_)
  · exact EQ_some hS
  · refine EQ_jgd (show h 454 (-2) = 15 from by rw [k_454 hS]) ?_
    refine EQ_jb (eX14_isOf a13 i8 i6 hS) (fun v17 r2 => ?_)
    refine EQ_if Iff.rfl (fun c3 => ?_) (fun c3 => ?_)
    · exact (eX14_rest_j411_83 i2 i3 i4 i6 i7 i8 a10 i12 a13 hS)
    · refine EQ_jgd (show h 454 (-2) = 15 from by rw [k_454 hS]) ?_
      refine EQ_jg ⟨fun x0 => (ik_X16 hS).mp x0, fun x0 => (ik_X16 hS).mpr x0⟩ (fun g4 => ?_)
      refine EQ_jg ⟨fun ⟨_, x0⟩ => (show jI a13 (h (h (h 454 38) 23) (-1)) ↔ jI a13 122 from by rw [ft_X16_23 hS g4, la_X16_23 hS g4]).mp x0, fun x0 => ⟨(show h (h (h 454 38) 23) (-2) = 101 from by rw [ft_X16_23 hS g4, ka_X16_23 hS g4]), (show jI a13 (h (h (h 454 38) 23) (-1)) ↔ jI a13 122 from by rw [ft_X16_23 hS g4, la_X16_23 hS g4]).mpr x0⟩⟩ (fun g5 => ?_)
      refine EQ_if (show h (h (h 454 38) 23) a13 ≤ i2 ↔ h (h 454 38 + 14) a13 ≤ i2 from by rw [ft_X16_23 hS g4]) (fun c6 => ?_) (fun c6 => ?_)
      · refine EQ_if Iff.rfl (fun c7 => ?_) (fun c7 => ?_)
        · exact (eX14_rest_j133_83 i2 i3 i4 i6 i7 i8 a10 i12 a13 (-1) hS)
        · exact (eX14_rest_j133_83 i2 i3 i4 i6 i7 i8 a10 i12 a13 0 hS)
      · exact (eX14_rest_j411_83 i2 i3 i4 i6 i7 i8 a10 i12 a13 hS)
noncomputable def gX14_rest_l83 (i2 : Int) (i3 : Int) (i4 : Int) (i6 : Int) (i7 : Int) (i8 : Int) (i12 : Int) (a10 : Int) (a13 : Int) (h : AH) : Option (Int × AH) := jit (gX14_rest_b83 i2 i3 i4 i6 i7 i8 i12) (a10, a13, h)
theorem eX14_rest_l83 (i2 : Int) (i3 : Int) (i4 : Int) (i6 : Int) (i7 : Int) (i8 : Int) (i12 : Int) (a10 : Int) (a13 : Int) {h : AH} (hS : Sh S h) : EQ (fX14_rest_l83 454 i2 i3 i4 i6 i7 i8 i12 a10 a13 h) (gX14_rest_l83 i2 i3 i4 i6 i7 i8 i12 a10 a13 h) (fun r => Sh S r.2) := EQ_jit (I := (fun r => Sh S r.2.2)) (fun s hs => eX14_rest_b83 i2 i3 i4 i6 i7 i8 i12 hs) hS
noncomputable def gX14_rest (a1 : Int) (a2 : Int) (a3 : Int) (a4 : Int) (a5 : Int) (a6 : Int) (a7 : Int) (h : AH) : Option (Int × AH) := jg (isX16 (h 454 38)) <| jg (jI a1 13) <| jl (h (h 454 38 + 3) a1) fun x1 => jg (jI x1 36) <| jl (h 456 x1) fun x2 => if a6 = x2 then (if a2 = 0 then (jb2 (gX14_result x1 a3 a4 a5 h) fun v6 h7 => if v6 < 0 then (some (0, h7)) else (if v6 < h7 454 44 then (jg (h7 a7 (-2) = 102 ∧ jI v6 (h7 a7 (-1))) <| some (h7 a7 v6, h7)) else (some (0, h7)))) else (some (0, h))) else (jl (w32 (x2 - a6)) fun x10 => jb (gX14_rest_l83 a2 a3 a4 a6 a7 x1 x10 0 0 h) fun o11 => jt2 o11 fun y13 h14 => some (y13, h14))
theorem eX14_rest (a1 : Int) (a2 : Int) (a3 : Int) (a4 : Int) (a5 : Int) (a6 : Int) (a7 : Int) {h : AH} (hS : Sh S h) : EQ (fX14_rest 454 a1 a2 a3 a4 a5 a6 a7 h) (gX14_rest a1 a2 a3 a4 a5 a6 a7 h) (fun r => Sh S r.2) := by
  unfold fX14_rest gX14_rest
  refine EQ_jgd (show h 454 (-2) = 15 from by rw [k_454 hS]) ?_
  refine EQ_jg ⟨fun x0 => (ik_X16 hS).mp x0, fun x0 => (ik_X16 hS).mpr x0⟩ (fun g1 => ?_)
  refine EQ_jg ⟨fun ⟨_, x0⟩ => (show jI a1 (h (h (h 454 38) 7) (-1)) ↔ jI a1 13 from by rw [ft_X16_7 hS g1, la_X16_7 hS g1]).mp x0, fun x0 => ⟨(show h (h (h 454 38) 7) (-2) = 101 from by rw [ft_X16_7 hS g1, ka_X16_7 hS g1]), (show jI a1 (h (h (h 454 38) 7) (-1)) ↔ jI a1 13 from by rw [ft_X16_7 hS g1, la_X16_7 hS g1]).mpr x0⟩⟩ (fun g2 => ?_)
  refine EQ_jl (by rw [ft_X16_7 hS g1]) (fun x1 ex1 => ?_)
  clear ex1
  refine EQ_jgd (show h 454 (-2) = 15 from by rw [k_454 hS]) ?_
  refine EQ_jg ⟨fun ⟨_, x0⟩ => (show jI x1 (h (h 454 1) (-1)) ↔ jI x1 36 from by rw [r_454_1 hS, l_456 hS]).mp x0, fun x0 => ⟨(show h (h 454 1) (-2) = 101 from by rw [r_454_1 hS, k_456 hS]), (show jI x1 (h (h 454 1) (-1)) ↔ jI x1 36 from by rw [r_454_1 hS, l_456 hS]).mpr x0⟩⟩ (fun g3 => ?_)
  refine EQ_jl (by rw [r_454_1 hS]) (fun x2 ex2 => ?_)
  clear ex2
  refine EQ_if Iff.rfl (fun c4 => ?_) (fun c4 => ?_)
  · refine EQ_if Iff.rfl (fun c5 => ?_) (fun c5 => ?_)
    · refine EQ_jgd (show h 454 (-2) = 15 from by rw [k_454 hS]) ?_
      refine EQ_jb2 (eX14_result x1 a3 a4 a5 hS) (fun v6 h7 r6 => ?_)
      replace r6 : Sh S h7 := r6
      refine EQ_if Iff.rfl (fun c7 => ?_) (fun c7 => ?_)
      · exact EQ_some r6
      · refine EQ_jgd (show h7 454 (-2) = 15 from by rw [k_454 r6]) ?_
        refine EQ_if Iff.rfl (fun c8 => ?_) (fun c8 => ?_)
        · refine EQ_jg Iff.rfl (fun g9 => ?_)
          exact EQ_some r6
        · exact EQ_some r6
    · exact EQ_some hS
  · refine EQ_jl rfl (fun x10 ex10 => ?_)
    clear ex10
    refine EQ_jb (eX14_rest_l83 a2 a3 a4 a6 a7 x1 x10 0 0 hS) (fun o11 r10 => ?_)
    obtain ⟨y13, h14⟩ := o11
    refine EQ_jt2 ?_
    replace r10 : Sh S h14 := r10
    exact EQ_some r10
noncomputable def gX14_search_j283_99 (F : Int → Int → Int → Int → AH → Option (Int × AH)) (a1 : Int) (a2 : Int) (a5 : Int) (a7 : Int) (h : AH) : Option ((Int × Int × AH) ⊕ ((Int × Int × Int × AH) ⊕ ((Int × Int × AH) ⊕ ((AH))))) := jl (w32 (a7 + 1)) fun x54 => some (.inl (a5, x54, h))
theorem eX14_search_j283_99 {F0 : Int → Int → Int → Int → Int → AH → Option (Int × AH)} {F : Int → Int → Int → Int → AH → Option (Int × AH)} (hF : ∀ (b_a1 : Int) (b_a2 : Int) (b_a3 : Int) (b_a4 : Int), ∀ {b_h : AH}, Sh S b_h → EQ (F0 454 b_a1 b_a2 b_a3 b_a4 b_h) (F b_a1 b_a2 b_a3 b_a4 b_h) (fun r => Sh S r.2)) (a1 : Int) (a2 : Int) (a5 : Int) (a7 : Int) {h : AH} (hS : Sh S h) : EQ (fX14_search_j283_99 F0 454 a1 a2 a5 a7 h) (gX14_search_j283_99 F a1 a2 a5 a7 h) (Sum.elim (fun r => Sh S r.2.2) (Sum.elim (fun r => Sh S r.2.2.2) (Sum.elim (fun r => Sh S r.2.2) (fun r => Sh S r)))) := by
  unfold fX14_search_j283_99 gX14_search_j283_99
  refine EQ_jl rfl (fun x54 ex54 => ?_)
  clear ex54
  exact EQ_some hS
noncomputable def gX14_search_j202_99 (F : Int → Int → Int → Int → AH → Option (Int × AH)) (a1 : Int) (a2 : Int) (a5 : Int) (a7 : Int) (h : AH) : Option ((Int × Int × AH) ⊕ ((Int × Int × Int × AH) ⊕ ((Int × Int × AH) ⊕ ((AH))))) := jg (isX16 (h 454 38)) <| jg (jI a7 13) <| if h (h 454 38 + 3) a7 < 0 then (gX14_search_j283_99 F a1 a2 a5 a7 h) else (if h (h 454 38 + 4) a7 < a1 then (jb2 (gX14_rest a7 (w32 (a1 - h (h 454 38 + 4) a7)) (-1) (-1) (-1) 0 a2 h) fun v50 h51 => if 0 ≤ jcmp a5 v50 then (jl (w64 (a5 - v50)) fun x53 => gX14_search_j283_99 F a1 a2 x53 a7 h51) else (some (.inr (.inr (.inl (a5, a7, h51)))))) else (gX14_search_j283_99 F a1 a2 a5 a7 h))
theorem eX14_search_j202_99 {F0 : Int → Int → Int → Int → Int → AH → Option (Int × AH)} {F : Int → Int → Int → Int → AH → Option (Int × AH)} (hF : ∀ (b_a1 : Int) (b_a2 : Int) (b_a3 : Int) (b_a4 : Int), ∀ {b_h : AH}, Sh S b_h → EQ (F0 454 b_a1 b_a2 b_a3 b_a4 b_h) (F b_a1 b_a2 b_a3 b_a4 b_h) (fun r => Sh S r.2)) (a1 : Int) (a2 : Int) (a5 : Int) (a7 : Int) {h : AH} (hS : Sh S h) : EQ (fX14_search_j202_99 F0 454 a1 a2 a5 a7 h) (gX14_search_j202_99 F a1 a2 a5 a7 h) (Sum.elim (fun r => Sh S r.2.2) (Sum.elim (fun r => Sh S r.2.2.2) (Sum.elim (fun r => Sh S r.2.2) (fun r => Sh S r)))) := by
  unfold fX14_search_j202_99 gX14_search_j202_99
  refine EQ_jgd (show h 454 (-2) = 15 from by rw [k_454 hS]) ?_
  refine EQ_jg ⟨fun x0 => (ik_X16 hS).mp x0, fun x0 => (ik_X16 hS).mpr x0⟩ (fun g1 => ?_)
  refine EQ_jg ⟨fun ⟨_, x0⟩ => (show jI a7 (h (h (h 454 38) 7) (-1)) ↔ jI a7 13 from by rw [ft_X16_7 hS g1, la_X16_7 hS g1]).mp x0, fun x0 => ⟨(show h (h (h 454 38) 7) (-2) = 101 from by rw [ft_X16_7 hS g1, ka_X16_7 hS g1]), (show jI a7 (h (h (h 454 38) 7) (-1)) ↔ jI a7 13 from by rw [ft_X16_7 hS g1, la_X16_7 hS g1]).mpr x0⟩⟩ (fun g2 => ?_)
  refine EQ_if (show h (h (h 454 38) 7) a7 < 0 ↔ h (h 454 38 + 3) a7 < 0 from by rw [ft_X16_7 hS g1]) (fun c3 => ?_) (fun c3 => ?_)
  · exact (eX14_search_j283_99 hF a1 a2 a5 a7 hS)
  · refine EQ_jgd (show h 454 (-2) = 15 from by rw [k_454 hS]) ?_
    refine EQ_jgd (show h (h 454 38) (-2) = 17 from by rw [kd_X16 hS g1]) ?_
    refine EQ_jgd ⟨(show h (h (h 454 38) 8) (-2) = 101 from by rw [ft_X16_8 hS g1, ka_X16_8 hS g1]), ((show jI a7 (h (h (h 454 38) 8) (-1)) ↔ jI a7 13 from by rw [ft_X16_8 hS g1, la_X16_8 hS g1]).mpr g2)⟩ ?_
    refine EQ_if (show h (h (h 454 38) 8) a7 < a1 ↔ h (h 454 38 + 4) a7 < a1 from by rw [ft_X16_8 hS g1]) (fun c4 => ?_) (fun c4 => ?_)
    · refine EQ_jgd (show h 454 (-2) = 15 from by rw [k_454 hS]) ?_
      refine EQ_jgd (show h (h 454 38) (-2) = 17 from by rw [kd_X16 hS g1]) ?_
      refine EQ_jgd ⟨(show h (h (h 454 38) 8) (-2) = 101 from by rw [ft_X16_8 hS g1, ka_X16_8 hS g1]), ((show jI a7 (h (h (h 454 38) 8) (-1)) ↔ jI a7 13 from by rw [ft_X16_8 hS g1, la_X16_8 hS g1]).mpr g2)⟩ ?_
      refine EQ_jgd (show h 454 (-2) = 15 from by rw [k_454 hS]) ?_
      refine EQ_jb2 (by rw [ft_X16_8 hS g1]; exact eX14_rest a7 (w32 (a1 - h (h 454 38 + 4) a7)) (-1) (-1) (-1) 0 a2 hS) (fun v50 h51 r5 => ?_)
      replace r5 : Sh S h51 := r5
      refine EQ_if Iff.rfl (fun c6 => ?_) (fun c6 => ?_)
      · refine EQ_jl rfl (fun x53 ex53 => ?_)
        clear ex53
        exact (eX14_search_j283_99 hF a1 a2 x53 a7 r5)
      · exact EQ_some r5
    · exact (eX14_search_j283_99 hF a1 a2 a5 a7 hS)
noncomputable def gX14_search_b99 (F : Int → Int → Int → Int → AH → Option (Int × AH)) (i1 : Int) (i2 : Int) (s : Int × Int × AH) : Option ((Int × Int × AH) ⊕ ((Int × Int × Int × AH) ⊕ ((Int × Int × AH) ⊕ ((AH))))) := jt3 s fun a5 a7 h => jg (isX16 (h 454 38)) <| if h (h 454 38) 5 ≤ a7 then (some (.inr (.inr (.inr h)))) else (jg (jI a7 13) <| if h (h 454 38 + 2) a7 < 0 then (gX14_search_j202_99 F i1 i2 a5 a7 h) else (if h (h 454 38 + 4) a7 = i1 then (jb2 (gX14_valueFunction a7 h) fun v43 h44 => jg (h44 i2 (-2) = 102 ∧ jI v43 (h44 i2 (-1))) <| if 0 ≤ jcmp a5 (h44 i2 v43) then (jl (w64 (a5 - h44 i2 v43)) fun x46 => gX14_search_j202_99 F i1 i2 x46 a7 h44) else (some (.inr (.inl (a5, a7, v43, h44))))) else (gX14_search_j202_99 F i1 i2 a5 a7 h)))
theorem eX14_search_b99 {F0 : Int → Int → Int → Int → Int → AH → Option (Int × AH)} {F : Int → Int → Int → Int → AH → Option (Int × AH)} (hF : ∀ (b_a1 : Int) (b_a2 : Int) (b_a3 : Int) (b_a4 : Int), ∀ {b_h : AH}, Sh S b_h → EQ (F0 454 b_a1 b_a2 b_a3 b_a4 b_h) (F b_a1 b_a2 b_a3 b_a4 b_h) (fun r => Sh S r.2)) (i1 : Int) (i2 : Int) {s : Int × Int × AH} (hS : (fun r => Sh S r.2.2) s) : EQ (fX14_search_b99 F0 454 i1 i2 s) (gX14_search_b99 F i1 i2 s) (Sum.elim (fun r => Sh S r.2.2) (Sum.elim (fun r => Sh S r.2.2.2) (Sum.elim (fun r => Sh S r.2.2) (fun r => Sh S r)))) := by
  unfold fX14_search_b99 gX14_search_b99
  obtain ⟨a5, a7, h⟩ := s
  refine EQ_jt3 ?_
  replace hS : Sh S h := hS
  refine EQ_jgd (show h 454 (-2) = 15 from by rw [k_454 hS]) ?_
  refine EQ_jg ⟨fun x0 => (ik_X16 hS).mp x0, fun x0 => (ik_X16 hS).mpr x0⟩ (fun g1 => ?_)
  refine EQ_if Iff.rfl (fun c2 => ?_) (fun c2 => ?_)
  · exact EQ_some hS
  · refine EQ_jgd (show h 454 (-2) = 15 from by rw [k_454 hS]) ?_
    refine EQ_jgd (show h (h 454 38) (-2) = 17 from by rw [kd_X16 hS g1]) ?_
    refine EQ_jg ⟨fun ⟨_, x0⟩ => (show jI a7 (h (h (h 454 38) 6) (-1)) ↔ jI a7 13 from by rw [ft_X16_6 hS g1, la_X16_6 hS g1]).mp x0, fun x0 => ⟨(show h (h (h 454 38) 6) (-2) = 101 from by rw [ft_X16_6 hS g1, ka_X16_6 hS g1]), (show jI a7 (h (h (h 454 38) 6) (-1)) ↔ jI a7 13 from by rw [ft_X16_6 hS g1, la_X16_6 hS g1]).mpr x0⟩⟩ (fun g3 => ?_)
    refine EQ_if (show h (h (h 454 38) 6) a7 < 0 ↔ h (h 454 38 + 2) a7 < 0 from by rw [ft_X16_6 hS g1]) (fun c4 => ?_) (fun c4 => ?_)
    · exact (eX14_search_j202_99 hF i1 i2 a5 a7 hS)
    · refine EQ_jgd (show h 454 (-2) = 15 from by rw [k_454 hS]) ?_
      refine EQ_jgd (show h (h 454 38) (-2) = 17 from by rw [kd_X16 hS g1]) ?_
      refine EQ_jgd ⟨(show h (h (h 454 38) 8) (-2) = 101 from by rw [ft_X16_8 hS g1, ka_X16_8 hS g1]), ((show jI a7 (h (h (h 454 38) 8) (-1)) ↔ jI a7 13 from by rw [ft_X16_8 hS g1, la_X16_8 hS g1]).mpr g3)⟩ ?_
      refine EQ_if (show h (h (h 454 38) 8) a7 = i1 ↔ h (h 454 38 + 4) a7 = i1 from by rw [ft_X16_8 hS g1]) (fun c5 => ?_) (fun c5 => ?_)
      · refine EQ_jgd (show h 454 (-2) = 15 from by rw [k_454 hS]) ?_
        refine EQ_jb2 (eX14_valueFunction a7 hS) (fun v43 h44 r6 => ?_)
        replace r6 : Sh S h44 := r6
        refine EQ_jg Iff.rfl (fun g7 => ?_)
        refine EQ_if Iff.rfl (fun c8 => ?_) (fun c8 => ?_)
        · refine EQ_jgd ⟨(g7.1), (g7.2)⟩ ?_
          refine EQ_jl rfl (fun x46 ex46 => ?_)
          clear ex46
          exact (eX14_search_j202_99 hF i1 i2 x46 a7 r6)
        · exact EQ_some r6
      · exact (eX14_search_j202_99 hF i1 i2 a5 a7 hS)
noncomputable def gX14_search_l99 (F : Int → Int → Int → Int → AH → Option (Int × AH)) (i1 : Int) (i2 : Int) (a5 : Int) (a7 : Int) (h : AH) : Option ((Int × Int × Int × AH) ⊕ ((Int × Int × AH) ⊕ ((AH)))) := jit (gX14_search_b99 F i1 i2) (a5, a7, h)
theorem eX14_search_l99 {F0 : Int → Int → Int → Int → Int → AH → Option (Int × AH)} {F : Int → Int → Int → Int → AH → Option (Int × AH)} (hF : ∀ (b_a1 : Int) (b_a2 : Int) (b_a3 : Int) (b_a4 : Int), ∀ {b_h : AH}, Sh S b_h → EQ (F0 454 b_a1 b_a2 b_a3 b_a4 b_h) (F b_a1 b_a2 b_a3 b_a4 b_h) (fun r => Sh S r.2)) (i1 : Int) (i2 : Int) (a5 : Int) (a7 : Int) {h : AH} (hS : Sh S h) : EQ (fX14_search_l99 F0 454 i1 i2 a5 a7 h) (gX14_search_l99 F i1 i2 a5 a7 h) (Sum.elim (fun r => Sh S r.2.2.2) (Sum.elim (fun r => Sh S r.2.2) (fun r => Sh S r))) := EQ_jit (I := (fun r => Sh S r.2.2)) (fun s hs => eX14_search_b99 hF i1 i2 hs) hS
noncomputable def gX14_search_j96 (F : Int → Int → Int → Int → AH → Option (Int × AH)) (a1 : Int) (a2 : Int) (a5 : Int) (h : AH) : Option (Int × AH) := jb (gX14_search_l99 F a1 a2 a5 0 h) fun o17 => jm o17 (fun o19 => jt4 o19 fun y21 y22 y23 h24 => jg (isX16 (h24 454 38)) <| jg (jI y22 13) <| jb2 (gX14_copyNode (h24 (h24 454 38 + 2) y22) h24) fun v26 h27 => jl (jst h27 454 49 v26) fun h28 => jg (jI (h28 454 49) 8800) <| jl (jst h28 469 (h28 454 49) a1) fun h29 => jl (jst h29 454 50 y23) fun h30 => some (y21, h30)) (fun o20 => jm o20 (fun o31 => jt3 o31 fun y33 y34 h35 => jb2 (F y34 a1 a2 y33 h35) fun v37 h38 => some (v37, h38)) (fun o32 => some ((-1), o32)))
theorem eX14_search_j96 {F0 : Int → Int → Int → Int → Int → AH → Option (Int × AH)} {F : Int → Int → Int → Int → AH → Option (Int × AH)} (hF : ∀ (b_a1 : Int) (b_a2 : Int) (b_a3 : Int) (b_a4 : Int), ∀ {b_h : AH}, Sh S b_h → EQ (F0 454 b_a1 b_a2 b_a3 b_a4 b_h) (F b_a1 b_a2 b_a3 b_a4 b_h) (fun r => Sh S r.2)) (a1 : Int) (a2 : Int) (a5 : Int) {h : AH} (hS : Sh S h) : EQ (fX14_search_j96 F0 454 a1 a2 a5 h) (gX14_search_j96 F a1 a2 a5 h) (fun r => Sh S r.2) := by
  unfold fX14_search_j96 gX14_search_j96
  refine EQ_jb (eX14_search_l99 hF a1 a2 a5 0 hS) (fun o17 r1 => ?_)
  refine EQ_jm r1 (fun o19 r2 => ?_) (fun o20 r3 => ?_)
  · obtain ⟨y21, y22, y23, h24⟩ := o19
    refine EQ_jt4 ?_
    replace r2 : Sh S h24 := r2
    refine EQ_jgd (show h24 454 (-2) = 15 from by rw [k_454 r2]) ?_
    refine EQ_jg ⟨fun x0 => (ik_X16 r2).mp x0, fun x0 => (ik_X16 r2).mpr x0⟩ (fun g4 => ?_)
    refine EQ_jg ⟨fun ⟨_, x0⟩ => (show jI y22 (h24 (h24 (h24 454 38) 6) (-1)) ↔ jI y22 13 from by rw [ft_X16_6 r2 g4, la_X16_6 r2 g4]).mp x0, fun x0 => ⟨(show h24 (h24 (h24 454 38) 6) (-2) = 101 from by rw [ft_X16_6 r2 g4, ka_X16_6 r2 g4]), (show jI y22 (h24 (h24 (h24 454 38) 6) (-1)) ↔ jI y22 13 from by rw [ft_X16_6 r2 g4, la_X16_6 r2 g4]).mpr x0⟩⟩ (fun g5 => ?_)
    refine EQ_jgd (show h24 454 (-2) = 15 from by rw [k_454 r2]) ?_
    refine EQ_jb2 (by rw [ft_X16_6 r2 g4]; exact eX14_copyNode (h24 (h24 454 38 + 2) y22) r2) (fun v26 h27 r6 => ?_)
    replace r6 : Sh S h27 := r6
    refine EQ_jgd ⟨(show h27 454 (-2) = 15 from by rw [k_454 r6]), (show (200 : Int) ≤ 454 from (by decide))⟩ ?_
    refine EQ_jl rfl (fun h28 eh28 => ?_)
    have s7 := Sh_of eh28 (Sh_sto r6 (a := 454) (i := 49) (by decide +kernel))
    clear eh28
    refine EQ_jgd (show h28 454 (-2) = 15 from by rw [k_454 s7]) ?_
    refine EQ_jgd (show h28 454 (-2) = 15 from by rw [k_454 s7]) ?_
    refine EQ_jg ⟨fun ⟨_, _, x0⟩ => (show jI (h28 454 49) (h28 (h28 454 15) (-1)) ↔ jI (h28 454 49) 8800 from by rw [r_454_15 s7, l_469 s7]).mp x0, fun x0 => ⟨(show h28 (h28 454 15) (-2) = 101 from by rw [r_454_15 s7, k_469 s7]), (show 200 ≤ h28 454 15 from by rw [r_454_15 s7]; exact (by decide)), (show jI (h28 454 49) (h28 (h28 454 15) (-1)) ↔ jI (h28 454 49) 8800 from by rw [r_454_15 s7, l_469 s7]).mpr x0⟩⟩ (fun g8 => ?_)
    refine EQ_jl (by rw [r_454_15 s7]) (fun h29 eh29 => ?_)
    have s9 := Sh_of eh29 (Sh_sta s7 (by decide +kernel) (jI_nn g8) (fun e => absurd ((k_469 s7).symm.trans e) (by decide)))
    clear eh29
    refine EQ_jgd ⟨(show h29 454 (-2) = 15 from by rw [k_454 s9]), (show (200 : Int) ≤ 454 from (by decide))⟩ ?_
    refine EQ_jl rfl (fun h30 eh30 => ?_)
    have s10 := Sh_of eh30 (Sh_sto s9 (a := 454) (i := 50) (by decide +kernel))
    clear eh30
    exact EQ_some s10
  · refine EQ_jm r3 (fun o31 r11 => ?_) (fun o32 r12 => ?_)
    · obtain ⟨y33, y34, h35⟩ := o31
      refine EQ_jt3 ?_
      replace r11 : Sh S h35 := r11
      refine EQ_jgd (show h35 454 (-2) = 15 from by rw [k_454 r11]) ?_
      refine EQ_jb2 (hF y34 a1 a2 y33 r11) (fun v37 h38 r13 => ?_)
      replace r13 : Sh S h38 := r13
      exact EQ_some r13
    · exact EQ_some r12
noncomputable def gX14_search_b6 (F : Int → Int → Int → Int → AH → Option (Int × AH)) (i1 : Int) (i2 : Int) (s : Int × Int × AH) : Option ((Int × Int × AH) ⊕ ((Int × Int × Int × AH) ⊕ (Int × AH))) := jt3 s fun a5 a7 h => jg (isX16 (h 454 38)) <| if h (h 454 38) 3 ≤ a7 then (some (.inr (.inr (a5, h)))) else (if i1 = 1 then (jb2 (gX14_leafFunction a7 h) fun v58 h59 => jg (h59 i2 (-2) = 102 ∧ jI v58 (h59 i2 (-1))) <| if 0 ≤ jcmp a5 (h59 i2 v58) then (jl (w64 (a5 - h59 i2 v58)) fun x61 => jl (w32 (a7 + 1)) fun x62 => some (.inl (x61, x62, h59))) else (some (.inr (.inl (a5, a7, v58, h59))))) else (some (.inr (.inr (a5, h)))))
theorem eX14_search_b6 {F0 : Int → Int → Int → Int → Int → AH → Option (Int × AH)} {F : Int → Int → Int → Int → AH → Option (Int × AH)} (hF : ∀ (b_a1 : Int) (b_a2 : Int) (b_a3 : Int) (b_a4 : Int), ∀ {b_h : AH}, Sh S b_h → EQ (F0 454 b_a1 b_a2 b_a3 b_a4 b_h) (F b_a1 b_a2 b_a3 b_a4 b_h) (fun r => Sh S r.2)) (i1 : Int) (i2 : Int) {s : Int × Int × AH} (hS : (fun r => Sh S r.2.2) s) : EQ (fX14_search_b6 F0 454 i1 i2 s) (gX14_search_b6 F i1 i2 s) (Sum.elim (fun r => Sh S r.2.2) (Sum.elim (fun r => Sh S r.2.2.2) (fun r => Sh S r.2))) := by
  unfold fX14_search_b6 gX14_search_b6
  obtain ⟨a5, a7, h⟩ := s
  refine EQ_jt3 ?_
  replace hS : Sh S h := hS
  refine EQ_jgd (show h 454 (-2) = 15 from by rw [k_454 hS]) ?_
  refine EQ_jg ⟨fun x0 => (ik_X16 hS).mp x0, fun x0 => (ik_X16 hS).mpr x0⟩ (fun g1 => ?_)
  refine EQ_if Iff.rfl (fun c2 => ?_) (fun c2 => ?_)
  · exact EQ_some hS
  · refine EQ_if Iff.rfl (fun c3 => ?_) (fun c3 => ?_)
    · refine EQ_jgd (show h 454 (-2) = 15 from by rw [k_454 hS]) ?_
      refine EQ_jb2 (eX14_leafFunction a7 hS) (fun v58 h59 r4 => ?_)
      replace r4 : Sh S h59 := r4
      refine EQ_jg Iff.rfl (fun g5 => ?_)
      refine EQ_if Iff.rfl (fun c6 => ?_) (fun c6 => ?_)
      · refine EQ_jgd ⟨(g5.1), (g5.2)⟩ ?_
        refine EQ_jl rfl (fun x61 ex61 => ?_)
        clear ex61
        refine EQ_jl rfl (fun x62 ex62 => ?_)
        clear ex62
        exact EQ_some r4
      · exact EQ_some r4
    · exact EQ_some hS
noncomputable def gX14_search_l6 (F : Int → Int → Int → Int → AH → Option (Int × AH)) (i1 : Int) (i2 : Int) (a5 : Int) (a7 : Int) (h : AH) : Option ((Int × Int × Int × AH) ⊕ (Int × AH)) := jit (gX14_search_b6 F i1 i2) (a5, a7, h)
theorem eX14_search_l6 {F0 : Int → Int → Int → Int → Int → AH → Option (Int × AH)} {F : Int → Int → Int → Int → AH → Option (Int × AH)} (hF : ∀ (b_a1 : Int) (b_a2 : Int) (b_a3 : Int) (b_a4 : Int), ∀ {b_h : AH}, Sh S b_h → EQ (F0 454 b_a1 b_a2 b_a3 b_a4 b_h) (F b_a1 b_a2 b_a3 b_a4 b_h) (fun r => Sh S r.2)) (i1 : Int) (i2 : Int) (a5 : Int) (a7 : Int) {h : AH} (hS : Sh S h) : EQ (fX14_search_l6 F0 454 i1 i2 a5 a7 h) (gX14_search_l6 F i1 i2 a5 a7 h) (Sum.elim (fun r => Sh S r.2.2.2) (fun r => Sh S r.2)) := EQ_jit (I := (fun r => Sh S r.2.2)) (fun s hs => eX14_search_b6 hF i1 i2 hs) hS
noncomputable def gX14_search_ (F : Int → Int → Int → Int → AH → Option (Int × AH)) (a1 : Int) (a2 : Int) (a3 : Int) (h : AH) : Option (Int × AH) := jb (gX14_search_l6 F a1 a2 a3 0 h) fun o1 => jm o1 (fun o3 => jt4 o3 fun y5 y6 y7 h8 => jg (isX16 (h8 454 38)) <| jg (jI y6 3) <| jb2 (gX14_node 1 (h8 (h8 454 38 + 1) y6) y6 h8) fun v10 h11 => jl (jst h11 454 49 v10) fun h12 => jg (jI (h12 454 49) 8800) <| jl (jst h12 469 (h12 454 49) 1) fun h13 => jl (jst h13 454 50 y7) fun h14 => some (y5, h14)) (fun o4 => jt2 o4 fun y15 h16 => gX14_search_j96 F a1 a2 y15 h16)
theorem eX14_search_ {F0 : Int → Int → Int → Int → Int → AH → Option (Int × AH)} {F : Int → Int → Int → Int → AH → Option (Int × AH)} (hF : ∀ (b_a1 : Int) (b_a2 : Int) (b_a3 : Int) (b_a4 : Int), ∀ {b_h : AH}, Sh S b_h → EQ (F0 454 b_a1 b_a2 b_a3 b_a4 b_h) (F b_a1 b_a2 b_a3 b_a4 b_h) (fun r => Sh S r.2)) (a1 : Int) (a2 : Int) (a3 : Int) {h : AH} (hS : Sh S h) : EQ (fX14_search_ F0 454 a1 a2 a3 h) (gX14_search_ F a1 a2 a3 h) (fun r => Sh S r.2) := by
  unfold fX14_search_ gX14_search_
  refine EQ_jb (eX14_search_l6 hF a1 a2 a3 0 hS) (fun o1 r1 => ?_)
  refine EQ_jm r1 (fun o3 r2 => ?_) (fun o4 r3 => ?_)
  · obtain ⟨y5, y6, y7, h8⟩ := o3
    refine EQ_jt4 ?_
    replace r2 : Sh S h8 := r2
    refine EQ_jgd (show h8 454 (-2) = 15 from by rw [k_454 r2]) ?_
    refine EQ_jg ⟨fun x0 => (ik_X16 r2).mp x0, fun x0 => (ik_X16 r2).mpr x0⟩ (fun g4 => ?_)
    refine EQ_jg ⟨fun ⟨_, x0⟩ => (show jI y6 (h8 (h8 (h8 454 38) 2) (-1)) ↔ jI y6 3 from by rw [ft_X16_2 r2 g4, la_X16_2 r2 g4]).mp x0, fun x0 => ⟨(show h8 (h8 (h8 454 38) 2) (-2) = 101 from by rw [ft_X16_2 r2 g4, ka_X16_2 r2 g4]), (show jI y6 (h8 (h8 (h8 454 38) 2) (-1)) ↔ jI y6 3 from by rw [ft_X16_2 r2 g4, la_X16_2 r2 g4]).mpr x0⟩⟩ (fun g5 => ?_)
    refine EQ_jgd (show h8 454 (-2) = 15 from by rw [k_454 r2]) ?_
    refine EQ_jb2 (by rw [ft_X16_2 r2 g4]; exact eX14_node 1 (h8 (h8 454 38 + 1) y6) y6 r2) (fun v10 h11 r6 => ?_)
    replace r6 : Sh S h11 := r6
    refine EQ_jgd ⟨(show h11 454 (-2) = 15 from by rw [k_454 r6]), (show (200 : Int) ≤ 454 from (by decide))⟩ ?_
    refine EQ_jl rfl (fun h12 eh12 => ?_)
    have s7 := Sh_of eh12 (Sh_sto r6 (a := 454) (i := 49) (by decide +kernel))
    clear eh12
    refine EQ_jgd (show h12 454 (-2) = 15 from by rw [k_454 s7]) ?_
    refine EQ_jgd (show h12 454 (-2) = 15 from by rw [k_454 s7]) ?_
    refine EQ_jg ⟨fun ⟨_, _, x0⟩ => (show jI (h12 454 49) (h12 (h12 454 15) (-1)) ↔ jI (h12 454 49) 8800 from by rw [r_454_15 s7, l_469 s7]).mp x0, fun x0 => ⟨(show h12 (h12 454 15) (-2) = 101 from by rw [r_454_15 s7, k_469 s7]), (show 200 ≤ h12 454 15 from by rw [r_454_15 s7]; exact (by decide)), (show jI (h12 454 49) (h12 (h12 454 15) (-1)) ↔ jI (h12 454 49) 8800 from by rw [r_454_15 s7, l_469 s7]).mpr x0⟩⟩ (fun g8 => ?_)
    refine EQ_jl (by rw [r_454_15 s7]) (fun h13 eh13 => ?_)
    have s9 := Sh_of eh13 (Sh_sta s7 (by decide +kernel) (jI_nn g8) (fun e => absurd ((k_469 s7).symm.trans e) (by decide)))
    clear eh13
    refine EQ_jgd ⟨(show h13 454 (-2) = 15 from by rw [k_454 s9]), (show (200 : Int) ≤ 454 from (by decide))⟩ ?_
    refine EQ_jl rfl (fun h14 eh14 => ?_)
    have s10 := Sh_of eh14 (Sh_sto s9 (a := 454) (i := 50) (by decide +kernel))
    clear eh14
    exact EQ_some s10
  · obtain ⟨y15, h16⟩ := o4
    refine EQ_jt2 ?_
    replace r3 : Sh S h16 := r3
    exact (eX14_search_j96 hF a1 a2 y15 r3)
noncomputable def gX14_operands_j384_102 (F : Int → Int → Int → Int → AH → Option (Int × AH)) (a1 : Int) (a3 : Int) (a6 : Int) (a7 : Int) (a8 : Int) (a9 : Int) (a10 : Int) (a11 : Int) (a12 : Int) (a13 : Int) (a15 : Int) (a16 : Int) (h : AH) : Option ((Int × Int × Int × Int × Int × Int × AH) ⊕ (Int × Int × Int × Int × AH)) := jl (w32 (a16 + 1)) fun x34 => some (.inl (a9, a10, a11, a12, a13, x34, h))
theorem eX14_operands_j384_102 {F0 : Int → Int → Int → Int → Int → AH → Option (Int × AH)} {F : Int → Int → Int → Int → AH → Option (Int × AH)} (hF : ∀ (b_a1 : Int) (b_a2 : Int) (b_a3 : Int) (b_a4 : Int), ∀ {b_h : AH}, Sh S b_h → EQ (F0 454 b_a1 b_a2 b_a3 b_a4 b_h) (F b_a1 b_a2 b_a3 b_a4 b_h) (fun r => Sh S r.2)) (a1 : Int) (a3 : Int) (a6 : Int) (a7 : Int) (a8 : Int) (a9 : Int) (a10 : Int) (a11 : Int) (a12 : Int) (a13 : Int) (a15 : Int) (a16 : Int) {h : AH} (hS : Sh S h) : EQ (fX14_operands_j384_102 F0 454 a1 a3 a6 a7 a8 a9 a10 a11 a12 a13 a15 a16 h) (gX14_operands_j384_102 F a1 a3 a6 a7 a8 a9 a10 a11 a12 a13 a15 a16 h) (Sum.elim (fun r => Sh S r.2.2.2.2.2.2) (fun r => Sh S r.2.2.2.2)) := by
  unfold fX14_operands_j384_102 gX14_operands_j384_102
  refine EQ_jl rfl (fun x34 ex34 => ?_)
  clear ex34
  exact EQ_some hS
noncomputable def gX14_operands_j378_129 (F : Int → Int → Int → Int → AH → Option (Int × AH)) (a1 : Int) (a3 : Int) (a6 : Int) (a7 : Int) (a8 : Int) (a9 : Int) (a10 : Int) (a11 : Int) (a12 : Int) (a13 : Int) (a15 : Int) (a16 : Int) (a17 : Int) (a18 : Int) (h : AH) : Option ((Int × Int × Int × Int × Int × Int × Int × AH) ⊕ (Int × Int × Int × Int × Int × AH)) := jl (w32 (a18 + 1)) fun x52 => some (.inl (a9, a10, a11, a12, a13, a17, x52, h))
theorem eX14_operands_j378_129 {F0 : Int → Int → Int → Int → Int → AH → Option (Int × AH)} {F : Int → Int → Int → Int → AH → Option (Int × AH)} (hF : ∀ (b_a1 : Int) (b_a2 : Int) (b_a3 : Int) (b_a4 : Int), ∀ {b_h : AH}, Sh S b_h → EQ (F0 454 b_a1 b_a2 b_a3 b_a4 b_h) (F b_a1 b_a2 b_a3 b_a4 b_h) (fun r => Sh S r.2)) (a1 : Int) (a3 : Int) (a6 : Int) (a7 : Int) (a8 : Int) (a9 : Int) (a10 : Int) (a11 : Int) (a12 : Int) (a13 : Int) (a15 : Int) (a16 : Int) (a17 : Int) (a18 : Int) {h : AH} (hS : Sh S h) : EQ (fX14_operands_j378_129 F0 454 a1 a3 a6 a7 a8 a9 a10 a11 a12 a13 a15 a16 a17 a18 h) (gX14_operands_j378_129 F a1 a3 a6 a7 a8 a9 a10 a11 a12 a13 a15 a16 a17 a18 h) (Sum.elim (fun r => Sh S r.2.2.2.2.2.2.2) (fun r => Sh S r.2.2.2.2.2)) := by
  unfold fX14_operands_j378_129 gX14_operands_j378_129
  refine EQ_jl rfl (fun x52 ex52 => ?_)
  clear ex52
  exact EQ_some hS
noncomputable def gX14_operands_j366_129 (F : Int → Int → Int → Int → AH → Option (Int × AH)) (a1 : Int) (a3 : Int) (a6 : Int) (a7 : Int) (a8 : Int) (a9 : Int) (a10 : Int) (a11 : Int) (a13 : Int) (a15 : Int) (a16 : Int) (a18 : Int) (t0 : Int) (h : AH) : Option ((Int × Int × Int × Int × Int × Int × Int × AH) ⊕ (Int × Int × Int × Int × Int × AH)) := jl (w32 (a9 - a18)) fun x51 => gX14_operands_j378_129 F a1 a3 a6 a7 a8 x51 a10 a11 t0 a13 a15 a16 1 a18 h
theorem eX14_operands_j366_129 {F0 : Int → Int → Int → Int → Int → AH → Option (Int × AH)} {F : Int → Int → Int → Int → AH → Option (Int × AH)} (hF : ∀ (b_a1 : Int) (b_a2 : Int) (b_a3 : Int) (b_a4 : Int), ∀ {b_h : AH}, Sh S b_h → EQ (F0 454 b_a1 b_a2 b_a3 b_a4 b_h) (F b_a1 b_a2 b_a3 b_a4 b_h) (fun r => Sh S r.2)) (a1 : Int) (a3 : Int) (a6 : Int) (a7 : Int) (a8 : Int) (a9 : Int) (a10 : Int) (a11 : Int) (a13 : Int) (a15 : Int) (a16 : Int) (a18 : Int) (t0 : Int) {h : AH} (hS : Sh S h) : EQ (fX14_operands_j366_129 F0 454 a1 a3 a6 a7 a8 a9 a10 a11 a13 a15 a16 a18 t0 h) (gX14_operands_j366_129 F a1 a3 a6 a7 a8 a9 a10 a11 a13 a15 a16 a18 t0 h) (Sum.elim (fun r => Sh S r.2.2.2.2.2.2.2) (fun r => Sh S r.2.2.2.2.2)) := by
  unfold fX14_operands_j366_129 gX14_operands_j366_129
  refine EQ_jl rfl (fun x51 ex51 => ?_)
  clear ex51
  exact (eX14_operands_j378_129 hF a1 a3 a6 a7 a8 x51 a10 a11 t0 a13 a15 a16 1 a18 hS)
noncomputable def gX14_operands_j349_129 (F : Int → Int → Int → Int → AH → Option (Int × AH)) (a1 : Int) (a3 : Int) (a6 : Int) (a7 : Int) (a8 : Int) (a9 : Int) (a10 : Int) (a12 : Int) (a13 : Int) (a15 : Int) (a16 : Int) (a18 : Int) (t0 : Int) (h : AH) : Option ((Int × Int × Int × Int × Int × Int × Int × AH) ⊕ (Int × Int × Int × Int × Int × AH)) := if a16 = 2 then (gX14_operands_j366_129 F a1 a3 a6 a7 a8 a9 a10 t0 a13 a15 a16 a18 (h 454 50) h) else (gX14_operands_j366_129 F a1 a3 a6 a7 a8 a9 a10 t0 a13 a15 a16 a18 a12 h)
theorem eX14_operands_j349_129 {F0 : Int → Int → Int → Int → Int → AH → Option (Int × AH)} {F : Int → Int → Int → Int → AH → Option (Int × AH)} (hF : ∀ (b_a1 : Int) (b_a2 : Int) (b_a3 : Int) (b_a4 : Int), ∀ {b_h : AH}, Sh S b_h → EQ (F0 454 b_a1 b_a2 b_a3 b_a4 b_h) (F b_a1 b_a2 b_a3 b_a4 b_h) (fun r => Sh S r.2)) (a1 : Int) (a3 : Int) (a6 : Int) (a7 : Int) (a8 : Int) (a9 : Int) (a10 : Int) (a12 : Int) (a13 : Int) (a15 : Int) (a16 : Int) (a18 : Int) (t0 : Int) {h : AH} (hS : Sh S h) : EQ (fX14_operands_j349_129 F0 454 a1 a3 a6 a7 a8 a9 a10 a12 a13 a15 a16 a18 t0 h) (gX14_operands_j349_129 F a1 a3 a6 a7 a8 a9 a10 a12 a13 a15 a16 a18 t0 h) (Sum.elim (fun r => Sh S r.2.2.2.2.2.2.2) (fun r => Sh S r.2.2.2.2.2)) := by
  unfold fX14_operands_j349_129 gX14_operands_j349_129
  refine EQ_if Iff.rfl (fun c1 => ?_) (fun c1 => ?_)
  · refine EQ_jgd (show h 454 (-2) = 15 from by rw [k_454 hS]) ?_
    exact (eX14_operands_j366_129 hF a1 a3 a6 a7 a8 a9 a10 t0 a13 a15 a16 a18 (h 454 50) hS)
  · exact (eX14_operands_j366_129 hF a1 a3 a6 a7 a8 a9 a10 t0 a13 a15 a16 a18 a12 hS)
noncomputable def gX14_operands_j332_129 (F : Int → Int → Int → Int → AH → Option (Int × AH)) (a1 : Int) (a3 : Int) (a6 : Int) (a7 : Int) (a8 : Int) (a9 : Int) (a11 : Int) (a12 : Int) (a13 : Int) (a15 : Int) (a16 : Int) (a18 : Int) (t0 : Int) (h : AH) : Option ((Int × Int × Int × Int × Int × Int × Int × AH) ⊕ (Int × Int × Int × Int × Int × AH)) := if a16 = 1 then (gX14_operands_j349_129 F a1 a3 a6 a7 a8 a9 t0 a12 a13 a15 a16 a18 (h 454 50) h) else (gX14_operands_j349_129 F a1 a3 a6 a7 a8 a9 t0 a12 a13 a15 a16 a18 a11 h)
theorem eX14_operands_j332_129 {F0 : Int → Int → Int → Int → Int → AH → Option (Int × AH)} {F : Int → Int → Int → Int → AH → Option (Int × AH)} (hF : ∀ (b_a1 : Int) (b_a2 : Int) (b_a3 : Int) (b_a4 : Int), ∀ {b_h : AH}, Sh S b_h → EQ (F0 454 b_a1 b_a2 b_a3 b_a4 b_h) (F b_a1 b_a2 b_a3 b_a4 b_h) (fun r => Sh S r.2)) (a1 : Int) (a3 : Int) (a6 : Int) (a7 : Int) (a8 : Int) (a9 : Int) (a11 : Int) (a12 : Int) (a13 : Int) (a15 : Int) (a16 : Int) (a18 : Int) (t0 : Int) {h : AH} (hS : Sh S h) : EQ (fX14_operands_j332_129 F0 454 a1 a3 a6 a7 a8 a9 a11 a12 a13 a15 a16 a18 t0 h) (gX14_operands_j332_129 F a1 a3 a6 a7 a8 a9 a11 a12 a13 a15 a16 a18 t0 h) (Sum.elim (fun r => Sh S r.2.2.2.2.2.2.2) (fun r => Sh S r.2.2.2.2.2)) := by
  unfold fX14_operands_j332_129 gX14_operands_j332_129
  refine EQ_if Iff.rfl (fun c1 => ?_) (fun c1 => ?_)
  · refine EQ_jgd (show h 454 (-2) = 15 from by rw [k_454 hS]) ?_
    exact (eX14_operands_j349_129 hF a1 a3 a6 a7 a8 a9 t0 a12 a13 a15 a16 a18 (h 454 50) hS)
  · exact (eX14_operands_j349_129 hF a1 a3 a6 a7 a8 a9 t0 a12 a13 a15 a16 a18 a11 hS)
noncomputable def gX14_operands_j272_147 (F : Int → Int → Int → Int → AH → Option (Int × AH)) (a1 : Int) (a3 : Int) (a6 : Int) (a7 : Int) (a8 : Int) (a9 : Int) (a10 : Int) (a11 : Int) (a12 : Int) (a13 : Int) (a15 : Int) (a16 : Int) (a17 : Int) (a18 : Int) (a19 : Int) (a21 : Int) (h : AH) : Option ((Int × Int × AH) ⊕ (Int × AH)) := jl (w32 (a21 + 1)) fun x60 => some (.inl (a19, x60, h))
theorem eX14_operands_j272_147 {F0 : Int → Int → Int → Int → Int → AH → Option (Int × AH)} {F : Int → Int → Int → Int → AH → Option (Int × AH)} (hF : ∀ (b_a1 : Int) (b_a2 : Int) (b_a3 : Int) (b_a4 : Int), ∀ {b_h : AH}, Sh S b_h → EQ (F0 454 b_a1 b_a2 b_a3 b_a4 b_h) (F b_a1 b_a2 b_a3 b_a4 b_h) (fun r => Sh S r.2)) (a1 : Int) (a3 : Int) (a6 : Int) (a7 : Int) (a8 : Int) (a9 : Int) (a10 : Int) (a11 : Int) (a12 : Int) (a13 : Int) (a15 : Int) (a16 : Int) (a17 : Int) (a18 : Int) (a19 : Int) (a21 : Int) {h : AH} (hS : Sh S h) : EQ (fX14_operands_j272_147 F0 454 a1 a3 a6 a7 a8 a9 a10 a11 a12 a13 a15 a16 a17 a18 a19 a21 h) (gX14_operands_j272_147 F a1 a3 a6 a7 a8 a9 a10 a11 a12 a13 a15 a16 a17 a18 a19 a21 h) (Sum.elim (fun r => Sh S r.2.2) (fun r => Sh S r.2)) := by
  unfold fX14_operands_j272_147 gX14_operands_j272_147
  refine EQ_jl rfl (fun x60 ex60 => ?_)
  clear ex60
  exact EQ_some hS
noncomputable def gX14_operands_j242_147 (F : Int → Int → Int → Int → AH → Option (Int × AH)) (a1 : Int) (a3 : Int) (a6 : Int) (a7 : Int) (a8 : Int) (a9 : Int) (a10 : Int) (a11 : Int) (a12 : Int) (a13 : Int) (a15 : Int) (a16 : Int) (a17 : Int) (a18 : Int) (a19 : Int) (a21 : Int) (t0 : Int) (t1 : Int) (t3 : Int) (t4 : Int) (t5 : Int) (t6 : Int) (t7 : Int) (h : AH) : Option ((Int × Int × AH) ⊕ (Int × AH)) := jb2 (gX14_rest t3 t4 t5 t6 t7 (w32 (a16 + 1)) a3 h) fun v64 h65 => jg (h65 t0 (-2) = 102 ∧ 200 ≤ t0 ∧ jI t1 (h65 t0 (-1))) <| jl (jst h65 t0 t1 v64) fun h66 => jg (h66 a15 (-2) = 102 ∧ jI a21 (h66 a15 (-1))) <| jg (jI a18 13) <| jg (jI a21 122) <| jl (w64 (a19 + w64 (h66 a15 a21 * h66 (756 + a18) a21))) fun x67 => gX14_operands_j272_147 F a1 a3 a6 a7 a8 a9 a10 a11 a12 a13 a15 a16 a17 a18 x67 a21 h66
theorem eX14_operands_j242_147 {F0 : Int → Int → Int → Int → Int → AH → Option (Int × AH)} {F : Int → Int → Int → Int → AH → Option (Int × AH)} (hF : ∀ (b_a1 : Int) (b_a2 : Int) (b_a3 : Int) (b_a4 : Int), ∀ {b_h : AH}, Sh S b_h → EQ (F0 454 b_a1 b_a2 b_a3 b_a4 b_h) (F b_a1 b_a2 b_a3 b_a4 b_h) (fun r => Sh S r.2)) (a1 : Int) (a3 : Int) (a6 : Int) (a7 : Int) (a8 : Int) (a9 : Int) (a10 : Int) (a11 : Int) (a12 : Int) (a13 : Int) (a15 : Int) (a16 : Int) (a17 : Int) (a18 : Int) (a19 : Int) (a21 : Int) (t0 : Int) (t1 : Int) (t3 : Int) (t4 : Int) (t5 : Int) (t6 : Int) (t7 : Int) {h : AH} (hS : Sh S h) : EQ (fX14_operands_j242_147 F0 454 a1 a3 a6 a7 a8 a9 a10 a11 a12 a13 a15 a16 a17 a18 a19 a21 t0 t1 454 t3 t4 t5 t6 t7 h) (gX14_operands_j242_147 F a1 a3 a6 a7 a8 a9 a10 a11 a12 a13 a15 a16 a17 a18 a19 a21 t0 t1 t3 t4 t5 t6 t7 h) (Sum.elim (fun r => Sh S r.2.2) (fun r => Sh S r.2)) := by
  unfold fX14_operands_j242_147 gX14_operands_j242_147
  refine EQ_jgd (show h 454 (-2) = 15 from by rw [k_454 hS]) ?_
  refine EQ_jb2 (eX14_rest t3 t4 t5 t6 t7 (w32 (a16 + 1)) a3 hS) (fun v64 h65 r1 => ?_)
  replace r1 : Sh S h65 := r1
  refine EQ_jg Iff.rfl (fun g2 => ?_)
  refine EQ_jl rfl (fun h66 eh66 => ?_)
  have s3 := Sh_of eh66 (Sh_stk r1 (Or.inr (Or.inl (g2.1))) (g2.2.1) (jI_nn (g2.2.2)) (fun e => absurd (((g2.1)).symm.trans e) (by decide)))
  clear eh66
  refine EQ_jg Iff.rfl (fun g4 => ?_)
  refine EQ_jgd (show h66 454 (-2) = 15 from by rw [k_454 s3]) ?_
  refine EQ_jg ⟨fun ⟨_, x0⟩ => (show jI a18 (h66 (h66 454 41) (-1)) ↔ jI a18 13 from by rw [r_454_41 s3, l_755 s3]).mp x0, fun x0 => ⟨(show h66 (h66 454 41) (-2) = 106 from by rw [r_454_41 s3, k_755 s3]), (show jI a18 (h66 (h66 454 41) (-1)) ↔ jI a18 13 from by rw [r_454_41 s3, l_755 s3]).mpr x0⟩⟩ (fun g5 => ?_)
  refine EQ_jg ⟨fun ⟨_, x0⟩ => (show jI a21 (h66 (h66 (h66 454 41) a18) (-1)) ↔ jI a21 122 from by rw [r_454_41 s3, rr_755 s3 g5, rl_755 s3 g5]).mp x0, fun x0 => ⟨(show h66 (h66 (h66 454 41) a18) (-2) = 102 from by rw [r_454_41 s3, rr_755 s3 g5, rk_755 s3 g5]), (show jI a21 (h66 (h66 (h66 454 41) a18) (-1)) ↔ jI a21 122 from by rw [r_454_41 s3, rr_755 s3 g5, rl_755 s3 g5]).mpr x0⟩⟩ (fun g6 => ?_)
  refine EQ_jl (by rw [r_454_41 s3, rr_755 s3 g5]) (fun x67 ex67 => ?_)
  clear ex67
  exact (eX14_operands_j272_147 hF a1 a3 a6 a7 a8 a9 a10 a11 a12 a13 a15 a16 a17 a18 x67 a21 s3)
noncomputable def gX14_operands_j229_147 (F : Int → Int → Int → Int → AH → Option (Int × AH)) (a1 : Int) (a3 : Int) (a6 : Int) (a7 : Int) (a8 : Int) (a9 : Int) (a10 : Int) (a11 : Int) (a12 : Int) (a13 : Int) (a15 : Int) (a16 : Int) (a17 : Int) (a18 : Int) (a19 : Int) (a21 : Int) (t0 : Int) (t1 : Int) (t3 : Int) (t4 : Int) (t5 : Int) (t6 : Int) (h : AH) : Option ((Int × Int × AH) ⊕ (Int × AH)) := if a16 = 2 then (gX14_operands_j242_147 F a1 a3 a6 a7 a8 a9 a10 a11 a12 a13 a15 a16 a17 a18 a19 a21 t0 t1 t3 t4 t5 t6 a21 h) else (gX14_operands_j242_147 F a1 a3 a6 a7 a8 a9 a10 a11 a12 a13 a15 a16 a17 a18 a19 a21 t0 t1 t3 t4 t5 t6 a12 h)
theorem eX14_operands_j229_147 {F0 : Int → Int → Int → Int → Int → AH → Option (Int × AH)} {F : Int → Int → Int → Int → AH → Option (Int × AH)} (hF : ∀ (b_a1 : Int) (b_a2 : Int) (b_a3 : Int) (b_a4 : Int), ∀ {b_h : AH}, Sh S b_h → EQ (F0 454 b_a1 b_a2 b_a3 b_a4 b_h) (F b_a1 b_a2 b_a3 b_a4 b_h) (fun r => Sh S r.2)) (a1 : Int) (a3 : Int) (a6 : Int) (a7 : Int) (a8 : Int) (a9 : Int) (a10 : Int) (a11 : Int) (a12 : Int) (a13 : Int) (a15 : Int) (a16 : Int) (a17 : Int) (a18 : Int) (a19 : Int) (a21 : Int) (t0 : Int) (t1 : Int) (t3 : Int) (t4 : Int) (t5 : Int) (t6 : Int) {h : AH} (hS : Sh S h) : EQ (fX14_operands_j229_147 F0 454 a1 a3 a6 a7 a8 a9 a10 a11 a12 a13 a15 a16 a17 a18 a19 a21 t0 t1 454 t3 t4 t5 t6 h) (gX14_operands_j229_147 F a1 a3 a6 a7 a8 a9 a10 a11 a12 a13 a15 a16 a17 a18 a19 a21 t0 t1 t3 t4 t5 t6 h) (Sum.elim (fun r => Sh S r.2.2) (fun r => Sh S r.2)) := by
  unfold fX14_operands_j229_147 gX14_operands_j229_147
  refine EQ_if Iff.rfl (fun c1 => ?_) (fun c1 => ?_)
  · exact (eX14_operands_j242_147 hF a1 a3 a6 a7 a8 a9 a10 a11 a12 a13 a15 a16 a17 a18 a19 a21 t0 t1 t3 t4 t5 t6 a21 hS)
  · exact (eX14_operands_j242_147 hF a1 a3 a6 a7 a8 a9 a10 a11 a12 a13 a15 a16 a17 a18 a19 a21 t0 t1 t3 t4 t5 t6 a12 hS)
noncomputable def gX14_operands_j216_147 (F : Int → Int → Int → Int → AH → Option (Int × AH)) (a1 : Int) (a3 : Int) (a6 : Int) (a7 : Int) (a8 : Int) (a9 : Int) (a10 : Int) (a11 : Int) (a12 : Int) (a13 : Int) (a15 : Int) (a16 : Int) (a17 : Int) (a18 : Int) (a19 : Int) (a21 : Int) (t0 : Int) (t1 : Int) (t3 : Int) (t4 : Int) (t5 : Int) (h : AH) : Option ((Int × Int × AH) ⊕ (Int × AH)) := if a16 = 1 then (gX14_operands_j229_147 F a1 a3 a6 a7 a8 a9 a10 a11 a12 a13 a15 a16 a17 a18 a19 a21 t0 t1 t3 t4 t5 a21 h) else (gX14_operands_j229_147 F a1 a3 a6 a7 a8 a9 a10 a11 a12 a13 a15 a16 a17 a18 a19 a21 t0 t1 t3 t4 t5 a11 h)
theorem eX14_operands_j216_147 {F0 : Int → Int → Int → Int → Int → AH → Option (Int × AH)} {F : Int → Int → Int → Int → AH → Option (Int × AH)} (hF : ∀ (b_a1 : Int) (b_a2 : Int) (b_a3 : Int) (b_a4 : Int), ∀ {b_h : AH}, Sh S b_h → EQ (F0 454 b_a1 b_a2 b_a3 b_a4 b_h) (F b_a1 b_a2 b_a3 b_a4 b_h) (fun r => Sh S r.2)) (a1 : Int) (a3 : Int) (a6 : Int) (a7 : Int) (a8 : Int) (a9 : Int) (a10 : Int) (a11 : Int) (a12 : Int) (a13 : Int) (a15 : Int) (a16 : Int) (a17 : Int) (a18 : Int) (a19 : Int) (a21 : Int) (t0 : Int) (t1 : Int) (t3 : Int) (t4 : Int) (t5 : Int) {h : AH} (hS : Sh S h) : EQ (fX14_operands_j216_147 F0 454 a1 a3 a6 a7 a8 a9 a10 a11 a12 a13 a15 a16 a17 a18 a19 a21 t0 t1 454 t3 t4 t5 h) (gX14_operands_j216_147 F a1 a3 a6 a7 a8 a9 a10 a11 a12 a13 a15 a16 a17 a18 a19 a21 t0 t1 t3 t4 t5 h) (Sum.elim (fun r => Sh S r.2.2) (fun r => Sh S r.2)) := by
  unfold fX14_operands_j216_147 gX14_operands_j216_147
  refine EQ_if Iff.rfl (fun c1 => ?_) (fun c1 => ?_)
  · exact (eX14_operands_j229_147 hF a1 a3 a6 a7 a8 a9 a10 a11 a12 a13 a15 a16 a17 a18 a19 a21 t0 t1 t3 t4 t5 a21 hS)
  · exact (eX14_operands_j229_147 hF a1 a3 a6 a7 a8 a9 a10 a11 a12 a13 a15 a16 a17 a18 a19 a21 t0 t1 t3 t4 t5 a11 hS)
noncomputable def gX14_operands_b147 (F : Int → Int → Int → Int → AH → Option (Int × AH)) (i1 : Int) (i3 : Int) (i6 : Int) (i7 : Int) (i8 : Int) (i9 : Int) (i10 : Int) (i11 : Int) (i12 : Int) (i13 : Int) (i15 : Int) (i16 : Int) (i17 : Int) (i18 : Int) (s : Int × Int × AH) : Option ((Int × Int × AH) ⊕ (Int × AH)) := jt3 s fun a19 a21 h => if h 454 44 ≤ a21 then (some (.inr (a19, h))) else (jg (h i15 (-2) = 102 ∧ 200 ≤ i15 ∧ jI a21 (h i15 (-1))) <| jl (jst h i15 a21 0) fun h54 => jb (gX14_isOf a21 i6 i16 h54) fun v56 => if v56 = 0 then (gX14_operands_j272_147 F i1 i3 i6 i7 i8 i9 i10 i11 i12 i13 i15 i16 i17 i18 a19 a21 h54) else (jg (jI i18 13) <| jg (jI a21 122) <| if jcmp (h54 (756 + i18) a21) 0 = 0 then (gX14_operands_j272_147 F i1 i3 i6 i7 i8 i9 i10 i11 i12 i13 i15 i16 i17 i18 a19 a21 h54) else (if i16 = 0 then (gX14_operands_j216_147 F i1 i3 i6 i7 i8 i9 i10 i11 i12 i13 i15 i16 i17 i18 a19 a21 i15 a21 i1 (w32 (i9 - i18)) a21 h54) else (gX14_operands_j216_147 F i1 i3 i6 i7 i8 i9 i10 i11 i12 i13 i15 i16 i17 i18 a19 a21 i15 a21 i1 (w32 (i9 - i18)) i10 h54))))
theorem eX14_operands_b147 {F0 : Int → Int → Int → Int → Int → AH → Option (Int × AH)} {F : Int → Int → Int → Int → AH → Option (Int × AH)} (hF : ∀ (b_a1 : Int) (b_a2 : Int) (b_a3 : Int) (b_a4 : Int), ∀ {b_h : AH}, Sh S b_h → EQ (F0 454 b_a1 b_a2 b_a3 b_a4 b_h) (F b_a1 b_a2 b_a3 b_a4 b_h) (fun r => Sh S r.2)) (i1 : Int) (i3 : Int) (i6 : Int) (i7 : Int) (i8 : Int) (i9 : Int) (i10 : Int) (i11 : Int) (i12 : Int) (i13 : Int) (i15 : Int) (i16 : Int) (i17 : Int) (i18 : Int) {s : Int × Int × AH} (hS : (fun r => Sh S r.2.2) s) : EQ (fX14_operands_b147 F0 454 i1 i3 i6 i7 i8 i9 i10 i11 i12 i13 i15 i16 i17 i18 s) (gX14_operands_b147 F i1 i3 i6 i7 i8 i9 i10 i11 i12 i13 i15 i16 i17 i18 s) (Sum.elim (fun r => Sh S r.2.2) (fun r => Sh S r.2)) := by
  unfold fX14_operands_b147 gX14_operands_b147
  obtain ⟨a19, a21, h⟩ := s
  refine EQ_jt3 ?_
  replace hS : Sh S h := hS
  refine EQ_jgd (show h 454 (-2) = 15 from by rw [k_454 hS]) ?_
  refine EQ_if Iff.rfl (fun c1 => ?_) (fun c1 => ?_)
  · exact EQ_some hS
  · refine EQ_jg Iff.rfl (fun g2 => ?_)
    refine EQ_jl rfl (fun h54 eh54 => ?_)
    have s3 := Sh_of eh54 (Sh_stk hS (Or.inr (Or.inl (g2.1))) (g2.2.1) (jI_nn (g2.2.2)) (fun e => absurd (((g2.1)).symm.trans e) (by decide)))
    clear eh54
    refine EQ_jgd (show h54 454 (-2) = 15 from by rw [k_454 s3]) ?_
    refine EQ_jb (eX14_isOf a21 i6 i16 s3) (fun v56 r4 => ?_)
    refine EQ_if Iff.rfl (fun c5 => ?_) (fun c5 => ?_)
    · exact (eX14_operands_j272_147 hF i1 i3 i6 i7 i8 i9 i10 i11 i12 i13 i15 i16 i17 i18 a19 a21 s3)
    · refine EQ_jgd (show h54 454 (-2) = 15 from by rw [k_454 s3]) ?_
      refine EQ_jg ⟨fun ⟨_, x0⟩ => (show jI i18 (h54 (h54 454 41) (-1)) ↔ jI i18 13 from by rw [r_454_41 s3, l_755 s3]).mp x0, fun x0 => ⟨(show h54 (h54 454 41) (-2) = 106 from by rw [r_454_41 s3, k_755 s3]), (show jI i18 (h54 (h54 454 41) (-1)) ↔ jI i18 13 from by rw [r_454_41 s3, l_755 s3]).mpr x0⟩⟩ (fun g6 => ?_)
      refine EQ_jg ⟨fun ⟨_, x0⟩ => (show jI a21 (h54 (h54 (h54 454 41) i18) (-1)) ↔ jI a21 122 from by rw [r_454_41 s3, rr_755 s3 g6, rl_755 s3 g6]).mp x0, fun x0 => ⟨(show h54 (h54 (h54 454 41) i18) (-2) = 102 from by rw [r_454_41 s3, rr_755 s3 g6, rk_755 s3 g6]), (show jI a21 (h54 (h54 (h54 454 41) i18) (-1)) ↔ jI a21 122 from by rw [r_454_41 s3, rr_755 s3 g6, rl_755 s3 g6]).mpr x0⟩⟩ (fun g7 => ?_)
      refine EQ_if (show jcmp (h54 (h54 (h54 454 41) i18) a21) 0 = 0 ↔ jcmp (h54 (756 + i18) a21) 0 = 0 from by rw [r_454_41 s3, rr_755 s3 g6]) (fun c8 => ?_) (fun c8 => ?_)
      · exact (eX14_operands_j272_147 hF i1 i3 i6 i7 i8 i9 i10 i11 i12 i13 i15 i16 i17 i18 a19 a21 s3)
      · refine EQ_if Iff.rfl (fun c9 => ?_) (fun c9 => ?_)
        · exact (eX14_operands_j216_147 hF i1 i3 i6 i7 i8 i9 i10 i11 i12 i13 i15 i16 i17 i18 a19 a21 i15 a21 i1 (w32 (i9 - i18)) a21 s3)
        · exact (eX14_operands_j216_147 hF i1 i3 i6 i7 i8 i9 i10 i11 i12 i13 i15 i16 i17 i18 a19 a21 i15 a21 i1 (w32 (i9 - i18)) i10 s3)
noncomputable def gX14_operands_l147 (F : Int → Int → Int → Int → AH → Option (Int × AH)) (i1 : Int) (i3 : Int) (i6 : Int) (i7 : Int) (i8 : Int) (i9 : Int) (i10 : Int) (i11 : Int) (i12 : Int) (i13 : Int) (i15 : Int) (i16 : Int) (i17 : Int) (i18 : Int) (a19 : Int) (a21 : Int) (h : AH) : Option (Int × AH) := jit (gX14_operands_b147 F i1 i3 i6 i7 i8 i9 i10 i11 i12 i13 i15 i16 i17 i18) (a19, a21, h)
theorem eX14_operands_l147 {F0 : Int → Int → Int → Int → Int → AH → Option (Int × AH)} {F : Int → Int → Int → Int → AH → Option (Int × AH)} (hF : ∀ (b_a1 : Int) (b_a2 : Int) (b_a3 : Int) (b_a4 : Int), ∀ {b_h : AH}, Sh S b_h → EQ (F0 454 b_a1 b_a2 b_a3 b_a4 b_h) (F b_a1 b_a2 b_a3 b_a4 b_h) (fun r => Sh S r.2)) (i1 : Int) (i3 : Int) (i6 : Int) (i7 : Int) (i8 : Int) (i9 : Int) (i10 : Int) (i11 : Int) (i12 : Int) (i13 : Int) (i15 : Int) (i16 : Int) (i17 : Int) (i18 : Int) (a19 : Int) (a21 : Int) {h : AH} (hS : Sh S h) : EQ (fX14_operands_l147 F0 454 i1 i3 i6 i7 i8 i9 i10 i11 i12 i13 i15 i16 i17 i18 a19 a21 h) (gX14_operands_l147 F i1 i3 i6 i7 i8 i9 i10 i11 i12 i13 i15 i16 i17 i18 a19 a21 h) (fun r => Sh S r.2) := EQ_jit (I := (fun r => Sh S r.2.2)) (fun s hs => eX14_operands_b147 hF i1 i3 i6 i7 i8 i9 i10 i11 i12 i13 i15 i16 i17 i18 hs) hS
noncomputable def gX14_operands_b129 (F : Int → Int → Int → Int → AH → Option (Int × AH)) (i1 : Int) (i3 : Int) (i6 : Int) (i7 : Int) (i8 : Int) (i15 : Int) (i16 : Int) (s : Int × Int × Int × Int × Int × Int × Int × AH) : Option ((Int × Int × Int × Int × Int × Int × Int × AH) ⊕ (Int × Int × Int × Int × Int × AH)) := jt8 s fun a9 a10 a11 a12 a13 a17 a18 h => if a9 < a18 then (some (.inr (a9, a10, a11, a12, a13, h))) else (if a17 = 0 then (jb (gX14_operands_l147 F i1 i3 i6 i7 i8 a9 a10 a11 a12 a13 i15 i16 a17 a18 0 0 h) fun o37 => jt2 o37 fun y39 h40 => if jcmp a13 y39 < 0 then (jb2 (gX14_search_ F a18 i15 a13 h40) fun v43 h44 => jb (gX14_addKid i8 (h44 454 49) h44) fun h46 => if i16 = 0 then (gX14_operands_j332_129 F i1 i3 i6 i7 i8 a9 a11 a12 v43 i15 i16 a18 (h46 454 50) h46) else (gX14_operands_j332_129 F i1 i3 i6 i7 i8 a9 a11 a12 v43 i15 i16 a18 a10 h46)) else (jl (w64 (a13 - y39)) fun x48 => gX14_operands_j378_129 F i1 i3 i6 i7 i8 a9 a10 a11 a12 x48 i15 i16 a17 a18 h40)) else (some (.inr (a9, a10, a11, a12, a13, h))))
theorem eX14_operands_b129 {F0 : Int → Int → Int → Int → Int → AH → Option (Int × AH)} {F : Int → Int → Int → Int → AH → Option (Int × AH)} (hF : ∀ (b_a1 : Int) (b_a2 : Int) (b_a3 : Int) (b_a4 : Int), ∀ {b_h : AH}, Sh S b_h → EQ (F0 454 b_a1 b_a2 b_a3 b_a4 b_h) (F b_a1 b_a2 b_a3 b_a4 b_h) (fun r => Sh S r.2)) (i1 : Int) (i3 : Int) (i6 : Int) (i7 : Int) (i8 : Int) (i15 : Int) (i16 : Int) {s : Int × Int × Int × Int × Int × Int × Int × AH} (hS : (fun r => Sh S r.2.2.2.2.2.2.2) s) : EQ (fX14_operands_b129 F0 454 i1 i3 i6 i7 i8 i15 i16 s) (gX14_operands_b129 F i1 i3 i6 i7 i8 i15 i16 s) (Sum.elim (fun r => Sh S r.2.2.2.2.2.2.2) (fun r => Sh S r.2.2.2.2.2)) := by
  unfold fX14_operands_b129 gX14_operands_b129
  obtain ⟨a9, a10, a11, a12, a13, a17, a18, h⟩ := s
  refine EQ_jt8 ?_
  replace hS : Sh S h := hS
  refine EQ_if Iff.rfl (fun c1 => ?_) (fun c1 => ?_)
  · exact EQ_some hS
  · refine EQ_if Iff.rfl (fun c2 => ?_) (fun c2 => ?_)
    · refine EQ_jb (eX14_operands_l147 hF i1 i3 i6 i7 i8 a9 a10 a11 a12 a13 i15 i16 a17 a18 0 0 hS) (fun o37 r3 => ?_)
      obtain ⟨y39, h40⟩ := o37
      refine EQ_jt2 ?_
      replace r3 : Sh S h40 := r3
      refine EQ_if Iff.rfl (fun c4 => ?_) (fun c4 => ?_)
      · refine EQ_jgd (show h40 454 (-2) = 15 from by rw [k_454 r3]) ?_
        refine EQ_jb2 (eX14_search_ hF a18 i15 a13 r3) (fun v43 h44 r5 => ?_)
        replace r5 : Sh S h44 := r5
        refine EQ_jgd (show h44 454 (-2) = 15 from by rw [k_454 r5]) ?_
        refine EQ_jgd (show h44 454 (-2) = 15 from by rw [k_454 r5]) ?_
        refine EQ_jb (eX14_addKid i8 (h44 454 49) r5) (fun h46 r6 => ?_)
        refine EQ_if Iff.rfl (fun c7 => ?_) (fun c7 => ?_)
        · refine EQ_jgd (show h46 454 (-2) = 15 from by rw [k_454 r6]) ?_
          exact (eX14_operands_j332_129 hF i1 i3 i6 i7 i8 a9 a11 a12 v43 i15 i16 a18 (h46 454 50) r6)
        · exact (eX14_operands_j332_129 hF i1 i3 i6 i7 i8 a9 a11 a12 v43 i15 i16 a18 a10 r6)
      · refine EQ_jl rfl (fun x48 ex48 => ?_)
        clear ex48
        exact (eX14_operands_j378_129 hF i1 i3 i6 i7 i8 a9 a10 a11 a12 x48 i15 i16 a17 a18 r3)
    · exact EQ_some hS
noncomputable def gX14_operands_l129 (F : Int → Int → Int → Int → AH → Option (Int × AH)) (i1 : Int) (i3 : Int) (i6 : Int) (i7 : Int) (i8 : Int) (i15 : Int) (i16 : Int) (a9 : Int) (a10 : Int) (a11 : Int) (a12 : Int) (a13 : Int) (a17 : Int) (a18 : Int) (h : AH) : Option (Int × Int × Int × Int × Int × AH) := jit (gX14_operands_b129 F i1 i3 i6 i7 i8 i15 i16) (a9, a10, a11, a12, a13, a17, a18, h)
theorem eX14_operands_l129 {F0 : Int → Int → Int → Int → Int → AH → Option (Int × AH)} {F : Int → Int → Int → Int → AH → Option (Int × AH)} (hF : ∀ (b_a1 : Int) (b_a2 : Int) (b_a3 : Int) (b_a4 : Int), ∀ {b_h : AH}, Sh S b_h → EQ (F0 454 b_a1 b_a2 b_a3 b_a4 b_h) (F b_a1 b_a2 b_a3 b_a4 b_h) (fun r => Sh S r.2)) (i1 : Int) (i3 : Int) (i6 : Int) (i7 : Int) (i8 : Int) (i15 : Int) (i16 : Int) (a9 : Int) (a10 : Int) (a11 : Int) (a12 : Int) (a13 : Int) (a17 : Int) (a18 : Int) {h : AH} (hS : Sh S h) : EQ (fX14_operands_l129 F0 454 i1 i3 i6 i7 i8 i15 i16 a9 a10 a11 a12 a13 a17 a18 h) (gX14_operands_l129 F i1 i3 i6 i7 i8 i15 i16 a9 a10 a11 a12 a13 a17 a18 h) (fun r => Sh S r.2.2.2.2.2) := EQ_jit (I := (fun r => Sh S r.2.2.2.2.2.2.2)) (fun s hs => eX14_operands_b129 hF i1 i3 i6 i7 i8 i15 i16 hs) hS
noncomputable def gX14_operands_j127_102 (F : Int → Int → Int → Int → AH → Option (Int × AH)) (a1 : Int) (a3 : Int) (a6 : Int) (a7 : Int) (a8 : Int) (a9 : Int) (a10 : Int) (a11 : Int) (a12 : Int) (a13 : Int) (a15 : Int) (a16 : Int) (a17 : Int) (t0 : Int) (h : AH) : Option ((Int × Int × Int × Int × Int × Int × AH) ⊕ (Int × Int × Int × Int × AH)) := jb (gX14_operands_l129 F a1 a3 a6 a7 a8 a15 a16 a9 a10 a11 a12 a13 a17 t0 h) fun o26 => jt6 o26 fun y28 y29 y30 y31 y32 h33 => gX14_operands_j384_102 F a1 a3 a6 a7 a8 y28 y29 y30 y31 y32 a15 a16 h33
theorem eX14_operands_j127_102 {F0 : Int → Int → Int → Int → Int → AH → Option (Int × AH)} {F : Int → Int → Int → Int → AH → Option (Int × AH)} (hF : ∀ (b_a1 : Int) (b_a2 : Int) (b_a3 : Int) (b_a4 : Int), ∀ {b_h : AH}, Sh S b_h → EQ (F0 454 b_a1 b_a2 b_a3 b_a4 b_h) (F b_a1 b_a2 b_a3 b_a4 b_h) (fun r => Sh S r.2)) (a1 : Int) (a3 : Int) (a6 : Int) (a7 : Int) (a8 : Int) (a9 : Int) (a10 : Int) (a11 : Int) (a12 : Int) (a13 : Int) (a15 : Int) (a16 : Int) (a17 : Int) (t0 : Int) {h : AH} (hS : Sh S h) : EQ (fX14_operands_j127_102 F0 454 a1 a3 a6 a7 a8 a9 a10 a11 a12 a13 a15 a16 a17 t0 h) (gX14_operands_j127_102 F a1 a3 a6 a7 a8 a9 a10 a11 a12 a13 a15 a16 a17 t0 h) (Sum.elim (fun r => Sh S r.2.2.2.2.2.2) (fun r => Sh S r.2.2.2.2)) := by
  unfold fX14_operands_j127_102 gX14_operands_j127_102
  refine EQ_jb (eX14_operands_l129 hF a1 a3 a6 a7 a8 a15 a16 a9 a10 a11 a12 a13 a17 t0 hS) (fun o26 r1 => ?_)
  obtain ⟨y28, y29, y30, y31, y32, h33⟩ := o26
  refine EQ_jt6 ?_
  replace r1 : Sh S h33 := r1
  exact (eX14_operands_j384_102 hF a1 a3 a6 a7 a8 y28 y29 y30 y31 y32 a15 a16 r1)
noncomputable def gX14_operands_b102 (F : Int → Int → Int → Int → AH → Option (Int × AH)) (i1 : Int) (i3 : Int) (i6 : Int) (i7 : Int) (i8 : Int) (i15 : Int) (s : Int × Int × Int × Int × Int × Int × AH) : Option ((Int × Int × Int × Int × Int × Int × AH) ⊕ (Int × Int × Int × Int × AH)) := jt7 s fun a9 a10 a11 a12 a13 a16 h => if i7 ≤ a16 then (some (.inr (a10, a11, a12, a13, h))) else (if a16 = w32 (i7 - 1) then (gX14_operands_j127_102 F i1 i3 i6 i7 i8 a9 a10 a11 a12 a13 i15 a16 0 a9 h) else (gX14_operands_j127_102 F i1 i3 i6 i7 i8 a9 a10 a11 a12 a13 i15 a16 0 1 h))
theorem eX14_operands_b102 {F0 : Int → Int → Int → Int → Int → AH → Option (Int × AH)} {F : Int → Int → Int → Int → AH → Option (Int × AH)} (hF : ∀ (b_a1 : Int) (b_a2 : Int) (b_a3 : Int) (b_a4 : Int), ∀ {b_h : AH}, Sh S b_h → EQ (F0 454 b_a1 b_a2 b_a3 b_a4 b_h) (F b_a1 b_a2 b_a3 b_a4 b_h) (fun r => Sh S r.2)) (i1 : Int) (i3 : Int) (i6 : Int) (i7 : Int) (i8 : Int) (i15 : Int) {s : Int × Int × Int × Int × Int × Int × AH} (hS : (fun r => Sh S r.2.2.2.2.2.2) s) : EQ (fX14_operands_b102 F0 454 i1 i3 i6 i7 i8 i15 s) (gX14_operands_b102 F i1 i3 i6 i7 i8 i15 s) (Sum.elim (fun r => Sh S r.2.2.2.2.2.2) (fun r => Sh S r.2.2.2.2)) := by
  unfold fX14_operands_b102 gX14_operands_b102
  obtain ⟨a9, a10, a11, a12, a13, a16, h⟩ := s
  refine EQ_jt7 ?_
  replace hS : Sh S h := hS
  refine EQ_if Iff.rfl (fun c1 => ?_) (fun c1 => ?_)
  · exact EQ_some hS
  · refine EQ_if Iff.rfl (fun c2 => ?_) (fun c2 => ?_)
    · exact (eX14_operands_j127_102 hF i1 i3 i6 i7 i8 a9 a10 a11 a12 a13 i15 a16 0 a9 hS)
    · exact (eX14_operands_j127_102 hF i1 i3 i6 i7 i8 a9 a10 a11 a12 a13 i15 a16 0 1 hS)
noncomputable def gX14_operands_l102 (F : Int → Int → Int → Int → AH → Option (Int × AH)) (i1 : Int) (i3 : Int) (i6 : Int) (i7 : Int) (i8 : Int) (i15 : Int) (a9 : Int) (a10 : Int) (a11 : Int) (a12 : Int) (a13 : Int) (a16 : Int) (h : AH) : Option (Int × Int × Int × Int × AH) := jit (gX14_operands_b102 F i1 i3 i6 i7 i8 i15) (a9, a10, a11, a12, a13, a16, h)
theorem eX14_operands_l102 {F0 : Int → Int → Int → Int → Int → AH → Option (Int × AH)} {F : Int → Int → Int → Int → AH → Option (Int × AH)} (hF : ∀ (b_a1 : Int) (b_a2 : Int) (b_a3 : Int) (b_a4 : Int), ∀ {b_h : AH}, Sh S b_h → EQ (F0 454 b_a1 b_a2 b_a3 b_a4 b_h) (F b_a1 b_a2 b_a3 b_a4 b_h) (fun r => Sh S r.2)) (i1 : Int) (i3 : Int) (i6 : Int) (i7 : Int) (i8 : Int) (i15 : Int) (a9 : Int) (a10 : Int) (a11 : Int) (a12 : Int) (a13 : Int) (a16 : Int) {h : AH} (hS : Sh S h) : EQ (fX14_operands_l102 F0 454 i1 i3 i6 i7 i8 i15 a9 a10 a11 a12 a13 a16 h) (gX14_operands_l102 F i1 i3 i6 i7 i8 i15 a9 a10 a11 a12 a13 a16 h) (fun r => Sh S r.2.2.2.2) := EQ_jit (I := (fun r => Sh S r.2.2.2.2.2.2)) (fun s hs => eX14_operands_b102 hF i1 i3 i6 i7 i8 i15 hs) hS
noncomputable def gX14_operands_ (F : Int → Int → Int → Int → AH → Option (Int × AH)) (a1 : Int) (a2 : Int) (a3 : Int) (a4 : Int) (h : AH) : Option (Int × AH) := jg (isX16 (h 454 38)) <| jg (jI a1 13) <| jl (h (h 454 38 + 3) a1) fun x1 => jg (jI x1 36) <| jl (h 456 x1) fun x2 => jb2 (gX14_node 2 (h 458 x1) 0 h) fun v4 h5 => jg (jI v4 8800) <| jl (jst h5 463 v4 x1) fun h6 => jl (jst h6 469 v4 a2) fun h7 => jg (isX16 (h7 454 38)) <| jl (w32 (a2 - h7 (h7 454 38 + 4) a1)) fun x8 => jg (jI (h7 454 43) 16) <| jl (770 + h7 454 43) fun x9 => jl (jst h7 454 43 (w32 (h7 454 43 + 1))) fun h10 => jb (gX14_operands_l102 F a1 a3 x1 x2 v4 (770 + h7 454 43) x8 (-1) (-1) (-1) a4 0 h10) fun o11 => jt5 o11 fun y13 y14 y15 y16 h17 => jl (jst h17 454 43 (w32 (h17 454 43 - 1))) fun h18 => jl (jst h18 454 49 v4) fun h19 => jb2 (gX14_result x1 y13 y14 y15 h19) fun v21 h22 => jl (jst h22 454 50 v21) fun h23 => some (y16, h23)
theorem eX14_operands_ {F0 : Int → Int → Int → Int → Int → AH → Option (Int × AH)} {F : Int → Int → Int → Int → AH → Option (Int × AH)} (hF : ∀ (b_a1 : Int) (b_a2 : Int) (b_a3 : Int) (b_a4 : Int), ∀ {b_h : AH}, Sh S b_h → EQ (F0 454 b_a1 b_a2 b_a3 b_a4 b_h) (F b_a1 b_a2 b_a3 b_a4 b_h) (fun r => Sh S r.2)) (a1 : Int) (a2 : Int) (a3 : Int) (a4 : Int) {h : AH} (hS : Sh S h) : EQ (fX14_operands_ F0 454 a1 a2 a3 a4 h) (gX14_operands_ F a1 a2 a3 a4 h) (fun r => Sh S r.2) := by
  unfold fX14_operands_ gX14_operands_
  refine EQ_jgd (show h 454 (-2) = 15 from by rw [k_454 hS]) ?_
  refine EQ_jg ⟨fun x0 => (ik_X16 hS).mp x0, fun x0 => (ik_X16 hS).mpr x0⟩ (fun g1 => ?_)
  refine EQ_jg ⟨fun ⟨_, x0⟩ => (show jI a1 (h (h (h 454 38) 7) (-1)) ↔ jI a1 13 from by rw [ft_X16_7 hS g1, la_X16_7 hS g1]).mp x0, fun x0 => ⟨(show h (h (h 454 38) 7) (-2) = 101 from by rw [ft_X16_7 hS g1, ka_X16_7 hS g1]), (show jI a1 (h (h (h 454 38) 7) (-1)) ↔ jI a1 13 from by rw [ft_X16_7 hS g1, la_X16_7 hS g1]).mpr x0⟩⟩ (fun g2 => ?_)
  refine EQ_jl (by rw [ft_X16_7 hS g1]) (fun x1 ex1 => ?_)
  clear ex1
  refine EQ_jgd (show h 454 (-2) = 15 from by rw [k_454 hS]) ?_
  refine EQ_jg ⟨fun ⟨_, x0⟩ => (show jI x1 (h (h 454 1) (-1)) ↔ jI x1 36 from by rw [r_454_1 hS, l_456 hS]).mp x0, fun x0 => ⟨(show h (h 454 1) (-2) = 101 from by rw [r_454_1 hS, k_456 hS]), (show jI x1 (h (h 454 1) (-1)) ↔ jI x1 36 from by rw [r_454_1 hS, l_456 hS]).mpr x0⟩⟩ (fun g3 => ?_)
  refine EQ_jl (by rw [r_454_1 hS]) (fun x2 ex2 => ?_)
  clear ex2
  refine EQ_jgd (show h 454 (-2) = 15 from by rw [k_454 hS]) ?_
  refine EQ_jgd ⟨(show h (h 454 3) (-2) = 101 from by rw [r_454_3 hS, k_458 hS]), ((show jI x1 (h (h 454 3) (-1)) ↔ jI x1 36 from by rw [r_454_3 hS, l_458 hS]).mpr g3)⟩ ?_
  refine EQ_jgd (show h 454 (-2) = 15 from by rw [k_454 hS]) ?_
  refine EQ_jb2 (by rw [r_454_3 hS]; exact eX14_node 2 (h 458 x1) 0 hS) (fun v4 h5 r4 => ?_)
  replace r4 : Sh S h5 := r4
  refine EQ_jgd (show h5 454 (-2) = 15 from by rw [k_454 r4]) ?_
  refine EQ_jg ⟨fun ⟨_, _, x0⟩ => (show jI v4 (h5 (h5 454 9) (-1)) ↔ jI v4 8800 from by rw [r_454_9 r4, l_463 r4]).mp x0, fun x0 => ⟨(show h5 (h5 454 9) (-2) = 101 from by rw [r_454_9 r4, k_463 r4]), (show 200 ≤ h5 454 9 from by rw [r_454_9 r4]; exact (by decide)), (show jI v4 (h5 (h5 454 9) (-1)) ↔ jI v4 8800 from by rw [r_454_9 r4, l_463 r4]).mpr x0⟩⟩ (fun g5 => ?_)
  refine EQ_jl (by rw [r_454_9 r4]) (fun h6 eh6 => ?_)
  have s6 := Sh_of eh6 (Sh_sta r4 (by decide +kernel) (jI_nn g5) (fun e => absurd ((k_463 r4).symm.trans e) (by decide)))
  clear eh6
  refine EQ_jgd (show h6 454 (-2) = 15 from by rw [k_454 s6]) ?_
  refine EQ_jgd ⟨(show h6 (h6 454 15) (-2) = 101 from by rw [r_454_15 s6, k_469 s6]), (show 200 ≤ h6 454 15 from by rw [r_454_15 s6]; exact (by decide)), ((show jI v4 (h6 (h6 454 15) (-1)) ↔ jI v4 8800 from by rw [r_454_15 s6, l_469 s6]).mpr g5)⟩ ?_
  refine EQ_jl (by rw [r_454_15 s6]) (fun h7 eh7 => ?_)
  have s7 := Sh_of eh7 (Sh_sta s6 (by decide +kernel) (jI_nn g5) (fun e => absurd ((k_469 s6).symm.trans e) (by decide)))
  clear eh7
  refine EQ_jgd (show h7 454 (-2) = 15 from by rw [k_454 s7]) ?_
  refine EQ_jg ⟨fun x0 => (ik_X16 s7).mp x0, fun x0 => (ik_X16 s7).mpr x0⟩ (fun g8 => ?_)
  refine EQ_jgd ⟨(show h7 (h7 (h7 454 38) 8) (-2) = 101 from by rw [ft_X16_8 s7 g8, ka_X16_8 s7 g8]), ((show jI a1 (h7 (h7 (h7 454 38) 8) (-1)) ↔ jI a1 13 from by rw [ft_X16_8 s7 g8, la_X16_8 s7 g8]).mpr g2)⟩ ?_
  refine EQ_jl (by rw [ft_X16_8 s7 g8]) (fun x8 ex8 => ?_)
  clear ex8
  refine EQ_jgd (show h7 454 (-2) = 15 from by rw [k_454 s7]) ?_
  refine EQ_jgd (show h7 454 (-2) = 15 from by rw [k_454 s7]) ?_
  refine EQ_jg ⟨fun ⟨_, x0⟩ => (show jI (h7 454 43) (h7 (h7 454 42) (-1)) ↔ jI (h7 454 43) 16 from by rw [r_454_42 s7, l_769 s7]).mp x0, fun x0 => ⟨(show h7 (h7 454 42) (-2) = 106 from by rw [r_454_42 s7, k_769 s7]), (show jI (h7 454 43) (h7 (h7 454 42) (-1)) ↔ jI (h7 454 43) 16 from by rw [r_454_42 s7, l_769 s7]).mpr x0⟩⟩ (fun g9 => ?_)
  refine EQ_jl (by rw [r_454_42 s7, rr_769 s7 g9]) (fun x9 ex9 => ?_)
  refine EQ_jgd (show h7 454 (-2) = 15 from by rw [k_454 s7]) ?_
  refine EQ_jgd ⟨(show h7 454 (-2) = 15 from by rw [k_454 s7]), (show (200 : Int) ≤ 454 from (by decide))⟩ ?_
  refine EQ_jl rfl (fun h10 eh10 => ?_)
  have s10 := Sh_of eh10 (Sh_sto s7 (a := 454) (i := 43) (by decide +kernel))
  clear eh10
  refine EQ_jb (by rw [ex9]; exact eX14_operands_l102 hF a1 a3 x1 x2 v4 (770 + h7 454 43) x8 (-1) (-1) (-1) a4 0 s10) (fun o11 r11 => ?_)
  obtain ⟨y13, y14, y15, y16, h17⟩ := o11
  refine EQ_jt5 ?_
  replace r11 : Sh S h17 := r11
  refine EQ_jgd (show h17 454 (-2) = 15 from by rw [k_454 r11]) ?_
  refine EQ_jgd ⟨(show h17 454 (-2) = 15 from by rw [k_454 r11]), (show (200 : Int) ≤ 454 from (by decide))⟩ ?_
  refine EQ_jl rfl (fun h18 eh18 => ?_)
  have s12 := Sh_of eh18 (Sh_sto r11 (a := 454) (i := 43) (by decide +kernel))
  clear eh18
  refine EQ_jgd ⟨(show h18 454 (-2) = 15 from by rw [k_454 s12]), (show (200 : Int) ≤ 454 from (by decide))⟩ ?_
  refine EQ_jl rfl (fun h19 eh19 => ?_)
  have s13 := Sh_of eh19 (Sh_sto s12 (a := 454) (i := 49) (by decide +kernel))
  clear eh19
  refine EQ_jgd (show h19 454 (-2) = 15 from by rw [k_454 s13]) ?_
  refine EQ_jb2 (eX14_result x1 y13 y14 y15 s13) (fun v21 h22 r14 => ?_)
  replace r14 : Sh S h22 := r14
  refine EQ_jgd ⟨(show h22 454 (-2) = 15 from by rw [k_454 r14]), (show (200 : Int) ≤ 454 from (by decide))⟩ ?_
  refine EQ_jl rfl (fun h23 eh23 => ?_)
  have s15 := Sh_of eh23 (Sh_sto r14 (a := 454) (i := 50) (by decide +kernel))
  clear eh23
  exact EQ_some s15
noncomputable def gX14_operandsD : Nat → Int → Int → Int → Int → AH → Option (Int × AH)
  | 0 => fun _ _ _ _ _ => none
  | d + 1 => gX14_operands_ (gX14_operandsD d)
theorem eX14_operandsD : ∀ (d : Nat) (a1 : Int) (a2 : Int) (a3 : Int) (a4 : Int) {h : AH} (hS : Sh S h) , EQ (fX14_operandsD d 454 a1 a2 a3 a4 h) (gX14_operandsD d a1 a2 a3 a4 h) (fun r => Sh S r.2) := by
  intro d
  induction d with
  | zero => intro a1 a2 a3 a4 h hS; exact EQ_none
  | succ d ih => intro a1 a2 a3 a4 h hS; exact eX14_operands_ ih a1 a2 a3 a4 hS
noncomputable def gX14_operands : Int → Int → Int → Int → AH → Option (Int × AH) := gX14_operandsD 40
theorem eX14_operands (a1 : Int) (a2 : Int) (a3 : Int) (a4 : Int) {h : AH} (hS : Sh S h) : EQ (fX14_operands 454 a1 a2 a3 a4 h) (gX14_operands a1 a2 a3 a4 h) (fun r => Sh S r.2) := eX14_operandsD 40 a1 a2 a3 a4 hS
noncomputable def gX14_search : Int → Int → Int → AH → Option (Int × AH) := gX14_search_ gX14_operands
theorem eX14_search (a1 : Int) (a2 : Int) (a3 : Int) {h : AH} (hS : Sh S h) : EQ (fX14_search 454 a1 a2 a3 h) (gX14_search a1 a2 a3 h) (fun r => Sh S r.2) := eX14_search_ eX14_operands a1 a2 a3 hS
noncomputable def gX14_ith (a1 : Int) (a2 : Int) (h : AH) : Option (Int × AH) := jb2 (gX14_refusal a1 h) fun v2 h3 => if 0 ≤ v2 then (jb2 (gX14_weigh a1 h3) fun v6 h7 => if jcmp a2 0 < 0 then (some ((-1), h7)) else (if jcmp a2 v6 < 0 then (jl (jst h7 454 17 8200) fun h10 => jl (jst h10 454 43 1) fun h11 => jb2 (gX14_search a1 (h11 769 0) a2 h11) fun v13 h14 => jb (gX14_tell (h14 454 49) h14) fun h16 => some (h16 454 62, h16)) else (some ((-1), h7)))) else (some (v2, h3))
theorem eX14_ith (a1 : Int) (a2 : Int) {h : AH} (hS : Sh S h) : EQ (fX14_ith 454 a1 a2 h) (gX14_ith a1 a2 h) (fun r => Sh S r.2) := by
  unfold fX14_ith gX14_ith
  refine EQ_jgd (show h 454 (-2) = 15 from by rw [k_454 hS]) ?_
  refine EQ_jb2 (eX14_refusal a1 hS) (fun v2 h3 r1 => ?_)
  replace r1 : Sh S h3 := r1
  refine EQ_if Iff.rfl (fun c2 => ?_) (fun c2 => ?_)
  · refine EQ_jgd (show h3 454 (-2) = 15 from by rw [k_454 r1]) ?_
    refine EQ_jb2 (eX14_weigh a1 r1) (fun v6 h7 r3 => ?_)
    replace r3 : Sh S h7 := r3
    refine EQ_if Iff.rfl (fun c4 => ?_) (fun c4 => ?_)
    · exact EQ_some r3
    · refine EQ_if Iff.rfl (fun c5 => ?_) (fun c5 => ?_)
      · refine EQ_jgd ⟨(show h7 454 (-2) = 15 from by rw [k_454 r3]), (show (200 : Int) ≤ 454 from (by decide))⟩ ?_
        refine EQ_jl rfl (fun h10 eh10 => ?_)
        have s6 := Sh_of eh10 (Sh_sto r3 (a := 454) (i := 17) (by decide +kernel))
        clear eh10
        refine EQ_jgd ⟨(show h10 454 (-2) = 15 from by rw [k_454 s6]), (show (200 : Int) ≤ 454 from (by decide))⟩ ?_
        refine EQ_jl rfl (fun h11 eh11 => ?_)
        have s7 := Sh_of eh11 (Sh_sto s6 (a := 454) (i := 43) (by decide +kernel))
        clear eh11
        refine EQ_jgd (show h11 454 (-2) = 15 from by rw [k_454 s7]) ?_
        refine EQ_jgd ⟨(show h11 (h11 454 42) (-2) = 106 from by rw [r_454_42 s7, k_769 s7]), (show jI 0 (h11 (h11 454 42) (-1)) from by rw [r_454_42 s7, l_769 s7]; unfold jI; decide)⟩ ?_
        refine EQ_jgd (show h11 454 (-2) = 15 from by rw [k_454 s7]) ?_
        refine EQ_jb2 (by rw [r_454_42 s7]; exact eX14_search a1 (h11 769 0) a2 s7) (fun v13 h14 r8 => ?_)
        replace r8 : Sh S h14 := r8
        refine EQ_jgd (show h14 454 (-2) = 15 from by rw [k_454 r8]) ?_
        refine EQ_jgd (show h14 454 (-2) = 15 from by rw [k_454 r8]) ?_
        refine EQ_jb (eX14_tell (h14 454 49) r8) (fun h16 r9 => ?_)
        refine EQ_jgd (show h16 454 (-2) = 15 from by rw [k_454 r9]) ?_
        exact EQ_some r9
      · exact EQ_some r3
  · exact EQ_some r1
noncomputable def gX14_different_j43_17 (a1 : Int) (a4 : Int) (t0 : Int) (h : AH) : Option ((Int × Int × AH) ⊕ (Int × AH)) := jl (w32 (a4 + 1)) fun x16 => some (.inl (t0, x16, h))
theorem eX14_different_j43_17 (a1 : Int) (a4 : Int) (t0 : Int) {h : AH} (hS : Sh S h) : EQ (fX14_different_j43_17 454 a1 a4 t0 h) (gX14_different_j43_17 a1 a4 t0 h) (Sum.elim (fun r => Sh S r.2.2) (fun r => Sh S r.2)) := by
  unfold fX14_different_j43_17 gX14_different_j43_17
  refine EQ_jl rfl (fun x16 ex16 => ?_)
  clear ex16
  exact EQ_some hS
noncomputable def gX14_different_b17 (i1 : Int) (s : Int × Int × AH) : Option ((Int × Int × AH) ⊕ (Int × AH)) := jt3 s fun a3 a4 h => jb (gX14_upTo i1 h) fun v10 => if v10 ≤ a4 then (some (.inr (a3, h))) else (jb2 (gX14_meets a4 h) fun v13 h14 => if v13 = 0 then (gX14_different_j43_17 i1 a4 a3 h14) else (gX14_different_j43_17 i1 a4 (w32 (a3 + 1)) h14))
theorem eX14_different_b17 (i1 : Int) {s : Int × Int × AH} (hS : (fun r => Sh S r.2.2) s) : EQ (fX14_different_b17 454 i1 s) (gX14_different_b17 i1 s) (Sum.elim (fun r => Sh S r.2.2) (fun r => Sh S r.2)) := by
  unfold fX14_different_b17 gX14_different_b17
  obtain ⟨a3, a4, h⟩ := s
  refine EQ_jt3 ?_
  replace hS : Sh S h := hS
  refine EQ_jgd (show h 454 (-2) = 15 from by rw [k_454 hS]) ?_
  refine EQ_jb (eX14_upTo i1 hS) (fun v10 r1 => ?_)
  refine EQ_if Iff.rfl (fun c2 => ?_) (fun c2 => ?_)
  · exact EQ_some hS
  · refine EQ_jgd (show h 454 (-2) = 15 from by rw [k_454 hS]) ?_
    refine EQ_jb2 (eX14_meets a4 hS) (fun v13 h14 r3 => ?_)
    replace r3 : Sh S h14 := r3
    refine EQ_if Iff.rfl (fun c4 => ?_) (fun c4 => ?_)
    · exact (eX14_different_j43_17 i1 a4 a3 r3)
    · exact (eX14_different_j43_17 i1 a4 (w32 (a3 + 1)) r3)
noncomputable def gX14_different_l17 (i1 : Int) (a3 : Int) (a4 : Int) (h : AH) : Option (Int × AH) := jit (gX14_different_b17 i1) (a3, a4, h)
theorem eX14_different_l17 (i1 : Int) (a3 : Int) (a4 : Int) {h : AH} (hS : Sh S h) : EQ (fX14_different_l17 454 i1 a3 a4 h) (gX14_different_l17 i1 a3 a4 h) (fun r => Sh S r.2) := EQ_jit (I := (fun r => Sh S r.2.2)) (fun s hs => eX14_different_b17 i1 hs) hS
noncomputable def gX14_different (a1 : Int) (h : AH) : Option (Int × AH) := jb2 (gX14_refusal a1 h) fun v2 h3 => if 0 ≤ v2 then (jb (gX14_different_l17 a1 0 0 h3) fun o5 => jt2 o5 fun y7 h8 => some (y7, h8)) else (some (v2, h3))
theorem eX14_different (a1 : Int) {h : AH} (hS : Sh S h) : EQ (fX14_different 454 a1 h) (gX14_different a1 h) (fun r => Sh S r.2) := by
  unfold fX14_different gX14_different
  refine EQ_jgd (show h 454 (-2) = 15 from by rw [k_454 hS]) ?_
  refine EQ_jb2 (eX14_refusal a1 hS) (fun v2 h3 r1 => ?_)
  replace r1 : Sh S h3 := r1
  refine EQ_if Iff.rfl (fun c2 => ?_) (fun c2 => ?_)
  · refine EQ_jb (eX14_different_l17 a1 0 0 r1) (fun o5 r3 => ?_)
    obtain ⟨y7, h8⟩ := o5
    refine EQ_jt2 ?_
    replace r3 : Sh S h8 := r3
    exact EQ_some r3
  · exact EQ_some r1
noncomputable def gX14_question_b21 (i3 : Int) (s : Int × AH) : Option ((Int × AH) ⊕ (AH)) := jt2 s fun a4 h => if i3 ≤ a4 then (some (.inr h)) else (jb2 (gX14_meets a4 h) fun v16 h17 => jg (jI a4 122) <| jl (jst h17 795 a4 (ji2z v16)) fun h18 => jl (w32 (a4 + 1)) fun x19 => some (.inl (x19, h18)))
theorem eX14_question_b21 (i3 : Int) {s : Int × AH} (hS : (fun r => Sh S r.2) s) : EQ (fX14_question_b21 454 i3 s) (gX14_question_b21 i3 s) (Sum.elim (fun r => Sh S r.2) (fun r => Sh S r)) := by
  unfold fX14_question_b21 gX14_question_b21
  obtain ⟨a4, h⟩ := s
  refine EQ_jt2 ?_
  replace hS : Sh S h := hS
  refine EQ_if Iff.rfl (fun c1 => ?_) (fun c1 => ?_)
  · exact EQ_some hS
  · refine EQ_jgd (show h 454 (-2) = 15 from by rw [k_454 hS]) ?_
    refine EQ_jgd (show h 454 (-2) = 15 from by rw [k_454 hS]) ?_
    refine EQ_jb2 (eX14_meets a4 hS) (fun v16 h17 r2 => ?_)
    replace r2 : Sh S h17 := r2
    refine EQ_jg ⟨fun ⟨_, _, x0⟩ => (show jI a4 (h17 (h 454 70) (-1)) ↔ jI a4 122 from by rw [r_454_70 hS, l_795 r2]).mp x0, fun x0 => ⟨(show h17 (h 454 70) (-2) = 104 from by rw [r_454_70 hS, k_795 r2]), (show 200 ≤ h 454 70 from by rw [r_454_70 hS]; exact (by decide)), (show jI a4 (h17 (h 454 70) (-1)) ↔ jI a4 122 from by rw [r_454_70 hS, l_795 r2]).mpr x0⟩⟩ (fun g3 => ?_)
    refine EQ_jl (by rw [r_454_70 hS]) (fun h18 eh18 => ?_)
    have s4 := Sh_of eh18 (Sh_sta r2 (by decide +kernel) (jI_nn g3) (fun e => absurd ((k_795 r2).symm.trans e) (by decide)))
    clear eh18
    refine EQ_jl rfl (fun x19 ex19 => ?_)
    clear ex19
    exact EQ_some s4
noncomputable def gX14_question_l21 (i3 : Int) (a4 : Int) (h : AH) : Option (AH) := jit (gX14_question_b21 i3) (a4, h)
theorem eX14_question_l21 (i3 : Int) (a4 : Int) {h : AH} (hS : Sh S h) : EQ (fX14_question_l21 454 i3 a4 h) (gX14_question_l21 i3 a4 h) (fun r => Sh S r) := EQ_jit (I := (fun r => Sh S r.2)) (fun s hs => eX14_question_b21 i3 hs) hS
noncomputable def gX14_question_j192_55 (a3 : Int) (a4 : Int) (a5 : Int) (a6 : Int) (h : AH) : Option ((Int × Int × Int) ⊕ (Int × Int)) := jl (w32 (a6 + 1)) fun x24 => some (.inl (a4, a5, x24))
theorem eX14_question_j192_55 (a3 : Int) (a4 : Int) (a5 : Int) (a6 : Int) {h : AH} (hS : Sh S h) : EQ (fX14_question_j192_55 454 a3 a4 a5 a6 h) (gX14_question_j192_55 a3 a4 a5 a6 h) (Sum.elim (fun _ => True) (fun _ => True)) := by
  unfold fX14_question_j192_55 gX14_question_j192_55
  refine EQ_jl rfl (fun x24 ex24 => ?_)
  clear ex24
  exact EQ_some trivial
noncomputable def gX14_question_j169_73 (a3 : Int) (a4 : Int) (a5 : Int) (a6 : Int) (a8 : Int) (t0 : Int) (h : AH) : Option ((Int × Int) ⊕ (Int)) := jl (w32 (a8 + 1)) fun x30 => some (.inl (t0, x30))
theorem eX14_question_j169_73 (a3 : Int) (a4 : Int) (a5 : Int) (a6 : Int) (a8 : Int) (t0 : Int) {h : AH} (hS : Sh S h) : EQ (fX14_question_j169_73 454 a3 a4 a5 a6 a8 t0 h) (gX14_question_j169_73 a3 a4 a5 a6 a8 t0 h) (Sum.elim (fun _ => True) (fun _ => True)) := by
  unfold fX14_question_j169_73 gX14_question_j169_73
  refine EQ_jl rfl (fun x30 ex30 => ?_)
  clear ex30
  exact EQ_some trivial
noncomputable def gX14_question_j155_73 (a3 : Int) (a4 : Int) (a5 : Int) (a6 : Int) (a7 : Int) (a8 : Int) (a9 : Int) (h : AH) : Option ((Int × Int) ⊕ (Int)) := if a9 = 0 then (gX14_question_j169_73 a3 a4 a5 a6 a8 a7 h) else (gX14_question_j169_73 a3 a4 a5 a6 a8 (w32 (a7 + 1)) h)
theorem eX14_question_j155_73 (a3 : Int) (a4 : Int) (a5 : Int) (a6 : Int) (a7 : Int) (a8 : Int) (a9 : Int) {h : AH} (hS : Sh S h) : EQ (fX14_question_j155_73 454 a3 a4 a5 a6 a7 a8 a9 h) (gX14_question_j155_73 a3 a4 a5 a6 a7 a8 a9 h) (Sum.elim (fun _ => True) (fun _ => True)) := by
  unfold fX14_question_j155_73 gX14_question_j155_73
  refine EQ_if Iff.rfl (fun c1 => ?_) (fun c1 => ?_)
  · exact (eX14_question_j169_73 a3 a4 a5 a6 a8 a7 hS)
  · exact (eX14_question_j169_73 a3 a4 a5 a6 a8 (w32 (a7 + 1)) hS)
noncomputable def gX14_question_j147_91 (a3 : Int) (a4 : Int) (a5 : Int) (a6 : Int) (a7 : Int) (a8 : Int) (a10 : Int) (t0 : Int) (h : AH) : Option ((Int × Int) ⊕ (Int)) := jl (w32 (a10 + 1)) fun x35 => some (.inl (t0, x35))
theorem eX14_question_j147_91 (a3 : Int) (a4 : Int) (a5 : Int) (a6 : Int) (a7 : Int) (a8 : Int) (a10 : Int) (t0 : Int) {h : AH} (hS : Sh S h) : EQ (fX14_question_j147_91 454 a3 a4 a5 a6 a7 a8 a10 t0 h) (gX14_question_j147_91 a3 a4 a5 a6 a7 a8 a10 t0 h) (Sum.elim (fun _ => True) (fun _ => True)) := by
  unfold fX14_question_j147_91 gX14_question_j147_91
  refine EQ_jl rfl (fun x35 ex35 => ?_)
  clear ex35
  exact EQ_some trivial
noncomputable def gX14_question_b91 (i3 : Int) (i4 : Int) (i5 : Int) (i6 : Int) (i7 : Int) (i8 : Int) (h : AH) (s : Int × Int) : Option ((Int × Int) ⊕ (Int)) := jt2 s fun a9 a10 => if i8 ≤ a10 then (some (.inr a9)) else (if a9 = 0 then (some (.inr a9)) else (jg (jI a10 122) <| if h 795 a10 = 0 then (gX14_question_j147_91 i3 i4 i5 i6 i7 i8 a10 1 h) else (jg (isX16 (h 454 38)) <| jg (jI i6 256) <| jg (jI i8 122) <| if h (h 454 38 + 17 + a10) i6 = h (h 454 38 + 17 + i8) i6 then (gX14_question_j147_91 i3 i4 i5 i6 i7 i8 a10 0 h) else (gX14_question_j147_91 i3 i4 i5 i6 i7 i8 a10 1 h))))
theorem eX14_question_b91 (i3 : Int) (i4 : Int) (i5 : Int) (i6 : Int) (i7 : Int) (i8 : Int) (s : Int × Int) {h : AH} (hS : Sh S h) : EQ (fX14_question_b91 454 i3 i4 i5 i6 i7 i8 h s) (gX14_question_b91 i3 i4 i5 i6 i7 i8 h s) (Sum.elim (fun _ => True) (fun _ => True)) := by
  unfold fX14_question_b91 gX14_question_b91
  obtain ⟨a9, a10⟩ := s
  refine EQ_jt2 ?_
  refine EQ_if Iff.rfl (fun c1 => ?_) (fun c1 => ?_)
  · exact EQ_some trivial
  · refine EQ_if Iff.rfl (fun c2 => ?_) (fun c2 => ?_)
    · exact EQ_some trivial
    · refine EQ_jgd (show h 454 (-2) = 15 from by rw [k_454 hS]) ?_
      refine EQ_jg ⟨fun ⟨_, x0⟩ => (show jI a10 (h (h 454 70) (-1)) ↔ jI a10 122 from by rw [r_454_70 hS, l_795 hS]).mp x0, fun x0 => ⟨(show h (h 454 70) (-2) = 104 from by rw [r_454_70 hS, k_795 hS]), (show jI a10 (h (h 454 70) (-1)) ↔ jI a10 122 from by rw [r_454_70 hS, l_795 hS]).mpr x0⟩⟩ (fun g3 => ?_)
      refine EQ_if (show h (h 454 70) a10 = 0 ↔ h 795 a10 = 0 from by rw [r_454_70 hS]) (fun c4 => ?_) (fun c4 => ?_)
      · exact (eX14_question_j147_91 i3 i4 i5 i6 i7 i8 a10 1 hS)
      · refine EQ_jgd (show h 454 (-2) = 15 from by rw [k_454 hS]) ?_
        refine EQ_jg ⟨fun x0 => (ik_X16 hS).mp x0, fun x0 => (ik_X16 hS).mpr x0⟩ (fun g5 => ?_)
        refine EQ_jgd ⟨(show h (h (h 454 38) 25) (-2) = 105 from by rw [ft_X16_25 hS g5, ka_X16_25 hS g5]), ((show jI a10 (h (h (h 454 38) 25) (-1)) ↔ jI a10 122 from by rw [ft_X16_25 hS g5, la_X16_25 hS g5]).mpr g3)⟩ ?_
        refine EQ_jg ⟨fun ⟨_, x0⟩ => (show jI i6 (h (h (h (h 454 38) 25) a10) (-1)) ↔ jI i6 256 from by rw [ft_X16_25 hS g5, rro_X16_25 hS g5 g3, rlo_X16_25 hS g5 g3]).mp x0, fun x0 => ⟨(show h (h (h (h 454 38) 25) a10) (-2) = 101 from by rw [ft_X16_25 hS g5, rro_X16_25 hS g5 g3, rko_X16_25 hS g5 g3]), (show jI i6 (h (h (h (h 454 38) 25) a10) (-1)) ↔ jI i6 256 from by rw [ft_X16_25 hS g5, rro_X16_25 hS g5 g3, rlo_X16_25 hS g5 g3]).mpr x0⟩⟩ (fun g6 => ?_)
        refine EQ_jgd (show h 454 (-2) = 15 from by rw [k_454 hS]) ?_
        refine EQ_jgd (show h (h 454 38) (-2) = 17 from by rw [kd_X16 hS g5]) ?_
        refine EQ_jg ⟨fun ⟨_, x0⟩ => (show jI i8 (h (h (h 454 38) 25) (-1)) ↔ jI i8 122 from by rw [ft_X16_25 hS g5, la_X16_25 hS g5]).mp x0, fun x0 => ⟨(show h (h (h 454 38) 25) (-2) = 105 from by rw [ft_X16_25 hS g5, ka_X16_25 hS g5]), (show jI i8 (h (h (h 454 38) 25) (-1)) ↔ jI i8 122 from by rw [ft_X16_25 hS g5, la_X16_25 hS g5]).mpr x0⟩⟩ (fun g7 => ?_)
        refine EQ_jgd ⟨(show h (h (h (h 454 38) 25) i8) (-2) = 101 from by rw [ft_X16_25 hS g5, rro_X16_25 hS g5 g7, rko_X16_25 hS g5 g7]), ((show jI i6 (h (h (h (h 454 38) 25) i8) (-1)) ↔ jI i6 256 from by rw [ft_X16_25 hS g5, rro_X16_25 hS g5 g7, rlo_X16_25 hS g5 g7]).mpr g6)⟩ ?_
        refine EQ_if (show h (h (h (h 454 38) 25) a10) i6 = h (h (h (h 454 38) 25) i8) i6 ↔ h (h 454 38 + 17 + a10) i6 = h (h 454 38 + 17 + i8) i6 from by rw [ft_X16_25 hS g5, rro_X16_25 hS g5 g3, rro_X16_25 hS g5 g7]) (fun c8 => ?_) (fun c8 => ?_)
        · exact (eX14_question_j147_91 i3 i4 i5 i6 i7 i8 a10 0 hS)
        · exact (eX14_question_j147_91 i3 i4 i5 i6 i7 i8 a10 1 hS)
noncomputable def gX14_question_l91 (i3 : Int) (i4 : Int) (i5 : Int) (i6 : Int) (i7 : Int) (i8 : Int) (a9 : Int) (a10 : Int) (h : AH) : Option (Int) := jit (gX14_question_b91 i3 i4 i5 i6 i7 i8 h) (a9, a10)
theorem eX14_question_l91 (i3 : Int) (i4 : Int) (i5 : Int) (i6 : Int) (i7 : Int) (i8 : Int) (a9 : Int) (a10 : Int) {h : AH} (hS : Sh S h) : EQ (fX14_question_l91 454 i3 i4 i5 i6 i7 i8 a9 a10 h) (gX14_question_l91 i3 i4 i5 i6 i7 i8 a9 a10 h) (fun _ => True) := EQ_jit (I := (fun _ => True)) (fun s _ => eX14_question_b91 i3 i4 i5 i6 i7 i8 s hS) trivial
noncomputable def gX14_question_b73 (i3 : Int) (i4 : Int) (i5 : Int) (i6 : Int) (h : AH) (s : Int × Int) : Option ((Int × Int) ⊕ (Int)) := jt2 s fun a7 a8 => if i3 ≤ a8 then (some (.inr a7)) else (jg (jI a8 122) <| jl (h 795 a8) fun x26 => jb (gX14_question_l91 i3 i4 i5 i6 a7 a8 x26 0 h) fun o27 => gX14_question_j155_73 i3 i4 i5 i6 a7 a8 o27 h)
theorem eX14_question_b73 (i3 : Int) (i4 : Int) (i5 : Int) (i6 : Int) (s : Int × Int) {h : AH} (hS : Sh S h) : EQ (fX14_question_b73 454 i3 i4 i5 i6 h s) (gX14_question_b73 i3 i4 i5 i6 h s) (Sum.elim (fun _ => True) (fun _ => True)) := by
  unfold fX14_question_b73 gX14_question_b73
  obtain ⟨a7, a8⟩ := s
  refine EQ_jt2 ?_
  refine EQ_if Iff.rfl (fun c1 => ?_) (fun c1 => ?_)
  · exact EQ_some trivial
  · refine EQ_jgd (show h 454 (-2) = 15 from by rw [k_454 hS]) ?_
    refine EQ_jg ⟨fun ⟨_, x0⟩ => (show jI a8 (h (h 454 70) (-1)) ↔ jI a8 122 from by rw [r_454_70 hS, l_795 hS]).mp x0, fun x0 => ⟨(show h (h 454 70) (-2) = 104 from by rw [r_454_70 hS, k_795 hS]), (show jI a8 (h (h 454 70) (-1)) ↔ jI a8 122 from by rw [r_454_70 hS, l_795 hS]).mpr x0⟩⟩ (fun g2 => ?_)
    refine EQ_jl (by rw [r_454_70 hS]) (fun x26 ex26 => ?_)
    clear ex26
    refine EQ_jb (eX14_question_l91 i3 i4 i5 i6 a7 a8 x26 0 hS) (fun o27 r3 => ?_)
    exact (eX14_question_j155_73 i3 i4 i5 i6 a7 a8 o27 hS)
noncomputable def gX14_question_l73 (i3 : Int) (i4 : Int) (i5 : Int) (i6 : Int) (a7 : Int) (a8 : Int) (h : AH) : Option (Int) := jit (gX14_question_b73 i3 i4 i5 i6 h) (a7, a8)
theorem eX14_question_l73 (i3 : Int) (i4 : Int) (i5 : Int) (i6 : Int) (a7 : Int) (a8 : Int) {h : AH} (hS : Sh S h) : EQ (fX14_question_l73 454 i3 i4 i5 i6 a7 a8 h) (gX14_question_l73 i3 i4 i5 i6 a7 a8 h) (fun _ => True) := EQ_jit (I := (fun _ => True)) (fun s _ => eX14_question_b73 i3 i4 i5 i6 s hS) trivial
noncomputable def gX14_question_b55 (i3 : Int) (h : AH) (s : Int × Int × Int) : Option ((Int × Int × Int) ⊕ (Int × Int)) := jt3 s fun a4 a5 a6 => jg (isX16 (h 454 38)) <| if h (h 454 38) 18 ≤ a6 then (some (.inr (a4, a5))) else (jb (gX14_question_l73 i3 a4 a5 a6 0 0 h) fun o21 => if o21 ≤ a4 then (gX14_question_j192_55 i3 a4 a5 a6 h) else (gX14_question_j192_55 i3 o21 a6 a6 h))
theorem eX14_question_b55 (i3 : Int) (s : Int × Int × Int) {h : AH} (hS : Sh S h) : EQ (fX14_question_b55 454 i3 h s) (gX14_question_b55 i3 h s) (Sum.elim (fun _ => True) (fun _ => True)) := by
  unfold fX14_question_b55 gX14_question_b55
  obtain ⟨a4, a5, a6⟩ := s
  refine EQ_jt3 ?_
  refine EQ_jgd (show h 454 (-2) = 15 from by rw [k_454 hS]) ?_
  refine EQ_jg ⟨fun x0 => (ik_X16 hS).mp x0, fun x0 => (ik_X16 hS).mpr x0⟩ (fun g1 => ?_)
  refine EQ_if Iff.rfl (fun c2 => ?_) (fun c2 => ?_)
  · exact EQ_some trivial
  · refine EQ_jb (eX14_question_l73 i3 a4 a5 a6 0 0 hS) (fun o21 r3 => ?_)
    refine EQ_if Iff.rfl (fun c4 => ?_) (fun c4 => ?_)
    · exact (eX14_question_j192_55 i3 a4 a5 a6 hS)
    · exact (eX14_question_j192_55 i3 o21 a6 a6 hS)
noncomputable def gX14_question_l55 (i3 : Int) (a4 : Int) (a5 : Int) (a6 : Int) (h : AH) : Option (Int × Int) := jit (gX14_question_b55 i3 h) (a4, a5, a6)
theorem eX14_question_l55 (i3 : Int) (a4 : Int) (a5 : Int) (a6 : Int) {h : AH} (hS : Sh S h) : EQ (fX14_question_l55 454 i3 a4 a5 a6 h) (gX14_question_l55 i3 a4 a5 a6 h) (fun _ => True) := EQ_jit (I := (fun _ => True)) (fun s _ => eX14_question_b55 i3 s hS) trivial
noncomputable def gX14_question (a1 : Int) (h : AH) : Option (Int × AH) := jb2 (gX14_refusal a1 h) fun v2 h3 => if 0 ≤ v2 then (jb (gX14_upTo a1 h3) fun v6 => jb (gX14_question_l21 v6 0 h3) fun o7 => jb (gX14_question_l55 v6 1 0 0 o7) fun o9 => jt2 o9 fun y11 y12 => if 2 ≤ y11 then (some (w32 (w32 (1000 * y12) + y11), o7)) else (some (0, o7))) else (some (v2, h3))
theorem eX14_question (a1 : Int) {h : AH} (hS : Sh S h) : EQ (fX14_question 454 a1 h) (gX14_question a1 h) (fun r => Sh S r.2) := by
  unfold fX14_question gX14_question
  refine EQ_jgd (show h 454 (-2) = 15 from by rw [k_454 hS]) ?_
  refine EQ_jb2 (eX14_refusal a1 hS) (fun v2 h3 r1 => ?_)
  replace r1 : Sh S h3 := r1
  refine EQ_if Iff.rfl (fun c2 => ?_) (fun c2 => ?_)
  · refine EQ_jgd (show h3 454 (-2) = 15 from by rw [k_454 r1]) ?_
    refine EQ_jb (eX14_upTo a1 r1) (fun v6 r3 => ?_)
    refine EQ_jb (eX14_question_l21 v6 0 r1) (fun o7 r4 => ?_)
    refine EQ_jb (eX14_question_l55 v6 1 0 0 r4) (fun o9 r5 => ?_)
    obtain ⟨y11, y12⟩ := o9
    refine EQ_jt2 ?_
    refine EQ_if Iff.rfl (fun c6 => ?_) (fun c6 => ?_)
    · exact EQ_some r4
    · exact EQ_some r4
  · exact EQ_some r1
noncomputable def gX14_readTerm_j61 (a3 : Int) (h : AH) : Option (Int × Int × AH) := jb2 (gX14_weighed a3 0 h) fun v19 h20 => jl (jst h20 454 66 v19) fun h21 => some (0, a3, h21)
theorem eX14_readTerm_j61 (a3 : Int) {h : AH} (hS : Sh S h) : EQ (fX14_readTerm_j61 454 a3 h) (gX14_readTerm_j61 a3 h) (fun r => Sh S r.2.2) := by
  unfold fX14_readTerm_j61 gX14_readTerm_j61
  refine EQ_jgd (show h 454 (-2) = 15 from by rw [k_454 hS]) ?_
  refine EQ_jb2 (eX14_weighed a3 0 hS) (fun v19 h20 r1 => ?_)
  replace r1 : Sh S h20 := r1
  refine EQ_jgd ⟨(show h20 454 (-2) = 15 from by rw [k_454 r1]), (show (200 : Int) ≤ 454 from (by decide))⟩ ?_
  refine EQ_jl rfl (fun h21 eh21 => ?_)
  have s2 := Sh_of eh21 (Sh_sto r1 (a := 454) (i := 66) (by decide +kernel))
  clear eh21
  exact EQ_some s2
noncomputable def gX14_readTerm_j56 (a3 : Int) (h : AH) : Option (Int × Int × AH) := jl (jst h 454 34 0) fun h17 => gX14_readTerm_j61 a3 h17
theorem eX14_readTerm_j56 (a3 : Int) {h : AH} (hS : Sh S h) : EQ (fX14_readTerm_j56 454 a3 h) (gX14_readTerm_j56 a3 h) (fun r => Sh S r.2.2) := by
  unfold fX14_readTerm_j56 gX14_readTerm_j56
  refine EQ_jgd ⟨(show h 454 (-2) = 15 from by rw [k_454 hS]), (show (200 : Int) ≤ 454 from (by decide))⟩ ?_
  refine EQ_jl rfl (fun h17 eh17 => ?_)
  have s1 := Sh_of eh17 (Sh_sto hS (a := 454) (i := 34) (by decide +kernel))
  clear eh17
  exact (eX14_readTerm_j61 a3 s1)
noncomputable def gX14_readTerm (a1 : Int) (a2 : Int) (h : AH) : Option (Int × Int × AH) := jb2 (gX14_begin h) fun t2 h4 => jq t2 (some (t2, 0, h4)) <| jl (jst h4 454 17 4400) fun h6 => jl (jst h6 454 35 0) fun h7 => jb3 (gX14_takeTerm 0 a1 h7) fun t9 v10 h11 => jq t9 (some (t9, 0, h11)) <| if a2 = 0 then (gX14_readTerm_j56 v10 h11) else (if h11 454 38 = 0 then (gX14_readTerm_j56 v10 h11) else (jg (isX16 (h11 454 38)) <| jb (gX14_parameters (h11 454 38 + 1) 0 (h11 (h11 454 38) 3) h11) fun h16 => gX14_readTerm_j61 v10 h16))
theorem eX14_readTerm (a1 : Int) (a2 : Int) {h : AH} (hS : Sh S h) : EQ (fX14_readTerm 454 a1 a2 h) (gX14_readTerm a1 a2 h) (fun r => Sh S r.2.2) := by
  unfold fX14_readTerm gX14_readTerm
  refine EQ_jgd (show h 454 (-2) = 15 from by rw [k_454 hS]) ?_
  refine EQ_jb2 (eX14_begin hS) (fun t2 h4 r1 => ?_)
  replace r1 : Sh S h4 := r1
  refine EQ_jq (fun _ => ?_) (fun _ => ?_)
  · exact EQ_some r1
  · refine EQ_jgd ⟨(show h4 454 (-2) = 15 from by rw [k_454 r1]), (show (200 : Int) ≤ 454 from (by decide))⟩ ?_
    refine EQ_jl rfl (fun h6 eh6 => ?_)
    have s2 := Sh_of eh6 (Sh_sto r1 (a := 454) (i := 17) (by decide +kernel))
    clear eh6
    refine EQ_jgd ⟨(show h6 454 (-2) = 15 from by rw [k_454 s2]), (show (200 : Int) ≤ 454 from (by decide))⟩ ?_
    refine EQ_jl rfl (fun h7 eh7 => ?_)
    have s3 := Sh_of eh7 (Sh_sto s2 (a := 454) (i := 35) (by decide +kernel))
    clear eh7
    refine EQ_jgd (show h7 454 (-2) = 15 from by rw [k_454 s3]) ?_
    refine EQ_jb3 (eX14_takeTerm 0 a1 s3) (fun t9 v10 h11 r4 => ?_)
    replace r4 : Sh S h11 := r4
    refine EQ_jq (fun _ => ?_) (fun _ => ?_)
    · exact EQ_some r4
    · refine EQ_if Iff.rfl (fun c5 => ?_) (fun c5 => ?_)
      · exact (eX14_readTerm_j56 v10 r4)
      · refine EQ_jgd (show h11 454 (-2) = 15 from by rw [k_454 r4]) ?_
        refine EQ_if Iff.rfl (fun c6 => ?_) (fun c6 => ?_)
        · exact (eX14_readTerm_j56 v10 r4)
        · refine EQ_jgd (show h11 454 (-2) = 15 from by rw [k_454 r4]) ?_
          refine EQ_jg ⟨fun x0 => (ik_X16 r4).mp x0, fun x0 => (ik_X16 r4).mpr x0⟩ (fun g7 => ?_)
          refine EQ_jgd (show h11 454 (-2) = 15 from by rw [k_454 r4]) ?_
          refine EQ_jgd (show h11 (h11 454 38) (-2) = 17 from by rw [kd_X16 r4 g7]) ?_
          refine EQ_jgd (show h11 454 (-2) = 15 from by rw [k_454 r4]) ?_
          refine EQ_jb (by rw [ft_X16_2 r4 g7]; exact eX14_parameters (h11 454 38 + 1) 0 (h11 (h11 454 38) 3) r4) (fun h16 r8 => ?_)
          exact (eX14_readTerm_j61 v10 r8)
noncomputable def gX14_priceOf_b39 (F : Int → AH → Option (Int)) (i1 : Int) (h : AH) (s : Int × Int) : Option ((Int × Int) ⊕ ((Unit) ⊕ (Int))) := jt2 s fun a2 a3 => jg (jI i1 8800) <| if h 465 i1 ≤ a3 then (some (.inr (.inr a2))) else (jg (jI (w32 (w32 (3 * i1) + a3)) 26400) <| jb (F (h 464 (w32 (w32 (3 * i1) + a3))) h) fun v12 => if v12 = 0 then (some (.inr (.inl ()))) else (jl (w32 (a2 + v12)) fun x14 => jl (w32 (a3 + 1)) fun x15 => some (.inl (x14, x15))))
theorem eX14_priceOf_b39 {F0 : Int → Int → AH → Option (Int)} {F : Int → AH → Option (Int)} (hF : ∀ (b_a1 : Int), ∀ {b_h : AH}, Sh S b_h → EQ (F0 454 b_a1 b_h) (F b_a1 b_h) (fun _ => True)) (i1 : Int) (s : Int × Int) {h : AH} (hS : Sh S h) : EQ (fX14_priceOf_b39 F0 454 i1 h s) (gX14_priceOf_b39 F i1 h s) (Sum.elim (fun _ => True) (Sum.elim (fun _ => True) (fun _ => True))) := by
  unfold fX14_priceOf_b39 gX14_priceOf_b39
  obtain ⟨a2, a3⟩ := s
  refine EQ_jt2 ?_
  refine EQ_jgd (show h 454 (-2) = 15 from by rw [k_454 hS]) ?_
  refine EQ_jg ⟨fun ⟨_, x0⟩ => (show jI i1 (h (h 454 11) (-1)) ↔ jI i1 8800 from by rw [r_454_11 hS, l_465 hS]).mp x0, fun x0 => ⟨(show h (h 454 11) (-2) = 101 from by rw [r_454_11 hS, k_465 hS]), (show jI i1 (h (h 454 11) (-1)) ↔ jI i1 8800 from by rw [r_454_11 hS, l_465 hS]).mpr x0⟩⟩ (fun g1 => ?_)
  refine EQ_if (show h (h 454 11) i1 ≤ a3 ↔ h 465 i1 ≤ a3 from by rw [r_454_11 hS]) (fun c2 => ?_) (fun c2 => ?_)
  · exact EQ_some trivial
  · refine EQ_jgd (show h 454 (-2) = 15 from by rw [k_454 hS]) ?_
    refine EQ_jg ⟨fun ⟨_, x0⟩ => (show jI (w32 (w32 (3 * i1) + a3)) (h (h 454 10) (-1)) ↔ jI (w32 (w32 (3 * i1) + a3)) 26400 from by rw [r_454_10 hS, l_464 hS]).mp x0, fun x0 => ⟨(show h (h 454 10) (-2) = 101 from by rw [r_454_10 hS, k_464 hS]), (show jI (w32 (w32 (3 * i1) + a3)) (h (h 454 10) (-1)) ↔ jI (w32 (w32 (3 * i1) + a3)) 26400 from by rw [r_454_10 hS, l_464 hS]).mpr x0⟩⟩ (fun g3 => ?_)
    refine EQ_jgd (show h 454 (-2) = 15 from by rw [k_454 hS]) ?_
    refine EQ_jb (by rw [r_454_10 hS]; exact hF (h 464 (w32 (w32 (3 * i1) + a3))) hS) (fun v12 r4 => ?_)
    refine EQ_if Iff.rfl (fun c5 => ?_) (fun c5 => ?_)
    · exact EQ_some trivial
    · refine EQ_jl rfl (fun x14 ex14 => ?_)
      clear ex14
      refine EQ_jl rfl (fun x15 ex15 => ?_)
      clear ex15
      exact EQ_some trivial
noncomputable def gX14_priceOf_l39 (F : Int → AH → Option (Int)) (i1 : Int) (a2 : Int) (a3 : Int) (h : AH) : Option ((Unit) ⊕ (Int)) := jit (gX14_priceOf_b39 F i1 h) (a2, a3)
theorem eX14_priceOf_l39 {F0 : Int → Int → AH → Option (Int)} {F : Int → AH → Option (Int)} (hF : ∀ (b_a1 : Int), ∀ {b_h : AH}, Sh S b_h → EQ (F0 454 b_a1 b_h) (F b_a1 b_h) (fun _ => True)) (i1 : Int) (a2 : Int) (a3 : Int) {h : AH} (hS : Sh S h) : EQ (fX14_priceOf_l39 F0 454 i1 a2 a3 h) (gX14_priceOf_l39 F i1 a2 a3 h) (Sum.elim (fun _ => True) (fun _ => True)) := EQ_jit (I := (fun _ => True)) (fun s _ => eX14_priceOf_b39 hF i1 s hS) trivial
noncomputable def gX14_priceOf_j37 (F : Int → AH → Option (Int)) (a1 : Int) (a2 : Int) (h : AH) : Option (Int) := jb (gX14_priceOf_l39 F a1 a2 0 h) fun o6 => jm o6 (fun o8 => some 0) (fun o9 => some o9)
theorem eX14_priceOf_j37 {F0 : Int → Int → AH → Option (Int)} {F : Int → AH → Option (Int)} (hF : ∀ (b_a1 : Int), ∀ {b_h : AH}, Sh S b_h → EQ (F0 454 b_a1 b_h) (F b_a1 b_h) (fun _ => True)) (a1 : Int) (a2 : Int) {h : AH} (hS : Sh S h) : EQ (fX14_priceOf_j37 F0 454 a1 a2 h) (gX14_priceOf_j37 F a1 a2 h) (fun _ => True) := by
  unfold fX14_priceOf_j37 gX14_priceOf_j37
  refine EQ_jb (eX14_priceOf_l39 hF a1 a2 0 hS) (fun o6 r1 => ?_)
  refine EQ_jm r1 (fun o8 r2 => ?_) (fun o9 r3 => ?_)
  · exact EQ_some trivial
  · exact EQ_some trivial
noncomputable def gX14_priceOf_ (F : Int → AH → Option (Int)) (a1 : Int) (h : AH) : Option (Int) := jg (jI a1 8800) <| if h 460 a1 = 1 then (gX14_priceOf_j37 F a1 1 h) else (jb (gX14_headOf a1 h) fun v3 => if v3 = (-1) then (some 0) else (jg (isX16 (h 454 38)) <| jg (jI (w32 (v3 - 3)) 13) <| jl (h (h 454 38 + 4) (w32 (v3 - 3))) fun x5 => gX14_priceOf_j37 F a1 x5 h))
theorem eX14_priceOf_ {F0 : Int → Int → AH → Option (Int)} {F : Int → AH → Option (Int)} (hF : ∀ (b_a1 : Int), ∀ {b_h : AH}, Sh S b_h → EQ (F0 454 b_a1 b_h) (F b_a1 b_h) (fun _ => True)) (a1 : Int) {h : AH} (hS : Sh S h) : EQ (fX14_priceOf_ F0 454 a1 h) (gX14_priceOf_ F a1 h) (fun _ => True) := by
  unfold fX14_priceOf_ gX14_priceOf_
  refine EQ_jgd (show h 454 (-2) = 15 from by rw [k_454 hS]) ?_
  refine EQ_jg ⟨fun ⟨_, x0⟩ => (show jI a1 (h (h 454 6) (-1)) ↔ jI a1 8800 from by rw [r_454_6 hS, l_460 hS]).mp x0, fun x0 => ⟨(show h (h 454 6) (-2) = 101 from by rw [r_454_6 hS, k_460 hS]), (show jI a1 (h (h 454 6) (-1)) ↔ jI a1 8800 from by rw [r_454_6 hS, l_460 hS]).mpr x0⟩⟩ (fun g1 => ?_)
  refine EQ_if (show h (h 454 6) a1 = 1 ↔ h 460 a1 = 1 from by rw [r_454_6 hS]) (fun c2 => ?_) (fun c2 => ?_)
  · exact (eX14_priceOf_j37 hF a1 1 hS)
  · refine EQ_jgd (show h 454 (-2) = 15 from by rw [k_454 hS]) ?_
    refine EQ_jb (eX14_headOf a1 hS) (fun v3 r3 => ?_)
    refine EQ_if Iff.rfl (fun c4 => ?_) (fun c4 => ?_)
    · exact EQ_some trivial
    · refine EQ_jgd (show h 454 (-2) = 15 from by rw [k_454 hS]) ?_
      refine EQ_jg ⟨fun x0 => (ik_X16 hS).mp x0, fun x0 => (ik_X16 hS).mpr x0⟩ (fun g5 => ?_)
      refine EQ_jg ⟨fun ⟨_, x0⟩ => (show jI (w32 (v3 - 3)) (h (h (h 454 38) 8) (-1)) ↔ jI (w32 (v3 - 3)) 13 from by rw [ft_X16_8 hS g5, la_X16_8 hS g5]).mp x0, fun x0 => ⟨(show h (h (h 454 38) 8) (-2) = 101 from by rw [ft_X16_8 hS g5, ka_X16_8 hS g5]), (show jI (w32 (v3 - 3)) (h (h (h 454 38) 8) (-1)) ↔ jI (w32 (v3 - 3)) 13 from by rw [ft_X16_8 hS g5, la_X16_8 hS g5]).mpr x0⟩⟩ (fun g6 => ?_)
      refine EQ_jl (by rw [ft_X16_8 hS g5]) (fun x5 ex5 => ?_)
      clear ex5
      exact (eX14_priceOf_j37 hF a1 x5 hS)
noncomputable def gX14_priceOfD : Nat → Int → AH → Option (Int)
  | 0 => fun _ _ => none
  | d + 1 => gX14_priceOf_ (gX14_priceOfD d)
theorem eX14_priceOfD : ∀ (d : Nat) (a1 : Int) {h : AH} (hS : Sh S h) , EQ (fX14_priceOfD d 454 a1 h) (gX14_priceOfD d a1 h) (fun _ => True) := by
  intro d
  induction d with
  | zero => intro a1 h hS; exact EQ_none
  | succ d ih => intro a1 h hS; exact eX14_priceOf_ ih a1 hS
noncomputable def gX14_priceOf : Int → AH → Option (Int) := gX14_priceOfD 40
theorem eX14_priceOf (a1 : Int) {h : AH} (hS : Sh S h) : EQ (fX14_priceOf 454 a1 h) (gX14_priceOf a1 h) (fun _ => True) := eX14_priceOfD 40 a1 hS
noncomputable def gX14_cheaper_j51 (a1 : Int) (t0 : Int) (h : AH) : Option (Int × AH) := if t0 = 0 then (some ((-2), h)) else (if t0 ≤ 12 then (jb2 (gX14_reaches t0 h) fun v29 h30 => if v29 = 0 then (some ((-3), h30)) else (jb (gX14_function a1 (-1) 0 h30) fun h33 => jg (isX16 (h33 454 38)) <| jb (gX14_indexOf (h33 454 66) (h33 (h33 454 38) 20) h33) fun v35 => jg (jI v35 122) <| jb (gX14_tell (h33 (h33 454 38 + 13) v35) h33) fun h37 => jg (isX16 (h37 454 38)) <| some (h37 (h37 454 38 + 14) v35, h37))) else (some ((-2), h)))
theorem eX14_cheaper_j51 (a1 : Int) (t0 : Int) {h : AH} (hS : Sh S h) : EQ (fX14_cheaper_j51 454 a1 t0 h) (gX14_cheaper_j51 a1 t0 h) (fun r => Sh S r.2) := by
  unfold fX14_cheaper_j51 gX14_cheaper_j51
  refine EQ_if Iff.rfl (fun c1 => ?_) (fun c1 => ?_)
  · exact EQ_some hS
  · refine EQ_if Iff.rfl (fun c2 => ?_) (fun c2 => ?_)
    · refine EQ_jgd (show h 454 (-2) = 15 from by rw [k_454 hS]) ?_
      refine EQ_jb2 (eX14_reaches t0 hS) (fun v29 h30 r3 => ?_)
      replace r3 : Sh S h30 := r3
      refine EQ_if Iff.rfl (fun c4 => ?_) (fun c4 => ?_)
      · exact EQ_some r3
      · refine EQ_jgd (show h30 454 (-2) = 15 from by rw [k_454 r3]) ?_
        refine EQ_jb (eX14_function a1 (-1) 0 r3) (fun h33 r5 => ?_)
        refine EQ_jgd (show h33 454 (-2) = 15 from by rw [k_454 r5]) ?_
        refine EQ_jgd (show h33 454 (-2) = 15 from by rw [k_454 r5]) ?_
        refine EQ_jg ⟨fun x0 => (ik_X16 r5).mp x0, fun x0 => (ik_X16 r5).mpr x0⟩ (fun g6 => ?_)
        refine EQ_jgd (show h33 454 (-2) = 15 from by rw [k_454 r5]) ?_
        refine EQ_jb (eX14_indexOf (h33 454 66) (h33 (h33 454 38) 20) r5) (fun v35 r7 => ?_)
        refine EQ_jgd (show h33 454 (-2) = 15 from by rw [k_454 r5]) ?_
        refine EQ_jgd (show h33 (h33 454 38) (-2) = 17 from by rw [kd_X16 r5 g6]) ?_
        refine EQ_jg ⟨fun ⟨_, x0⟩ => (show jI v35 (h33 (h33 (h33 454 38) 22) (-1)) ↔ jI v35 122 from by rw [ft_X16_22 r5 g6, la_X16_22 r5 g6]).mp x0, fun x0 => ⟨(show h33 (h33 (h33 454 38) 22) (-2) = 101 from by rw [ft_X16_22 r5 g6, ka_X16_22 r5 g6]), (show jI v35 (h33 (h33 (h33 454 38) 22) (-1)) ↔ jI v35 122 from by rw [ft_X16_22 r5 g6, la_X16_22 r5 g6]).mpr x0⟩⟩ (fun g8 => ?_)
        refine EQ_jgd (show h33 454 (-2) = 15 from by rw [k_454 r5]) ?_
        refine EQ_jb (by rw [ft_X16_22 r5 g6]; exact eX14_tell (h33 (h33 454 38 + 13) v35) r5) (fun h37 r9 => ?_)
        refine EQ_jgd (show h37 454 (-2) = 15 from by rw [k_454 r9]) ?_
        refine EQ_jg ⟨fun x0 => (ik_X16 r9).mp x0, fun x0 => (ik_X16 r9).mpr x0⟩ (fun g10 => ?_)
        refine EQ_jgd ⟨(show h37 (h37 (h37 454 38) 23) (-2) = 101 from by rw [ft_X16_23 r9 g10, ka_X16_23 r9 g10]), ((show jI v35 (h37 (h37 (h37 454 38) 23) (-1)) ↔ jI v35 122 from by rw [ft_X16_23 r9 g10, la_X16_23 r9 g10]).mpr g8)⟩ ?_
        exact EQ_some' (by rw [ft_X16_23 r9 g10]) r9
    · exact EQ_some hS
noncomputable def gX14_cheaper (h : AH) : Option (Int × AH) := jb2 (gX14_isDown h) fun v2 h3 => if v2 = 0 then (jb (gX14_takeTape h3) fun h6 => jb3 (gX14_readTerm 0 1 h6) fun t8 v9 h10 => jq t8 (jg (0 < t8) <| jb2 (gX14_faulty t8 h10) fun v13 h14 => some (v13, h14)) <| jb2 (gX14_finish h10) fun t16 h18 => jq t16 (jg (0 < t16) <| jb2 (gX14_faulty t16 h18) fun v21 h22 => some (v21, h22)) <| if h18 454 38 = 0 then (gX14_cheaper_j51 v9 0 h18) else (jb (gX14_priceOf v9 h18) fun v25 => gX14_cheaper_j51 v9 v25 h18)) else (some ((-5), h3))
theorem eX14_cheaper {h : AH} (hS : Sh S h) : EQ (fX14_cheaper 454 h) (gX14_cheaper h) (fun r => Sh S r.2) := by
  unfold fX14_cheaper gX14_cheaper
  refine EQ_jgd (show h 454 (-2) = 15 from by rw [k_454 hS]) ?_
  refine EQ_jb2 (eX14_isDown hS) (fun v2 h3 r1 => ?_)
  replace r1 : Sh S h3 := r1
  refine EQ_if Iff.rfl (fun c2 => ?_) (fun c2 => ?_)
  · refine EQ_jgd (show h3 454 (-2) = 15 from by rw [k_454 r1]) ?_
    refine EQ_jb (eX14_takeTape r1) (fun h6 r3 => ?_)
    refine EQ_jgd (show h6 454 (-2) = 15 from by rw [k_454 r3]) ?_
    refine EQ_jb3 (eX14_readTerm 0 1 r3) (fun t8 v9 h10 r4 => ?_)
    replace r4 : Sh S h10 := r4
    refine EQ_jq (fun _ => ?_) (fun _ => ?_)
    · refine EQ_jg Iff.rfl (fun g5 => ?_)
      refine EQ_jgd (show h10 454 (-2) = 15 from by rw [k_454 r4]) ?_
      refine EQ_jb2 (eX14_faulty t8 r4) (fun v13 h14 r6 => ?_)
      replace r6 : Sh S h14 := r6
      exact EQ_some r6
    · refine EQ_jgd (show h10 454 (-2) = 15 from by rw [k_454 r4]) ?_
      refine EQ_jb2 (eX14_finish r4) (fun t16 h18 r7 => ?_)
      replace r7 : Sh S h18 := r7
      refine EQ_jq (fun _ => ?_) (fun _ => ?_)
      · refine EQ_jg Iff.rfl (fun g8 => ?_)
        refine EQ_jgd (show h18 454 (-2) = 15 from by rw [k_454 r7]) ?_
        refine EQ_jb2 (eX14_faulty t16 r7) (fun v21 h22 r9 => ?_)
        replace r9 : Sh S h22 := r9
        exact EQ_some r9
      · refine EQ_jgd (show h18 454 (-2) = 15 from by rw [k_454 r7]) ?_
        refine EQ_if Iff.rfl (fun c10 => ?_) (fun c10 => ?_)
        · exact (eX14_cheaper_j51 v9 0 r7)
        · refine EQ_jgd (show h18 454 (-2) = 15 from by rw [k_454 r7]) ?_
          refine EQ_jb (eX14_priceOf v9 r7) (fun v25 r11 => ?_)
          exact (eX14_cheaper_j51 v9 v25 r7)
  · exact EQ_some r1
noncomputable def gX14_soften_b27 (F : Int → AH → Option (AH)) (i1 : Int) (s : Int × AH) : Option ((Int × AH) ⊕ (AH)) := jt2 s fun a2 h => jg (jI i1 8800) <| if h 465 i1 ≤ a2 then (some (.inr h)) else (jg (jI (w32 (w32 (3 * i1) + a2)) 26400) <| jb (F (h 464 (w32 (w32 (3 * i1) + a2))) h) fun h8 => jl (w32 (a2 + 1)) fun x9 => some (.inl (x9, h8)))
theorem eX14_soften_b27 {F0 : Int → Int → AH → Option (AH)} {F : Int → AH → Option (AH)} (hF : ∀ (b_a1 : Int), ∀ {b_h : AH}, Sh S b_h → EQ (F0 454 b_a1 b_h) (F b_a1 b_h) (fun r => Sh S r)) (i1 : Int) {s : Int × AH} (hS : (fun r => Sh S r.2) s) : EQ (fX14_soften_b27 F0 454 i1 s) (gX14_soften_b27 F i1 s) (Sum.elim (fun r => Sh S r.2) (fun r => Sh S r)) := by
  unfold fX14_soften_b27 gX14_soften_b27
  obtain ⟨a2, h⟩ := s
  refine EQ_jt2 ?_
  replace hS : Sh S h := hS
  refine EQ_jgd (show h 454 (-2) = 15 from by rw [k_454 hS]) ?_
  refine EQ_jg ⟨fun ⟨_, x0⟩ => (show jI i1 (h (h 454 11) (-1)) ↔ jI i1 8800 from by rw [r_454_11 hS, l_465 hS]).mp x0, fun x0 => ⟨(show h (h 454 11) (-2) = 101 from by rw [r_454_11 hS, k_465 hS]), (show jI i1 (h (h 454 11) (-1)) ↔ jI i1 8800 from by rw [r_454_11 hS, l_465 hS]).mpr x0⟩⟩ (fun g1 => ?_)
  refine EQ_if (show h (h 454 11) i1 ≤ a2 ↔ h 465 i1 ≤ a2 from by rw [r_454_11 hS]) (fun c2 => ?_) (fun c2 => ?_)
  · exact EQ_some hS
  · refine EQ_jgd (show h 454 (-2) = 15 from by rw [k_454 hS]) ?_
    refine EQ_jg ⟨fun ⟨_, x0⟩ => (show jI (w32 (w32 (3 * i1) + a2)) (h (h 454 10) (-1)) ↔ jI (w32 (w32 (3 * i1) + a2)) 26400 from by rw [r_454_10 hS, l_464 hS]).mp x0, fun x0 => ⟨(show h (h 454 10) (-2) = 101 from by rw [r_454_10 hS, k_464 hS]), (show jI (w32 (w32 (3 * i1) + a2)) (h (h 454 10) (-1)) ↔ jI (w32 (w32 (3 * i1) + a2)) 26400 from by rw [r_454_10 hS, l_464 hS]).mpr x0⟩⟩ (fun g3 => ?_)
    refine EQ_jgd (show h 454 (-2) = 15 from by rw [k_454 hS]) ?_
    refine EQ_jb (by rw [r_454_10 hS]; exact hF (h 464 (w32 (w32 (3 * i1) + a2))) hS) (fun h8 r4 => ?_)
    refine EQ_jl rfl (fun x9 ex9 => ?_)
    clear ex9
    exact EQ_some r4
noncomputable def gX14_soften_l27 (F : Int → AH → Option (AH)) (i1 : Int) (a2 : Int) (h : AH) : Option (AH) := jit (gX14_soften_b27 F i1) (a2, h)
theorem eX14_soften_l27 {F0 : Int → Int → AH → Option (AH)} {F : Int → AH → Option (AH)} (hF : ∀ (b_a1 : Int), ∀ {b_h : AH}, Sh S b_h → EQ (F0 454 b_a1 b_h) (F b_a1 b_h) (fun r => Sh S r)) (i1 : Int) (a2 : Int) {h : AH} (hS : Sh S h) : EQ (fX14_soften_l27 F0 454 i1 a2 h) (gX14_soften_l27 F i1 a2 h) (fun r => Sh S r) := EQ_jit (I := (fun r => Sh S r.2)) (fun s hs => eX14_soften_b27 hF i1 hs) hS
noncomputable def gX14_soften_j25 (F : Int → AH → Option (AH)) (a1 : Int) (h : AH) : Option (AH) := jb (gX14_soften_l27 F a1 0 h) fun o4 => some o4
theorem eX14_soften_j25 {F0 : Int → Int → AH → Option (AH)} {F : Int → AH → Option (AH)} (hF : ∀ (b_a1 : Int), ∀ {b_h : AH}, Sh S b_h → EQ (F0 454 b_a1 b_h) (F b_a1 b_h) (fun r => Sh S r)) (a1 : Int) {h : AH} (hS : Sh S h) : EQ (fX14_soften_j25 F0 454 a1 h) (gX14_soften_j25 F a1 h) (fun r => Sh S r) := by
  unfold fX14_soften_j25 gX14_soften_j25
  refine EQ_jb (eX14_soften_l27 hF a1 0 hS) (fun o4 r1 => ?_)
  exact EQ_some r1
noncomputable def gX14_soften_ (F : Int → AH → Option (AH)) (a1 : Int) (h : AH) : Option (AH) := jg (jI a1 8800) <| if h 460 a1 = 3 then (jl (jst h 460 a1 0) fun h2 => jl (jst h2 467 a1 (-2)) fun h3 => gX14_soften_j25 F a1 h3) else (gX14_soften_j25 F a1 h)
theorem eX14_soften_ {F0 : Int → Int → AH → Option (AH)} {F : Int → AH → Option (AH)} (hF : ∀ (b_a1 : Int), ∀ {b_h : AH}, Sh S b_h → EQ (F0 454 b_a1 b_h) (F b_a1 b_h) (fun r => Sh S r)) (a1 : Int) {h : AH} (hS : Sh S h) : EQ (fX14_soften_ F0 454 a1 h) (gX14_soften_ F a1 h) (fun r => Sh S r) := by
  unfold fX14_soften_ gX14_soften_
  refine EQ_jgd (show h 454 (-2) = 15 from by rw [k_454 hS]) ?_
  refine EQ_jg ⟨fun ⟨_, x0⟩ => (show jI a1 (h (h 454 6) (-1)) ↔ jI a1 8800 from by rw [r_454_6 hS, l_460 hS]).mp x0, fun x0 => ⟨(show h (h 454 6) (-2) = 101 from by rw [r_454_6 hS, k_460 hS]), (show jI a1 (h (h 454 6) (-1)) ↔ jI a1 8800 from by rw [r_454_6 hS, l_460 hS]).mpr x0⟩⟩ (fun g1 => ?_)
  refine EQ_if (show h (h 454 6) a1 = 3 ↔ h 460 a1 = 3 from by rw [r_454_6 hS]) (fun c2 => ?_) (fun c2 => ?_)
  · refine EQ_jgd (show h 454 (-2) = 15 from by rw [k_454 hS]) ?_
    refine EQ_jgd ⟨(show h (h 454 6) (-2) = 101 from by rw [r_454_6 hS, k_460 hS]), (show 200 ≤ h 454 6 from by rw [r_454_6 hS]; exact (by decide)), ((show jI a1 (h (h 454 6) (-1)) ↔ jI a1 8800 from by rw [r_454_6 hS, l_460 hS]).mpr g1)⟩ ?_
    refine EQ_jl (by rw [r_454_6 hS]) (fun h2 eh2 => ?_)
    have s3 := Sh_of eh2 (Sh_sta hS (by decide +kernel) (jI_nn g1) (fun e => absurd ((k_460 hS).symm.trans e) (by decide)))
    clear eh2
    refine EQ_jgd (show h2 454 (-2) = 15 from by rw [k_454 s3]) ?_
    refine EQ_jgd ⟨(show h2 (h2 454 13) (-2) = 101 from by rw [r_454_13 s3, k_467 s3]), (show 200 ≤ h2 454 13 from by rw [r_454_13 s3]; exact (by decide)), ((show jI a1 (h2 (h2 454 13) (-1)) ↔ jI a1 8800 from by rw [r_454_13 s3, l_467 s3]).mpr g1)⟩ ?_
    refine EQ_jl (by rw [r_454_13 s3]) (fun h3 eh3 => ?_)
    have s4 := Sh_of eh3 (Sh_sta s3 (by decide +kernel) (jI_nn g1) (fun e => absurd ((k_467 s3).symm.trans e) (by decide)))
    clear eh3
    exact (eX14_soften_j25 hF a1 s4)
  · exact (eX14_soften_j25 hF a1 hS)
noncomputable def gX14_softenD : Nat → Int → AH → Option (AH)
  | 0 => fun _ _ => none
  | d + 1 => gX14_soften_ (gX14_softenD d)
theorem eX14_softenD : ∀ (d : Nat) (a1 : Int) {h : AH} (hS : Sh S h) , EQ (fX14_softenD d 454 a1 h) (gX14_softenD d a1 h) (fun r => Sh S r) := by
  intro d
  induction d with
  | zero => intro a1 h hS; exact EQ_none
  | succ d ih => intro a1 h hS; exact eX14_soften_ ih a1 hS
noncomputable def gX14_soften : Int → AH → Option (AH) := gX14_softenD 40
theorem eX14_soften (a1 : Int) {h : AH} (hS : Sh S h) : EQ (fX14_soften 454 a1 h) (gX14_soften a1 h) (fun r => Sh S r) := eX14_softenD 40 a1 hS
noncomputable def gX14_size_b4 (F : Int → AH → Option (Int)) (i1 : Int) (h : AH) (s : Int × Int) : Option ((Int × Int) ⊕ (Int)) := jt2 s fun a2 a3 => jg (jI i1 8800) <| if h 465 i1 ≤ a3 then (some (.inr a2)) else (jg (jI (w32 (w32 (3 * i1) + a3)) 26400) <| jb (F (h 464 (w32 (w32 (3 * i1) + a3))) h) fun v5 => jl (w32 (a2 + v5)) fun x6 => jl (w32 (a3 + 1)) fun x7 => some (.inl (x6, x7)))
theorem eX14_size_b4 {F0 : Int → Int → AH → Option (Int)} {F : Int → AH → Option (Int)} (hF : ∀ (b_a1 : Int), ∀ {b_h : AH}, Sh S b_h → EQ (F0 454 b_a1 b_h) (F b_a1 b_h) (fun _ => True)) (i1 : Int) (s : Int × Int) {h : AH} (hS : Sh S h) : EQ (fX14_size_b4 F0 454 i1 h s) (gX14_size_b4 F i1 h s) (Sum.elim (fun _ => True) (fun _ => True)) := by
  unfold fX14_size_b4 gX14_size_b4
  obtain ⟨a2, a3⟩ := s
  refine EQ_jt2 ?_
  refine EQ_jgd (show h 454 (-2) = 15 from by rw [k_454 hS]) ?_
  refine EQ_jg ⟨fun ⟨_, x0⟩ => (show jI i1 (h (h 454 11) (-1)) ↔ jI i1 8800 from by rw [r_454_11 hS, l_465 hS]).mp x0, fun x0 => ⟨(show h (h 454 11) (-2) = 101 from by rw [r_454_11 hS, k_465 hS]), (show jI i1 (h (h 454 11) (-1)) ↔ jI i1 8800 from by rw [r_454_11 hS, l_465 hS]).mpr x0⟩⟩ (fun g1 => ?_)
  refine EQ_if (show h (h 454 11) i1 ≤ a3 ↔ h 465 i1 ≤ a3 from by rw [r_454_11 hS]) (fun c2 => ?_) (fun c2 => ?_)
  · exact EQ_some trivial
  · refine EQ_jgd (show h 454 (-2) = 15 from by rw [k_454 hS]) ?_
    refine EQ_jg ⟨fun ⟨_, x0⟩ => (show jI (w32 (w32 (3 * i1) + a3)) (h (h 454 10) (-1)) ↔ jI (w32 (w32 (3 * i1) + a3)) 26400 from by rw [r_454_10 hS, l_464 hS]).mp x0, fun x0 => ⟨(show h (h 454 10) (-2) = 101 from by rw [r_454_10 hS, k_464 hS]), (show jI (w32 (w32 (3 * i1) + a3)) (h (h 454 10) (-1)) ↔ jI (w32 (w32 (3 * i1) + a3)) 26400 from by rw [r_454_10 hS, l_464 hS]).mpr x0⟩⟩ (fun g3 => ?_)
    refine EQ_jgd (show h 454 (-2) = 15 from by rw [k_454 hS]) ?_
    refine EQ_jb (by rw [r_454_10 hS]; exact hF (h 464 (w32 (w32 (3 * i1) + a3))) hS) (fun v5 r4 => ?_)
    refine EQ_jl rfl (fun x6 ex6 => ?_)
    clear ex6
    refine EQ_jl rfl (fun x7 ex7 => ?_)
    clear ex7
    exact EQ_some trivial
noncomputable def gX14_size_l4 (F : Int → AH → Option (Int)) (i1 : Int) (a2 : Int) (a3 : Int) (h : AH) : Option (Int) := jit (gX14_size_b4 F i1 h) (a2, a3)
theorem eX14_size_l4 {F0 : Int → Int → AH → Option (Int)} {F : Int → AH → Option (Int)} (hF : ∀ (b_a1 : Int), ∀ {b_h : AH}, Sh S b_h → EQ (F0 454 b_a1 b_h) (F b_a1 b_h) (fun _ => True)) (i1 : Int) (a2 : Int) (a3 : Int) {h : AH} (hS : Sh S h) : EQ (fX14_size_l4 F0 454 i1 a2 a3 h) (gX14_size_l4 F i1 a2 a3 h) (fun _ => True) := EQ_jit (I := (fun _ => True)) (fun s _ => eX14_size_b4 hF i1 s hS) trivial
noncomputable def gX14_size_ (F : Int → AH → Option (Int)) (a1 : Int) (h : AH) : Option (Int) := jb (gX14_size_l4 F a1 1 0 h) fun o1 => some o1
theorem eX14_size_ {F0 : Int → Int → AH → Option (Int)} {F : Int → AH → Option (Int)} (hF : ∀ (b_a1 : Int), ∀ {b_h : AH}, Sh S b_h → EQ (F0 454 b_a1 b_h) (F b_a1 b_h) (fun _ => True)) (a1 : Int) {h : AH} (hS : Sh S h) : EQ (fX14_size_ F0 454 a1 h) (gX14_size_ F a1 h) (fun _ => True) := by
  unfold fX14_size_ gX14_size_
  refine EQ_jb (eX14_size_l4 hF a1 1 0 hS) (fun o1 r1 => ?_)
  exact EQ_some trivial
noncomputable def gX14_sizeD : Nat → Int → AH → Option (Int)
  | 0 => fun _ _ => none
  | d + 1 => gX14_size_ (gX14_sizeD d)
theorem eX14_sizeD : ∀ (d : Nat) (a1 : Int) {h : AH} (hS : Sh S h) , EQ (fX14_sizeD d 454 a1 h) (gX14_sizeD d a1 h) (fun _ => True) := by
  intro d
  induction d with
  | zero => intro a1 h hS; exact EQ_none
  | succ d ih => intro a1 h hS; exact eX14_size_ ih a1 hS
noncomputable def gX14_size : Int → AH → Option (Int) := gX14_sizeD 40
theorem eX14_size (a1 : Int) {h : AH} (hS : Sh S h) : EQ (fX14_size 454 a1 h) (gX14_size a1 h) (fun _ => True) := eX14_sizeD 40 a1 hS
noncomputable def gX14_isMuch (a1 : Int) (h : AH) : Option (Int × AH) := if jcmp (w64 (h 454 71 + a1)) 1000000000 ≤ 0 then (jl (jst h 454 71 (w64 (h 454 71 + a1))) fun h2 => some (0, h2)) else (some (1, h))
theorem eX14_isMuch (a1 : Int) {h : AH} (hS : Sh S h) : EQ (fX14_isMuch 454 a1 h) (gX14_isMuch a1 h) (fun r => Sh S r.2) := by
  unfold fX14_isMuch gX14_isMuch
  refine EQ_jgd (show h 454 (-2) = 15 from by rw [k_454 hS]) ?_
  refine EQ_if Iff.rfl (fun c1 => ?_) (fun c1 => ?_)
  · refine EQ_jgd (show h 454 (-2) = 15 from by rw [k_454 hS]) ?_
    refine EQ_jgd ⟨(show h 454 (-2) = 15 from by rw [k_454 hS]), (show (200 : Int) ≤ 454 from (by decide))⟩ ?_
    refine EQ_jl rfl (fun h2 eh2 => ?_)
    have s2 := Sh_of eh2 (Sh_sto hS (a := 454) (i := 71) (by decide +kernel))
    clear eh2
    exact EQ_some s2
  · exact EQ_some hS
noncomputable def gX14_fillMarked_b54 (F : Int → Int → Int → AH → Option (AH)) (i1 : Int) (i2 : Int) (i3 : Int) (s : Int × AH) : Option ((Int × AH) ⊕ (AH)) := jt2 s fun a4 h => jg (jI i1 8800) <| if h 465 i1 ≤ a4 then (some (.inr h)) else (jg (jI (w32 (w32 (3 * i1) + a4)) 26400) <| jb (F (h 464 (w32 (w32 (3 * i1) + a4))) i2 i3 h) fun h9 => jl (w32 (a4 + 1)) fun x10 => some (.inl (x10, h9)))
theorem eX14_fillMarked_b54 {F0 : Int → Int → Int → Int → AH → Option (AH)} {F : Int → Int → Int → AH → Option (AH)} (hF : ∀ (b_a1 : Int) (b_a2 : Int) (b_a3 : Int), ∀ {b_h : AH}, Sh S b_h → EQ (F0 454 b_a1 b_a2 b_a3 b_h) (F b_a1 b_a2 b_a3 b_h) (fun r => Sh S r)) (i1 : Int) (i2 : Int) (i3 : Int) {s : Int × AH} (hS : (fun r => Sh S r.2) s) : EQ (fX14_fillMarked_b54 F0 454 i1 i2 i3 s) (gX14_fillMarked_b54 F i1 i2 i3 s) (Sum.elim (fun r => Sh S r.2) (fun r => Sh S r)) := by
  unfold fX14_fillMarked_b54 gX14_fillMarked_b54
  obtain ⟨a4, h⟩ := s
  refine EQ_jt2 ?_
  replace hS : Sh S h := hS
  refine EQ_jgd (show h 454 (-2) = 15 from by rw [k_454 hS]) ?_
  refine EQ_jg ⟨fun ⟨_, x0⟩ => (show jI i1 (h (h 454 11) (-1)) ↔ jI i1 8800 from by rw [r_454_11 hS, l_465 hS]).mp x0, fun x0 => ⟨(show h (h 454 11) (-2) = 101 from by rw [r_454_11 hS, k_465 hS]), (show jI i1 (h (h 454 11) (-1)) ↔ jI i1 8800 from by rw [r_454_11 hS, l_465 hS]).mpr x0⟩⟩ (fun g1 => ?_)
  refine EQ_if (show h (h 454 11) i1 ≤ a4 ↔ h 465 i1 ≤ a4 from by rw [r_454_11 hS]) (fun c2 => ?_) (fun c2 => ?_)
  · exact EQ_some hS
  · refine EQ_jgd (show h 454 (-2) = 15 from by rw [k_454 hS]) ?_
    refine EQ_jg ⟨fun ⟨_, x0⟩ => (show jI (w32 (w32 (3 * i1) + a4)) (h (h 454 10) (-1)) ↔ jI (w32 (w32 (3 * i1) + a4)) 26400 from by rw [r_454_10 hS, l_464 hS]).mp x0, fun x0 => ⟨(show h (h 454 10) (-2) = 101 from by rw [r_454_10 hS, k_464 hS]), (show jI (w32 (w32 (3 * i1) + a4)) (h (h 454 10) (-1)) ↔ jI (w32 (w32 (3 * i1) + a4)) 26400 from by rw [r_454_10 hS, l_464 hS]).mpr x0⟩⟩ (fun g3 => ?_)
    refine EQ_jgd (show h 454 (-2) = 15 from by rw [k_454 hS]) ?_
    refine EQ_jb (by rw [r_454_10 hS]; exact hF (h 464 (w32 (w32 (3 * i1) + a4))) i2 i3 hS) (fun h9 r4 => ?_)
    refine EQ_jl rfl (fun x10 ex10 => ?_)
    clear ex10
    exact EQ_some r4
noncomputable def gX14_fillMarked_l54 (F : Int → Int → Int → AH → Option (AH)) (i1 : Int) (i2 : Int) (i3 : Int) (a4 : Int) (h : AH) : Option (AH) := jit (gX14_fillMarked_b54 F i1 i2 i3) (a4, h)
theorem eX14_fillMarked_l54 {F0 : Int → Int → Int → Int → AH → Option (AH)} {F : Int → Int → Int → AH → Option (AH)} (hF : ∀ (b_a1 : Int) (b_a2 : Int) (b_a3 : Int), ∀ {b_h : AH}, Sh S b_h → EQ (F0 454 b_a1 b_a2 b_a3 b_h) (F b_a1 b_a2 b_a3 b_h) (fun r => Sh S r)) (i1 : Int) (i2 : Int) (i3 : Int) (a4 : Int) {h : AH} (hS : Sh S h) : EQ (fX14_fillMarked_l54 F0 454 i1 i2 i3 a4 h) (gX14_fillMarked_l54 F i1 i2 i3 a4 h) (fun r => Sh S r) := EQ_jit (I := (fun r => Sh S r.2)) (fun s hs => eX14_fillMarked_b54 hF i1 i2 i3 hs) hS
noncomputable def gX14_fillMarked_j51 (F : Int → Int → Int → AH → Option (AH)) (a1 : Int) (a2 : Int) (a3 : Int) (h : AH) : Option (AH) := jb (gX14_fillMarked_l54 F a1 a2 a3 0 h) fun o5 => some o5
theorem eX14_fillMarked_j51 {F0 : Int → Int → Int → Int → AH → Option (AH)} {F : Int → Int → Int → AH → Option (AH)} (hF : ∀ (b_a1 : Int) (b_a2 : Int) (b_a3 : Int), ∀ {b_h : AH}, Sh S b_h → EQ (F0 454 b_a1 b_a2 b_a3 b_h) (F b_a1 b_a2 b_a3 b_h) (fun r => Sh S r)) (a1 : Int) (a2 : Int) (a3 : Int) {h : AH} (hS : Sh S h) : EQ (fX14_fillMarked_j51 F0 454 a1 a2 a3 h) (gX14_fillMarked_j51 F a1 a2 a3 h) (fun r => Sh S r) := by
  unfold fX14_fillMarked_j51 gX14_fillMarked_j51
  refine EQ_jb (eX14_fillMarked_l54 hF a1 a2 a3 0 hS) (fun o5 r1 => ?_)
  exact EQ_some r1
noncomputable def gX14_fillMarked_ (F : Int → Int → Int → AH → Option (AH)) (a1 : Int) (a2 : Int) (a3 : Int) (h : AH) : Option (AH) := jg (jI a1 8800) <| if h 460 a1 = 0 then (if h 467 a1 = (-2) then (jl (jst h 462 a1 (jand (jshr a2 (w32 (4 * w32 (w32 (a3 - 1) - h 454 35)))) 15)) fun h3 => jl (jst h3 454 35 (w32 (h3 454 35 + 1))) fun h4 => gX14_fillMarked_j51 F a1 a2 a3 h4) else (gX14_fillMarked_j51 F a1 a2 a3 h)) else (gX14_fillMarked_j51 F a1 a2 a3 h)
theorem eX14_fillMarked_ {F0 : Int → Int → Int → Int → AH → Option (AH)} {F : Int → Int → Int → AH → Option (AH)} (hF : ∀ (b_a1 : Int) (b_a2 : Int) (b_a3 : Int), ∀ {b_h : AH}, Sh S b_h → EQ (F0 454 b_a1 b_a2 b_a3 b_h) (F b_a1 b_a2 b_a3 b_h) (fun r => Sh S r)) (a1 : Int) (a2 : Int) (a3 : Int) {h : AH} (hS : Sh S h) : EQ (fX14_fillMarked_ F0 454 a1 a2 a3 h) (gX14_fillMarked_ F a1 a2 a3 h) (fun r => Sh S r) := by
  unfold fX14_fillMarked_ gX14_fillMarked_
  refine EQ_jgd (show h 454 (-2) = 15 from by rw [k_454 hS]) ?_
  refine EQ_jg ⟨fun ⟨_, x0⟩ => (show jI a1 (h (h 454 6) (-1)) ↔ jI a1 8800 from by rw [r_454_6 hS, l_460 hS]).mp x0, fun x0 => ⟨(show h (h 454 6) (-2) = 101 from by rw [r_454_6 hS, k_460 hS]), (show jI a1 (h (h 454 6) (-1)) ↔ jI a1 8800 from by rw [r_454_6 hS, l_460 hS]).mpr x0⟩⟩ (fun g1 => ?_)
  refine EQ_if (show h (h 454 6) a1 = 0 ↔ h 460 a1 = 0 from by rw [r_454_6 hS]) (fun c2 => ?_) (fun c2 => ?_)
  · refine EQ_jgd (show h 454 (-2) = 15 from by rw [k_454 hS]) ?_
    refine EQ_jgd ⟨(show h (h 454 13) (-2) = 101 from by rw [r_454_13 hS, k_467 hS]), ((show jI a1 (h (h 454 13) (-1)) ↔ jI a1 8800 from by rw [r_454_13 hS, l_467 hS]).mpr g1)⟩ ?_
    refine EQ_if (show h (h 454 13) a1 = (-2) ↔ h 467 a1 = (-2) from by rw [r_454_13 hS]) (fun c3 => ?_) (fun c3 => ?_)
    · refine EQ_jgd (show h 454 (-2) = 15 from by rw [k_454 hS]) ?_
      refine EQ_jgd (show h 454 (-2) = 15 from by rw [k_454 hS]) ?_
      refine EQ_jgd ⟨(show h (h 454 8) (-2) = 101 from by rw [r_454_8 hS, k_462 hS]), (show 200 ≤ h 454 8 from by rw [r_454_8 hS]; exact (by decide)), ((show jI a1 (h (h 454 8) (-1)) ↔ jI a1 8800 from by rw [r_454_8 hS, l_462 hS]).mpr g1)⟩ ?_
      refine EQ_jl (by rw [r_454_8 hS]) (fun h3 eh3 => ?_)
      have s4 := Sh_of eh3 (Sh_sta hS (by decide +kernel) (jI_nn g1) (fun e => absurd ((k_462 hS).symm.trans e) (by decide)))
      clear eh3
      refine EQ_jgd (show h3 454 (-2) = 15 from by rw [k_454 s4]) ?_
      refine EQ_jgd ⟨(show h3 454 (-2) = 15 from by rw [k_454 s4]), (show (200 : Int) ≤ 454 from (by decide))⟩ ?_
      refine EQ_jl rfl (fun h4 eh4 => ?_)
      have s5 := Sh_of eh4 (Sh_sto s4 (a := 454) (i := 35) (by decide +kernel))
      clear eh4
      exact (eX14_fillMarked_j51 hF a1 a2 a3 s5)
    · exact (eX14_fillMarked_j51 hF a1 a2 a3 hS)
  · exact (eX14_fillMarked_j51 hF a1 a2 a3 hS)
noncomputable def gX14_fillMarkedD : Nat → Int → Int → Int → AH → Option (AH)
  | 0 => fun _ _ _ _ => none
  | d + 1 => gX14_fillMarked_ (gX14_fillMarkedD d)
theorem eX14_fillMarkedD : ∀ (d : Nat) (a1 : Int) (a2 : Int) (a3 : Int) {h : AH} (hS : Sh S h) , EQ (fX14_fillMarkedD d 454 a1 a2 a3 h) (gX14_fillMarkedD d a1 a2 a3 h) (fun r => Sh S r) := by
  intro d
  induction d with
  | zero => intro a1 a2 a3 h hS; exact EQ_none
  | succ d ih => intro a1 a2 a3 h hS; exact eX14_fillMarked_ ih a1 a2 a3 hS
noncomputable def gX14_fillMarked : Int → Int → Int → AH → Option (AH) := gX14_fillMarkedD 40
theorem eX14_fillMarked (a1 : Int) (a2 : Int) (a3 : Int) {h : AH} (hS : Sh S h) : EQ (fX14_fillMarked 454 a1 a2 a3 h) (gX14_fillMarked a1 a2 a3 h) (fun r => Sh S r) := eX14_fillMarkedD 40 a1 a2 a3 hS
noncomputable def gX14_sketch_b156 (i1 : Int) (i2 : Int) (i3 : Int) (s : Int × AH) : Option ((Int × AH) ⊕ ((Int × AH) ⊕ (AH))) := jt2 s fun a4 h => if i3 ≤ a4 then (some (.inr (.inr h))) else (jl (jst h 454 35 0) fun h50 => jb (gX14_fillMarked i1 a4 i2 h50) fun h52 => jb (gX14_function i1 (-1) 0 h52) fun h54 => jg (isX16 (h54 454 38)) <| jb2 (gX14_meets_2 (h54 (h54 454 38) 4) 754 h54) fun v56 h57 => if v56 = 0 then (jl (w32 (a4 + 1)) fun x59 => some (.inl (x59, h57))) else (some (.inr (.inl (a4, h57)))))
theorem eX14_sketch_b156 (i1 : Int) (i2 : Int) (i3 : Int) {s : Int × AH} (hS : (fun r => Sh S r.2) s) : EQ (fX14_sketch_b156 454 i1 i2 i3 s) (gX14_sketch_b156 i1 i2 i3 s) (Sum.elim (fun r => Sh S r.2) (Sum.elim (fun r => Sh S r.2) (fun r => Sh S r))) := by
  unfold fX14_sketch_b156 gX14_sketch_b156
  obtain ⟨a4, h⟩ := s
  refine EQ_jt2 ?_
  replace hS : Sh S h := hS
  refine EQ_if Iff.rfl (fun c1 => ?_) (fun c1 => ?_)
  · exact EQ_some hS
  · refine EQ_jgd ⟨(show h 454 (-2) = 15 from by rw [k_454 hS]), (show (200 : Int) ≤ 454 from (by decide))⟩ ?_
    refine EQ_jl rfl (fun h50 eh50 => ?_)
    have s2 := Sh_of eh50 (Sh_sto hS (a := 454) (i := 35) (by decide +kernel))
    clear eh50
    refine EQ_jgd (show h50 454 (-2) = 15 from by rw [k_454 s2]) ?_
    refine EQ_jb (eX14_fillMarked i1 a4 i2 s2) (fun h52 r3 => ?_)
    refine EQ_jgd (show h52 454 (-2) = 15 from by rw [k_454 r3]) ?_
    refine EQ_jb (eX14_function i1 (-1) 0 r3) (fun h54 r4 => ?_)
    refine EQ_jgd (show h54 454 (-2) = 15 from by rw [k_454 r4]) ?_
    refine EQ_jg ⟨fun x0 => (ik_X16 r4).mp x0, fun x0 => (ik_X16 r4).mpr x0⟩ (fun g5 => ?_)
    refine EQ_jgd (show h54 454 (-2) = 15 from by rw [k_454 r4]) ?_
    refine EQ_jgd (show h54 454 (-2) = 15 from by rw [k_454 r4]) ?_
    refine EQ_jb2 (by rw [r_454_39 r4]; exact eX14_meets_2 (h54 (h54 454 38) 4) 754 r4) (fun v56 h57 r6 => ?_)
    replace r6 : Sh S h57 := r6
    refine EQ_if Iff.rfl (fun c7 => ?_) (fun c7 => ?_)
    · refine EQ_jl rfl (fun x59 ex59 => ?_)
      clear ex59
      exact EQ_some r6
    · exact EQ_some r6
noncomputable def gX14_sketch_l156 (i1 : Int) (i2 : Int) (i3 : Int) (a4 : Int) (h : AH) : Option ((Int × AH) ⊕ (AH)) := jit (gX14_sketch_b156 i1 i2 i3) (a4, h)
theorem eX14_sketch_l156 (i1 : Int) (i2 : Int) (i3 : Int) (a4 : Int) {h : AH} (hS : Sh S h) : EQ (fX14_sketch_l156 454 i1 i2 i3 a4 h) (gX14_sketch_l156 i1 i2 i3 a4 h) (Sum.elim (fun r => Sh S r.2) (fun r => Sh S r)) := EQ_jit (I := (fun r => Sh S r.2)) (fun s hs => eX14_sketch_b156 i1 i2 i3 hs) hS
noncomputable def gX14_sketch_j124 (a1 : Int) (a2 : Int) (t0 : Int) (h : AH) : Option (Int × AH) := jg (isX16 (h 454 38)) <| jb (gX14_size a1 h) fun v36 => jb2 (gX14_isMuch (w64 (w64 (t0 * h (h 454 38) 18) * v36)) h) fun v38 h39 => if v38 = 0 then (jb (gX14_sketch_l156 a1 a2 t0 0 h39) fun o41 => jm o41 (fun o43 => jt2 o43 fun y45 h46 => jb (gX14_tell a1 h46) fun h48 => some (y45, h48)) (fun o44 => some (4096, o44))) else (some ((-3), h39))
theorem eX14_sketch_j124 (a1 : Int) (a2 : Int) (t0 : Int) {h : AH} (hS : Sh S h) : EQ (fX14_sketch_j124 454 a1 a2 t0 h) (gX14_sketch_j124 a1 a2 t0 h) (fun r => Sh S r.2) := by
  unfold fX14_sketch_j124 gX14_sketch_j124
  refine EQ_jgd (show h 454 (-2) = 15 from by rw [k_454 hS]) ?_
  refine EQ_jg ⟨fun x0 => (ik_X16 hS).mp x0, fun x0 => (ik_X16 hS).mpr x0⟩ (fun g1 => ?_)
  refine EQ_jgd (show h 454 (-2) = 15 from by rw [k_454 hS]) ?_
  refine EQ_jb (eX14_size a1 hS) (fun v36 r2 => ?_)
  refine EQ_jgd (show h 454 (-2) = 15 from by rw [k_454 hS]) ?_
  refine EQ_jb2 (eX14_isMuch (w64 (w64 (t0 * h (h 454 38) 18) * v36)) hS) (fun v38 h39 r3 => ?_)
  replace r3 : Sh S h39 := r3
  refine EQ_if Iff.rfl (fun c4 => ?_) (fun c4 => ?_)
  · refine EQ_jb (eX14_sketch_l156 a1 a2 t0 0 r3) (fun o41 r5 => ?_)
    refine EQ_jm r5 (fun o43 r6 => ?_) (fun o44 r7 => ?_)
    · obtain ⟨y45, h46⟩ := o43
      refine EQ_jt2 ?_
      replace r6 : Sh S h46 := r6
      refine EQ_jgd (show h46 454 (-2) = 15 from by rw [k_454 r6]) ?_
      refine EQ_jb (eX14_tell a1 r6) (fun h48 r8 => ?_)
      exact EQ_some r8
    · exact EQ_some r7
  · exact EQ_some r3
noncomputable def gX14_sketch_j62 (a1 : Int) (h : AH) : Option (Int × AH) := jb2 (gX14_finish h) fun t21 h23 => jq t21 (jg (0 < t21) <| jb2 (gX14_faulty t21 h23) fun v26 h27 => some (v26, h27)) <| jl (h23 454 35) fun x28 => if h23 454 38 = 0 then (some ((-2), h23)) else (if x28 = 0 then (some ((-2), h23)) else (jb (gX14_soften a1 h23) fun h32 => if x28 = 1 then (gX14_sketch_j124 a1 x28 16 h32) else (if x28 = 2 then (gX14_sketch_j124 a1 x28 256 h32) else (gX14_sketch_j124 a1 x28 4096 h32))))
theorem eX14_sketch_j62 (a1 : Int) {h : AH} (hS : Sh S h) : EQ (fX14_sketch_j62 454 a1 h) (gX14_sketch_j62 a1 h) (fun r => Sh S r.2) := by
  unfold fX14_sketch_j62 gX14_sketch_j62
  refine EQ_jgd (show h 454 (-2) = 15 from by rw [k_454 hS]) ?_
  refine EQ_jb2 (eX14_finish hS) (fun t21 h23 r1 => ?_)
  replace r1 : Sh S h23 := r1
  refine EQ_jq (fun _ => ?_) (fun _ => ?_)
  · refine EQ_jg Iff.rfl (fun g2 => ?_)
    refine EQ_jgd (show h23 454 (-2) = 15 from by rw [k_454 r1]) ?_
    refine EQ_jb2 (eX14_faulty t21 r1) (fun v26 h27 r3 => ?_)
    replace r3 : Sh S h27 := r3
    exact EQ_some r3
  · refine EQ_jgd (show h23 454 (-2) = 15 from by rw [k_454 r1]) ?_
    refine EQ_jl rfl (fun x28 ex28 => ?_)
    clear ex28
    refine EQ_jgd (show h23 454 (-2) = 15 from by rw [k_454 r1]) ?_
    refine EQ_if Iff.rfl (fun c4 => ?_) (fun c4 => ?_)
    · exact EQ_some r1
    · refine EQ_if Iff.rfl (fun c5 => ?_) (fun c5 => ?_)
      · exact EQ_some r1
      · refine EQ_jgd (show h23 454 (-2) = 15 from by rw [k_454 r1]) ?_
        refine EQ_jb (eX14_soften a1 r1) (fun h32 r6 => ?_)
        refine EQ_if Iff.rfl (fun c7 => ?_) (fun c7 => ?_)
        · exact (eX14_sketch_j124 a1 x28 16 r6)
        · refine EQ_if Iff.rfl (fun c8 => ?_) (fun c8 => ?_)
          · exact (eX14_sketch_j124 a1 x28 256 r6)
          · exact (eX14_sketch_j124 a1 x28 4096 r6)
noncomputable def gX14_sketch (h : AH) : Option (Int × AH) := jb2 (gX14_isDown h) fun v2 h3 => if v2 = 0 then (jb (gX14_takeTape h3) fun h6 => jb3 (gX14_readTerm 1 1 h6) fun t8 v9 h10 => jq t8 (jg (0 < t8) <| jb2 (gX14_faulty t8 h10) fun v13 h14 => some (v13, h14)) <| if h10 454 38 = 0 then (gX14_sketch_j62 v9 h10) else (if h10 454 66 = 32 then (gX14_sketch_j62 v9 h10) else (jg (isX16 (h10 454 38)) <| if h10 454 66 = h10 (h10 454 38) 4 then (gX14_sketch_j62 v9 h10) else (jg (jI v9 8800) <| jb (gX14_note 3 (h10 468 v9) h10) fun h19 => gX14_sketch_j62 v9 h19)))) else (some ((-5), h3))
theorem eX14_sketch {h : AH} (hS : Sh S h) : EQ (fX14_sketch 454 h) (gX14_sketch h) (fun r => Sh S r.2) := by
  unfold fX14_sketch gX14_sketch
  refine EQ_jgd (show h 454 (-2) = 15 from by rw [k_454 hS]) ?_
  refine EQ_jb2 (eX14_isDown hS) (fun v2 h3 r1 => ?_)
  replace r1 : Sh S h3 := r1
  refine EQ_if Iff.rfl (fun c2 => ?_) (fun c2 => ?_)
  · refine EQ_jgd (show h3 454 (-2) = 15 from by rw [k_454 r1]) ?_
    refine EQ_jb (eX14_takeTape r1) (fun h6 r3 => ?_)
    refine EQ_jgd (show h6 454 (-2) = 15 from by rw [k_454 r3]) ?_
    refine EQ_jb3 (eX14_readTerm 1 1 r3) (fun t8 v9 h10 r4 => ?_)
    replace r4 : Sh S h10 := r4
    refine EQ_jq (fun _ => ?_) (fun _ => ?_)
    · refine EQ_jg Iff.rfl (fun g5 => ?_)
      refine EQ_jgd (show h10 454 (-2) = 15 from by rw [k_454 r4]) ?_
      refine EQ_jb2 (eX14_faulty t8 r4) (fun v13 h14 r6 => ?_)
      replace r6 : Sh S h14 := r6
      exact EQ_some r6
    · refine EQ_jgd (show h10 454 (-2) = 15 from by rw [k_454 r4]) ?_
      refine EQ_if Iff.rfl (fun c7 => ?_) (fun c7 => ?_)
      · exact (eX14_sketch_j62 v9 r4)
      · refine EQ_jgd (show h10 454 (-2) = 15 from by rw [k_454 r4]) ?_
        refine EQ_if Iff.rfl (fun c8 => ?_) (fun c8 => ?_)
        · exact (eX14_sketch_j62 v9 r4)
        · refine EQ_jgd (show h10 454 (-2) = 15 from by rw [k_454 r4]) ?_
          refine EQ_jgd (show h10 454 (-2) = 15 from by rw [k_454 r4]) ?_
          refine EQ_jg ⟨fun x0 => (ik_X16 r4).mp x0, fun x0 => (ik_X16 r4).mpr x0⟩ (fun g9 => ?_)
          refine EQ_if Iff.rfl (fun c10 => ?_) (fun c10 => ?_)
          · exact (eX14_sketch_j62 v9 r4)
          · refine EQ_jgd (show h10 454 (-2) = 15 from by rw [k_454 r4]) ?_
            refine EQ_jg ⟨fun ⟨_, x0⟩ => (show jI v9 (h10 (h10 454 14) (-1)) ↔ jI v9 8800 from by rw [r_454_14 r4, l_468 r4]).mp x0, fun x0 => ⟨(show h10 (h10 454 14) (-2) = 101 from by rw [r_454_14 r4, k_468 r4]), (show jI v9 (h10 (h10 454 14) (-1)) ↔ jI v9 8800 from by rw [r_454_14 r4, l_468 r4]).mpr x0⟩⟩ (fun g11 => ?_)
            refine EQ_jgd (show h10 454 (-2) = 15 from by rw [k_454 r4]) ?_
            refine EQ_jb (by rw [r_454_14 r4]; exact eX14_note 3 (h10 468 v9) r4) (fun h19 r12 => ?_)
            exact (eX14_sketch_j62 v9 r12)
  · exact EQ_some r1
noncomputable def gX14_places_b22 (F : Int → AH → Option (AH)) (i1 : Int) (s : Int × AH) : Option ((Int × AH) ⊕ (AH)) := jt2 s fun a2 h => jg (jI i1 8800) <| if h 465 i1 ≤ a2 then (some (.inr h)) else (jg (jI (w32 (w32 (3 * i1) + a2)) 26400) <| jb (F (h 464 (w32 (w32 (3 * i1) + a2))) h) fun h7 => jl (w32 (a2 + 1)) fun x8 => some (.inl (x8, h7)))
theorem eX14_places_b22 {F0 : Int → Int → AH → Option (AH)} {F : Int → AH → Option (AH)} (hF : ∀ (b_a1 : Int), ∀ {b_h : AH}, Sh S b_h → EQ (F0 454 b_a1 b_h) (F b_a1 b_h) (fun r => Sh S r)) (i1 : Int) {s : Int × AH} (hS : (fun r => Sh S r.2) s) : EQ (fX14_places_b22 F0 454 i1 s) (gX14_places_b22 F i1 s) (Sum.elim (fun r => Sh S r.2) (fun r => Sh S r)) := by
  unfold fX14_places_b22 gX14_places_b22
  obtain ⟨a2, h⟩ := s
  refine EQ_jt2 ?_
  replace hS : Sh S h := hS
  refine EQ_jgd (show h 454 (-2) = 15 from by rw [k_454 hS]) ?_
  refine EQ_jg ⟨fun ⟨_, x0⟩ => (show jI i1 (h (h 454 11) (-1)) ↔ jI i1 8800 from by rw [r_454_11 hS, l_465 hS]).mp x0, fun x0 => ⟨(show h (h 454 11) (-2) = 101 from by rw [r_454_11 hS, k_465 hS]), (show jI i1 (h (h 454 11) (-1)) ↔ jI i1 8800 from by rw [r_454_11 hS, l_465 hS]).mpr x0⟩⟩ (fun g1 => ?_)
  refine EQ_if (show h (h 454 11) i1 ≤ a2 ↔ h 465 i1 ≤ a2 from by rw [r_454_11 hS]) (fun c2 => ?_) (fun c2 => ?_)
  · exact EQ_some hS
  · refine EQ_jgd (show h 454 (-2) = 15 from by rw [k_454 hS]) ?_
    refine EQ_jg ⟨fun ⟨_, x0⟩ => (show jI (w32 (w32 (3 * i1) + a2)) (h (h 454 10) (-1)) ↔ jI (w32 (w32 (3 * i1) + a2)) 26400 from by rw [r_454_10 hS, l_464 hS]).mp x0, fun x0 => ⟨(show h (h 454 10) (-2) = 101 from by rw [r_454_10 hS, k_464 hS]), (show jI (w32 (w32 (3 * i1) + a2)) (h (h 454 10) (-1)) ↔ jI (w32 (w32 (3 * i1) + a2)) 26400 from by rw [r_454_10 hS, l_464 hS]).mpr x0⟩⟩ (fun g3 => ?_)
    refine EQ_jgd (show h 454 (-2) = 15 from by rw [k_454 hS]) ?_
    refine EQ_jb (by rw [r_454_10 hS]; exact hF (h 464 (w32 (w32 (3 * i1) + a2))) hS) (fun h7 r4 => ?_)
    refine EQ_jl rfl (fun x8 ex8 => ?_)
    clear ex8
    exact EQ_some r4
noncomputable def gX14_places_l22 (F : Int → AH → Option (AH)) (i1 : Int) (a2 : Int) (h : AH) : Option (AH) := jit (gX14_places_b22 F i1) (a2, h)
theorem eX14_places_l22 {F0 : Int → Int → AH → Option (AH)} {F : Int → AH → Option (AH)} (hF : ∀ (b_a1 : Int), ∀ {b_h : AH}, Sh S b_h → EQ (F0 454 b_a1 b_h) (F b_a1 b_h) (fun r => Sh S r)) (i1 : Int) (a2 : Int) {h : AH} (hS : Sh S h) : EQ (fX14_places_l22 F0 454 i1 a2 h) (gX14_places_l22 F i1 a2 h) (fun r => Sh S r) := EQ_jit (I := (fun r => Sh S r.2)) (fun s hs => eX14_places_b22 hF i1 hs) hS
noncomputable def gX14_places_ (F : Int → AH → Option (AH)) (a1 : Int) (h : AH) : Option (AH) := jg (jI (h 454 73) 400) <| jl (jst h 796 (h 454 73) a1) fun h1 => jl (jst h1 454 73 (w32 (h1 454 73 + 1))) fun h2 => jb (gX14_places_l22 F a1 0 h2) fun o3 => some o3
theorem eX14_places_ {F0 : Int → Int → AH → Option (AH)} {F : Int → AH → Option (AH)} (hF : ∀ (b_a1 : Int), ∀ {b_h : AH}, Sh S b_h → EQ (F0 454 b_a1 b_h) (F b_a1 b_h) (fun r => Sh S r)) (a1 : Int) {h : AH} (hS : Sh S h) : EQ (fX14_places_ F0 454 a1 h) (gX14_places_ F a1 h) (fun r => Sh S r) := by
  unfold fX14_places_ gX14_places_
  refine EQ_jgd (show h 454 (-2) = 15 from by rw [k_454 hS]) ?_
  refine EQ_jgd (show h 454 (-2) = 15 from by rw [k_454 hS]) ?_
  refine EQ_jg ⟨fun ⟨_, _, x0⟩ => (show jI (h 454 73) (h (h 454 72) (-1)) ↔ jI (h 454 73) 400 from by rw [r_454_72 hS, l_796 hS]).mp x0, fun x0 => ⟨(show h (h 454 72) (-2) = 101 from by rw [r_454_72 hS, k_796 hS]), (show 200 ≤ h 454 72 from by rw [r_454_72 hS]; exact (by decide)), (show jI (h 454 73) (h (h 454 72) (-1)) ↔ jI (h 454 73) 400 from by rw [r_454_72 hS, l_796 hS]).mpr x0⟩⟩ (fun g1 => ?_)
  refine EQ_jl (by rw [r_454_72 hS]) (fun h1 eh1 => ?_)
  have s2 := Sh_of eh1 (Sh_sta hS (by decide +kernel) (jI_nn g1) (fun e => absurd ((k_796 hS).symm.trans e) (by decide)))
  clear eh1
  refine EQ_jgd (show h1 454 (-2) = 15 from by rw [k_454 s2]) ?_
  refine EQ_jgd ⟨(show h1 454 (-2) = 15 from by rw [k_454 s2]), (show (200 : Int) ≤ 454 from (by decide))⟩ ?_
  refine EQ_jl rfl (fun h2 eh2 => ?_)
  have s3 := Sh_of eh2 (Sh_sto s2 (a := 454) (i := 73) (by decide +kernel))
  clear eh2
  refine EQ_jb (eX14_places_l22 hF a1 0 s3) (fun o3 r4 => ?_)
  exact EQ_some r4
noncomputable def gX14_placesD : Nat → Int → AH → Option (AH)
  | 0 => fun _ _ => none
  | d + 1 => gX14_places_ (gX14_placesD d)
theorem eX14_placesD : ∀ (d : Nat) (a1 : Int) {h : AH} (hS : Sh S h) , EQ (fX14_placesD d 454 a1 h) (gX14_placesD d a1 h) (fun r => Sh S r) := by
  intro d
  induction d with
  | zero => intro a1 h hS; exact EQ_none
  | succ d ih => intro a1 h hS; exact eX14_places_ ih a1 hS
noncomputable def gX14_places : Int → AH → Option (AH) := gX14_placesD 40
theorem eX14_places (a1 : Int) {h : AH} (hS : Sh S h) : EQ (fX14_places 454 a1 h) (gX14_places a1 h) (fun r => Sh S r) := eX14_placesD 40 a1 hS
noncomputable def gX14_mend_j351_214 (a1 : Int) (a2 : Int) (a3 : Int) (a4 : Int) (a5 : Int) (a6 : Int) (h : AH) : Option ((Int × Int × AH) ⊕ (Int × AH)) := jl (w32 (a6 + 1)) fun x103 => some (.inl (a5, x103, h))
theorem eX14_mend_j351_214 (a1 : Int) (a2 : Int) (a3 : Int) (a4 : Int) (a5 : Int) (a6 : Int) {h : AH} (hS : Sh S h) : EQ (fX14_mend_j351_214 454 a1 a2 a3 a4 a5 a6 h) (gX14_mend_j351_214 a1 a2 a3 a4 a5 a6 h) (Sum.elim (fun r => Sh S r.2.2) (fun r => Sh S r.2)) := by
  unfold fX14_mend_j351_214 gX14_mend_j351_214
  refine EQ_jl rfl (fun x103 ex103 => ?_)
  clear ex103
  exact EQ_some hS
noncomputable def gX14_mend_b214 (i1 : Int) (i2 : Int) (i3 : Int) (i4 : Int) (s : Int × Int × AH) : Option ((Int × Int × AH) ⊕ (Int × AH)) := jt3 s fun a5 a6 h => jb (gX14_upTo i1 h) fun v89 => if v89 ≤ a6 then (some (.inr (a5, h))) else (jg (isX16 (h 454 38)) <| jg (jI a6 122) <| if h (h 454 38 + 14) a6 = i3 then (jg (jI i4 400) <| jg (jI (h 796 i4) 8800) <| if h (h 454 38 + 12) a6 = h 461 (h 796 i4) then (jb (gX14_function i2 (h 796 i4) (h 454 38 + 17 + a6) h) fun h94 => jg (isX16 (h94 454 38)) <| jb2 (gX14_meets_2 (h94 (h94 454 38) 4) 754 h94) fun v96 h97 => if v96 = 0 then (gX14_mend_j351_214 i1 i2 i3 i4 a5 a6 h97) else (if a5 < 0 then (gX14_mend_j351_214 i1 i2 i3 i4 a6 a6 h97) else (jg (isX16 (h97 454 38)) <| jg (jI a5 122) <| jb (gX14_order (h97 (h97 454 38 + 13) a6) (h97 (h97 454 38 + 13) a5) h97) fun v101 => if 0 ≤ v101 then (gX14_mend_j351_214 i1 i2 i3 i4 a5 a6 h97) else (gX14_mend_j351_214 i1 i2 i3 i4 a6 a6 h97)))) else (gX14_mend_j351_214 i1 i2 i3 i4 a5 a6 h)) else (gX14_mend_j351_214 i1 i2 i3 i4 a5 a6 h))
theorem eX14_mend_b214 (i1 : Int) (i2 : Int) (i3 : Int) (i4 : Int) {s : Int × Int × AH} (hS : (fun r => Sh S r.2.2) s) : EQ (fX14_mend_b214 454 i1 i2 i3 i4 s) (gX14_mend_b214 i1 i2 i3 i4 s) (Sum.elim (fun r => Sh S r.2.2) (fun r => Sh S r.2)) := by
  unfold fX14_mend_b214 gX14_mend_b214
  obtain ⟨a5, a6, h⟩ := s
  refine EQ_jt3 ?_
  replace hS : Sh S h := hS
  refine EQ_jgd (show h 454 (-2) = 15 from by rw [k_454 hS]) ?_
  refine EQ_jb (eX14_upTo i1 hS) (fun v89 r1 => ?_)
  refine EQ_if Iff.rfl (fun c2 => ?_) (fun c2 => ?_)
  · exact EQ_some hS
  · refine EQ_jgd (show h 454 (-2) = 15 from by rw [k_454 hS]) ?_
    refine EQ_jg ⟨fun x0 => (ik_X16 hS).mp x0, fun x0 => (ik_X16 hS).mpr x0⟩ (fun g3 => ?_)
    refine EQ_jg ⟨fun ⟨_, x0⟩ => (show jI a6 (h (h (h 454 38) 23) (-1)) ↔ jI a6 122 from by rw [ft_X16_23 hS g3, la_X16_23 hS g3]).mp x0, fun x0 => ⟨(show h (h (h 454 38) 23) (-2) = 101 from by rw [ft_X16_23 hS g3, ka_X16_23 hS g3]), (show jI a6 (h (h (h 454 38) 23) (-1)) ↔ jI a6 122 from by rw [ft_X16_23 hS g3, la_X16_23 hS g3]).mpr x0⟩⟩ (fun g4 => ?_)
    refine EQ_if (show h (h (h 454 38) 23) a6 = i3 ↔ h (h 454 38 + 14) a6 = i3 from by rw [ft_X16_23 hS g3]) (fun c5 => ?_) (fun c5 => ?_)
    · refine EQ_jgd (show h 454 (-2) = 15 from by rw [k_454 hS]) ?_
      refine EQ_jgd (show h (h 454 38) (-2) = 17 from by rw [kd_X16 hS g3]) ?_
      refine EQ_jgd ⟨(show h (h (h 454 38) 21) (-2) = 101 from by rw [ft_X16_21 hS g3, ka_X16_21 hS g3]), ((show jI a6 (h (h (h 454 38) 21) (-1)) ↔ jI a6 122 from by rw [ft_X16_21 hS g3, la_X16_21 hS g3]).mpr g4)⟩ ?_
      refine EQ_jgd (show h 454 (-2) = 15 from by rw [k_454 hS]) ?_
      refine EQ_jgd (show h 454 (-2) = 15 from by rw [k_454 hS]) ?_
      refine EQ_jg ⟨fun ⟨_, x0⟩ => (show jI i4 (h (h 454 72) (-1)) ↔ jI i4 400 from by rw [r_454_72 hS, l_796 hS]).mp x0, fun x0 => ⟨(show h (h 454 72) (-2) = 101 from by rw [r_454_72 hS, k_796 hS]), (show jI i4 (h (h 454 72) (-1)) ↔ jI i4 400 from by rw [r_454_72 hS, l_796 hS]).mpr x0⟩⟩ (fun g6 => ?_)
      refine EQ_jg ⟨fun ⟨_, x0⟩ => (show jI (h (h 454 72) i4) (h (h 454 7) (-1)) ↔ jI (h 796 i4) 8800 from by rw [r_454_72 hS, r_454_7 hS, l_461 hS]).mp x0, fun x0 => ⟨(show h (h 454 7) (-2) = 101 from by rw [r_454_7 hS, k_461 hS]), (show jI (h (h 454 72) i4) (h (h 454 7) (-1)) ↔ jI (h 796 i4) 8800 from by rw [r_454_72 hS, r_454_7 hS, l_461 hS]).mpr x0⟩⟩ (fun g7 => ?_)
      refine EQ_if (show h (h (h 454 38) 21) a6 = h (h 454 7) (h (h 454 72) i4) ↔ h (h 454 38 + 12) a6 = h 461 (h 796 i4) from by rw [ft_X16_21 hS g3, r_454_7 hS, r_454_72 hS]) (fun c8 => ?_) (fun c8 => ?_)
      · refine EQ_jgd (show h 454 (-2) = 15 from by rw [k_454 hS]) ?_
        refine EQ_jgd ⟨(show h (h 454 72) (-2) = 101 from by rw [r_454_72 hS, k_796 hS]), ((show jI i4 (h (h 454 72) (-1)) ↔ jI i4 400 from by rw [r_454_72 hS, l_796 hS]).mpr g6)⟩ ?_
        refine EQ_jgd (show h 454 (-2) = 15 from by rw [k_454 hS]) ?_
        refine EQ_jgd (show h (h 454 38) (-2) = 17 from by rw [kd_X16 hS g3]) ?_
        refine EQ_jgd ⟨(show h (h (h 454 38) 25) (-2) = 105 from by rw [ft_X16_25 hS g3, ka_X16_25 hS g3]), ((show jI a6 (h (h (h 454 38) 25) (-1)) ↔ jI a6 122 from by rw [ft_X16_25 hS g3, la_X16_25 hS g3]).mpr g4)⟩ ?_
        refine EQ_jgd (show h 454 (-2) = 15 from by rw [k_454 hS]) ?_
        refine EQ_jb (by rw [r_454_72 hS, ft_X16_25 hS g3, rro_X16_25 hS g3 g4]; exact eX14_function i2 (h 796 i4) (h 454 38 + 17 + a6) hS) (fun h94 r9 => ?_)
        refine EQ_jgd (show h94 454 (-2) = 15 from by rw [k_454 r9]) ?_
        refine EQ_jg ⟨fun x0 => (ik_X16 r9).mp x0, fun x0 => (ik_X16 r9).mpr x0⟩ (fun g10 => ?_)
        refine EQ_jgd (show h94 454 (-2) = 15 from by rw [k_454 r9]) ?_
        refine EQ_jgd (show h94 454 (-2) = 15 from by rw [k_454 r9]) ?_
        refine EQ_jb2 (by rw [r_454_39 r9]; exact eX14_meets_2 (h94 (h94 454 38) 4) 754 r9) (fun v96 h97 r11 => ?_)
        replace r11 : Sh S h97 := r11
        refine EQ_if Iff.rfl (fun c12 => ?_) (fun c12 => ?_)
        · exact (eX14_mend_j351_214 i1 i2 i3 i4 a5 a6 r11)
        · refine EQ_if Iff.rfl (fun c13 => ?_) (fun c13 => ?_)
          · exact (eX14_mend_j351_214 i1 i2 i3 i4 a6 a6 r11)
          · refine EQ_jgd (show h97 454 (-2) = 15 from by rw [k_454 r11]) ?_
            refine EQ_jg ⟨fun x0 => (ik_X16 r11).mp x0, fun x0 => (ik_X16 r11).mpr x0⟩ (fun g14 => ?_)
            refine EQ_jgd ⟨(show h97 (h97 (h97 454 38) 22) (-2) = 101 from by rw [ft_X16_22 r11 g14, ka_X16_22 r11 g14]), ((show jI a6 (h97 (h97 (h97 454 38) 22) (-1)) ↔ jI a6 122 from by rw [ft_X16_22 r11 g14, la_X16_22 r11 g14]).mpr g4)⟩ ?_
            refine EQ_jgd (show h97 454 (-2) = 15 from by rw [k_454 r11]) ?_
            refine EQ_jgd (show h97 (h97 454 38) (-2) = 17 from by rw [kd_X16 r11 g14]) ?_
            refine EQ_jg ⟨fun ⟨_, x0⟩ => (show jI a5 (h97 (h97 (h97 454 38) 22) (-1)) ↔ jI a5 122 from by rw [ft_X16_22 r11 g14, la_X16_22 r11 g14]).mp x0, fun x0 => ⟨(show h97 (h97 (h97 454 38) 22) (-2) = 101 from by rw [ft_X16_22 r11 g14, ka_X16_22 r11 g14]), (show jI a5 (h97 (h97 (h97 454 38) 22) (-1)) ↔ jI a5 122 from by rw [ft_X16_22 r11 g14, la_X16_22 r11 g14]).mpr x0⟩⟩ (fun g15 => ?_)
            refine EQ_jgd (show h97 454 (-2) = 15 from by rw [k_454 r11]) ?_
            refine EQ_jb (by rw [ft_X16_22 r11 g14]; exact eX14_order (h97 (h97 454 38 + 13) a6) (h97 (h97 454 38 + 13) a5) r11) (fun v101 r16 => ?_)
            refine EQ_if Iff.rfl (fun c17 => ?_) (fun c17 => ?_)
            · exact (eX14_mend_j351_214 i1 i2 i3 i4 a5 a6 r11)
            · exact (eX14_mend_j351_214 i1 i2 i3 i4 a6 a6 r11)
      · exact (eX14_mend_j351_214 i1 i2 i3 i4 a5 a6 hS)
    · exact (eX14_mend_j351_214 i1 i2 i3 i4 a5 a6 hS)
noncomputable def gX14_mend_l214 (i1 : Int) (i2 : Int) (i3 : Int) (i4 : Int) (a5 : Int) (a6 : Int) (h : AH) : Option (Int × AH) := jit (gX14_mend_b214 i1 i2 i3 i4) (a5, a6, h)
theorem eX14_mend_l214 (i1 : Int) (i2 : Int) (i3 : Int) (i4 : Int) (a5 : Int) (a6 : Int) {h : AH} (hS : Sh S h) : EQ (fX14_mend_l214 454 i1 i2 i3 i4 a5 a6 h) (gX14_mend_l214 i1 i2 i3 i4 a5 a6 h) (fun r => Sh S r.2) := EQ_jit (I := (fun r => Sh S r.2.2)) (fun s hs => eX14_mend_b214 i1 i2 i3 i4 hs) hS
noncomputable def gX14_mend_b199 (i1 : Int) (i2 : Int) (i3 : Int) (s : Int × AH) : Option ((Int × AH) ⊕ ((Int × Int × AH) ⊕ (AH))) := jt2 s fun a4 h => if h 454 73 ≤ a4 then (some (.inr (.inr h))) else (jb (gX14_mend_l214 i1 i2 i3 a4 (-1) 0 h) fun o82 => jt2 o82 fun y84 h85 => if y84 < 0 then (jl (w32 (a4 + 1)) fun x87 => some (.inl (x87, h85))) else (some (.inr (.inl (a4, y84, h85)))))
theorem eX14_mend_b199 (i1 : Int) (i2 : Int) (i3 : Int) {s : Int × AH} (hS : (fun r => Sh S r.2) s) : EQ (fX14_mend_b199 454 i1 i2 i3 s) (gX14_mend_b199 i1 i2 i3 s) (Sum.elim (fun r => Sh S r.2) (Sum.elim (fun r => Sh S r.2.2) (fun r => Sh S r))) := by
  unfold fX14_mend_b199 gX14_mend_b199
  obtain ⟨a4, h⟩ := s
  refine EQ_jt2 ?_
  replace hS : Sh S h := hS
  refine EQ_jgd (show h 454 (-2) = 15 from by rw [k_454 hS]) ?_
  refine EQ_if Iff.rfl (fun c1 => ?_) (fun c1 => ?_)
  · exact EQ_some hS
  · refine EQ_jb (eX14_mend_l214 i1 i2 i3 a4 (-1) 0 hS) (fun o82 r2 => ?_)
    obtain ⟨y84, h85⟩ := o82
    refine EQ_jt2 ?_
    replace r2 : Sh S h85 := r2
    refine EQ_if Iff.rfl (fun c3 => ?_) (fun c3 => ?_)
    · refine EQ_jl rfl (fun x87 ex87 => ?_)
      clear ex87
      exact EQ_some r2
    · exact EQ_some r2
noncomputable def gX14_mend_l199 (i1 : Int) (i2 : Int) (i3 : Int) (a4 : Int) (h : AH) : Option ((Int × Int × AH) ⊕ (AH)) := jit (gX14_mend_b199 i1 i2 i3) (a4, h)
theorem eX14_mend_l199 (i1 : Int) (i2 : Int) (i3 : Int) (a4 : Int) {h : AH} (hS : Sh S h) : EQ (fX14_mend_l199 454 i1 i2 i3 a4 h) (gX14_mend_l199 i1 i2 i3 a4 h) (Sum.elim (fun r => Sh S r.2.2) (fun r => Sh S r)) := EQ_jit (I := (fun r => Sh S r.2)) (fun s hs => eX14_mend_b199 i1 i2 i3 hs) hS
noncomputable def gX14_mend_b191 (i1 : Int) (i2 : Int) (s : Int × AH) : Option ((Int × AH) ⊕ ((Int × Int × Int × AH) ⊕ (AH))) := jt2 s fun a3 h => if i1 < a3 then (some (.inr (.inr h))) else (jb (gX14_mend_l199 i1 i2 a3 0 h) fun o73 => jm o73 (fun o75 => jt3 o75 fun y77 y78 h79 => some (.inr (.inl (a3, y77, y78, h79)))) (fun o76 => jl (w32 (a3 + 1)) fun x80 => some (.inl (x80, o76))))
theorem eX14_mend_b191 (i1 : Int) (i2 : Int) {s : Int × AH} (hS : (fun r => Sh S r.2) s) : EQ (fX14_mend_b191 454 i1 i2 s) (gX14_mend_b191 i1 i2 s) (Sum.elim (fun r => Sh S r.2) (Sum.elim (fun r => Sh S r.2.2.2) (fun r => Sh S r))) := by
  unfold fX14_mend_b191 gX14_mend_b191
  obtain ⟨a3, h⟩ := s
  refine EQ_jt2 ?_
  replace hS : Sh S h := hS
  refine EQ_if Iff.rfl (fun c1 => ?_) (fun c1 => ?_)
  · exact EQ_some hS
  · refine EQ_jb (eX14_mend_l199 i1 i2 a3 0 hS) (fun o73 r2 => ?_)
    refine EQ_jm r2 (fun o75 r3 => ?_) (fun o76 r4 => ?_)
    · obtain ⟨y77, y78, h79⟩ := o75
      refine EQ_jt3 ?_
      replace r3 : Sh S h79 := r3
      exact EQ_some r3
    · refine EQ_jl rfl (fun x80 ex80 => ?_)
      clear ex80
      exact EQ_some r4
noncomputable def gX14_mend_l191 (i1 : Int) (i2 : Int) (a3 : Int) (h : AH) : Option ((Int × Int × Int × AH) ⊕ (AH)) := jit (gX14_mend_b191 i1 i2) (a3, h)
theorem eX14_mend_l191 (i1 : Int) (i2 : Int) (a3 : Int) {h : AH} (hS : Sh S h) : EQ (fX14_mend_l191 454 i1 i2 a3 h) (gX14_mend_l191 i1 i2 a3 h) (Sum.elim (fun r => Sh S r.2.2.2) (fun r => Sh S r)) := EQ_jit (I := (fun r => Sh S r.2)) (fun s hs => eX14_mend_b191 i1 i2 hs) hS
noncomputable def gX14_mend_j76 (a1 : Int) (a2 : Int) (h : AH) : Option (Int × AH) := jb2 (gX14_finish h) fun t24 h26 => jq t24 (jg (0 < t24) <| jb2 (gX14_faulty t24 h26) fun v29 h30 => some (v29, h30)) <| if h26 454 38 = 0 then (some ((-2), h26)) else (jb2 (gX14_reaches a1 h26) fun v33 h34 => if v33 = 0 then (some ((-3), h34)) else (jb (gX14_upTo a1 h34) fun v37 => jg (isX16 (h34 454 38)) <| jb (gX14_size a2 h34) fun v39 => jb (gX14_size a2 h34) fun v41 => jb2 (gX14_isMuch (w64 (w64 (w64 (v37 * h34 (h34 454 38) 18) * v39) * v41)) h34) fun v43 h44 => if v43 = 0 then (jb (gX14_function a2 (-1) 0 h44) fun h47 => jg (isX16 (h47 454 38)) <| jb2 (gX14_meets_2 (h47 (h47 454 38) 4) 754 h47) fun v49 h50 => if v49 = 0 then (jl (jst h50 454 73 0) fun h52 => jb (gX14_places a2 h52) fun h54 => jb (gX14_mend_l191 a1 a2 1 h54) fun o55 => jm o55 (fun o57 => jt4 o57 fun y59 y60 y61 h62 => jl (jst h62 454 17 7900) fun h63 => jg (jI y60 400) <| jg (isX16 (h63 454 38)) <| jg (jI y61 122) <| jb2 (gX14_copy a2 (h63 796 y60) (h63 (h63 454 38 + 13) y61) h63) fun v65 h66 => jb (gX14_tell v65 h66) fun h68 => jl (jst h68 454 63 y60) fun h69 => some (y59, h69)) (fun o58 => some (100, o58))) else (jb (gX14_tell a2 h50) fun h71 => some (0, h71))) else (some ((-3), h44))))
theorem eX14_mend_j76 (a1 : Int) (a2 : Int) {h : AH} (hS : Sh S h) : EQ (fX14_mend_j76 454 a1 a2 h) (gX14_mend_j76 a1 a2 h) (fun r => Sh S r.2) := by
  unfold fX14_mend_j76 gX14_mend_j76
  refine EQ_jgd (show h 454 (-2) = 15 from by rw [k_454 hS]) ?_
  refine EQ_jb2 (eX14_finish hS) (fun t24 h26 r1 => ?_)
  replace r1 : Sh S h26 := r1
  refine EQ_jq (fun _ => ?_) (fun _ => ?_)
  · refine EQ_jg Iff.rfl (fun g2 => ?_)
    refine EQ_jgd (show h26 454 (-2) = 15 from by rw [k_454 r1]) ?_
    refine EQ_jb2 (eX14_faulty t24 r1) (fun v29 h30 r3 => ?_)
    replace r3 : Sh S h30 := r3
    exact EQ_some r3
  · refine EQ_jgd (show h26 454 (-2) = 15 from by rw [k_454 r1]) ?_
    refine EQ_if Iff.rfl (fun c4 => ?_) (fun c4 => ?_)
    · exact EQ_some r1
    · refine EQ_jgd (show h26 454 (-2) = 15 from by rw [k_454 r1]) ?_
      refine EQ_jb2 (eX14_reaches a1 r1) (fun v33 h34 r5 => ?_)
      replace r5 : Sh S h34 := r5
      refine EQ_if Iff.rfl (fun c6 => ?_) (fun c6 => ?_)
      · exact EQ_some r5
      · refine EQ_jgd (show h34 454 (-2) = 15 from by rw [k_454 r5]) ?_
        refine EQ_jb (eX14_upTo a1 r5) (fun v37 r7 => ?_)
        refine EQ_jgd (show h34 454 (-2) = 15 from by rw [k_454 r5]) ?_
        refine EQ_jg ⟨fun x0 => (ik_X16 r5).mp x0, fun x0 => (ik_X16 r5).mpr x0⟩ (fun g8 => ?_)
        refine EQ_jgd (show h34 454 (-2) = 15 from by rw [k_454 r5]) ?_
        refine EQ_jb (eX14_size a2 r5) (fun v39 r9 => ?_)
        refine EQ_jgd (show h34 454 (-2) = 15 from by rw [k_454 r5]) ?_
        refine EQ_jb (eX14_size a2 r5) (fun v41 r10 => ?_)
        refine EQ_jgd (show h34 454 (-2) = 15 from by rw [k_454 r5]) ?_
        refine EQ_jb2 (eX14_isMuch (w64 (w64 (w64 (v37 * h34 (h34 454 38) 18) * v39) * v41)) r5) (fun v43 h44 r11 => ?_)
        replace r11 : Sh S h44 := r11
        refine EQ_if Iff.rfl (fun c12 => ?_) (fun c12 => ?_)
        · refine EQ_jgd (show h44 454 (-2) = 15 from by rw [k_454 r11]) ?_
          refine EQ_jb (eX14_function a2 (-1) 0 r11) (fun h47 r13 => ?_)
          refine EQ_jgd (show h47 454 (-2) = 15 from by rw [k_454 r13]) ?_
          refine EQ_jg ⟨fun x0 => (ik_X16 r13).mp x0, fun x0 => (ik_X16 r13).mpr x0⟩ (fun g14 => ?_)
          refine EQ_jgd (show h47 454 (-2) = 15 from by rw [k_454 r13]) ?_
          refine EQ_jgd (show h47 454 (-2) = 15 from by rw [k_454 r13]) ?_
          refine EQ_jb2 (by rw [r_454_39 r13]; exact eX14_meets_2 (h47 (h47 454 38) 4) 754 r13) (fun v49 h50 r15 => ?_)
          replace r15 : Sh S h50 := r15
          refine EQ_if Iff.rfl (fun c16 => ?_) (fun c16 => ?_)
          · refine EQ_jgd ⟨(show h50 454 (-2) = 15 from by rw [k_454 r15]), (show (200 : Int) ≤ 454 from (by decide))⟩ ?_
            refine EQ_jl rfl (fun h52 eh52 => ?_)
            have s17 := Sh_of eh52 (Sh_sto r15 (a := 454) (i := 73) (by decide +kernel))
            clear eh52
            refine EQ_jgd (show h52 454 (-2) = 15 from by rw [k_454 s17]) ?_
            refine EQ_jb (eX14_places a2 s17) (fun h54 r18 => ?_)
            refine EQ_jb (eX14_mend_l191 a1 a2 1 r18) (fun o55 r19 => ?_)
            refine EQ_jm r19 (fun o57 r20 => ?_) (fun o58 r21 => ?_)
            · obtain ⟨y59, y60, y61, h62⟩ := o57
              refine EQ_jt4 ?_
              replace r20 : Sh S h62 := r20
              refine EQ_jgd ⟨(show h62 454 (-2) = 15 from by rw [k_454 r20]), (show (200 : Int) ≤ 454 from (by decide))⟩ ?_
              refine EQ_jl rfl (fun h63 eh63 => ?_)
              have s22 := Sh_of eh63 (Sh_sto r20 (a := 454) (i := 17) (by decide +kernel))
              clear eh63
              refine EQ_jgd (show h63 454 (-2) = 15 from by rw [k_454 s22]) ?_
              refine EQ_jg ⟨fun ⟨_, x0⟩ => (show jI y60 (h63 (h63 454 72) (-1)) ↔ jI y60 400 from by rw [r_454_72 s22, l_796 s22]).mp x0, fun x0 => ⟨(show h63 (h63 454 72) (-2) = 101 from by rw [r_454_72 s22, k_796 s22]), (show jI y60 (h63 (h63 454 72) (-1)) ↔ jI y60 400 from by rw [r_454_72 s22, l_796 s22]).mpr x0⟩⟩ (fun g23 => ?_)
              refine EQ_jgd (show h63 454 (-2) = 15 from by rw [k_454 s22]) ?_
              refine EQ_jg ⟨fun x0 => (ik_X16 s22).mp x0, fun x0 => (ik_X16 s22).mpr x0⟩ (fun g24 => ?_)
              refine EQ_jg ⟨fun ⟨_, x0⟩ => (show jI y61 (h63 (h63 (h63 454 38) 22) (-1)) ↔ jI y61 122 from by rw [ft_X16_22 s22 g24, la_X16_22 s22 g24]).mp x0, fun x0 => ⟨(show h63 (h63 (h63 454 38) 22) (-2) = 101 from by rw [ft_X16_22 s22 g24, ka_X16_22 s22 g24]), (show jI y61 (h63 (h63 (h63 454 38) 22) (-1)) ↔ jI y61 122 from by rw [ft_X16_22 s22 g24, la_X16_22 s22 g24]).mpr x0⟩⟩ (fun g25 => ?_)
              refine EQ_jgd (show h63 454 (-2) = 15 from by rw [k_454 s22]) ?_
              refine EQ_jb2 (by rw [r_454_72 s22, ft_X16_22 s22 g24]; exact eX14_copy a2 (h63 796 y60) (h63 (h63 454 38 + 13) y61) s22) (fun v65 h66 r26 => ?_)
              replace r26 : Sh S h66 := r26
              refine EQ_jgd (show h66 454 (-2) = 15 from by rw [k_454 r26]) ?_
              refine EQ_jb (eX14_tell v65 r26) (fun h68 r27 => ?_)
              refine EQ_jgd ⟨(show h68 454 (-2) = 15 from by rw [k_454 r27]), (show (200 : Int) ≤ 454 from (by decide))⟩ ?_
              refine EQ_jl rfl (fun h69 eh69 => ?_)
              have s28 := Sh_of eh69 (Sh_sto r27 (a := 454) (i := 63) (by decide +kernel))
              clear eh69
              exact EQ_some s28
            · exact EQ_some r21
          · refine EQ_jgd (show h50 454 (-2) = 15 from by rw [k_454 r15]) ?_
            refine EQ_jb (eX14_tell a2 r15) (fun h71 r29 => ?_)
            exact EQ_some r29
        · exact EQ_some r11
noncomputable def gX14_mend (a1 : Int) (h : AH) : Option (Int × AH) := jb2 (gX14_isDown h) fun v2 h3 => if v2 = 0 then (jb (gX14_takeTape h3) fun h6 => jb (gX14_in a1 1 12) fun v8 => if v8 = 0 then (some ((-1), h6)) else (jb3 (gX14_readTerm 0 1 h6) fun t11 v12 h13 => jq t11 (jg (0 < t11) <| jb2 (gX14_faulty t11 h13) fun v16 h17 => some (v16, h17)) <| if h13 454 38 = 0 then (gX14_mend_j76 a1 v12 h13) else (if h13 454 66 = 32 then (gX14_mend_j76 a1 v12 h13) else (jg (isX16 (h13 454 38)) <| if h13 454 66 = h13 (h13 454 38) 4 then (gX14_mend_j76 a1 v12 h13) else (jg (jI v12 8800) <| jb (gX14_note 3 (h13 468 v12) h13) fun h22 => gX14_mend_j76 a1 v12 h22))))) else (some ((-5), h3))
theorem eX14_mend (a1 : Int) {h : AH} (hS : Sh S h) : EQ (fX14_mend 454 a1 h) (gX14_mend a1 h) (fun r => Sh S r.2) := by
  unfold fX14_mend gX14_mend
  refine EQ_jgd (show h 454 (-2) = 15 from by rw [k_454 hS]) ?_
  refine EQ_jb2 (eX14_isDown hS) (fun v2 h3 r1 => ?_)
  replace r1 : Sh S h3 := r1
  refine EQ_if Iff.rfl (fun c2 => ?_) (fun c2 => ?_)
  · refine EQ_jgd (show h3 454 (-2) = 15 from by rw [k_454 r1]) ?_
    refine EQ_jb (eX14_takeTape r1) (fun h6 r3 => ?_)
    refine EQ_jb (eX14_in a1 1 12) (fun v8 r4 => ?_)
    refine EQ_if Iff.rfl (fun c5 => ?_) (fun c5 => ?_)
    · exact EQ_some r3
    · refine EQ_jgd (show h6 454 (-2) = 15 from by rw [k_454 r3]) ?_
      refine EQ_jb3 (eX14_readTerm 0 1 r3) (fun t11 v12 h13 r6 => ?_)
      replace r6 : Sh S h13 := r6
      refine EQ_jq (fun _ => ?_) (fun _ => ?_)
      · refine EQ_jg Iff.rfl (fun g7 => ?_)
        refine EQ_jgd (show h13 454 (-2) = 15 from by rw [k_454 r6]) ?_
        refine EQ_jb2 (eX14_faulty t11 r6) (fun v16 h17 r8 => ?_)
        replace r8 : Sh S h17 := r8
        exact EQ_some r8
      · refine EQ_jgd (show h13 454 (-2) = 15 from by rw [k_454 r6]) ?_
        refine EQ_if Iff.rfl (fun c9 => ?_) (fun c9 => ?_)
        · exact (eX14_mend_j76 a1 v12 r6)
        · refine EQ_jgd (show h13 454 (-2) = 15 from by rw [k_454 r6]) ?_
          refine EQ_if Iff.rfl (fun c10 => ?_) (fun c10 => ?_)
          · exact (eX14_mend_j76 a1 v12 r6)
          · refine EQ_jgd (show h13 454 (-2) = 15 from by rw [k_454 r6]) ?_
            refine EQ_jgd (show h13 454 (-2) = 15 from by rw [k_454 r6]) ?_
            refine EQ_jg ⟨fun x0 => (ik_X16 r6).mp x0, fun x0 => (ik_X16 r6).mpr x0⟩ (fun g11 => ?_)
            refine EQ_if Iff.rfl (fun c12 => ?_) (fun c12 => ?_)
            · exact (eX14_mend_j76 a1 v12 r6)
            · refine EQ_jgd (show h13 454 (-2) = 15 from by rw [k_454 r6]) ?_
              refine EQ_jg ⟨fun ⟨_, x0⟩ => (show jI v12 (h13 (h13 454 14) (-1)) ↔ jI v12 8800 from by rw [r_454_14 r6, l_468 r6]).mp x0, fun x0 => ⟨(show h13 (h13 454 14) (-2) = 101 from by rw [r_454_14 r6, k_468 r6]), (show jI v12 (h13 (h13 454 14) (-1)) ↔ jI v12 8800 from by rw [r_454_14 r6, l_468 r6]).mpr x0⟩⟩ (fun g13 => ?_)
              refine EQ_jgd (show h13 454 (-2) = 15 from by rw [k_454 r6]) ?_
              refine EQ_jb (by rw [r_454_14 r6]; exact eX14_note 3 (h13 468 v12) r6) (fun h22 r14 => ?_)
              exact (eX14_mend_j76 a1 v12 r14)
  · exact EQ_some r1
noncomputable def gX14_mended (h : AH) : Option (Int × AH) := jl (jst h 454 51 0) fun h1 => some (h1 454 63, h1)
theorem eX14_mended {h : AH} (hS : Sh S h) : EQ (fX14_mended 454 h) (gX14_mended h) (fun r => Sh S r.2) := by
  unfold fX14_mended gX14_mended
  refine EQ_jgd ⟨(show h 454 (-2) = 15 from by rw [k_454 hS]), (show (200 : Int) ≤ 454 from (by decide))⟩ ?_
  refine EQ_jl rfl (fun h1 eh1 => ?_)
  have s1 := Sh_of eh1 (Sh_sto hS (a := 454) (i := 51) (by decide +kernel))
  clear eh1
  refine EQ_jgd (show h1 454 (-2) = 15 from by rw [k_454 s1]) ?_
  exact EQ_some s1
noncomputable def gX14_byteOf (a1 : Int) (h : AH) : Option (Int × AH) := jl (jst h 454 51 0) fun h1 => jb (gX14_in a1 0 (w32 (h1 454 62 - 1))) fun v3 => if v3 = 0 then (some ((-1), h1)) else (jg (jI a1 4000) <| some (h1 793 a1, h1))
theorem eX14_byteOf (a1 : Int) {h : AH} (hS : Sh S h) : EQ (fX14_byteOf 454 a1 h) (gX14_byteOf a1 h) (fun r => Sh S r.2) := by
  unfold fX14_byteOf gX14_byteOf
  refine EQ_jgd ⟨(show h 454 (-2) = 15 from by rw [k_454 hS]), (show (200 : Int) ≤ 454 from (by decide))⟩ ?_
  refine EQ_jl rfl (fun h1 eh1 => ?_)
  have s1 := Sh_of eh1 (Sh_sto hS (a := 454) (i := 51) (by decide +kernel))
  clear eh1
  refine EQ_jgd (show h1 454 (-2) = 15 from by rw [k_454 s1]) ?_
  refine EQ_jb (eX14_in a1 0 (w32 (h1 454 62 - 1))) (fun v3 r2 => ?_)
  refine EQ_if Iff.rfl (fun c3 => ?_) (fun c3 => ?_)
  · exact EQ_some s1
  · refine EQ_jgd (show h1 454 (-2) = 15 from by rw [k_454 s1]) ?_
    refine EQ_jg ⟨fun ⟨_, x0⟩ => (show jI a1 (h1 (h1 454 61) (-1)) ↔ jI a1 4000 from by rw [r_454_61 s1, l_793 s1]).mp x0, fun x0 => ⟨(show h1 (h1 454 61) (-2) = 101 from by rw [r_454_61 s1, k_793 s1]), (show jI a1 (h1 (h1 454 61) (-1)) ↔ jI a1 4000 from by rw [r_454_61 s1, l_793 s1]).mpr x0⟩⟩ (fun g4 => ?_)
    exact EQ_some' (by rw [r_454_61 s1]) s1
noncomputable def gX14_answer_2 (a1 : Int) (h : AH) : Option (Int × AH) := jl (jst h 454 51 0) fun h1 => if h1 454 56 < 0 then (some ((-2), h1)) else (jb (gX14_in a1 0 (w32 (h1 454 60 - 1))) fun v4 => if v4 = 0 then (some ((-2), h1)) else (jg (jI a1 256) <| some (h1 792 a1, h1)))
theorem eX14_answer_2 (a1 : Int) {h : AH} (hS : Sh S h) : EQ (fX14_answer_2 454 a1 h) (gX14_answer_2 a1 h) (fun r => Sh S r.2) := by
  unfold fX14_answer_2 gX14_answer_2
  refine EQ_jgd ⟨(show h 454 (-2) = 15 from by rw [k_454 hS]), (show (200 : Int) ≤ 454 from (by decide))⟩ ?_
  refine EQ_jl rfl (fun h1 eh1 => ?_)
  have s1 := Sh_of eh1 (Sh_sto hS (a := 454) (i := 51) (by decide +kernel))
  clear eh1
  refine EQ_jgd (show h1 454 (-2) = 15 from by rw [k_454 s1]) ?_
  refine EQ_if Iff.rfl (fun c2 => ?_) (fun c2 => ?_)
  · exact EQ_some s1
  · refine EQ_jgd (show h1 454 (-2) = 15 from by rw [k_454 s1]) ?_
    refine EQ_jb (eX14_in a1 0 (w32 (h1 454 60 - 1))) (fun v4 r3 => ?_)
    refine EQ_if Iff.rfl (fun c4 => ?_) (fun c4 => ?_)
    · exact EQ_some s1
    · refine EQ_jgd (show h1 454 (-2) = 15 from by rw [k_454 s1]) ?_
      refine EQ_jg ⟨fun ⟨_, x0⟩ => (show jI a1 (h1 (h1 454 59) (-1)) ↔ jI a1 256 from by rw [r_454_59 s1, l_792 s1]).mp x0, fun x0 => ⟨(show h1 (h1 454 59) (-2) = 101 from by rw [r_454_59 s1, k_792 s1]), (show jI a1 (h1 (h1 454 59) (-1)) ↔ jI a1 256 from by rw [r_454_59 s1, l_792 s1]).mpr x0⟩⟩ (fun g5 => ?_)
      exact EQ_some' (by rw [r_454_59 s1]) s1
noncomputable def gX14_point (a1 : Int) (a2 : Int) (h : AH) : Option (Int × AH) := jl (jst h 454 51 0) fun h1 => if h1 454 38 = 0 then (some ((-2), h1)) else (jg (isX16 (h1 454 38)) <| jb (gX14_in a1 0 (w32 (h1 (h1 454 38) 18 - 1))) fun v4 => if v4 = 0 then (some ((-2), h1)) else (jb (gX14_in a2 0 (w32 (h1 (h1 454 38) 3 - 1))) fun v7 => if v7 = 0 then (some ((-2), h1)) else (jg (jI (w32 (w32 (3 * a1) + a2)) 768) <| some (h1 (h1 454 38 + 11) (w32 (w32 (3 * a1) + a2)), h1))))
theorem eX14_point (a1 : Int) (a2 : Int) {h : AH} (hS : Sh S h) : EQ (fX14_point 454 a1 a2 h) (gX14_point a1 a2 h) (fun r => Sh S r.2) := by
  unfold fX14_point gX14_point
  refine EQ_jgd ⟨(show h 454 (-2) = 15 from by rw [k_454 hS]), (show (200 : Int) ≤ 454 from (by decide))⟩ ?_
  refine EQ_jl rfl (fun h1 eh1 => ?_)
  have s1 := Sh_of eh1 (Sh_sto hS (a := 454) (i := 51) (by decide +kernel))
  clear eh1
  refine EQ_jgd (show h1 454 (-2) = 15 from by rw [k_454 s1]) ?_
  refine EQ_if Iff.rfl (fun c2 => ?_) (fun c2 => ?_)
  · exact EQ_some s1
  · refine EQ_jgd (show h1 454 (-2) = 15 from by rw [k_454 s1]) ?_
    refine EQ_jg ⟨fun x0 => (ik_X16 s1).mp x0, fun x0 => (ik_X16 s1).mpr x0⟩ (fun g3 => ?_)
    refine EQ_jb (eX14_in a1 0 (w32 (h1 (h1 454 38) 18 - 1))) (fun v4 r4 => ?_)
    refine EQ_if Iff.rfl (fun c5 => ?_) (fun c5 => ?_)
    · exact EQ_some s1
    · refine EQ_jgd (show h1 454 (-2) = 15 from by rw [k_454 s1]) ?_
      refine EQ_jgd (show h1 (h1 454 38) (-2) = 17 from by rw [kd_X16 s1 g3]) ?_
      refine EQ_jb (eX14_in a2 0 (w32 (h1 (h1 454 38) 3 - 1))) (fun v7 r6 => ?_)
      refine EQ_if Iff.rfl (fun c7 => ?_) (fun c7 => ?_)
      · exact EQ_some s1
      · refine EQ_jgd (show h1 454 (-2) = 15 from by rw [k_454 s1]) ?_
        refine EQ_jgd (show h1 (h1 454 38) (-2) = 17 from by rw [kd_X16 s1 g3]) ?_
        refine EQ_jg ⟨fun ⟨_, x0⟩ => (show jI (w32 (w32 (3 * a1) + a2)) (h1 (h1 (h1 454 38) 19) (-1)) ↔ jI (w32 (w32 (3 * a1) + a2)) 768 from by rw [ft_X16_19 s1 g3, la_X16_19 s1 g3]).mp x0, fun x0 => ⟨(show h1 (h1 (h1 454 38) 19) (-2) = 101 from by rw [ft_X16_19 s1 g3, ka_X16_19 s1 g3]), (show jI (w32 (w32 (3 * a1) + a2)) (h1 (h1 (h1 454 38) 19) (-1)) ↔ jI (w32 (w32 (3 * a1) + a2)) 768 from by rw [ft_X16_19 s1 g3, la_X16_19 s1 g3]).mpr x0⟩⟩ (fun g8 => ?_)
        exact EQ_some' (by rw [ft_X16_19 s1 g3]) s1
noncomputable def gX14_value (h : AH) : Option (Int × AH) := jb2 (gX14_isDown h) fun v2 h3 => if v2 = 0 then (jb (gX14_takeTape h3) fun h6 => jb3 (gX14_readTerm 0 0 h6) fun t8 v9 h10 => jq t8 (jg (0 < t8) <| jb2 (gX14_faulty t8 h10) fun v13 h14 => some (v13, h14)) <| jb2 (gX14_finish h10) fun t16 h18 => jq t16 (jg (0 < t16) <| jb2 (gX14_faulty t16 h18) fun v21 h22 => some (v21, h22)) <| jl (jst h18 454 20 0) fun h23 => jb2 (gX14_answer v9 0 0 0 0 h23) fun v25 h26 => jl (jst h26 454 64 (w32 (h26 454 20))) fun h27 => some (v25, h27)) else (some ((-5), h3))
theorem eX14_value {h : AH} (hS : Sh S h) : EQ (fX14_value 454 h) (gX14_value h) (fun r => Sh S r.2) := by
  unfold fX14_value gX14_value
  refine EQ_jgd (show h 454 (-2) = 15 from by rw [k_454 hS]) ?_
  refine EQ_jb2 (eX14_isDown hS) (fun v2 h3 r1 => ?_)
  replace r1 : Sh S h3 := r1
  refine EQ_if Iff.rfl (fun c2 => ?_) (fun c2 => ?_)
  · refine EQ_jgd (show h3 454 (-2) = 15 from by rw [k_454 r1]) ?_
    refine EQ_jb (eX14_takeTape r1) (fun h6 r3 => ?_)
    refine EQ_jgd (show h6 454 (-2) = 15 from by rw [k_454 r3]) ?_
    refine EQ_jb3 (eX14_readTerm 0 0 r3) (fun t8 v9 h10 r4 => ?_)
    replace r4 : Sh S h10 := r4
    refine EQ_jq (fun _ => ?_) (fun _ => ?_)
    · refine EQ_jg Iff.rfl (fun g5 => ?_)
      refine EQ_jgd (show h10 454 (-2) = 15 from by rw [k_454 r4]) ?_
      refine EQ_jb2 (eX14_faulty t8 r4) (fun v13 h14 r6 => ?_)
      replace r6 : Sh S h14 := r6
      exact EQ_some r6
    · refine EQ_jgd (show h10 454 (-2) = 15 from by rw [k_454 r4]) ?_
      refine EQ_jb2 (eX14_finish r4) (fun t16 h18 r7 => ?_)
      replace r7 : Sh S h18 := r7
      refine EQ_jq (fun _ => ?_) (fun _ => ?_)
      · refine EQ_jg Iff.rfl (fun g8 => ?_)
        refine EQ_jgd (show h18 454 (-2) = 15 from by rw [k_454 r7]) ?_
        refine EQ_jb2 (eX14_faulty t16 r7) (fun v21 h22 r9 => ?_)
        replace r9 : Sh S h22 := r9
        exact EQ_some r9
      · refine EQ_jgd ⟨(show h18 454 (-2) = 15 from by rw [k_454 r7]), (show (200 : Int) ≤ 454 from (by decide))⟩ ?_
        refine EQ_jl rfl (fun h23 eh23 => ?_)
        have s10 := Sh_of eh23 (Sh_sto r7 (a := 454) (i := 20) (by decide +kernel))
        clear eh23
        refine EQ_jgd (show h23 454 (-2) = 15 from by rw [k_454 s10]) ?_
        refine EQ_jb2 (eX14_answer v9 0 0 0 0 s10) (fun v25 h26 r11 => ?_)
        replace r11 : Sh S h26 := r11
        refine EQ_jgd (show h26 454 (-2) = 15 from by rw [k_454 r11]) ?_
        refine EQ_jgd ⟨(show h26 454 (-2) = 15 from by rw [k_454 r11]), (show (200 : Int) ≤ 454 from (by decide))⟩ ?_
        refine EQ_jl rfl (fun h27 eh27 => ?_)
        have s12 := Sh_of eh27 (Sh_sto r11 (a := 454) (i := 64) (by decide +kernel))
        clear eh27
        exact EQ_some s12
  · exact EQ_some r1
noncomputable def gX14_worked (h : AH) : Option (Int × AH) := jl (jst h 454 51 0) fun h1 => some (h1 454 64, h1)
theorem eX14_worked {h : AH} (hS : Sh S h) : EQ (fX14_worked 454 h) (gX14_worked h) (fun r => Sh S r.2) := by
  unfold fX14_worked gX14_worked
  refine EQ_jgd ⟨(show h 454 (-2) = 15 from by rw [k_454 hS]), (show (200 : Int) ≤ 454 from (by decide))⟩ ?_
  refine EQ_jl rfl (fun h1 eh1 => ?_)
  have s1 := Sh_of eh1 (Sh_sto hS (a := 454) (i := 51) (by decide +kernel))
  clear eh1
  refine EQ_jgd (show h1 454 (-2) = 15 from by rw [k_454 s1]) ?_
  exact EQ_some s1
noncomputable def gX14_level_b4 (F : Int → AH → Option (Int)) (i1 : Int) (h : AH) (s : Int × Int) : Option ((Int × Int) ⊕ (Int)) := jt2 s fun a2 a3 => jg (jI i1 8800) <| if h 465 i1 ≤ a3 then (some (.inr a2)) else (jg (jI (w32 (w32 (3 * i1) + a3)) 26400) <| jb (F (h 464 (w32 (w32 (3 * i1) + a3))) h) fun v5 => jl (max a2 v5) fun x6 => jl (w32 (a3 + 1)) fun x7 => some (.inl (x6, x7)))
theorem eX14_level_b4 {F0 : Int → Int → AH → Option (Int)} {F : Int → AH → Option (Int)} (hF : ∀ (b_a1 : Int), ∀ {b_h : AH}, Sh S b_h → EQ (F0 454 b_a1 b_h) (F b_a1 b_h) (fun _ => True)) (i1 : Int) (s : Int × Int) {h : AH} (hS : Sh S h) : EQ (fX14_level_b4 F0 454 i1 h s) (gX14_level_b4 F i1 h s) (Sum.elim (fun _ => True) (fun _ => True)) := by
  unfold fX14_level_b4 gX14_level_b4
  obtain ⟨a2, a3⟩ := s
  refine EQ_jt2 ?_
  refine EQ_jgd (show h 454 (-2) = 15 from by rw [k_454 hS]) ?_
  refine EQ_jg ⟨fun ⟨_, x0⟩ => (show jI i1 (h (h 454 11) (-1)) ↔ jI i1 8800 from by rw [r_454_11 hS, l_465 hS]).mp x0, fun x0 => ⟨(show h (h 454 11) (-2) = 101 from by rw [r_454_11 hS, k_465 hS]), (show jI i1 (h (h 454 11) (-1)) ↔ jI i1 8800 from by rw [r_454_11 hS, l_465 hS]).mpr x0⟩⟩ (fun g1 => ?_)
  refine EQ_if (show h (h 454 11) i1 ≤ a3 ↔ h 465 i1 ≤ a3 from by rw [r_454_11 hS]) (fun c2 => ?_) (fun c2 => ?_)
  · exact EQ_some trivial
  · refine EQ_jgd (show h 454 (-2) = 15 from by rw [k_454 hS]) ?_
    refine EQ_jg ⟨fun ⟨_, x0⟩ => (show jI (w32 (w32 (3 * i1) + a3)) (h (h 454 10) (-1)) ↔ jI (w32 (w32 (3 * i1) + a3)) 26400 from by rw [r_454_10 hS, l_464 hS]).mp x0, fun x0 => ⟨(show h (h 454 10) (-2) = 101 from by rw [r_454_10 hS, k_464 hS]), (show jI (w32 (w32 (3 * i1) + a3)) (h (h 454 10) (-1)) ↔ jI (w32 (w32 (3 * i1) + a3)) 26400 from by rw [r_454_10 hS, l_464 hS]).mpr x0⟩⟩ (fun g3 => ?_)
    refine EQ_jgd (show h 454 (-2) = 15 from by rw [k_454 hS]) ?_
    refine EQ_jb (by rw [r_454_10 hS]; exact hF (h 464 (w32 (w32 (3 * i1) + a3))) hS) (fun v5 r4 => ?_)
    refine EQ_jl rfl (fun x6 ex6 => ?_)
    clear ex6
    refine EQ_jl rfl (fun x7 ex7 => ?_)
    clear ex7
    exact EQ_some trivial
noncomputable def gX14_level_l4 (F : Int → AH → Option (Int)) (i1 : Int) (a2 : Int) (a3 : Int) (h : AH) : Option (Int) := jit (gX14_level_b4 F i1 h) (a2, a3)
theorem eX14_level_l4 {F0 : Int → Int → AH → Option (Int)} {F : Int → AH → Option (Int)} (hF : ∀ (b_a1 : Int), ∀ {b_h : AH}, Sh S b_h → EQ (F0 454 b_a1 b_h) (F b_a1 b_h) (fun _ => True)) (i1 : Int) (a2 : Int) (a3 : Int) {h : AH} (hS : Sh S h) : EQ (fX14_level_l4 F0 454 i1 a2 a3 h) (gX14_level_l4 F i1 a2 a3 h) (fun _ => True) := EQ_jit (I := (fun _ => True)) (fun s _ => eX14_level_b4 hF i1 s hS) trivial
noncomputable def gX14_level_ (F : Int → AH → Option (Int)) (a1 : Int) (h : AH) : Option (Int) := jb (gX14_level_l4 F a1 (-1) 0 h) fun o1 => some (w32 (o1 + 1))
theorem eX14_level_ {F0 : Int → Int → AH → Option (Int)} {F : Int → AH → Option (Int)} (hF : ∀ (b_a1 : Int), ∀ {b_h : AH}, Sh S b_h → EQ (F0 454 b_a1 b_h) (F b_a1 b_h) (fun _ => True)) (a1 : Int) {h : AH} (hS : Sh S h) : EQ (fX14_level_ F0 454 a1 h) (gX14_level_ F a1 h) (fun _ => True) := by
  unfold fX14_level_ gX14_level_
  refine EQ_jb (eX14_level_l4 hF a1 (-1) 0 hS) (fun o1 r1 => ?_)
  exact EQ_some trivial
noncomputable def gX14_levelD : Nat → Int → AH → Option (Int)
  | 0 => fun _ _ => none
  | d + 1 => gX14_level_ (gX14_levelD d)
theorem eX14_levelD : ∀ (d : Nat) (a1 : Int) {h : AH} (hS : Sh S h) , EQ (fX14_levelD d 454 a1 h) (gX14_levelD d a1 h) (fun _ => True) := by
  intro d
  induction d with
  | zero => intro a1 h hS; exact EQ_none
  | succ d ih => intro a1 h hS; exact eX14_level_ ih a1 hS
noncomputable def gX14_level : Int → AH → Option (Int) := gX14_levelD 40
theorem eX14_level (a1 : Int) {h : AH} (hS : Sh S h) : EQ (fX14_level 454 a1 h) (gX14_level a1 h) (fun _ => True) := eX14_levelD 40 a1 hS
noncomputable def gX14_addKept_b53 (i2 : Int) (s : Int × AH) : Option ((Int × AH) ⊕ (AH)) := jt2 s fun a4 h => if 3 ≤ a4 then (some (.inr h)) else (jg (h i2 (-2) = 101 ∧ jI a4 (h i2 (-1))) <| jg (jI (w32 (w32 (3 * h 454 77) + a4)) 36) <| jl (jst h 798 (w32 (w32 (3 * h 454 77) + a4)) (h i2 a4)) fun h11 => jl (w32 (a4 + 1)) fun x12 => some (.inl (x12, h11)))
theorem eX14_addKept_b53 (i2 : Int) {s : Int × AH} (hS : (fun r => Sh S r.2) s) : EQ (fX14_addKept_b53 454 i2 s) (gX14_addKept_b53 i2 s) (Sum.elim (fun r => Sh S r.2) (fun r => Sh S r)) := by
  unfold fX14_addKept_b53 gX14_addKept_b53
  obtain ⟨a4, h⟩ := s
  refine EQ_jt2 ?_
  replace hS : Sh S h := hS
  refine EQ_if Iff.rfl (fun c1 => ?_) (fun c1 => ?_)
  · exact EQ_some hS
  · refine EQ_jgd (show h 454 (-2) = 15 from by rw [k_454 hS]) ?_
    refine EQ_jgd (show h 454 (-2) = 15 from by rw [k_454 hS]) ?_
    refine EQ_jg Iff.rfl (fun g2 => ?_)
    refine EQ_jg ⟨fun ⟨_, _, x0⟩ => (show jI (w32 (w32 (3 * h 454 77) + a4)) (h (h 454 75) (-1)) ↔ jI (w32 (w32 (3 * h 454 77) + a4)) 36 from by rw [r_454_75 hS, l_798 hS]).mp x0, fun x0 => ⟨(show h (h 454 75) (-2) = 101 from by rw [r_454_75 hS, k_798 hS]), (show 200 ≤ h 454 75 from by rw [r_454_75 hS]; exact (by decide)), (show jI (w32 (w32 (3 * h 454 77) + a4)) (h (h 454 75) (-1)) ↔ jI (w32 (w32 (3 * h 454 77) + a4)) 36 from by rw [r_454_75 hS, l_798 hS]).mpr x0⟩⟩ (fun g3 => ?_)
    refine EQ_jl (by rw [r_454_75 hS]) (fun h11 eh11 => ?_)
    have s4 := Sh_of eh11 (Sh_sta hS (by decide +kernel) (jI_nn g3) (fun e => absurd ((k_798 hS).symm.trans e) (by decide)))
    clear eh11
    refine EQ_jl rfl (fun x12 ex12 => ?_)
    clear ex12
    exact EQ_some s4
noncomputable def gX14_addKept_l53 (i2 : Int) (a4 : Int) (h : AH) : Option (AH) := jit (gX14_addKept_b53 i2) (a4, h)
theorem eX14_addKept_l53 (i2 : Int) (a4 : Int) {h : AH} (hS : Sh S h) : EQ (fX14_addKept_l53 454 i2 a4 h) (gX14_addKept_l53 i2 a4 h) (fun r => Sh S r) := EQ_jit (I := (fun r => Sh S r.2)) (fun s hs => eX14_addKept_b53 i2 hs) hS
noncomputable def gX14_addKept (a1 : Int) (a2 : Int) (a3 : Int) (h : AH) : Option (AH) := jl (jst h 454 17 (w32 (w32 (6800 + w32 (400 * h 454 78)) + w32 (32 * h 454 77)))) fun h1 => jb2 (gX14_copy a1 (-1) (-1) h1) fun v3 h4 => jg (jI (h1 454 77) 12) <| jl (jst h4 797 (h1 454 77) v3) fun h5 => jg (jI (h5 454 77) 12) <| jl (jst h5 799 (h5 454 77) a3) fun h6 => jb (gX14_addKept_l53 a2 0 h6) fun o7 => jl (jst o7 454 77 (w32 (o7 454 77 + 1))) fun h9 => some h9
theorem eX14_addKept (a1 : Int) (a2 : Int) (a3 : Int) {h : AH} (hS : Sh S h) : EQ (fX14_addKept 454 a1 a2 a3 h) (gX14_addKept a1 a2 a3 h) (fun r => Sh S r) := by
  unfold fX14_addKept gX14_addKept
  refine EQ_jgd (show h 454 (-2) = 15 from by rw [k_454 hS]) ?_
  refine EQ_jgd (show h 454 (-2) = 15 from by rw [k_454 hS]) ?_
  refine EQ_jgd ⟨(show h 454 (-2) = 15 from by rw [k_454 hS]), (show (200 : Int) ≤ 454 from (by decide))⟩ ?_
  refine EQ_jl rfl (fun h1 eh1 => ?_)
  have s1 := Sh_of eh1 (Sh_sto hS (a := 454) (i := 17) (by decide +kernel))
  clear eh1
  refine EQ_jgd (show h1 454 (-2) = 15 from by rw [k_454 s1]) ?_
  refine EQ_jgd (show h1 454 (-2) = 15 from by rw [k_454 s1]) ?_
  refine EQ_jgd (show h1 454 (-2) = 15 from by rw [k_454 s1]) ?_
  refine EQ_jb2 (eX14_copy a1 (-1) (-1) s1) (fun v3 h4 r2 => ?_)
  replace r2 : Sh S h4 := r2
  refine EQ_jg ⟨fun ⟨_, _, x0⟩ => (show jI (h1 454 77) (h4 (h1 454 74) (-1)) ↔ jI (h1 454 77) 12 from by rw [r_454_74 s1, l_797 r2]).mp x0, fun x0 => ⟨(show h4 (h1 454 74) (-2) = 101 from by rw [r_454_74 s1, k_797 r2]), (show 200 ≤ h1 454 74 from by rw [r_454_74 s1]; exact (by decide)), (show jI (h1 454 77) (h4 (h1 454 74) (-1)) ↔ jI (h1 454 77) 12 from by rw [r_454_74 s1, l_797 r2]).mpr x0⟩⟩ (fun g3 => ?_)
  refine EQ_jl (by rw [r_454_74 s1]) (fun h5 eh5 => ?_)
  have s4 := Sh_of eh5 (Sh_sta r2 (by decide +kernel) (jI_nn g3) (fun e => absurd ((k_797 r2).symm.trans e) (by decide)))
  clear eh5
  refine EQ_jgd (show h5 454 (-2) = 15 from by rw [k_454 s4]) ?_
  refine EQ_jgd (show h5 454 (-2) = 15 from by rw [k_454 s4]) ?_
  refine EQ_jg ⟨fun ⟨_, _, x0⟩ => (show jI (h5 454 77) (h5 (h5 454 76) (-1)) ↔ jI (h5 454 77) 12 from by rw [r_454_76 s4, l_799 s4]).mp x0, fun x0 => ⟨(show h5 (h5 454 76) (-2) = 101 from by rw [r_454_76 s4, k_799 s4]), (show 200 ≤ h5 454 76 from by rw [r_454_76 s4]; exact (by decide)), (show jI (h5 454 77) (h5 (h5 454 76) (-1)) ↔ jI (h5 454 77) 12 from by rw [r_454_76 s4, l_799 s4]).mpr x0⟩⟩ (fun g5 => ?_)
  refine EQ_jl (by rw [r_454_76 s4]) (fun h6 eh6 => ?_)
  have s6 := Sh_of eh6 (Sh_sta s4 (by decide +kernel) (jI_nn g5) (fun e => absurd ((k_799 s4).symm.trans e) (by decide)))
  clear eh6
  refine EQ_jb (eX14_addKept_l53 a2 0 s6) (fun o7 r7 => ?_)
  refine EQ_jgd (show o7 454 (-2) = 15 from by rw [k_454 r7]) ?_
  refine EQ_jgd ⟨(show o7 454 (-2) = 15 from by rw [k_454 r7]), (show (200 : Int) ≤ 454 from (by decide))⟩ ?_
  refine EQ_jl rfl (fun h9 eh9 => ?_)
  have s8 := Sh_of eh9 (Sh_sto r7 (a := 454) (i := 77) (by decide +kernel))
  clear eh9
  exact EQ_some s8
noncomputable def gX14_keep_b101 (s : Int × AH) : Option ((Int × AH) ⊕ (AH)) := jt2 s fun a1 h => if h 454 58 ≤ a1 then (some (.inr h)) else (jg (jI a1 3) <| jg (jI (w32 (1 + a1)) 4000) <| jl (jst h 471 (w32 (1 + a1)) (h 791 a1)) fun h29 => jl (w32 (a1 + 1)) fun x30 => some (.inl (x30, h29)))
theorem eX14_keep_b101 {s : Int × AH} (hS : (fun r => Sh S r.2) s) : EQ (fX14_keep_b101 454 s) (gX14_keep_b101 s) (Sum.elim (fun r => Sh S r.2) (fun r => Sh S r)) := by
  unfold fX14_keep_b101 gX14_keep_b101
  obtain ⟨a1, h⟩ := s
  refine EQ_jt2 ?_
  replace hS : Sh S h := hS
  refine EQ_jgd (show h 454 (-2) = 15 from by rw [k_454 hS]) ?_
  refine EQ_if Iff.rfl (fun c1 => ?_) (fun c1 => ?_)
  · exact EQ_some hS
  · refine EQ_jgd (show h 454 (-2) = 15 from by rw [k_454 hS]) ?_
    refine EQ_jgd (show h 454 (-2) = 15 from by rw [k_454 hS]) ?_
    refine EQ_jg ⟨fun ⟨_, x0⟩ => (show jI a1 (h (h 454 57) (-1)) ↔ jI a1 3 from by rw [r_454_57 hS, l_791 hS]).mp x0, fun x0 => ⟨(show h (h 454 57) (-2) = 101 from by rw [r_454_57 hS, k_791 hS]), (show jI a1 (h (h 454 57) (-1)) ↔ jI a1 3 from by rw [r_454_57 hS, l_791 hS]).mpr x0⟩⟩ (fun g2 => ?_)
    refine EQ_jg ⟨fun ⟨_, _, x0⟩ => (show jI (w32 (1 + a1)) (h (h 454 18) (-1)) ↔ jI (w32 (1 + a1)) 4000 from by rw [r_454_18 hS, l_471 hS]).mp x0, fun x0 => ⟨(show h (h 454 18) (-2) = 101 from by rw [r_454_18 hS, k_471 hS]), (show 200 ≤ h 454 18 from by rw [r_454_18 hS]; exact (by decide)), (show jI (w32 (1 + a1)) (h (h 454 18) (-1)) ↔ jI (w32 (1 + a1)) 4000 from by rw [r_454_18 hS, l_471 hS]).mpr x0⟩⟩ (fun g3 => ?_)
    refine EQ_jl (by rw [r_454_18 hS, r_454_57 hS]) (fun h29 eh29 => ?_)
    have s4 := Sh_of eh29 (Sh_sta hS (by decide +kernel) (jI_nn g3) (fun e => absurd ((k_471 hS).symm.trans e) (by decide)))
    clear eh29
    refine EQ_jl rfl (fun x30 ex30 => ?_)
    clear ex30
    exact EQ_some s4
noncomputable def gX14_keep_l101 (a1 : Int) (h : AH) : Option (AH) := jit gX14_keep_b101 (a1, h)
theorem eX14_keep_l101 (a1 : Int) {h : AH} (hS : Sh S h) : EQ (fX14_keep_l101 454 a1 h) (gX14_keep_l101 a1 h) (fun r => Sh S r) := EQ_jit (I := (fun r => Sh S r.2)) (fun s hs => eX14_keep_b101 hs) hS
noncomputable def gX14_keep_b131 (s : Int × AH) : Option ((Int × AH) ⊕ (AH)) := jt2 s fun a1 h => if h 454 62 ≤ a1 then (some (.inr h)) else (jg (jI a1 4000) <| jg (jI (w32 (w32 (1 + h 454 58) + a1)) 4000) <| jl (jst h 471 (w32 (w32 (1 + h 454 58) + a1)) (h 793 a1)) fun h32 => jl (w32 (a1 + 1)) fun x33 => some (.inl (x33, h32)))
theorem eX14_keep_b131 {s : Int × AH} (hS : (fun r => Sh S r.2) s) : EQ (fX14_keep_b131 454 s) (gX14_keep_b131 s) (Sum.elim (fun r => Sh S r.2) (fun r => Sh S r)) := by
  unfold fX14_keep_b131 gX14_keep_b131
  obtain ⟨a1, h⟩ := s
  refine EQ_jt2 ?_
  replace hS : Sh S h := hS
  refine EQ_jgd (show h 454 (-2) = 15 from by rw [k_454 hS]) ?_
  refine EQ_if Iff.rfl (fun c1 => ?_) (fun c1 => ?_)
  · exact EQ_some hS
  · refine EQ_jgd (show h 454 (-2) = 15 from by rw [k_454 hS]) ?_
    refine EQ_jgd (show h 454 (-2) = 15 from by rw [k_454 hS]) ?_
    refine EQ_jgd (show h 454 (-2) = 15 from by rw [k_454 hS]) ?_
    refine EQ_jg ⟨fun ⟨_, x0⟩ => (show jI a1 (h (h 454 61) (-1)) ↔ jI a1 4000 from by rw [r_454_61 hS, l_793 hS]).mp x0, fun x0 => ⟨(show h (h 454 61) (-2) = 101 from by rw [r_454_61 hS, k_793 hS]), (show jI a1 (h (h 454 61) (-1)) ↔ jI a1 4000 from by rw [r_454_61 hS, l_793 hS]).mpr x0⟩⟩ (fun g2 => ?_)
    refine EQ_jg ⟨fun ⟨_, _, x0⟩ => (show jI (w32 (w32 (1 + h 454 58) + a1)) (h (h 454 18) (-1)) ↔ jI (w32 (w32 (1 + h 454 58) + a1)) 4000 from by rw [r_454_18 hS, l_471 hS]).mp x0, fun x0 => ⟨(show h (h 454 18) (-2) = 101 from by rw [r_454_18 hS, k_471 hS]), (show 200 ≤ h 454 18 from by rw [r_454_18 hS]; exact (by decide)), (show jI (w32 (w32 (1 + h 454 58) + a1)) (h (h 454 18) (-1)) ↔ jI (w32 (w32 (1 + h 454 58) + a1)) 4000 from by rw [r_454_18 hS, l_471 hS]).mpr x0⟩⟩ (fun g3 => ?_)
    refine EQ_jl (by rw [r_454_18 hS, r_454_61 hS]) (fun h32 eh32 => ?_)
    have s4 := Sh_of eh32 (Sh_sta hS (by decide +kernel) (jI_nn g3) (fun e => absurd ((k_471 hS).symm.trans e) (by decide)))
    clear eh32
    refine EQ_jl rfl (fun x33 ex33 => ?_)
    clear ex33
    exact EQ_some s4
noncomputable def gX14_keep_l131 (a1 : Int) (h : AH) : Option (AH) := jit gX14_keep_b131 (a1, h)
theorem eX14_keep_l131 (a1 : Int) {h : AH} (hS : Sh S h) : EQ (fX14_keep_l131 454 a1 h) (gX14_keep_l131 a1 h) (fun r => Sh S r) := EQ_jit (I := (fun r => Sh S r.2)) (fun s hs => eX14_keep_b131 hs) hS
noncomputable def gX14_keep (h : AH) : Option (Int × AH) := jb2 (gX14_isDown h) fun v2 h3 => if v2 = 0 then (if h3 454 56 < 0 then (some ((-2), h3)) else (jb (gX14_size (h3 454 56) h3) fun v7 => if 30 < v7 then (some ((-2), h3)) else (jb (gX14_weight (h3 454 56) h3) fun v10 => if 40 < v10 then (some ((-2), h3)) else (jb (gX14_level (h3 454 56) h3) fun v13 => if v13 ≤ 12 then (if h3 454 77 = 12 then (some ((-3), h3)) else (jb (gX14_hasRoom (w32 (w32 (1 + h3 454 58) + h3 454 62)) h3) fun v17 => if v17 = 0 then (some ((-3), h3)) else (jl (jst h3 471 0 (h3 454 58)) fun h19 => jb (gX14_keep_l101 0 h19) fun o20 => jb (gX14_keep_l131 0 o20) fun o22 => jb (gX14_record 2 471 0 (w32 (w32 (1 + o22 454 58) + o22 454 62)) o22) fun h25 => jb (gX14_addKept (h25 454 56) 791 (h25 454 58) h25) fun h27 => some (w32 (h27 454 77 - 1), h27)))) else (some ((-2), h3)))))) else (some ((-5), h3))
theorem eX14_keep {h : AH} (hS : Sh S h) : EQ (fX14_keep 454 h) (gX14_keep h) (fun r => Sh S r.2) := by
  unfold fX14_keep gX14_keep
  refine EQ_jgd (show h 454 (-2) = 15 from by rw [k_454 hS]) ?_
  refine EQ_jb2 (eX14_isDown hS) (fun v2 h3 r1 => ?_)
  replace r1 : Sh S h3 := r1
  refine EQ_if Iff.rfl (fun c2 => ?_) (fun c2 => ?_)
  · refine EQ_jgd (show h3 454 (-2) = 15 from by rw [k_454 r1]) ?_
    refine EQ_if Iff.rfl (fun c3 => ?_) (fun c3 => ?_)
    · exact EQ_some r1
    · refine EQ_jgd (show h3 454 (-2) = 15 from by rw [k_454 r1]) ?_
      refine EQ_jgd (show h3 454 (-2) = 15 from by rw [k_454 r1]) ?_
      refine EQ_jb (eX14_size (h3 454 56) r1) (fun v7 r4 => ?_)
      refine EQ_if Iff.rfl (fun c5 => ?_) (fun c5 => ?_)
      · exact EQ_some r1
      · refine EQ_jgd (show h3 454 (-2) = 15 from by rw [k_454 r1]) ?_
        refine EQ_jgd (show h3 454 (-2) = 15 from by rw [k_454 r1]) ?_
        refine EQ_jb (eX14_weight (h3 454 56) r1) (fun v10 r6 => ?_)
        refine EQ_if Iff.rfl (fun c7 => ?_) (fun c7 => ?_)
        · exact EQ_some r1
        · refine EQ_jgd (show h3 454 (-2) = 15 from by rw [k_454 r1]) ?_
          refine EQ_jgd (show h3 454 (-2) = 15 from by rw [k_454 r1]) ?_
          refine EQ_jb (eX14_level (h3 454 56) r1) (fun v13 r8 => ?_)
          refine EQ_if Iff.rfl (fun c9 => ?_) (fun c9 => ?_)
          · refine EQ_jgd (show h3 454 (-2) = 15 from by rw [k_454 r1]) ?_
            refine EQ_if Iff.rfl (fun c10 => ?_) (fun c10 => ?_)
            · exact EQ_some r1
            · refine EQ_jgd (show h3 454 (-2) = 15 from by rw [k_454 r1]) ?_
              refine EQ_jgd (show h3 454 (-2) = 15 from by rw [k_454 r1]) ?_
              refine EQ_jgd (show h3 454 (-2) = 15 from by rw [k_454 r1]) ?_
              refine EQ_jb (eX14_hasRoom (w32 (w32 (1 + h3 454 58) + h3 454 62)) r1) (fun v17 r11 => ?_)
              refine EQ_if Iff.rfl (fun c12 => ?_) (fun c12 => ?_)
              · exact EQ_some r1
              · refine EQ_jgd (show h3 454 (-2) = 15 from by rw [k_454 r1]) ?_
                refine EQ_jgd (show h3 454 (-2) = 15 from by rw [k_454 r1]) ?_
                refine EQ_jgd ⟨(show h3 (h3 454 18) (-2) = 101 from by rw [r_454_18 r1, k_471 r1]), (show 200 ≤ h3 454 18 from by rw [r_454_18 r1]; exact (by decide)), (show jI 0 (h3 (h3 454 18) (-1)) from by rw [r_454_18 r1, l_471 r1]; unfold jI; decide)⟩ ?_
                refine EQ_jl (by rw [r_454_18 r1]) (fun h19 eh19 => ?_)
                have s13 := Sh_of eh19 (Sh_sta r1 (by decide +kernel) (by decide) (fun e => absurd ((k_471 r1).symm.trans e) (by decide)))
                clear eh19
                refine EQ_jb (eX14_keep_l101 0 s13) (fun o20 r14 => ?_)
                refine EQ_jb (eX14_keep_l131 0 r14) (fun o22 r15 => ?_)
                refine EQ_jgd (show o22 454 (-2) = 15 from by rw [k_454 r15]) ?_
                refine EQ_jgd (show o22 454 (-2) = 15 from by rw [k_454 r15]) ?_
                refine EQ_jgd (show o22 454 (-2) = 15 from by rw [k_454 r15]) ?_
                refine EQ_jgd (show o22 454 (-2) = 15 from by rw [k_454 r15]) ?_
                refine EQ_jb (by rw [r_454_18 r15]; exact eX14_record 2 471 0 (w32 (w32 (1 + o22 454 58) + o22 454 62)) r15) (fun h25 r16 => ?_)
                refine EQ_jgd (show h25 454 (-2) = 15 from by rw [k_454 r16]) ?_
                refine EQ_jgd (show h25 454 (-2) = 15 from by rw [k_454 r16]) ?_
                refine EQ_jgd (show h25 454 (-2) = 15 from by rw [k_454 r16]) ?_
                refine EQ_jgd (show h25 454 (-2) = 15 from by rw [k_454 r16]) ?_
                refine EQ_jb (by rw [r_454_57 r16]; exact eX14_addKept (h25 454 56) 791 (h25 454 58) r16) (fun h27 r17 => ?_)
                refine EQ_jgd (show h27 454 (-2) = 15 from by rw [k_454 r17]) ?_
                exact EQ_some r17
          · exact EQ_some r1
  · exact EQ_some r1
noncomputable def gX14_kept (a1 : Int) (a2 : Int) (h : AH) : Option (Int × AH) := jb2 (gX14_isDown h) fun v2 h3 => if v2 = 0 then (jb (gX14_in a1 0 (w32 (h3 454 77 - 1))) fun v6 => if v6 = 0 then (some ((-1), h3)) else (jg (jI a1 12) <| jb2 (gX14_textOf (h3 797 a1) h3) fun v9 h10 => if a2 = (-1) then (some (v9, h10)) else (jb (gX14_in a2 0 (w32 (v9 - 1))) fun v13 => if v13 = 0 then (some ((-1), h10)) else (jg (jI a2 4000) <| some (h10 471 a2, h10))))) else (some ((-5), h3))
theorem eX14_kept (a1 : Int) (a2 : Int) {h : AH} (hS : Sh S h) : EQ (fX14_kept 454 a1 a2 h) (gX14_kept a1 a2 h) (fun r => Sh S r.2) := by
  unfold fX14_kept gX14_kept
  refine EQ_jgd (show h 454 (-2) = 15 from by rw [k_454 hS]) ?_
  refine EQ_jb2 (eX14_isDown hS) (fun v2 h3 r1 => ?_)
  replace r1 : Sh S h3 := r1
  refine EQ_if Iff.rfl (fun c2 => ?_) (fun c2 => ?_)
  · refine EQ_jgd (show h3 454 (-2) = 15 from by rw [k_454 r1]) ?_
    refine EQ_jb (eX14_in a1 0 (w32 (h3 454 77 - 1))) (fun v6 r3 => ?_)
    refine EQ_if Iff.rfl (fun c4 => ?_) (fun c4 => ?_)
    · exact EQ_some r1
    · refine EQ_jgd (show h3 454 (-2) = 15 from by rw [k_454 r1]) ?_
      refine EQ_jg ⟨fun ⟨_, x0⟩ => (show jI a1 (h3 (h3 454 74) (-1)) ↔ jI a1 12 from by rw [r_454_74 r1, l_797 r1]).mp x0, fun x0 => ⟨(show h3 (h3 454 74) (-2) = 101 from by rw [r_454_74 r1, k_797 r1]), (show jI a1 (h3 (h3 454 74) (-1)) ↔ jI a1 12 from by rw [r_454_74 r1, l_797 r1]).mpr x0⟩⟩ (fun g5 => ?_)
      refine EQ_jgd (show h3 454 (-2) = 15 from by rw [k_454 r1]) ?_
      refine EQ_jb2 (by rw [r_454_74 r1]; exact eX14_textOf (h3 797 a1) r1) (fun v9 h10 r6 => ?_)
      replace r6 : Sh S h10 := r6
      refine EQ_if Iff.rfl (fun c7 => ?_) (fun c7 => ?_)
      · exact EQ_some r6
      · refine EQ_jb (eX14_in a2 0 (w32 (v9 - 1))) (fun v13 r8 => ?_)
        refine EQ_if Iff.rfl (fun c9 => ?_) (fun c9 => ?_)
        · exact EQ_some r6
        · refine EQ_jgd (show h10 454 (-2) = 15 from by rw [k_454 r6]) ?_
          refine EQ_jg ⟨fun ⟨_, x0⟩ => (show jI a2 (h10 (h10 454 18) (-1)) ↔ jI a2 4000 from by rw [r_454_18 r6, l_471 r6]).mp x0, fun x0 => ⟨(show h10 (h10 454 18) (-2) = 101 from by rw [r_454_18 r6, k_471 r6]), (show jI a2 (h10 (h10 454 18) (-1)) ↔ jI a2 4000 from by rw [r_454_18 r6, l_471 r6]).mpr x0⟩⟩ (fun g10 => ?_)
          exact EQ_some' (by rw [r_454_18 r6]) r6
  · exact EQ_some r1
noncomputable def gX14_pattern_j209_160 (F : Int → Int → AH → Option (Int × AH)) (a1 : Int) (a2 : Int) (a3 : Int) (h : AH) : Option ((Int) ⊕ ((Int) ⊕ (Unit))) := jl (w32 (a3 + 1)) fun x38 => some (.inl x38)
theorem eX14_pattern_j209_160 {F0 : Int → Int → Int → AH → Option (Int × AH)} {F : Int → Int → AH → Option (Int × AH)} (hF : ∀ (b_a1 : Int) (b_a2 : Int), ∀ {b_h : AH}, Sh S b_h → EQ (F0 454 b_a1 b_a2 b_h) (F b_a1 b_a2 b_h) (fun r => Sh S r.2)) (a1 : Int) (a2 : Int) (a3 : Int) {h : AH} (hS : Sh S h) : EQ (fX14_pattern_j209_160 F0 454 a1 a2 a3 h) (gX14_pattern_j209_160 F a1 a2 a3 h) (Sum.elim (fun _ => True) (Sum.elim (fun _ => True) (fun _ => True))) := by
  unfold fX14_pattern_j209_160 gX14_pattern_j209_160
  refine EQ_jl rfl (fun x38 ex38 => ?_)
  clear ex38
  exact EQ_some trivial
noncomputable def gX14_pattern_b160 (F : Int → Int → AH → Option (Int × AH)) (i1 : Int) (i2 : Int) (h : AH) (a3 : Int) : Option ((Int) ⊕ ((Int) ⊕ (Unit))) := if h 454 81 ≤ a3 then (some (.inr (.inr ()))) else (jg (jI a3 64) <| jb (gX14_isLike (h 800 a3) i1 h) fun v33 => if v33 = 0 then (gX14_pattern_j209_160 F i1 i2 a3 h) else (jb (gX14_isLike (h 801 a3) i2 h) fun v36 => if v36 = 0 then (gX14_pattern_j209_160 F i1 i2 a3 h) else (some (.inr (.inl a3)))))
theorem eX14_pattern_b160 {F0 : Int → Int → Int → AH → Option (Int × AH)} {F : Int → Int → AH → Option (Int × AH)} (hF : ∀ (b_a1 : Int) (b_a2 : Int), ∀ {b_h : AH}, Sh S b_h → EQ (F0 454 b_a1 b_a2 b_h) (F b_a1 b_a2 b_h) (fun r => Sh S r.2)) (i1 : Int) (i2 : Int) (a3 : Int) {h : AH} (hS : Sh S h) : EQ (fX14_pattern_b160 F0 454 i1 i2 h a3) (gX14_pattern_b160 F i1 i2 h a3) (Sum.elim (fun _ => True) (Sum.elim (fun _ => True) (fun _ => True))) := by
  unfold fX14_pattern_b160 gX14_pattern_b160
  refine EQ_jgd (show h 454 (-2) = 15 from by rw [k_454 hS]) ?_
  refine EQ_if Iff.rfl (fun c1 => ?_) (fun c1 => ?_)
  · exact EQ_some trivial
  · refine EQ_jgd (show h 454 (-2) = 15 from by rw [k_454 hS]) ?_
    refine EQ_jg ⟨fun ⟨_, x0⟩ => (show jI a3 (h (h 454 79) (-1)) ↔ jI a3 64 from by rw [r_454_79 hS, l_800 hS]).mp x0, fun x0 => ⟨(show h (h 454 79) (-2) = 101 from by rw [r_454_79 hS, k_800 hS]), (show jI a3 (h (h 454 79) (-1)) ↔ jI a3 64 from by rw [r_454_79 hS, l_800 hS]).mpr x0⟩⟩ (fun g2 => ?_)
    refine EQ_jgd (show h 454 (-2) = 15 from by rw [k_454 hS]) ?_
    refine EQ_jb (by rw [r_454_79 hS]; exact eX14_isLike (h 800 a3) i1 hS) (fun v33 r3 => ?_)
    refine EQ_if Iff.rfl (fun c4 => ?_) (fun c4 => ?_)
    · exact (eX14_pattern_j209_160 hF i1 i2 a3 hS)
    · refine EQ_jgd (show h 454 (-2) = 15 from by rw [k_454 hS]) ?_
      refine EQ_jgd ⟨(show h (h 454 80) (-2) = 101 from by rw [r_454_80 hS, k_801 hS]), ((show jI a3 (h (h 454 80) (-1)) ↔ jI a3 64 from by rw [r_454_80 hS, l_801 hS]).mpr g2)⟩ ?_
      refine EQ_jgd (show h 454 (-2) = 15 from by rw [k_454 hS]) ?_
      refine EQ_jb (by rw [r_454_80 hS]; exact eX14_isLike (h 801 a3) i2 hS) (fun v36 r5 => ?_)
      refine EQ_if Iff.rfl (fun c6 => ?_) (fun c6 => ?_)
      · exact (eX14_pattern_j209_160 hF i1 i2 a3 hS)
      · exact EQ_some trivial
noncomputable def gX14_pattern_l160 (F : Int → Int → AH → Option (Int × AH)) (i1 : Int) (i2 : Int) (a3 : Int) (h : AH) : Option ((Int) ⊕ (Unit)) := jit (gX14_pattern_b160 F i1 i2 h) a3
theorem eX14_pattern_l160 {F0 : Int → Int → Int → AH → Option (Int × AH)} {F : Int → Int → AH → Option (Int × AH)} (hF : ∀ (b_a1 : Int) (b_a2 : Int), ∀ {b_h : AH}, Sh S b_h → EQ (F0 454 b_a1 b_a2 b_h) (F b_a1 b_a2 b_h) (fun r => Sh S r.2)) (i1 : Int) (i2 : Int) (a3 : Int) {h : AH} (hS : Sh S h) : EQ (fX14_pattern_l160 F0 454 i1 i2 a3 h) (gX14_pattern_l160 F i1 i2 a3 h) (Sum.elim (fun _ => True) (fun _ => True)) := EQ_jit (I := (fun _ => True)) (fun s _ => eX14_pattern_b160 hF i1 i2 s hS) trivial
noncomputable def gX14_pattern_j158 (F : Int → Int → AH → Option (Int × AH)) (a1 : Int) (a2 : Int) (h : AH) : Option (Int × AH) := jb (gX14_pattern_l160 F a1 a2 0 h) fun o18 => jm o18 (fun o20 => jg (jI a1 8800) <| jb2 (gX14_node 1 (h 461 a1) o20 h) fun v23 h24 => some (v23, h24)) (fun o21 => jg (jI (h 454 81) 64) <| jl (jst h 800 (h 454 81) a1) fun h25 => jg (jI (h25 454 81) 64) <| jl (jst h25 801 (h25 454 81) a2) fun h26 => jl (jst h26 454 81 (w32 (h26 454 81 + 1))) fun h27 => jg (jI a1 8800) <| jb2 (gX14_node 1 (h27 461 a1) (w32 (h27 454 81 - 1)) h27) fun v29 h30 => some (v29, h30))
theorem eX14_pattern_j158 {F0 : Int → Int → Int → AH → Option (Int × AH)} {F : Int → Int → AH → Option (Int × AH)} (hF : ∀ (b_a1 : Int) (b_a2 : Int), ∀ {b_h : AH}, Sh S b_h → EQ (F0 454 b_a1 b_a2 b_h) (F b_a1 b_a2 b_h) (fun r => Sh S r.2)) (a1 : Int) (a2 : Int) {h : AH} (hS : Sh S h) : EQ (fX14_pattern_j158 F0 454 a1 a2 h) (gX14_pattern_j158 F a1 a2 h) (fun r => Sh S r.2) := by
  unfold fX14_pattern_j158 gX14_pattern_j158
  refine EQ_jb (eX14_pattern_l160 hF a1 a2 0 hS) (fun o18 r1 => ?_)
  refine EQ_jm r1 (fun o20 r2 => ?_) (fun o21 r3 => ?_)
  · refine EQ_jgd (show h 454 (-2) = 15 from by rw [k_454 hS]) ?_
    refine EQ_jg ⟨fun ⟨_, x0⟩ => (show jI a1 (h (h 454 7) (-1)) ↔ jI a1 8800 from by rw [r_454_7 hS, l_461 hS]).mp x0, fun x0 => ⟨(show h (h 454 7) (-2) = 101 from by rw [r_454_7 hS, k_461 hS]), (show jI a1 (h (h 454 7) (-1)) ↔ jI a1 8800 from by rw [r_454_7 hS, l_461 hS]).mpr x0⟩⟩ (fun g4 => ?_)
    refine EQ_jgd (show h 454 (-2) = 15 from by rw [k_454 hS]) ?_
    refine EQ_jb2 (by rw [r_454_7 hS]; exact eX14_node 1 (h 461 a1) o20 hS) (fun v23 h24 r5 => ?_)
    replace r5 : Sh S h24 := r5
    exact EQ_some r5
  · refine EQ_jgd (show h 454 (-2) = 15 from by rw [k_454 hS]) ?_
    refine EQ_jgd (show h 454 (-2) = 15 from by rw [k_454 hS]) ?_
    refine EQ_jg ⟨fun ⟨_, _, x0⟩ => (show jI (h 454 81) (h (h 454 79) (-1)) ↔ jI (h 454 81) 64 from by rw [r_454_79 hS, l_800 hS]).mp x0, fun x0 => ⟨(show h (h 454 79) (-2) = 101 from by rw [r_454_79 hS, k_800 hS]), (show 200 ≤ h 454 79 from by rw [r_454_79 hS]; exact (by decide)), (show jI (h 454 81) (h (h 454 79) (-1)) ↔ jI (h 454 81) 64 from by rw [r_454_79 hS, l_800 hS]).mpr x0⟩⟩ (fun g6 => ?_)
    refine EQ_jl (by rw [r_454_79 hS]) (fun h25 eh25 => ?_)
    have s7 := Sh_of eh25 (Sh_sta hS (by decide +kernel) (jI_nn g6) (fun e => absurd ((k_800 hS).symm.trans e) (by decide)))
    clear eh25
    refine EQ_jgd (show h25 454 (-2) = 15 from by rw [k_454 s7]) ?_
    refine EQ_jgd (show h25 454 (-2) = 15 from by rw [k_454 s7]) ?_
    refine EQ_jg ⟨fun ⟨_, _, x0⟩ => (show jI (h25 454 81) (h25 (h25 454 80) (-1)) ↔ jI (h25 454 81) 64 from by rw [r_454_80 s7, l_801 s7]).mp x0, fun x0 => ⟨(show h25 (h25 454 80) (-2) = 101 from by rw [r_454_80 s7, k_801 s7]), (show 200 ≤ h25 454 80 from by rw [r_454_80 s7]; exact (by decide)), (show jI (h25 454 81) (h25 (h25 454 80) (-1)) ↔ jI (h25 454 81) 64 from by rw [r_454_80 s7, l_801 s7]).mpr x0⟩⟩ (fun g8 => ?_)
    refine EQ_jl (by rw [r_454_80 s7]) (fun h26 eh26 => ?_)
    have s9 := Sh_of eh26 (Sh_sta s7 (by decide +kernel) (jI_nn g8) (fun e => absurd ((k_801 s7).symm.trans e) (by decide)))
    clear eh26
    refine EQ_jgd (show h26 454 (-2) = 15 from by rw [k_454 s9]) ?_
    refine EQ_jgd ⟨(show h26 454 (-2) = 15 from by rw [k_454 s9]), (show (200 : Int) ≤ 454 from (by decide))⟩ ?_
    refine EQ_jl rfl (fun h27 eh27 => ?_)
    have s10 := Sh_of eh27 (Sh_sto s9 (a := 454) (i := 81) (by decide +kernel))
    clear eh27
    refine EQ_jgd (show h27 454 (-2) = 15 from by rw [k_454 s10]) ?_
    refine EQ_jg ⟨fun ⟨_, x0⟩ => (show jI a1 (h27 (h27 454 7) (-1)) ↔ jI a1 8800 from by rw [r_454_7 s10, l_461 s10]).mp x0, fun x0 => ⟨(show h27 (h27 454 7) (-2) = 101 from by rw [r_454_7 s10, k_461 s10]), (show jI a1 (h27 (h27 454 7) (-1)) ↔ jI a1 8800 from by rw [r_454_7 s10, l_461 s10]).mpr x0⟩⟩ (fun g11 => ?_)
    refine EQ_jgd (show h27 454 (-2) = 15 from by rw [k_454 s10]) ?_
    refine EQ_jgd (show h27 454 (-2) = 15 from by rw [k_454 s10]) ?_
    refine EQ_jb2 (by rw [r_454_7 s10]; exact eX14_node 1 (h27 461 a1) (w32 (h27 454 81 - 1)) s10) (fun v29 h30 r12 => ?_)
    replace r12 : Sh S h30 := r12
    exact EQ_some r12
noncomputable def gX14_pattern_j113 (F : Int → Int → AH → Option (Int × AH)) (a1 : Int) (a2 : Int) (h : AH) : Option (Int × AH) := jg (jI a1 8800) <| if h 460 a1 = 0 then (jg (jI a2 8800) <| if h 460 a2 = 0 then (jb (gX14_isLike a1 a2 h) fun v13 => if v13 = 0 then (gX14_pattern_j158 F a1 a2 h) else (jb2 (gX14_node 0 (h 461 a1) (h 462 a1) h) fun v16 h17 => some (v16, h17))) else (gX14_pattern_j158 F a1 a2 h)) else (gX14_pattern_j158 F a1 a2 h)
theorem eX14_pattern_j113 {F0 : Int → Int → Int → AH → Option (Int × AH)} {F : Int → Int → AH → Option (Int × AH)} (hF : ∀ (b_a1 : Int) (b_a2 : Int), ∀ {b_h : AH}, Sh S b_h → EQ (F0 454 b_a1 b_a2 b_h) (F b_a1 b_a2 b_h) (fun r => Sh S r.2)) (a1 : Int) (a2 : Int) {h : AH} (hS : Sh S h) : EQ (fX14_pattern_j113 F0 454 a1 a2 h) (gX14_pattern_j113 F a1 a2 h) (fun r => Sh S r.2) := by
  unfold fX14_pattern_j113 gX14_pattern_j113
  refine EQ_jgd (show h 454 (-2) = 15 from by rw [k_454 hS]) ?_
  refine EQ_jg ⟨fun ⟨_, x0⟩ => (show jI a1 (h (h 454 6) (-1)) ↔ jI a1 8800 from by rw [r_454_6 hS, l_460 hS]).mp x0, fun x0 => ⟨(show h (h 454 6) (-2) = 101 from by rw [r_454_6 hS, k_460 hS]), (show jI a1 (h (h 454 6) (-1)) ↔ jI a1 8800 from by rw [r_454_6 hS, l_460 hS]).mpr x0⟩⟩ (fun g1 => ?_)
  refine EQ_if (show h (h 454 6) a1 = 0 ↔ h 460 a1 = 0 from by rw [r_454_6 hS]) (fun c2 => ?_) (fun c2 => ?_)
  · refine EQ_jgd (show h 454 (-2) = 15 from by rw [k_454 hS]) ?_
    refine EQ_jg ⟨fun ⟨_, x0⟩ => (show jI a2 (h (h 454 6) (-1)) ↔ jI a2 8800 from by rw [r_454_6 hS, l_460 hS]).mp x0, fun x0 => ⟨(show h (h 454 6) (-2) = 101 from by rw [r_454_6 hS, k_460 hS]), (show jI a2 (h (h 454 6) (-1)) ↔ jI a2 8800 from by rw [r_454_6 hS, l_460 hS]).mpr x0⟩⟩ (fun g3 => ?_)
    refine EQ_if (show h (h 454 6) a2 = 0 ↔ h 460 a2 = 0 from by rw [r_454_6 hS]) (fun c4 => ?_) (fun c4 => ?_)
    · refine EQ_jgd (show h 454 (-2) = 15 from by rw [k_454 hS]) ?_
      refine EQ_jb (eX14_isLike a1 a2 hS) (fun v13 r5 => ?_)
      refine EQ_if Iff.rfl (fun c6 => ?_) (fun c6 => ?_)
      · exact (eX14_pattern_j158 hF a1 a2 hS)
      · refine EQ_jgd (show h 454 (-2) = 15 from by rw [k_454 hS]) ?_
        refine EQ_jgd ⟨(show h (h 454 7) (-2) = 101 from by rw [r_454_7 hS, k_461 hS]), ((show jI a1 (h (h 454 7) (-1)) ↔ jI a1 8800 from by rw [r_454_7 hS, l_461 hS]).mpr g1)⟩ ?_
        refine EQ_jgd (show h 454 (-2) = 15 from by rw [k_454 hS]) ?_
        refine EQ_jgd ⟨(show h (h 454 8) (-2) = 101 from by rw [r_454_8 hS, k_462 hS]), ((show jI a1 (h (h 454 8) (-1)) ↔ jI a1 8800 from by rw [r_454_8 hS, l_462 hS]).mpr g1)⟩ ?_
        refine EQ_jgd (show h 454 (-2) = 15 from by rw [k_454 hS]) ?_
        refine EQ_jb2 (by rw [r_454_7 hS, r_454_8 hS]; exact eX14_node 0 (h 461 a1) (h 462 a1) hS) (fun v16 h17 r7 => ?_)
        replace r7 : Sh S h17 := r7
        exact EQ_some r7
    · exact (eX14_pattern_j158 hF a1 a2 hS)
  · exact (eX14_pattern_j158 hF a1 a2 hS)
noncomputable def gX14_pattern_b63 (F : Int → Int → AH → Option (Int × AH)) (i1 : Int) (i2 : Int) (i3 : Int) (s : Int × AH) : Option ((Int × AH) ⊕ (AH)) := jt2 s fun a4 h => jg (jI i1 8800) <| if h 465 i1 ≤ a4 then (some (.inr h)) else (jg (jI (w32 (w32 (3 * i1) + a4)) 26400) <| jg (jI (w32 (w32 (3 * i2) + a4)) 26400) <| jb2 (F (h 464 (w32 (w32 (3 * i1) + a4))) (h 464 (w32 (w32 (3 * i2) + a4))) h) fun v41 h42 => jb (gX14_addKid i3 v41 h42) fun h44 => jl (w32 (a4 + 1)) fun x45 => some (.inl (x45, h44)))
theorem eX14_pattern_b63 {F0 : Int → Int → Int → AH → Option (Int × AH)} {F : Int → Int → AH → Option (Int × AH)} (hF : ∀ (b_a1 : Int) (b_a2 : Int), ∀ {b_h : AH}, Sh S b_h → EQ (F0 454 b_a1 b_a2 b_h) (F b_a1 b_a2 b_h) (fun r => Sh S r.2)) (i1 : Int) (i2 : Int) (i3 : Int) {s : Int × AH} (hS : (fun r => Sh S r.2) s) : EQ (fX14_pattern_b63 F0 454 i1 i2 i3 s) (gX14_pattern_b63 F i1 i2 i3 s) (Sum.elim (fun r => Sh S r.2) (fun r => Sh S r)) := by
  unfold fX14_pattern_b63 gX14_pattern_b63
  obtain ⟨a4, h⟩ := s
  refine EQ_jt2 ?_
  replace hS : Sh S h := hS
  refine EQ_jgd (show h 454 (-2) = 15 from by rw [k_454 hS]) ?_
  refine EQ_jg ⟨fun ⟨_, x0⟩ => (show jI i1 (h (h 454 11) (-1)) ↔ jI i1 8800 from by rw [r_454_11 hS, l_465 hS]).mp x0, fun x0 => ⟨(show h (h 454 11) (-2) = 101 from by rw [r_454_11 hS, k_465 hS]), (show jI i1 (h (h 454 11) (-1)) ↔ jI i1 8800 from by rw [r_454_11 hS, l_465 hS]).mpr x0⟩⟩ (fun g1 => ?_)
  refine EQ_if (show h (h 454 11) i1 ≤ a4 ↔ h 465 i1 ≤ a4 from by rw [r_454_11 hS]) (fun c2 => ?_) (fun c2 => ?_)
  · exact EQ_some hS
  · refine EQ_jgd (show h 454 (-2) = 15 from by rw [k_454 hS]) ?_
    refine EQ_jg ⟨fun ⟨_, x0⟩ => (show jI (w32 (w32 (3 * i1) + a4)) (h (h 454 10) (-1)) ↔ jI (w32 (w32 (3 * i1) + a4)) 26400 from by rw [r_454_10 hS, l_464 hS]).mp x0, fun x0 => ⟨(show h (h 454 10) (-2) = 101 from by rw [r_454_10 hS, k_464 hS]), (show jI (w32 (w32 (3 * i1) + a4)) (h (h 454 10) (-1)) ↔ jI (w32 (w32 (3 * i1) + a4)) 26400 from by rw [r_454_10 hS, l_464 hS]).mpr x0⟩⟩ (fun g3 => ?_)
    refine EQ_jgd (show h 454 (-2) = 15 from by rw [k_454 hS]) ?_
    refine EQ_jg ⟨fun ⟨_, x0⟩ => (show jI (w32 (w32 (3 * i2) + a4)) (h (h 454 10) (-1)) ↔ jI (w32 (w32 (3 * i2) + a4)) 26400 from by rw [r_454_10 hS, l_464 hS]).mp x0, fun x0 => ⟨(show h (h 454 10) (-2) = 101 from by rw [r_454_10 hS, k_464 hS]), (show jI (w32 (w32 (3 * i2) + a4)) (h (h 454 10) (-1)) ↔ jI (w32 (w32 (3 * i2) + a4)) 26400 from by rw [r_454_10 hS, l_464 hS]).mpr x0⟩⟩ (fun g4 => ?_)
    refine EQ_jgd (show h 454 (-2) = 15 from by rw [k_454 hS]) ?_
    refine EQ_jb2 (by rw [r_454_10 hS]; exact hF (h 464 (w32 (w32 (3 * i1) + a4))) (h 464 (w32 (w32 (3 * i2) + a4))) hS) (fun v41 h42 r5 => ?_)
    replace r5 : Sh S h42 := r5
    refine EQ_jgd (show h42 454 (-2) = 15 from by rw [k_454 r5]) ?_
    refine EQ_jb (eX14_addKid i3 v41 r5) (fun h44 r6 => ?_)
    refine EQ_jl rfl (fun x45 ex45 => ?_)
    clear ex45
    exact EQ_some r6
