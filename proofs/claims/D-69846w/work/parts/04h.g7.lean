set_option maxRecDepth 100000
variable {S : Nat → Nat}
noncomputable def gX14_apply_l212 (a1 : Int) (h : AH) : Option (AH) := jit gX14_apply_b212 (a1, h)
theorem eX14_apply_l212 (a1 : Int) {h : AH} (hS : Sh S h) : EQ (fX14_apply_l212 454 a1 h) (gX14_apply_l212 a1 h) (fun r => Sh S r) := EQ_jit (I := (fun r => Sh S r.2)) (fun s hs => eX14_apply_b212 hs) hS
noncomputable def gX14_apply (h : AH) : Option (Int × AH) := jb2 (gX14_isDown h) fun v2 h3 => if v2 = 0 then (jb (gX14_takeTape h3) fun h6 => if 10 < h6 454 25 then (some ((-1), h6)) else (jb (gX14_isWordText 0 (h6 454 25) h6) fun v9 => if v9 = 0 then (some ((-1), h6)) else (if h6 454 125 = 0 then (some ((-2), h6)) else (jb (gX14_apply_l49 0 h6) fun o12 => jl (jst o12 454 19 0) fun h14 => jb (gX14_apply_l81 0 h14) fun o15 => jm o15 (fun o17 => some ((-1), o17)) (fun o18 => jb (gX14_apply_l212 0 o18) fun o19 => jl (jst o19 454 53 (o19 454 19)) fun h21 => some (h21 454 53, h21)))))) else (some ((-5), h3))
theorem eX14_apply {h : AH} (hS : Sh S h) : EQ (fX14_apply 454 h) (gX14_apply h) (fun r => Sh S r.2) := by
  unfold fX14_apply gX14_apply
  refine EQ_jgd (show h 454 (-2) = 15 from by rw [k_454 hS]) ?_
  refine EQ_jb2 (eX14_isDown hS) (fun v2 h3 r1 => ?_)
  replace r1 : Sh S h3 := r1
  refine EQ_if Iff.rfl (fun c2 => ?_) (fun c2 => ?_)
  · refine EQ_jgd (show h3 454 (-2) = 15 from by rw [k_454 r1]) ?_
    refine EQ_jb (eX14_takeTape r1) (fun h6 r3 => ?_)
    refine EQ_jgd (show h6 454 (-2) = 15 from by rw [k_454 r3]) ?_
    refine EQ_if Iff.rfl (fun c4 => ?_) (fun c4 => ?_)
    · exact EQ_some r3
    · refine EQ_jgd (show h6 454 (-2) = 15 from by rw [k_454 r3]) ?_
      refine EQ_jgd (show h6 454 (-2) = 15 from by rw [k_454 r3]) ?_
      refine EQ_jb (eX14_isWordText 0 (h6 454 25) r3) (fun v9 r5 => ?_)
      refine EQ_if Iff.rfl (fun c6 => ?_) (fun c6 => ?_)
      · exact EQ_some r3
      · refine EQ_jgd (show h6 454 (-2) = 15 from by rw [k_454 r3]) ?_
        refine EQ_if Iff.rfl (fun c7 => ?_) (fun c7 => ?_)
        · exact EQ_some r3
        · refine EQ_jb (eX14_apply_l49 0 r3) (fun o12 r8 => ?_)
          refine EQ_jgd ⟨(show o12 454 (-2) = 15 from by rw [k_454 r8]), (show (200 : Int) ≤ 454 from (by decide))⟩ ?_
          refine EQ_jl rfl (fun h14 eh14 => ?_)
          have s9 := Sh_of eh14 (Sh_sto r8 (a := 454) (i := 19) (by decide +kernel))
          clear eh14
          refine EQ_jb (eX14_apply_l81 0 s9) (fun o15 r10 => ?_)
          refine EQ_jm r10 (fun o17 r11 => ?_) (fun o18 r12 => ?_)
          · exact EQ_some r11
          · refine EQ_jb (eX14_apply_l212 0 r12) (fun o19 r13 => ?_)
            refine EQ_jgd (show o19 454 (-2) = 15 from by rw [k_454 r13]) ?_
            refine EQ_jgd ⟨(show o19 454 (-2) = 15 from by rw [k_454 r13]), (show (200 : Int) ≤ 454 from (by decide))⟩ ?_
            refine EQ_jl rfl (fun h21 eh21 => ?_)
            have s14 := Sh_of eh21 (Sh_sto r13 (a := 454) (i := 53) (by decide +kernel))
            clear eh21
            refine EQ_jgd (show h21 454 (-2) = 15 from by rw [k_454 s14]) ?_
            exact EQ_some s14
  · exact EQ_some r1
noncomputable def gX14_word_2_j262 (a2 : Int) (a4 : Int) (a6 : Int) (h : AH) : Option (Int × AH) := jg (jI (h 454 128) 20) <| jl (jst h 843 (h 454 128) a4) fun h20 => jg (jI (h20 454 128) 20) <| jl (jst h20 844 (h20 454 128) a6) fun h21 => jg (jI (h21 454 128) 20) <| jl (jst h21 845 (h21 454 128) (ji2z a2)) fun h22 => jl (jst h22 454 128 (w32 (h22 454 128 + 1))) fun h23 => some (h23 454 128, h23)
theorem eX14_word_2_j262 (a2 : Int) (a4 : Int) (a6 : Int) {h : AH} (hS : Sh S h) : EQ (fX14_word_2_j262 454 a2 a4 a6 h) (gX14_word_2_j262 a2 a4 a6 h) (fun r => Sh S r.2) := by
  unfold fX14_word_2_j262 gX14_word_2_j262
  refine EQ_jgd (show h 454 (-2) = 15 from by rw [k_454 hS]) ?_
  refine EQ_jgd (show h 454 (-2) = 15 from by rw [k_454 hS]) ?_
  refine EQ_jg ⟨fun ⟨_, _, x0⟩ => (show jI (h 454 128) (h (h 454 129) (-1)) ↔ jI (h 454 128) 20 from by rw [r_454_129 hS, l_843 hS]).mp x0, fun x0 => ⟨(show h (h 454 129) (-2) = 101 from by rw [r_454_129 hS, k_843 hS]), (show 200 ≤ h 454 129 from by rw [r_454_129 hS]; exact (by decide)), (show jI (h 454 128) (h (h 454 129) (-1)) ↔ jI (h 454 128) 20 from by rw [r_454_129 hS, l_843 hS]).mpr x0⟩⟩ (fun g1 => ?_)
  refine EQ_jl (by rw [r_454_129 hS]) (fun h20 eh20 => ?_)
  have s2 := Sh_of eh20 (Sh_sta hS (by decide +kernel) (jI_nn g1) (fun e => absurd ((k_843 hS).symm.trans e) (by decide)))
  clear eh20
  refine EQ_jgd (show h20 454 (-2) = 15 from by rw [k_454 s2]) ?_
  refine EQ_jgd (show h20 454 (-2) = 15 from by rw [k_454 s2]) ?_
  refine EQ_jg ⟨fun ⟨_, _, x0⟩ => (show jI (h20 454 128) (h20 (h20 454 130) (-1)) ↔ jI (h20 454 128) 20 from by rw [r_454_130 s2, l_844 s2]).mp x0, fun x0 => ⟨(show h20 (h20 454 130) (-2) = 101 from by rw [r_454_130 s2, k_844 s2]), (show 200 ≤ h20 454 130 from by rw [r_454_130 s2]; exact (by decide)), (show jI (h20 454 128) (h20 (h20 454 130) (-1)) ↔ jI (h20 454 128) 20 from by rw [r_454_130 s2, l_844 s2]).mpr x0⟩⟩ (fun g3 => ?_)
  refine EQ_jl (by rw [r_454_130 s2]) (fun h21 eh21 => ?_)
  have s4 := Sh_of eh21 (Sh_sta s2 (by decide +kernel) (jI_nn g3) (fun e => absurd ((k_844 s2).symm.trans e) (by decide)))
  clear eh21
  refine EQ_jgd (show h21 454 (-2) = 15 from by rw [k_454 s4]) ?_
  refine EQ_jgd (show h21 454 (-2) = 15 from by rw [k_454 s4]) ?_
  refine EQ_jg ⟨fun ⟨_, _, x0⟩ => (show jI (h21 454 128) (h21 (h21 454 131) (-1)) ↔ jI (h21 454 128) 20 from by rw [r_454_131 s4, l_845 s4]).mp x0, fun x0 => ⟨(show h21 (h21 454 131) (-2) = 104 from by rw [r_454_131 s4, k_845 s4]), (show 200 ≤ h21 454 131 from by rw [r_454_131 s4]; exact (by decide)), (show jI (h21 454 128) (h21 (h21 454 131) (-1)) ↔ jI (h21 454 128) 20 from by rw [r_454_131 s4, l_845 s4]).mpr x0⟩⟩ (fun g5 => ?_)
  refine EQ_jl (by rw [r_454_131 s4]) (fun h22 eh22 => ?_)
  have s6 := Sh_of eh22 (Sh_sta s4 (by decide +kernel) (jI_nn g5) (fun e => absurd ((k_845 s4).symm.trans e) (by decide)))
  clear eh22
  refine EQ_jgd (show h22 454 (-2) = 15 from by rw [k_454 s6]) ?_
  refine EQ_jgd ⟨(show h22 454 (-2) = 15 from by rw [k_454 s6]), (show (200 : Int) ≤ 454 from (by decide))⟩ ?_
  refine EQ_jl rfl (fun h23 eh23 => ?_)
  have s7 := Sh_of eh23 (Sh_sto s6 (a := 454) (i := 128) (by decide +kernel))
  clear eh23
  refine EQ_jgd (show h23 454 (-2) = 15 from by rw [k_454 s7]) ?_
  exact EQ_some s7
noncomputable def gX14_word_2_b217 (i1 : Int) (i2 : Int) (i4 : Int) (i6 : Int) (s : Int × AH) : Option ((Int × AH) ⊕ (AH)) := jt2 s fun a7 h => if i4 ≤ a7 then (some (.inr h)) else (jg (jI (w32 (i1 + a7)) 2000) <| jg (jI (w32 (1 + a7)) 4000) <| jl (jst h 471 (w32 (1 + a7)) (h 473 (w32 (i1 + a7)))) fun h30 => jl (w32 (a7 + 1)) fun x31 => some (.inl (x31, h30)))
theorem eX14_word_2_b217 (i1 : Int) (i2 : Int) (i4 : Int) (i6 : Int) {s : Int × AH} (hS : (fun r => Sh S r.2) s) : EQ (fX14_word_2_b217 454 i1 i2 i4 i6 s) (gX14_word_2_b217 i1 i2 i4 i6 s) (Sum.elim (fun r => Sh S r.2) (fun r => Sh S r)) := by
  unfold fX14_word_2_b217 gX14_word_2_b217
  obtain ⟨a7, h⟩ := s
  refine EQ_jt2 ?_
  replace hS : Sh S h := hS
  refine EQ_if Iff.rfl (fun c1 => ?_) (fun c1 => ?_)
  · exact EQ_some hS
  · refine EQ_jgd (show h 454 (-2) = 15 from by rw [k_454 hS]) ?_
    refine EQ_jgd (show h 454 (-2) = 15 from by rw [k_454 hS]) ?_
    refine EQ_jg ⟨fun ⟨_, x0⟩ => (show jI (w32 (i1 + a7)) (h (h 454 24) (-1)) ↔ jI (w32 (i1 + a7)) 2000 from by rw [r_454_24 hS, l_473 hS]).mp x0, fun x0 => ⟨(show h (h 454 24) (-2) = 101 from by rw [r_454_24 hS, k_473 hS]), (show jI (w32 (i1 + a7)) (h (h 454 24) (-1)) ↔ jI (w32 (i1 + a7)) 2000 from by rw [r_454_24 hS, l_473 hS]).mpr x0⟩⟩ (fun g2 => ?_)
    refine EQ_jg ⟨fun ⟨_, _, x0⟩ => (show jI (w32 (1 + a7)) (h (h 454 18) (-1)) ↔ jI (w32 (1 + a7)) 4000 from by rw [r_454_18 hS, l_471 hS]).mp x0, fun x0 => ⟨(show h (h 454 18) (-2) = 101 from by rw [r_454_18 hS, k_471 hS]), (show 200 ≤ h 454 18 from by rw [r_454_18 hS]; exact (by decide)), (show jI (w32 (1 + a7)) (h (h 454 18) (-1)) ↔ jI (w32 (1 + a7)) 4000 from by rw [r_454_18 hS, l_471 hS]).mpr x0⟩⟩ (fun g3 => ?_)
    refine EQ_jl (by rw [r_454_18 hS, r_454_24 hS]) (fun h30 eh30 => ?_)
    have s4 := Sh_of eh30 (Sh_sta hS (by decide +kernel) (jI_nn g3) (fun e => absurd ((k_471 hS).symm.trans e) (by decide)))
    clear eh30
    refine EQ_jl rfl (fun x31 ex31 => ?_)
    clear ex31
    exact EQ_some s4
noncomputable def gX14_word_2_l217 (i1 : Int) (i2 : Int) (i4 : Int) (i6 : Int) (a7 : Int) (h : AH) : Option (AH) := jit (gX14_word_2_b217 i1 i2 i4 i6) (a7, h)
theorem eX14_word_2_l217 (i1 : Int) (i2 : Int) (i4 : Int) (i6 : Int) (a7 : Int) {h : AH} (hS : Sh S h) : EQ (fX14_word_2_l217 454 i1 i2 i4 i6 a7 h) (gX14_word_2_l217 i1 i2 i4 i6 a7 h) (fun r => Sh S r) := EQ_jit (I := (fun r => Sh S r.2)) (fun s hs => eX14_word_2_b217 i1 i2 i4 i6 hs) hS
noncomputable def gX14_word_2_j213 (a1 : Int) (a2 : Int) (a4 : Int) (a6 : Int) (t1 : Int) (t2 : Int) (h : AH) : Option (Int × AH) := jg (jI t1 4000) <| jl (jst h 471 t1 t2) fun h24 => jb (gX14_word_2_l217 a1 a2 a4 a6 0 h24) fun o25 => jb (gX14_record 4 471 0 (w32 (a4 + 1)) o25) fun h28 => gX14_word_2_j262 a2 a4 a6 h28
theorem eX14_word_2_j213 (a1 : Int) (a2 : Int) (a4 : Int) (a6 : Int) (t1 : Int) (t2 : Int) {h : AH} (hS : Sh S h) : EQ (fX14_word_2_j213 454 a1 a2 a4 a6 471 t1 t2 h) (gX14_word_2_j213 a1 a2 a4 a6 t1 t2 h) (fun r => Sh S r.2) := by
  unfold fX14_word_2_j213 gX14_word_2_j213
  refine EQ_jg ⟨fun ⟨_, _, x0⟩ => (show jI t1 (h 471 (-1)) ↔ jI t1 4000 from by rw [l_471 hS]).mp x0, fun x0 => ⟨(show h 471 (-2) = 101 from by rw [k_471 hS]), (show (200 : Int) ≤ 471 from (by decide)), (show jI t1 (h 471 (-1)) ↔ jI t1 4000 from by rw [l_471 hS]).mpr x0⟩⟩ (fun g1 => ?_)
  refine EQ_jl rfl (fun h24 eh24 => ?_)
  have s2 := Sh_of eh24 (Sh_sta hS (by decide +kernel) (jI_nn g1) (fun e => absurd ((k_471 hS).symm.trans e) (by decide)))
  clear eh24
  refine EQ_jb (eX14_word_2_l217 a1 a2 a4 a6 0 s2) (fun o25 r3 => ?_)
  refine EQ_jgd (show o25 454 (-2) = 15 from by rw [k_454 r3]) ?_
  refine EQ_jgd (show o25 454 (-2) = 15 from by rw [k_454 r3]) ?_
  refine EQ_jb (by rw [r_454_18 r3]; exact eX14_record 4 471 0 (w32 (a4 + 1)) r3) (fun h28 r4 => ?_)
  exact (eX14_word_2_j262 a2 a4 a6 r4)
noncomputable def gX14_word_2_j195 (a1 : Int) (a2 : Int) (a3 : Int) (a4 : Int) (a6 : Int) (h : AH) : Option (Int × AH) := if a3 = 0 then (gX14_word_2_j262 a2 a4 a6 h) else (if a2 = 0 then (gX14_word_2_j213 a1 a2 a4 a6 0 0 h) else (gX14_word_2_j213 a1 a2 a4 a6 0 1 h))
theorem eX14_word_2_j195 (a1 : Int) (a2 : Int) (a3 : Int) (a4 : Int) (a6 : Int) {h : AH} (hS : Sh S h) : EQ (fX14_word_2_j195 454 a1 a2 a3 a4 a6 h) (gX14_word_2_j195 a1 a2 a3 a4 a6 h) (fun r => Sh S r.2) := by
  unfold fX14_word_2_j195 gX14_word_2_j195
  refine EQ_if Iff.rfl (fun c1 => ?_) (fun c1 => ?_)
  · exact (eX14_word_2_j262 a2 a4 a6 hS)
  · refine EQ_jgd (show h 454 (-2) = 15 from by rw [k_454 hS]) ?_
    refine EQ_if Iff.rfl (fun c2 => ?_) (fun c2 => ?_)
    · exact (by rw [r_454_18 hS]; exact eX14_word_2_j213 a1 a2 a4 a6 0 0 hS)
    · exact (by rw [r_454_18 hS]; exact eX14_word_2_j213 a1 a2 a4 a6 0 1 hS)
noncomputable def gX14_word_2_j162_108 (a1 : Int) (a2 : Int) (a3 : Int) (a4 : Int) (a6 : Int) (a7 : Int) (h : AH) : Option ((Int) ⊕ ((Int) ⊕ (Unit))) := jl (w32 (a7 + 1)) fun x35 => some (.inl x35)
theorem eX14_word_2_j162_108 (a1 : Int) (a2 : Int) (a3 : Int) (a4 : Int) (a6 : Int) (a7 : Int) {h : AH} (hS : Sh S h) : EQ (fX14_word_2_j162_108 454 a1 a2 a3 a4 a6 a7 h) (gX14_word_2_j162_108 a1 a2 a3 a4 a6 a7 h) (Sum.elim (fun _ => True) (Sum.elim (fun _ => True) (fun _ => True))) := by
  unfold fX14_word_2_j162_108 gX14_word_2_j162_108
  refine EQ_jl rfl (fun x35 ex35 => ?_)
  clear ex35
  exact EQ_some trivial
noncomputable def gX14_word_2_b108 (i1 : Int) (i2 : Int) (i3 : Int) (i4 : Int) (i6 : Int) (h : AH) (a7 : Int) : Option ((Int) ⊕ ((Int) ⊕ (Unit))) := if h 454 128 ≤ a7 then (some (.inr (.inr ()))) else (jg (jI a7 20) <| if h 843 a7 = i4 then (if h 844 a7 = i6 then (some (.inr (.inl a7))) else (gX14_word_2_j162_108 i1 i2 i3 i4 i6 a7 h)) else (gX14_word_2_j162_108 i1 i2 i3 i4 i6 a7 h))
theorem eX14_word_2_b108 (i1 : Int) (i2 : Int) (i3 : Int) (i4 : Int) (i6 : Int) (a7 : Int) {h : AH} (hS : Sh S h) : EQ (fX14_word_2_b108 454 i1 i2 i3 i4 i6 h a7) (gX14_word_2_b108 i1 i2 i3 i4 i6 h a7) (Sum.elim (fun _ => True) (Sum.elim (fun _ => True) (fun _ => True))) := by
  unfold fX14_word_2_b108 gX14_word_2_b108
  refine EQ_jgd (show h 454 (-2) = 15 from by rw [k_454 hS]) ?_
  refine EQ_if Iff.rfl (fun c1 => ?_) (fun c1 => ?_)
  · exact EQ_some trivial
  · refine EQ_jgd (show h 454 (-2) = 15 from by rw [k_454 hS]) ?_
    refine EQ_jg ⟨fun ⟨_, x0⟩ => (show jI a7 (h (h 454 129) (-1)) ↔ jI a7 20 from by rw [r_454_129 hS, l_843 hS]).mp x0, fun x0 => ⟨(show h (h 454 129) (-2) = 101 from by rw [r_454_129 hS, k_843 hS]), (show jI a7 (h (h 454 129) (-1)) ↔ jI a7 20 from by rw [r_454_129 hS, l_843 hS]).mpr x0⟩⟩ (fun g2 => ?_)
    refine EQ_if (show h (h 454 129) a7 = i4 ↔ h 843 a7 = i4 from by rw [r_454_129 hS]) (fun c3 => ?_) (fun c3 => ?_)
    · refine EQ_jgd (show h 454 (-2) = 15 from by rw [k_454 hS]) ?_
      refine EQ_jgd ⟨(show h (h 454 130) (-2) = 101 from by rw [r_454_130 hS, k_844 hS]), ((show jI a7 (h (h 454 130) (-1)) ↔ jI a7 20 from by rw [r_454_130 hS, l_844 hS]).mpr g2)⟩ ?_
      refine EQ_if (show h (h 454 130) a7 = i6 ↔ h 844 a7 = i6 from by rw [r_454_130 hS]) (fun c4 => ?_) (fun c4 => ?_)
      · exact EQ_some trivial
      · exact (eX14_word_2_j162_108 i1 i2 i3 i4 i6 a7 hS)
    · exact (eX14_word_2_j162_108 i1 i2 i3 i4 i6 a7 hS)
noncomputable def gX14_word_2_l108 (i1 : Int) (i2 : Int) (i3 : Int) (i4 : Int) (i6 : Int) (a7 : Int) (h : AH) : Option ((Int) ⊕ (Unit)) := jit (gX14_word_2_b108 i1 i2 i3 i4 i6 h) a7
theorem eX14_word_2_l108 (i1 : Int) (i2 : Int) (i3 : Int) (i4 : Int) (i6 : Int) (a7 : Int) {h : AH} (hS : Sh S h) : EQ (fX14_word_2_l108 454 i1 i2 i3 i4 i6 a7 h) (gX14_word_2_l108 i1 i2 i3 i4 i6 a7 h) (Sum.elim (fun _ => True) (fun _ => True)) := EQ_jit (I := (fun _ => True)) (fun s _ => eX14_word_2_b108 i1 i2 i3 i4 i6 s hS) trivial
noncomputable def gX14_word_2_j98 (a1 : Int) (a2 : Int) (a3 : Int) (a4 : Int) (a5 : Int) (a6 : Int) (h : AH) : Option (Int × AH) := if a5 = 0 then (some ((-1), h)) else (jb (gX14_word_2_l108 a1 a2 a3 a4 a6 0 h) fun o8 => jm o8 (fun o10 => jg (jI o10 20) <| if h 845 o10 = a2 then (some (h 454 128, h)) else (some ((-2), h))) (fun o11 => if h 454 128 = 20 then (some ((-3), h)) else (if a3 = 0 then (gX14_word_2_j195 a1 a2 a3 a4 a6 h) else (jb (gX14_hasRoom (w32 (a4 + 1)) h) fun v16 => if v16 = 0 then (some ((-3), h)) else (gX14_word_2_j195 a1 a2 a3 a4 a6 h)))))
theorem eX14_word_2_j98 (a1 : Int) (a2 : Int) (a3 : Int) (a4 : Int) (a5 : Int) (a6 : Int) {h : AH} (hS : Sh S h) : EQ (fX14_word_2_j98 454 a1 a2 a3 a4 a5 a6 h) (gX14_word_2_j98 a1 a2 a3 a4 a5 a6 h) (fun r => Sh S r.2) := by
  unfold fX14_word_2_j98 gX14_word_2_j98
  refine EQ_if Iff.rfl (fun c1 => ?_) (fun c1 => ?_)
  · exact EQ_some hS
  · refine EQ_jb (eX14_word_2_l108 a1 a2 a3 a4 a6 0 hS) (fun o8 r2 => ?_)
    refine EQ_jm r2 (fun o10 r3 => ?_) (fun o11 r4 => ?_)
    · refine EQ_jgd (show h 454 (-2) = 15 from by rw [k_454 hS]) ?_
      refine EQ_jg ⟨fun ⟨_, x0⟩ => (show jI o10 (h (h 454 131) (-1)) ↔ jI o10 20 from by rw [r_454_131 hS, l_845 hS]).mp x0, fun x0 => ⟨(show h (h 454 131) (-2) = 104 from by rw [r_454_131 hS, k_845 hS]), (show jI o10 (h (h 454 131) (-1)) ↔ jI o10 20 from by rw [r_454_131 hS, l_845 hS]).mpr x0⟩⟩ (fun g5 => ?_)
      refine EQ_if (show h (h 454 131) o10 = a2 ↔ h 845 o10 = a2 from by rw [r_454_131 hS]) (fun c6 => ?_) (fun c6 => ?_)
      · refine EQ_jgd (show h 454 (-2) = 15 from by rw [k_454 hS]) ?_
        exact EQ_some hS
      · exact EQ_some hS
    · refine EQ_jgd (show h 454 (-2) = 15 from by rw [k_454 hS]) ?_
      refine EQ_if Iff.rfl (fun c7 => ?_) (fun c7 => ?_)
      · exact EQ_some hS
      · refine EQ_if Iff.rfl (fun c8 => ?_) (fun c8 => ?_)
        · exact (eX14_word_2_j195 a1 a2 a3 a4 a6 hS)
        · refine EQ_jgd (show h 454 (-2) = 15 from by rw [k_454 hS]) ?_
          refine EQ_jb (eX14_hasRoom (w32 (a4 + 1)) hS) (fun v16 r9 => ?_)
          refine EQ_if Iff.rfl (fun c10 => ?_) (fun c10 => ?_)
          · exact EQ_some hS
          · exact (eX14_word_2_j195 a1 a2 a3 a4 a6 hS)
noncomputable def gX14_word_2_j86_28 (a1 : Int) (a2 : Int) (a3 : Int) (a4 : Int) (a5 : Int) (a7 : Int) (t0 : Int) (t1 : Int) (h : AH) : Option ((Int × Int × Int) ⊕ (Int × Int)) := jl (jor t0 (jshl t1 a7)) fun x42 => jl (w32 (a7 + 1)) fun x43 => some (.inl (a5, x42, x43))
theorem eX14_word_2_j86_28 (a1 : Int) (a2 : Int) (a3 : Int) (a4 : Int) (a5 : Int) (a7 : Int) (t0 : Int) (t1 : Int) {h : AH} (hS : Sh S h) : EQ (fX14_word_2_j86_28 454 a1 a2 a3 a4 a5 a7 t0 t1 h) (gX14_word_2_j86_28 a1 a2 a3 a4 a5 a7 t0 t1 h) (Sum.elim (fun _ => True) (fun _ => True)) := by
  unfold fX14_word_2_j86_28 gX14_word_2_j86_28
  refine EQ_jl rfl (fun x42 ex42 => ?_)
  clear ex42
  refine EQ_jl rfl (fun x43 ex43 => ?_)
  clear ex43
  exact EQ_some trivial
noncomputable def gX14_word_2_j70_28 (a1 : Int) (a2 : Int) (a3 : Int) (a4 : Int) (a6 : Int) (a7 : Int) (a8 : Int) (t0 : Int) (h : AH) : Option ((Int × Int × Int) ⊕ (Int × Int)) := if a8 = 98 then (gX14_word_2_j86_28 a1 a2 a3 a4 t0 a7 a6 1 h) else (gX14_word_2_j86_28 a1 a2 a3 a4 t0 a7 a6 0 h)
theorem eX14_word_2_j70_28 (a1 : Int) (a2 : Int) (a3 : Int) (a4 : Int) (a6 : Int) (a7 : Int) (a8 : Int) (t0 : Int) {h : AH} (hS : Sh S h) : EQ (fX14_word_2_j70_28 454 a1 a2 a3 a4 a6 a7 a8 t0 h) (gX14_word_2_j70_28 a1 a2 a3 a4 a6 a7 a8 t0 h) (Sum.elim (fun _ => True) (fun _ => True)) := by
  unfold fX14_word_2_j70_28 gX14_word_2_j70_28
  refine EQ_if Iff.rfl (fun c1 => ?_) (fun c1 => ?_)
  · exact (eX14_word_2_j86_28 a1 a2 a3 a4 t0 a7 a6 1 hS)
  · exact (eX14_word_2_j86_28 a1 a2 a3 a4 t0 a7 a6 0 hS)
noncomputable def gX14_word_2_b28 (i1 : Int) (i2 : Int) (i3 : Int) (i4 : Int) (h : AH) (s : Int × Int × Int) : Option ((Int × Int × Int) ⊕ (Int × Int)) := jt3 s fun a5 a6 a7 => if i4 ≤ a7 then (some (.inr (a5, a6))) else (if a5 = 0 then (some (.inr (a5, a6))) else (jg (jI (w32 (i1 + a7)) 2000) <| jl (h 473 (w32 (i1 + a7))) fun x38 => if x38 = 97 then (gX14_word_2_j70_28 i1 i2 i3 i4 a6 a7 x38 1 h) else (if x38 = 98 then (gX14_word_2_j70_28 i1 i2 i3 i4 a6 a7 x38 1 h) else (gX14_word_2_j70_28 i1 i2 i3 i4 a6 a7 x38 0 h))))
theorem eX14_word_2_b28 (i1 : Int) (i2 : Int) (i3 : Int) (i4 : Int) (s : Int × Int × Int) {h : AH} (hS : Sh S h) : EQ (fX14_word_2_b28 454 i1 i2 i3 i4 h s) (gX14_word_2_b28 i1 i2 i3 i4 h s) (Sum.elim (fun _ => True) (fun _ => True)) := by
  unfold fX14_word_2_b28 gX14_word_2_b28
  obtain ⟨a5, a6, a7⟩ := s
  refine EQ_jt3 ?_
  refine EQ_if Iff.rfl (fun c1 => ?_) (fun c1 => ?_)
  · exact EQ_some trivial
  · refine EQ_if Iff.rfl (fun c2 => ?_) (fun c2 => ?_)
    · exact EQ_some trivial
    · refine EQ_jgd (show h 454 (-2) = 15 from by rw [k_454 hS]) ?_
      refine EQ_jg ⟨fun ⟨_, x0⟩ => (show jI (w32 (i1 + a7)) (h (h 454 24) (-1)) ↔ jI (w32 (i1 + a7)) 2000 from by rw [r_454_24 hS, l_473 hS]).mp x0, fun x0 => ⟨(show h (h 454 24) (-2) = 101 from by rw [r_454_24 hS, k_473 hS]), (show jI (w32 (i1 + a7)) (h (h 454 24) (-1)) ↔ jI (w32 (i1 + a7)) 2000 from by rw [r_454_24 hS, l_473 hS]).mpr x0⟩⟩ (fun g3 => ?_)
      refine EQ_jl (by rw [r_454_24 hS]) (fun x38 ex38 => ?_)
      clear ex38
      refine EQ_if Iff.rfl (fun c4 => ?_) (fun c4 => ?_)
      · exact (eX14_word_2_j70_28 i1 i2 i3 i4 a6 a7 x38 1 hS)
      · refine EQ_if Iff.rfl (fun c5 => ?_) (fun c5 => ?_)
        · exact (eX14_word_2_j70_28 i1 i2 i3 i4 a6 a7 x38 1 hS)
        · exact (eX14_word_2_j70_28 i1 i2 i3 i4 a6 a7 x38 0 hS)
noncomputable def gX14_word_2_l28 (i1 : Int) (i2 : Int) (i3 : Int) (i4 : Int) (a5 : Int) (a6 : Int) (a7 : Int) (h : AH) : Option (Int × Int) := jit (gX14_word_2_b28 i1 i2 i3 i4 h) (a5, a6, a7)
theorem eX14_word_2_l28 (i1 : Int) (i2 : Int) (i3 : Int) (i4 : Int) (a5 : Int) (a6 : Int) (a7 : Int) {h : AH} (hS : Sh S h) : EQ (fX14_word_2_l28 454 i1 i2 i3 i4 a5 a6 a7 h) (gX14_word_2_l28 i1 i2 i3 i4 a5 a6 a7 h) (fun _ => True) := EQ_jit (I := (fun _ => True)) (fun s _ => eX14_word_2_b28 i1 i2 i3 i4 s hS) trivial
noncomputable def gX14_word_2_j20 (a1 : Int) (a2 : Int) (a3 : Int) (a4 : Int) (t0 : Int) (h : AH) : Option (Int × AH) := jb (gX14_word_2_l28 a1 a2 a3 a4 t0 0 0 h) fun o3 => jt2 o3 fun y5 y6 => gX14_word_2_j98 a1 a2 a3 a4 y5 y6 h
theorem eX14_word_2_j20 (a1 : Int) (a2 : Int) (a3 : Int) (a4 : Int) (t0 : Int) {h : AH} (hS : Sh S h) : EQ (fX14_word_2_j20 454 a1 a2 a3 a4 t0 h) (gX14_word_2_j20 a1 a2 a3 a4 t0 h) (fun r => Sh S r.2) := by
  unfold fX14_word_2_j20 gX14_word_2_j20
  refine EQ_jb (eX14_word_2_l28 a1 a2 a3 a4 t0 0 0 hS) (fun o3 r1 => ?_)
  obtain ⟨y5, y6⟩ := o3
  refine EQ_jt2 ?_
  exact (eX14_word_2_j98 a1 a2 a3 a4 y5 y6 hS)
noncomputable def gX14_word_2 (a1 : Int) (a2 : Int) (a3 : Int) (h : AH) : Option (Int × AH) := jl (w32 (h 454 25 - a1)) fun x1 => if 8 < x1 then (gX14_word_2_j20 a1 a2 a3 x1 0 h) else (gX14_word_2_j20 a1 a2 a3 x1 1 h)
theorem eX14_word_2 (a1 : Int) (a2 : Int) (a3 : Int) {h : AH} (hS : Sh S h) : EQ (fX14_word_2 454 a1 a2 a3 h) (gX14_word_2 a1 a2 a3 h) (fun r => Sh S r.2) := by
  unfold fX14_word_2 gX14_word_2
  refine EQ_jgd (show h 454 (-2) = 15 from by rw [k_454 hS]) ?_
  refine EQ_jl rfl (fun x1 ex1 => ?_)
  clear ex1
  refine EQ_if Iff.rfl (fun c1 => ?_) (fun c1 => ?_)
  · exact (eX14_word_2_j20 a1 a2 a3 x1 0 hS)
  · exact (eX14_word_2_j20 a1 a2 a3 x1 1 hS)
noncomputable def gX14_word (a1 : Int) (h : AH) : Option (Int × AH) := jb2 (gX14_isDown h) fun v2 h3 => if v2 = 0 then (jb (gX14_takeTape h3) fun h6 => jb2 (gX14_word_2 0 a1 1 h6) fun v8 h9 => some (v8, h9)) else (some ((-5), h3))
theorem eX14_word (a1 : Int) {h : AH} (hS : Sh S h) : EQ (fX14_word 454 a1 h) (gX14_word a1 h) (fun r => Sh S r.2) := by
  unfold fX14_word gX14_word
  refine EQ_jgd (show h 454 (-2) = 15 from by rw [k_454 hS]) ?_
  refine EQ_jb2 (eX14_isDown hS) (fun v2 h3 r1 => ?_)
  replace r1 : Sh S h3 := r1
  refine EQ_if Iff.rfl (fun c2 => ?_) (fun c2 => ?_)
  · refine EQ_jgd (show h3 454 (-2) = 15 from by rw [k_454 r1]) ?_
    refine EQ_jb (eX14_takeTape r1) (fun h6 r3 => ?_)
    refine EQ_jgd (show h6 454 (-2) = 15 from by rw [k_454 r3]) ?_
    refine EQ_jb2 (eX14_word_2 0 a1 1 r3) (fun v8 h9 r4 => ?_)
    replace r4 : Sh S h9 := r4
    exact EQ_some r4
  · exact EQ_some r1
noncomputable def gX14_forget_j45 (a1 : Int) (h : AH) : Option (Int × AH) := jl (jst h 454 128 0) fun h13 => some (a1, h13)
theorem eX14_forget_j45 (a1 : Int) {h : AH} (hS : Sh S h) : EQ (fX14_forget_j45 454 a1 h) (gX14_forget_j45 a1 h) (fun r => Sh S r.2) := by
  unfold fX14_forget_j45 gX14_forget_j45
  refine EQ_jgd ⟨(show h 454 (-2) = 15 from by rw [k_454 hS]), (show (200 : Int) ≤ 454 from (by decide))⟩ ?_
  refine EQ_jl rfl (fun h13 eh13 => ?_)
  have s1 := Sh_of eh13 (Sh_sto hS (a := 454) (i := 128) (by decide +kernel))
  clear eh13
  exact EQ_some s1
noncomputable def gX14_forget_j30 (a1 : Int) (h : AH) : Option (Int × AH) := if a1 ≤ 0 then (gX14_forget_j45 a1 h) else (jb (gX14_record 5 473 0 0 h) fun h12 => gX14_forget_j45 a1 h12)
theorem eX14_forget_j30 (a1 : Int) {h : AH} (hS : Sh S h) : EQ (fX14_forget_j30 454 a1 h) (gX14_forget_j30 a1 h) (fun r => Sh S r.2) := by
  unfold fX14_forget_j30 gX14_forget_j30
  refine EQ_if Iff.rfl (fun c1 => ?_) (fun c1 => ?_)
  · exact (eX14_forget_j45 a1 hS)
  · refine EQ_jgd (show h 454 (-2) = 15 from by rw [k_454 hS]) ?_
    refine EQ_jgd (show h 454 (-2) = 15 from by rw [k_454 hS]) ?_
    refine EQ_jb (by rw [r_454_24 hS]; exact eX14_record 5 473 0 0 hS) (fun h12 r2 => ?_)
    exact (eX14_forget_j45 a1 r2)
noncomputable def gX14_forget (h : AH) : Option (Int × AH) := jb2 (gX14_isDown h) fun v2 h3 => if v2 = 0 then (jl (h3 454 128) fun x5 => if x5 ≤ 0 then (gX14_forget_j30 x5 h3) else (jb (gX14_hasRoom 0 h3) fun v8 => if v8 = 0 then (some ((-3), h3)) else (gX14_forget_j30 x5 h3))) else (some ((-5), h3))
theorem eX14_forget {h : AH} (hS : Sh S h) : EQ (fX14_forget 454 h) (gX14_forget h) (fun r => Sh S r.2) := by
  unfold fX14_forget gX14_forget
  refine EQ_jgd (show h 454 (-2) = 15 from by rw [k_454 hS]) ?_
  refine EQ_jb2 (eX14_isDown hS) (fun v2 h3 r1 => ?_)
  replace r1 : Sh S h3 := r1
  refine EQ_if Iff.rfl (fun c2 => ?_) (fun c2 => ?_)
  · refine EQ_jgd (show h3 454 (-2) = 15 from by rw [k_454 r1]) ?_
    refine EQ_jl rfl (fun x5 ex5 => ?_)
    clear ex5
    refine EQ_if Iff.rfl (fun c3 => ?_) (fun c3 => ?_)
    · exact (eX14_forget_j30 x5 r1)
    · refine EQ_jgd (show h3 454 (-2) = 15 from by rw [k_454 r1]) ?_
      refine EQ_jb (eX14_hasRoom 0 r1) (fun v8 r4 => ?_)
      refine EQ_if Iff.rfl (fun c5 => ?_) (fun c5 => ?_)
      · exact EQ_some r1
      · exact (eX14_forget_j30 x5 r1)
  · exact EQ_some r1
noncomputable def gX14_fits_b2 (i1 : Int) (s : Int × AH) : Option ((Int × AH) ⊕ (AH)) := jt2 s fun a2 h => if i1 ≤ a2 then (some (.inr h)) else (jg (jI a2 5) <| jl (jst h 847 a2 0) fun h8 => jl (w32 (a2 + 1)) fun x9 => some (.inl (x9, h8)))
theorem eX14_fits_b2 (i1 : Int) {s : Int × AH} (hS : (fun r => Sh S r.2) s) : EQ (fX14_fits_b2 454 i1 s) (gX14_fits_b2 i1 s) (Sum.elim (fun r => Sh S r.2) (fun r => Sh S r)) := by
  unfold fX14_fits_b2 gX14_fits_b2
  obtain ⟨a2, h⟩ := s
  refine EQ_jt2 ?_
  replace hS : Sh S h := hS
  refine EQ_if Iff.rfl (fun c1 => ?_) (fun c1 => ?_)
  · exact EQ_some hS
  · refine EQ_jgd (show h 454 (-2) = 15 from by rw [k_454 hS]) ?_
    refine EQ_jg ⟨fun ⟨_, _, x0⟩ => (show jI a2 (h (h 454 133) (-1)) ↔ jI a2 5 from by rw [r_454_133 hS, l_847 hS]).mp x0, fun x0 => ⟨(show h (h 454 133) (-2) = 101 from by rw [r_454_133 hS, k_847 hS]), (show 200 ≤ h 454 133 from by rw [r_454_133 hS]; exact (by decide)), (show jI a2 (h (h 454 133) (-1)) ↔ jI a2 5 from by rw [r_454_133 hS, l_847 hS]).mpr x0⟩⟩ (fun g2 => ?_)
    refine EQ_jl (by rw [r_454_133 hS]) (fun h8 eh8 => ?_)
    have s3 := Sh_of eh8 (Sh_sta hS (by decide +kernel) (jI_nn g2) (fun e => absurd ((k_847 hS).symm.trans e) (by decide)))
    clear eh8
    refine EQ_jl rfl (fun x9 ex9 => ?_)
    clear ex9
    exact EQ_some s3
noncomputable def gX14_fits_l2 (i1 : Int) (a2 : Int) (h : AH) : Option (AH) := jit (gX14_fits_b2 i1) (a2, h)
theorem eX14_fits_l2 (i1 : Int) (a2 : Int) {h : AH} (hS : Sh S h) : EQ (fX14_fits_l2 454 i1 a2 h) (gX14_fits_l2 i1 a2 h) (fun r => Sh S r) := EQ_jit (I := (fun r => Sh S r.2)) (fun s hs => eX14_fits_b2 i1 hs) hS
noncomputable def gX14_fits_j119_22 (a2 : Int) (h : AH) : Option ((Int × AH) ⊕ ((AH) ⊕ (AH))) := jl (w32 (a2 + 1)) fun x17 => some (.inl (x17, h))
theorem eX14_fits_j119_22 (a2 : Int) {h : AH} (hS : Sh S h) : EQ (fX14_fits_j119_22 454 a2 h) (gX14_fits_j119_22 a2 h) (Sum.elim (fun r => Sh S r.2) (Sum.elim (fun r => Sh S r) (fun r => Sh S r))) := by
  unfold fX14_fits_j119_22 gX14_fits_j119_22
  refine EQ_jl rfl (fun x17 ex17 => ?_)
  clear ex17
  exact EQ_some hS
noncomputable def gX14_fits_j105_22 (a2 : Int) (a3 : Int) (t1 : Int) (t2 : Int) (t3 : Int) (h : AH) : Option ((Int × AH) ⊕ ((AH) ⊕ (AH))) := jg (jI t1 5) <| jl (jst h 847 t1 (jor t2 t3)) fun h15 => jg (jI a3 5) <| if h15 847 a3 = 3 then (some (.inr (.inl h15))) else (gX14_fits_j119_22 a2 h15)
theorem eX14_fits_j105_22 (a2 : Int) (a3 : Int) (t1 : Int) (t2 : Int) (t3 : Int) {h : AH} (hS : Sh S h) : EQ (fX14_fits_j105_22 454 a2 a3 847 t1 t2 t3 h) (gX14_fits_j105_22 a2 a3 t1 t2 t3 h) (Sum.elim (fun r => Sh S r.2) (Sum.elim (fun r => Sh S r) (fun r => Sh S r))) := by
  unfold fX14_fits_j105_22 gX14_fits_j105_22
  refine EQ_jg ⟨fun ⟨_, _, x0⟩ => (show jI t1 (h 847 (-1)) ↔ jI t1 5 from by rw [l_847 hS]).mp x0, fun x0 => ⟨(show h 847 (-2) = 101 from by rw [k_847 hS]), (show (200 : Int) ≤ 847 from (by decide)), (show jI t1 (h 847 (-1)) ↔ jI t1 5 from by rw [l_847 hS]).mpr x0⟩⟩ (fun g1 => ?_)
  refine EQ_jl rfl (fun h15 eh15 => ?_)
  have s2 := Sh_of eh15 (Sh_sta hS (by decide +kernel) (jI_nn g1) (fun e => absurd ((k_847 hS).symm.trans e) (by decide)))
  clear eh15
  refine EQ_jgd (show h15 454 (-2) = 15 from by rw [k_454 s2]) ?_
  refine EQ_jg ⟨fun ⟨_, x0⟩ => (show jI a3 (h15 (h15 454 133) (-1)) ↔ jI a3 5 from by rw [r_454_133 s2, l_847 s2]).mp x0, fun x0 => ⟨(show h15 (h15 454 133) (-2) = 101 from by rw [r_454_133 s2, k_847 s2]), (show jI a3 (h15 (h15 454 133) (-1)) ↔ jI a3 5 from by rw [r_454_133 s2, l_847 s2]).mpr x0⟩⟩ (fun g3 => ?_)
  refine EQ_if (show h15 (h15 454 133) a3 = 3 ↔ h15 847 a3 = 3 from by rw [r_454_133 s2]) (fun c4 => ?_) (fun c4 => ?_)
  · exact EQ_some s2
  · exact (eX14_fits_j119_22 a2 s2)
noncomputable def gX14_fits_j77_22 (a2 : Int) (a3 : Int) (h : AH) : Option ((Int × AH) ⊕ ((AH) ⊕ (AH))) := if 0 ≤ a3 then (jg (jI a3 5) <| jg (jI a2 20) <| if h 845 a2 = 0 then (gX14_fits_j105_22 a2 a3 a3 (h 847 a3) 2 h) else (gX14_fits_j105_22 a2 a3 a3 (h 847 a3) 1 h)) else (gX14_fits_j119_22 a2 h)
theorem eX14_fits_j77_22 (a2 : Int) (a3 : Int) {h : AH} (hS : Sh S h) : EQ (fX14_fits_j77_22 454 a2 a3 h) (gX14_fits_j77_22 a2 a3 h) (Sum.elim (fun r => Sh S r.2) (Sum.elim (fun r => Sh S r) (fun r => Sh S r))) := by
  unfold fX14_fits_j77_22 gX14_fits_j77_22
  refine EQ_if Iff.rfl (fun c1 => ?_) (fun c1 => ?_)
  · refine EQ_jgd (show h 454 (-2) = 15 from by rw [k_454 hS]) ?_
    refine EQ_jg ⟨fun ⟨_, x0⟩ => (show jI a3 (h (h 454 133) (-1)) ↔ jI a3 5 from by rw [r_454_133 hS, l_847 hS]).mp x0, fun x0 => ⟨(show h (h 454 133) (-2) = 101 from by rw [r_454_133 hS, k_847 hS]), (show jI a3 (h (h 454 133) (-1)) ↔ jI a3 5 from by rw [r_454_133 hS, l_847 hS]).mpr x0⟩⟩ (fun g2 => ?_)
    refine EQ_jgd (show h 454 (-2) = 15 from by rw [k_454 hS]) ?_
    refine EQ_jg ⟨fun ⟨_, x0⟩ => (show jI a2 (h (h 454 131) (-1)) ↔ jI a2 20 from by rw [r_454_131 hS, l_845 hS]).mp x0, fun x0 => ⟨(show h (h 454 131) (-2) = 104 from by rw [r_454_131 hS, k_845 hS]), (show jI a2 (h (h 454 131) (-1)) ↔ jI a2 20 from by rw [r_454_131 hS, l_845 hS]).mpr x0⟩⟩ (fun g3 => ?_)
    refine EQ_if (show h (h 454 131) a2 = 0 ↔ h 845 a2 = 0 from by rw [r_454_131 hS]) (fun c4 => ?_) (fun c4 => ?_)
    · exact (by rw [r_454_133 hS]; exact eX14_fits_j105_22 a2 a3 a3 (h 847 a3) 2 hS)
    · exact (by rw [r_454_133 hS]; exact eX14_fits_j105_22 a2 a3 a3 (h 847 a3) 1 hS)
  · exact (eX14_fits_j119_22 a2 hS)
noncomputable def gX14_fits_b35 (i2 : Int) (h : AH) (s : Int × Int) : Option ((Int × Int) ⊕ (Int)) := jt2 s fun a3 a4 => jg (jI i2 20) <| if h 843 i2 ≤ a4 then (some (.inr a3)) else (if a3 < 0 then (some (.inr a3)) else (jg (jI (w32 (w32 (2 * a3) + jand (jshr (h 844 i2) a4) 1)) 10) <| jl (h 846 (w32 (w32 (2 * a3) + jand (jshr (h 844 i2) a4) 1))) fun x20 => jl (w32 (a4 + 1)) fun x21 => some (.inl (x20, x21))))
theorem eX14_fits_b35 (i2 : Int) (s : Int × Int) {h : AH} (hS : Sh S h) : EQ (fX14_fits_b35 454 i2 h s) (gX14_fits_b35 i2 h s) (Sum.elim (fun _ => True) (fun _ => True)) := by
  unfold fX14_fits_b35 gX14_fits_b35
  obtain ⟨a3, a4⟩ := s
  refine EQ_jt2 ?_
  refine EQ_jgd (show h 454 (-2) = 15 from by rw [k_454 hS]) ?_
  refine EQ_jg ⟨fun ⟨_, x0⟩ => (show jI i2 (h (h 454 129) (-1)) ↔ jI i2 20 from by rw [r_454_129 hS, l_843 hS]).mp x0, fun x0 => ⟨(show h (h 454 129) (-2) = 101 from by rw [r_454_129 hS, k_843 hS]), (show jI i2 (h (h 454 129) (-1)) ↔ jI i2 20 from by rw [r_454_129 hS, l_843 hS]).mpr x0⟩⟩ (fun g1 => ?_)
  refine EQ_if (show h (h 454 129) i2 ≤ a4 ↔ h 843 i2 ≤ a4 from by rw [r_454_129 hS]) (fun c2 => ?_) (fun c2 => ?_)
  · exact EQ_some trivial
  · refine EQ_if Iff.rfl (fun c3 => ?_) (fun c3 => ?_)
    · exact EQ_some trivial
    · refine EQ_jgd (show h 454 (-2) = 15 from by rw [k_454 hS]) ?_
      refine EQ_jgd (show h 454 (-2) = 15 from by rw [k_454 hS]) ?_
      refine EQ_jgd ⟨(show h (h 454 130) (-2) = 101 from by rw [r_454_130 hS, k_844 hS]), ((show jI i2 (h (h 454 130) (-1)) ↔ jI i2 20 from by rw [r_454_130 hS, l_844 hS]).mpr g1)⟩ ?_
      refine EQ_jg ⟨fun ⟨_, x0⟩ => (show jI (w32 (w32 (2 * a3) + jand (jshr (h (h 454 130) i2) a4) 1)) (h (h 454 132) (-1)) ↔ jI (w32 (w32 (2 * a3) + jand (jshr (h 844 i2) a4) 1)) 10 from by rw [r_454_130 hS, r_454_132 hS, l_846 hS]).mp x0, fun x0 => ⟨(show h (h 454 132) (-2) = 101 from by rw [r_454_132 hS, k_846 hS]), (show jI (w32 (w32 (2 * a3) + jand (jshr (h (h 454 130) i2) a4) 1)) (h (h 454 132) (-1)) ↔ jI (w32 (w32 (2 * a3) + jand (jshr (h 844 i2) a4) 1)) 10 from by rw [r_454_130 hS, r_454_132 hS, l_846 hS]).mpr x0⟩⟩ (fun g4 => ?_)
      refine EQ_jl (by rw [r_454_132 hS, r_454_130 hS]) (fun x20 ex20 => ?_)
      clear ex20
      refine EQ_jl rfl (fun x21 ex21 => ?_)
      clear ex21
      exact EQ_some trivial
noncomputable def gX14_fits_l35 (i2 : Int) (a3 : Int) (a4 : Int) (h : AH) : Option (Int) := jit (gX14_fits_b35 i2 h) (a3, a4)
theorem eX14_fits_l35 (i2 : Int) (a3 : Int) (a4 : Int) {h : AH} (hS : Sh S h) : EQ (fX14_fits_l35 454 i2 a3 a4 h) (gX14_fits_l35 i2 a3 a4 h) (fun _ => True) := EQ_jit (I := (fun _ => True)) (fun s _ => eX14_fits_b35 i2 s hS) trivial
noncomputable def gX14_fits_b22 (s : Int × AH) : Option ((Int × AH) ⊕ ((AH) ⊕ (AH))) := jt2 s fun a2 h => if h 454 128 ≤ a2 then (some (.inr (.inr h))) else (jb (gX14_fits_l35 a2 0 0 h) fun o11 => gX14_fits_j77_22 a2 o11 h)
theorem eX14_fits_b22 {s : Int × AH} (hS : (fun r => Sh S r.2) s) : EQ (fX14_fits_b22 454 s) (gX14_fits_b22 s) (Sum.elim (fun r => Sh S r.2) (Sum.elim (fun r => Sh S r) (fun r => Sh S r))) := by
  unfold fX14_fits_b22 gX14_fits_b22
  obtain ⟨a2, h⟩ := s
  refine EQ_jt2 ?_
  replace hS : Sh S h := hS
  refine EQ_jgd (show h 454 (-2) = 15 from by rw [k_454 hS]) ?_
  refine EQ_if Iff.rfl (fun c1 => ?_) (fun c1 => ?_)
  · exact EQ_some hS
  · refine EQ_jb (eX14_fits_l35 a2 0 0 hS) (fun o11 r2 => ?_)
    exact (eX14_fits_j77_22 a2 o11 hS)
noncomputable def gX14_fits_l22 (a2 : Int) (h : AH) : Option ((AH) ⊕ (AH)) := jit gX14_fits_b22 (a2, h)
theorem eX14_fits_l22 (a2 : Int) {h : AH} (hS : Sh S h) : EQ (fX14_fits_l22 454 a2 h) (gX14_fits_l22 a2 h) (Sum.elim (fun r => Sh S r) (fun r => Sh S r)) := EQ_jit (I := (fun r => Sh S r.2)) (fun s hs => eX14_fits_b22 hs) hS
noncomputable def gX14_fits (a1 : Int) (h : AH) : Option (Int × AH) := jb (gX14_fits_l2 a1 0 h) fun o1 => jb (gX14_fits_l22 0 o1) fun o3 => jm o3 (fun o5 => some (0, o5)) (fun o6 => some (1, o6))
theorem eX14_fits (a1 : Int) {h : AH} (hS : Sh S h) : EQ (fX14_fits 454 a1 h) (gX14_fits a1 h) (fun r => Sh S r.2) := by
  unfold fX14_fits gX14_fits
  refine EQ_jb (eX14_fits_l2 a1 0 hS) (fun o1 r1 => ?_)
  refine EQ_jb (eX14_fits_l22 0 r1) (fun o3 r2 => ?_)
  refine EQ_jm r2 (fun o5 r3 => ?_) (fun o6 r4 => ?_)
  · exact EQ_some r3
  · exact EQ_some r4
noncomputable def gX14_tryMachine_j92 (F : Int → Int → Int → AH → Option (Int × AH)) (a2 : Int) (h : AH) : Option (Int × AH) := jg (jI a2 10) <| jl (jst h 846 a2 (-1)) fun h12 => some (0, h12)
theorem eX14_tryMachine_j92 {F0 : Int → Int → Int → Int → AH → Option (Int × AH)} {F : Int → Int → Int → AH → Option (Int × AH)} (hF : ∀ (b_a1 : Int) (b_a2 : Int) (b_a3 : Int), ∀ {b_h : AH}, Sh S b_h → EQ (F0 454 b_a1 b_a2 b_a3 b_h) (F b_a1 b_a2 b_a3 b_h) (fun r => Sh S r.2)) (a2 : Int) {h : AH} (hS : Sh S h) : EQ (fX14_tryMachine_j92 F0 454 a2 h) (gX14_tryMachine_j92 F a2 h) (fun r => Sh S r.2) := by
  unfold fX14_tryMachine_j92 gX14_tryMachine_j92
  refine EQ_jgd (show h 454 (-2) = 15 from by rw [k_454 hS]) ?_
  refine EQ_jg ⟨fun ⟨_, _, x0⟩ => (show jI a2 (h (h 454 132) (-1)) ↔ jI a2 10 from by rw [r_454_132 hS, l_846 hS]).mp x0, fun x0 => ⟨(show h (h 454 132) (-2) = 101 from by rw [r_454_132 hS, k_846 hS]), (show 200 ≤ h 454 132 from by rw [r_454_132 hS]; exact (by decide)), (show jI a2 (h (h 454 132) (-1)) ↔ jI a2 10 from by rw [r_454_132 hS, l_846 hS]).mpr x0⟩⟩ (fun g1 => ?_)
  refine EQ_jl (by rw [r_454_132 hS]) (fun h12 eh12 => ?_)
  have s2 := Sh_of eh12 (Sh_sta hS (by decide +kernel) (jI_nn g1) (fun e => absurd ((k_846 hS).symm.trans e) (by decide)))
  clear eh12
  exact EQ_some s2
noncomputable def gX14_tryMachine_j78_40 (F : Int → Int → Int → AH → Option (Int × AH)) (a1 : Int) (a2 : Int) (a3 : Int) (a4 : Int) (t1 : Int) (t2 : Int) (t3 : Int) (h : AH) : Option ((Int × AH) ⊕ ((AH) ⊕ (AH))) := jb2 (F t1 t2 t3 h) fun v18 h19 => if v18 = 0 then (jl (w32 (a4 + 1)) fun x21 => some (.inl (x21, h19))) else (some (.inr (.inl h19)))
theorem eX14_tryMachine_j78_40 {F0 : Int → Int → Int → Int → AH → Option (Int × AH)} {F : Int → Int → Int → AH → Option (Int × AH)} (hF : ∀ (b_a1 : Int) (b_a2 : Int) (b_a3 : Int), ∀ {b_h : AH}, Sh S b_h → EQ (F0 454 b_a1 b_a2 b_a3 b_h) (F b_a1 b_a2 b_a3 b_h) (fun r => Sh S r.2)) (a1 : Int) (a2 : Int) (a3 : Int) (a4 : Int) (t1 : Int) (t2 : Int) (t3 : Int) {h : AH} (hS : Sh S h) : EQ (fX14_tryMachine_j78_40 F0 454 a1 a2 a3 a4 454 t1 t2 t3 h) (gX14_tryMachine_j78_40 F a1 a2 a3 a4 t1 t2 t3 h) (Sum.elim (fun r => Sh S r.2) (Sum.elim (fun r => Sh S r) (fun r => Sh S r))) := by
  unfold fX14_tryMachine_j78_40 gX14_tryMachine_j78_40
  refine EQ_jgd (show h 454 (-2) = 15 from by rw [k_454 hS]) ?_
  refine EQ_jb2 (hF t1 t2 t3 hS) (fun v18 h19 r1 => ?_)
  replace r1 : Sh S h19 := r1
  refine EQ_if Iff.rfl (fun c2 => ?_) (fun c2 => ?_)
  · refine EQ_jl rfl (fun x21 ex21 => ?_)
    clear ex21
    exact EQ_some r1
  · exact EQ_some r1
noncomputable def gX14_tryMachine_b40 (F : Int → Int → Int → AH → Option (Int × AH)) (i1 : Int) (i2 : Int) (i3 : Int) (s : Int × AH) : Option ((Int × AH) ⊕ ((AH) ⊕ (AH))) := jt2 s fun a4 h => if i3 < a4 then (some (.inr (.inr h))) else (if i1 ≤ a4 then (some (.inr (.inr h))) else (jg (jI i2 10) <| jl (jst h 846 i2 a4) fun h15 => if a4 = i3 then (gX14_tryMachine_j78_40 F i1 i2 i3 a4 i1 (w32 (i2 + 1)) (w32 (i3 + 1)) h15) else (gX14_tryMachine_j78_40 F i1 i2 i3 a4 i1 (w32 (i2 + 1)) i3 h15)))
theorem eX14_tryMachine_b40 {F0 : Int → Int → Int → Int → AH → Option (Int × AH)} {F : Int → Int → Int → AH → Option (Int × AH)} (hF : ∀ (b_a1 : Int) (b_a2 : Int) (b_a3 : Int), ∀ {b_h : AH}, Sh S b_h → EQ (F0 454 b_a1 b_a2 b_a3 b_h) (F b_a1 b_a2 b_a3 b_h) (fun r => Sh S r.2)) (i1 : Int) (i2 : Int) (i3 : Int) {s : Int × AH} (hS : (fun r => Sh S r.2) s) : EQ (fX14_tryMachine_b40 F0 454 i1 i2 i3 s) (gX14_tryMachine_b40 F i1 i2 i3 s) (Sum.elim (fun r => Sh S r.2) (Sum.elim (fun r => Sh S r) (fun r => Sh S r))) := by
  unfold fX14_tryMachine_b40 gX14_tryMachine_b40
  obtain ⟨a4, h⟩ := s
  refine EQ_jt2 ?_
  replace hS : Sh S h := hS
  refine EQ_if Iff.rfl (fun c1 => ?_) (fun c1 => ?_)
  · exact EQ_some hS
  · refine EQ_if Iff.rfl (fun c2 => ?_) (fun c2 => ?_)
    · exact EQ_some hS
    · refine EQ_jgd (show h 454 (-2) = 15 from by rw [k_454 hS]) ?_
      refine EQ_jg ⟨fun ⟨_, _, x0⟩ => (show jI i2 (h (h 454 132) (-1)) ↔ jI i2 10 from by rw [r_454_132 hS, l_846 hS]).mp x0, fun x0 => ⟨(show h (h 454 132) (-2) = 101 from by rw [r_454_132 hS, k_846 hS]), (show 200 ≤ h 454 132 from by rw [r_454_132 hS]; exact (by decide)), (show jI i2 (h (h 454 132) (-1)) ↔ jI i2 10 from by rw [r_454_132 hS, l_846 hS]).mpr x0⟩⟩ (fun g3 => ?_)
      refine EQ_jl (by rw [r_454_132 hS]) (fun h15 eh15 => ?_)
      have s4 := Sh_of eh15 (Sh_sta hS (by decide +kernel) (jI_nn g3) (fun e => absurd ((k_846 hS).symm.trans e) (by decide)))
      clear eh15
      refine EQ_if Iff.rfl (fun c5 => ?_) (fun c5 => ?_)
      · exact (eX14_tryMachine_j78_40 hF i1 i2 i3 a4 i1 (w32 (i2 + 1)) (w32 (i3 + 1)) s4)
      · exact (eX14_tryMachine_j78_40 hF i1 i2 i3 a4 i1 (w32 (i2 + 1)) i3 s4)
noncomputable def gX14_tryMachine_l40 (F : Int → Int → Int → AH → Option (Int × AH)) (i1 : Int) (i2 : Int) (i3 : Int) (a4 : Int) (h : AH) : Option ((AH) ⊕ (AH)) := jit (gX14_tryMachine_b40 F i1 i2 i3) (a4, h)
theorem eX14_tryMachine_l40 {F0 : Int → Int → Int → Int → AH → Option (Int × AH)} {F : Int → Int → Int → AH → Option (Int × AH)} (hF : ∀ (b_a1 : Int) (b_a2 : Int) (b_a3 : Int), ∀ {b_h : AH}, Sh S b_h → EQ (F0 454 b_a1 b_a2 b_a3 b_h) (F b_a1 b_a2 b_a3 b_h) (fun r => Sh S r.2)) (i1 : Int) (i2 : Int) (i3 : Int) (a4 : Int) {h : AH} (hS : Sh S h) : EQ (fX14_tryMachine_l40 F0 454 i1 i2 i3 a4 h) (gX14_tryMachine_l40 F i1 i2 i3 a4 h) (Sum.elim (fun r => Sh S r) (fun r => Sh S r)) := EQ_jit (I := (fun r => Sh S r.2)) (fun s hs => eX14_tryMachine_b40 hF i1 i2 i3 hs) hS
noncomputable def gX14_tryMachine_ (F : Int → Int → Int → AH → Option (Int × AH)) (a1 : Int) (a2 : Int) (a3 : Int) (h : AH) : Option (Int × AH) := jb2 (gX14_fits a1 h) fun v2 h3 => if v2 = 0 then (some (0, h3)) else (if a2 = w32 (2 * a1) then (if a3 = a1 then (some (1, h3)) else (some (0, h3))) else (if jdiv a2 2 < a3 then (jb (gX14_tryMachine_l40 F a1 a2 a3 0 h3) fun o8 => jm o8 (fun o10 => some (1, o10)) (fun o11 => gX14_tryMachine_j92 F a2 o11)) else (some (0, h3))))
theorem eX14_tryMachine_ {F0 : Int → Int → Int → Int → AH → Option (Int × AH)} {F : Int → Int → Int → AH → Option (Int × AH)} (hF : ∀ (b_a1 : Int) (b_a2 : Int) (b_a3 : Int), ∀ {b_h : AH}, Sh S b_h → EQ (F0 454 b_a1 b_a2 b_a3 b_h) (F b_a1 b_a2 b_a3 b_h) (fun r => Sh S r.2)) (a1 : Int) (a2 : Int) (a3 : Int) {h : AH} (hS : Sh S h) : EQ (fX14_tryMachine_ F0 454 a1 a2 a3 h) (gX14_tryMachine_ F a1 a2 a3 h) (fun r => Sh S r.2) := by
  unfold fX14_tryMachine_ gX14_tryMachine_
  refine EQ_jgd (show h 454 (-2) = 15 from by rw [k_454 hS]) ?_
  refine EQ_jb2 (eX14_fits a1 hS) (fun v2 h3 r1 => ?_)
  replace r1 : Sh S h3 := r1
  refine EQ_if Iff.rfl (fun c2 => ?_) (fun c2 => ?_)
  · exact EQ_some r1
  · refine EQ_if Iff.rfl (fun c3 => ?_) (fun c3 => ?_)
    · refine EQ_if Iff.rfl (fun c4 => ?_) (fun c4 => ?_)
      · exact EQ_some r1
      · exact EQ_some r1
    · refine EQ_if Iff.rfl (fun c5 => ?_) (fun c5 => ?_)
      · refine EQ_jb (eX14_tryMachine_l40 hF a1 a2 a3 0 r1) (fun o8 r6 => ?_)
        refine EQ_jm r6 (fun o10 r7 => ?_) (fun o11 r8 => ?_)
        · exact EQ_some r7
        · exact (eX14_tryMachine_j92 hF a2 r8)
      · exact EQ_some r1
noncomputable def gX14_tryMachineD : Nat → Int → Int → Int → AH → Option (Int × AH)
  | 0 => fun _ _ _ _ => none
  | d + 1 => gX14_tryMachine_ (gX14_tryMachineD d)
theorem eX14_tryMachineD : ∀ (d : Nat) (a1 : Int) (a2 : Int) (a3 : Int) {h : AH} (hS : Sh S h) , EQ (fX14_tryMachineD d 454 a1 a2 a3 h) (gX14_tryMachineD d a1 a2 a3 h) (fun r => Sh S r.2) := by
  intro d
  induction d with
  | zero => intro a1 a2 a3 h hS; exact EQ_none
  | succ d ih => intro a1 a2 a3 h hS; exact eX14_tryMachine_ ih a1 a2 a3 hS
noncomputable def gX14_tryMachine : Int → Int → Int → AH → Option (Int × AH) := gX14_tryMachineD 40
theorem eX14_tryMachine (a1 : Int) (a2 : Int) (a3 : Int) {h : AH} (hS : Sh S h) : EQ (fX14_tryMachine 454 a1 a2 a3 h) (gX14_tryMachine a1 a2 a3 h) (fun r => Sh S r.2) := eX14_tryMachineD 40 a1 a2 a3 hS
noncomputable def gX14_machine_b20 (i1 : Int) (s : Int × AH) : Option ((Int × AH) ⊕ (AH)) := jt2 s fun a2 h => if 10 ≤ a2 then (some (.inr h)) else (jg (jI a2 10) <| jl (jst h 846 a2 (-1)) fun h28 => jl (w32 (a2 + 1)) fun x29 => some (.inl (x29, h28)))
theorem eX14_machine_b20 (i1 : Int) {s : Int × AH} (hS : (fun r => Sh S r.2) s) : EQ (fX14_machine_b20 454 i1 s) (gX14_machine_b20 i1 s) (Sum.elim (fun r => Sh S r.2) (fun r => Sh S r)) := by
  unfold fX14_machine_b20 gX14_machine_b20
  obtain ⟨a2, h⟩ := s
  refine EQ_jt2 ?_
  replace hS : Sh S h := hS
  refine EQ_if Iff.rfl (fun c1 => ?_) (fun c1 => ?_)
  · exact EQ_some hS
  · refine EQ_jgd (show h 454 (-2) = 15 from by rw [k_454 hS]) ?_
    refine EQ_jg ⟨fun ⟨_, _, x0⟩ => (show jI a2 (h (h 454 132) (-1)) ↔ jI a2 10 from by rw [r_454_132 hS, l_846 hS]).mp x0, fun x0 => ⟨(show h (h 454 132) (-2) = 101 from by rw [r_454_132 hS, k_846 hS]), (show 200 ≤ h 454 132 from by rw [r_454_132 hS]; exact (by decide)), (show jI a2 (h (h 454 132) (-1)) ↔ jI a2 10 from by rw [r_454_132 hS, l_846 hS]).mpr x0⟩⟩ (fun g2 => ?_)
    refine EQ_jl (by rw [r_454_132 hS]) (fun h28 eh28 => ?_)
    have s3 := Sh_of eh28 (Sh_sta hS (by decide +kernel) (jI_nn g2) (fun e => absurd ((k_846 hS).symm.trans e) (by decide)))
    clear eh28
    refine EQ_jl rfl (fun x29 ex29 => ?_)
    clear ex29
    exact EQ_some s3
noncomputable def gX14_machine_l20 (i1 : Int) (a2 : Int) (h : AH) : Option (AH) := jit (gX14_machine_b20 i1) (a2, h)
theorem eX14_machine_l20 (i1 : Int) (a2 : Int) {h : AH} (hS : Sh S h) : EQ (fX14_machine_l20 454 i1 a2 h) (gX14_machine_l20 i1 a2 h) (fun r => Sh S r) := EQ_jit (I := (fun r => Sh S r.2)) (fun s hs => eX14_machine_b20 i1 hs) hS
noncomputable def gX14_machine_b12 (s : Int × AH) : Option ((Int × AH) ⊕ ((Int × AH) ⊕ (AH))) := jt2 s fun a1 h => if 6 ≤ a1 then (some (.inr (.inr h))) else (jb (gX14_machine_l20 a1 0 h) fun o20 => jb2 (gX14_tryMachine a1 0 1 o20) fun v23 h24 => if v23 = 0 then (jl (w32 (a1 + 1)) fun x26 => some (.inl (x26, h24))) else (some (.inr (.inl (a1, h24)))))
theorem eX14_machine_b12 {s : Int × AH} (hS : (fun r => Sh S r.2) s) : EQ (fX14_machine_b12 454 s) (gX14_machine_b12 s) (Sum.elim (fun r => Sh S r.2) (Sum.elim (fun r => Sh S r.2) (fun r => Sh S r))) := by
  unfold fX14_machine_b12 gX14_machine_b12
  obtain ⟨a1, h⟩ := s
  refine EQ_jt2 ?_
  replace hS : Sh S h := hS
  refine EQ_if Iff.rfl (fun c1 => ?_) (fun c1 => ?_)
  · exact EQ_some hS
  · refine EQ_jb (eX14_machine_l20 a1 0 hS) (fun o20 r2 => ?_)
    refine EQ_jgd (show o20 454 (-2) = 15 from by rw [k_454 r2]) ?_
    refine EQ_jb2 (eX14_tryMachine a1 0 1 r2) (fun v23 h24 r3 => ?_)
    replace r3 : Sh S h24 := r3
    refine EQ_if Iff.rfl (fun c4 => ?_) (fun c4 => ?_)
    · refine EQ_jl rfl (fun x26 ex26 => ?_)
      clear ex26
      exact EQ_some r3
    · exact EQ_some r3
noncomputable def gX14_machine_l12 (a1 : Int) (h : AH) : Option ((Int × AH) ⊕ (AH)) := jit gX14_machine_b12 (a1, h)
theorem eX14_machine_l12 (a1 : Int) {h : AH} (hS : Sh S h) : EQ (fX14_machine_l12 454 a1 h) (gX14_machine_l12 a1 h) (Sum.elim (fun r => Sh S r.2) (fun r => Sh S r)) := EQ_jit (I := (fun r => Sh S r.2)) (fun s hs => eX14_machine_b12 hs) hS
noncomputable def gX14_machine_b60 (i1 : Int) (s : Int × AH) : Option ((Int × AH) ⊕ (AH)) := jt2 s fun a3 h => if w32 (2 * i1) ≤ a3 then (some (.inr h)) else (jg (jI a3 10) <| jl (jst h 848 a3 (h 846 a3)) fun h31 => jl (w32 (a3 + 1)) fun x32 => some (.inl (x32, h31)))
theorem eX14_machine_b60 (i1 : Int) {s : Int × AH} (hS : (fun r => Sh S r.2) s) : EQ (fX14_machine_b60 454 i1 s) (gX14_machine_b60 i1 s) (Sum.elim (fun r => Sh S r.2) (fun r => Sh S r)) := by
  unfold fX14_machine_b60 gX14_machine_b60
  obtain ⟨a3, h⟩ := s
  refine EQ_jt2 ?_
  replace hS : Sh S h := hS
  refine EQ_if Iff.rfl (fun c1 => ?_) (fun c1 => ?_)
  · exact EQ_some hS
  · refine EQ_jgd (show h 454 (-2) = 15 from by rw [k_454 hS]) ?_
    refine EQ_jgd (show h 454 (-2) = 15 from by rw [k_454 hS]) ?_
    refine EQ_jg ⟨fun ⟨_, x0⟩ => (show jI a3 (h (h 454 132) (-1)) ↔ jI a3 10 from by rw [r_454_132 hS, l_846 hS]).mp x0, fun x0 => ⟨(show h (h 454 132) (-2) = 101 from by rw [r_454_132 hS, k_846 hS]), (show jI a3 (h (h 454 132) (-1)) ↔ jI a3 10 from by rw [r_454_132 hS, l_846 hS]).mpr x0⟩⟩ (fun g2 => ?_)
    refine EQ_jgd ⟨(show h (h 454 135) (-2) = 101 from by rw [r_454_135 hS, k_848 hS]), (show 200 ≤ h 454 135 from by rw [r_454_135 hS]; exact (by decide)), ((show jI a3 (h (h 454 135) (-1)) ↔ jI a3 10 from by rw [r_454_135 hS, l_848 hS]).mpr g2)⟩ ?_
    refine EQ_jl (by rw [r_454_135 hS, r_454_132 hS]) (fun h31 eh31 => ?_)
    have s3 := Sh_of eh31 (Sh_sta hS (by decide +kernel) (jI_nn g2) (fun e => absurd ((k_848 hS).symm.trans e) (by decide)))
    clear eh31
    refine EQ_jl rfl (fun x32 ex32 => ?_)
    clear ex32
    exact EQ_some s3
noncomputable def gX14_machine_l60 (i1 : Int) (a3 : Int) (h : AH) : Option (AH) := jit (gX14_machine_b60 i1) (a3, h)
theorem eX14_machine_l60 (i1 : Int) (a3 : Int) {h : AH} (hS : Sh S h) : EQ (fX14_machine_l60 454 i1 a3 h) (gX14_machine_l60 i1 a3 h) (fun r => Sh S r) := EQ_jit (I := (fun r => Sh S r.2)) (fun s hs => eX14_machine_b60 i1 hs) hS
noncomputable def gX14_machine_j112_87 (a1 : Int) (a3 : Int) (t1 : Int) (t2 : Int) (h : AH) : Option ((Int × AH) ⊕ (AH)) := jg (jI t1 5) <| jl (jst h 849 t1 (ji2z t2)) fun h35 => jl (w32 (a3 + 1)) fun x36 => some (.inl (x36, h35))
theorem eX14_machine_j112_87 (a1 : Int) (a3 : Int) (t1 : Int) (t2 : Int) {h : AH} (hS : Sh S h) : EQ (fX14_machine_j112_87 454 a1 a3 849 t1 t2 h) (gX14_machine_j112_87 a1 a3 t1 t2 h) (Sum.elim (fun r => Sh S r.2) (fun r => Sh S r)) := by
  unfold fX14_machine_j112_87 gX14_machine_j112_87
  refine EQ_jg ⟨fun ⟨_, _, x0⟩ => (show jI t1 (h 849 (-1)) ↔ jI t1 5 from by rw [l_849 hS]).mp x0, fun x0 => ⟨(show h 849 (-2) = 104 from by rw [k_849 hS]), (show (200 : Int) ≤ 849 from (by decide)), (show jI t1 (h 849 (-1)) ↔ jI t1 5 from by rw [l_849 hS]).mpr x0⟩⟩ (fun g1 => ?_)
  refine EQ_jl rfl (fun h35 eh35 => ?_)
  have s2 := Sh_of eh35 (Sh_sta hS (by decide +kernel) (jI_nn g1) (fun e => absurd ((k_849 hS).symm.trans e) (by decide)))
  clear eh35
  refine EQ_jl rfl (fun x36 ex36 => ?_)
  clear ex36
  exact EQ_some s2
noncomputable def gX14_machine_b87 (i1 : Int) (s : Int × AH) : Option ((Int × AH) ⊕ (AH)) := jt2 s fun a3 h => if i1 ≤ a3 then (some (.inr h)) else (jg (jI a3 5) <| if h 847 a3 = 1 then (gX14_machine_j112_87 i1 a3 a3 1 h) else (gX14_machine_j112_87 i1 a3 a3 0 h))
theorem eX14_machine_b87 (i1 : Int) {s : Int × AH} (hS : (fun r => Sh S r.2) s) : EQ (fX14_machine_b87 454 i1 s) (gX14_machine_b87 i1 s) (Sum.elim (fun r => Sh S r.2) (fun r => Sh S r)) := by
  unfold fX14_machine_b87 gX14_machine_b87
  obtain ⟨a3, h⟩ := s
  refine EQ_jt2 ?_
  replace hS : Sh S h := hS
  refine EQ_if Iff.rfl (fun c1 => ?_) (fun c1 => ?_)
  · exact EQ_some hS
  · refine EQ_jgd (show h 454 (-2) = 15 from by rw [k_454 hS]) ?_
    refine EQ_jgd (show h 454 (-2) = 15 from by rw [k_454 hS]) ?_
    refine EQ_jg ⟨fun ⟨_, x0⟩ => (show jI a3 (h (h 454 133) (-1)) ↔ jI a3 5 from by rw [r_454_133 hS, l_847 hS]).mp x0, fun x0 => ⟨(show h (h 454 133) (-2) = 101 from by rw [r_454_133 hS, k_847 hS]), (show jI a3 (h (h 454 133) (-1)) ↔ jI a3 5 from by rw [r_454_133 hS, l_847 hS]).mpr x0⟩⟩ (fun g2 => ?_)
    refine EQ_if (show h (h 454 133) a3 = 1 ↔ h 847 a3 = 1 from by rw [r_454_133 hS]) (fun c3 => ?_) (fun c3 => ?_)
    · exact (by rw [r_454_136 hS]; exact eX14_machine_j112_87 i1 a3 a3 1 hS)
    · exact (by rw [r_454_136 hS]; exact eX14_machine_j112_87 i1 a3 a3 0 hS)
noncomputable def gX14_machine_l87 (i1 : Int) (a3 : Int) (h : AH) : Option (AH) := jit (gX14_machine_b87 i1) (a3, h)
theorem eX14_machine_l87 (i1 : Int) (a3 : Int) {h : AH} (hS : Sh S h) : EQ (fX14_machine_l87 454 i1 a3 h) (gX14_machine_l87 i1 a3 h) (fun r => Sh S r) := EQ_jit (I := (fun r => Sh S r.2)) (fun s hs => eX14_machine_b87 i1 hs) hS
noncomputable def gX14_machine (h : AH) : Option (Int × AH) := jb2 (gX14_isDown h) fun v2 h3 => if v2 = 0 then (jb (gX14_machine_l12 1 h3) fun o5 => jm o5 (fun o7 => jt2 o7 fun y9 h10 => jb2 (gX14_fits y9 h10) fun v12 h13 => jb (gX14_machine_l60 y9 0 h13) fun o14 => jb (gX14_machine_l87 y9 0 o14) fun o16 => jl (jst o16 454 134 y9) fun h18 => some (y9, h18)) (fun o8 => some (0, o8))) else (some ((-5), h3))
theorem eX14_machine {h : AH} (hS : Sh S h) : EQ (fX14_machine 454 h) (gX14_machine h) (fun r => Sh S r.2) := by
  unfold fX14_machine gX14_machine
  refine EQ_jgd (show h 454 (-2) = 15 from by rw [k_454 hS]) ?_
  refine EQ_jb2 (eX14_isDown hS) (fun v2 h3 r1 => ?_)
  replace r1 : Sh S h3 := r1
  refine EQ_if Iff.rfl (fun c2 => ?_) (fun c2 => ?_)
  · refine EQ_jb (eX14_machine_l12 1 r1) (fun o5 r3 => ?_)
    refine EQ_jm r3 (fun o7 r4 => ?_) (fun o8 r5 => ?_)
    · obtain ⟨y9, h10⟩ := o7
      refine EQ_jt2 ?_
      replace r4 : Sh S h10 := r4
      refine EQ_jgd (show h10 454 (-2) = 15 from by rw [k_454 r4]) ?_
      refine EQ_jb2 (eX14_fits y9 r4) (fun v12 h13 r6 => ?_)
      replace r6 : Sh S h13 := r6
      refine EQ_jb (eX14_machine_l60 y9 0 r6) (fun o14 r7 => ?_)
      refine EQ_jb (eX14_machine_l87 y9 0 r7) (fun o16 r8 => ?_)
      refine EQ_jgd ⟨(show o16 454 (-2) = 15 from by rw [k_454 r8]), (show (200 : Int) ≤ 454 from (by decide))⟩ ?_
      refine EQ_jl rfl (fun h18 eh18 => ?_)
      have s9 := Sh_of eh18 (Sh_sto r8 (a := 454) (i := 134) (by decide +kernel))
      clear eh18
      exact EQ_some s9
    · exact EQ_some r5
  · exact EQ_some r1
noncomputable def gX14_state (a1 : Int) (a2 : Int) (h : AH) : Option (Int × AH) := jl (jst h 454 51 0) fun h1 => jb (gX14_in a1 0 (w32 (h1 454 134 - 1))) fun v3 => if v3 = 0 then (some ((-1), h1)) else (jb (gX14_in a2 0 2) fun v6 => if v6 = 0 then (some ((-1), h1)) else (if a2 = 2 then (jg (jI a1 5) <| if h1 849 a1 = 0 then (some (0, h1)) else (some (1, h1))) else (jg (jI (w32 (w32 (2 * a1) + a2)) 10) <| some (h1 848 (w32 (w32 (2 * a1) + a2)), h1))))
theorem eX14_state (a1 : Int) (a2 : Int) {h : AH} (hS : Sh S h) : EQ (fX14_state 454 a1 a2 h) (gX14_state a1 a2 h) (fun r => Sh S r.2) := by
  unfold fX14_state gX14_state
  refine EQ_jgd ⟨(show h 454 (-2) = 15 from by rw [k_454 hS]), (show (200 : Int) ≤ 454 from (by decide))⟩ ?_
  refine EQ_jl rfl (fun h1 eh1 => ?_)
  have s1 := Sh_of eh1 (Sh_sto hS (a := 454) (i := 51) (by decide +kernel))
  clear eh1
  refine EQ_jgd (show h1 454 (-2) = 15 from by rw [k_454 s1]) ?_
  refine EQ_jb (eX14_in a1 0 (w32 (h1 454 134 - 1))) (fun v3 r2 => ?_)
  refine EQ_if Iff.rfl (fun c3 => ?_) (fun c3 => ?_)
  · exact EQ_some s1
  · refine EQ_jb (eX14_in a2 0 2) (fun v6 r4 => ?_)
    refine EQ_if Iff.rfl (fun c5 => ?_) (fun c5 => ?_)
    · exact EQ_some s1
    · refine EQ_if Iff.rfl (fun c6 => ?_) (fun c6 => ?_)
      · refine EQ_jgd (show h1 454 (-2) = 15 from by rw [k_454 s1]) ?_
        refine EQ_jg ⟨fun ⟨_, x0⟩ => (show jI a1 (h1 (h1 454 136) (-1)) ↔ jI a1 5 from by rw [r_454_136 s1, l_849 s1]).mp x0, fun x0 => ⟨(show h1 (h1 454 136) (-2) = 104 from by rw [r_454_136 s1, k_849 s1]), (show jI a1 (h1 (h1 454 136) (-1)) ↔ jI a1 5 from by rw [r_454_136 s1, l_849 s1]).mpr x0⟩⟩ (fun g7 => ?_)
        refine EQ_if (show h1 (h1 454 136) a1 = 0 ↔ h1 849 a1 = 0 from by rw [r_454_136 s1]) (fun c8 => ?_) (fun c8 => ?_)
        · exact EQ_some s1
        · exact EQ_some s1
      · refine EQ_jgd (show h1 454 (-2) = 15 from by rw [k_454 s1]) ?_
        refine EQ_jg ⟨fun ⟨_, x0⟩ => (show jI (w32 (w32 (2 * a1) + a2)) (h1 (h1 454 135) (-1)) ↔ jI (w32 (w32 (2 * a1) + a2)) 10 from by rw [r_454_135 s1, l_848 s1]).mp x0, fun x0 => ⟨(show h1 (h1 454 135) (-2) = 101 from by rw [r_454_135 s1, k_848 s1]), (show jI (w32 (w32 (2 * a1) + a2)) (h1 (h1 454 135) (-1)) ↔ jI (w32 (w32 (2 * a1) + a2)) 10 from by rw [r_454_135 s1, l_848 s1]).mpr x0⟩⟩ (fun g9 => ?_)
        exact EQ_some' (by rw [r_454_135 s1]) s1
noncomputable def gX14_sumOf (a0 : Int) (a2 : Int) (a4 : Int) : Option (Int) := some (w32 (jushrL (jxorL (w64 (a0 * (-7046029254386353131))) (w64 (w64 (a2 + 2135587861) * (-4417276706812531889)))) (w32 (64 - a4))))
theorem eX14_sumOf (a0 : Int) (a2 : Int) (a4 : Int) : EQ (fX14_sumOf a0 a2 a4) (gX14_sumOf a0 a2 a4) (fun _ => True) := by
  unfold fX14_sumOf gX14_sumOf
  exact EQ_some trivial
noncomputable def gX14_addState_j55_9 (a1 : Int) (a3 : Int) (a5 : Int) (a6 : Int) (a7 : Int) (h : AH) : Option ((Int) ⊕ ((Unit) ⊕ (Int))) := jl (jand (w32 (a7 + 1)) 262143) fun x17 => some (.inl x17)
theorem eX14_addState_j55_9 (a1 : Int) (a3 : Int) (a5 : Int) (a6 : Int) (a7 : Int) {h : AH} (hS : Sh S h) : EQ (fX14_addState_j55_9 454 a1 a3 a5 a6 a7 h) (gX14_addState_j55_9 a1 a3 a5 a6 a7 h) (Sum.elim (fun _ => True) (Sum.elim (fun _ => True) (fun _ => True))) := by
  unfold fX14_addState_j55_9 gX14_addState_j55_9
  refine EQ_jl rfl (fun x17 ex17 => ?_)
  clear ex17
  exact EQ_some trivial
noncomputable def gX14_addState_b9 (i1 : Int) (i3 : Int) (i5 : Int) (i6 : Int) (h : AH) (a7 : Int) : Option ((Int) ⊕ ((Unit) ⊕ (Int))) := jg (h (h 454 148) (-2) = 101 ∧ jI a7 (h (h 454 148) (-1))) <| if h (h 454 148) a7 ≤ 0 then (some (.inr (.inr a7))) else (jl (w32 (h (h 454 148) a7 - 1)) fun x14 => jg (h (h 454 141) (-2) = 102 ∧ jI x14 (h (h 454 141) (-1))) <| if jcmp (h (h 454 141) x14) i1 = 0 then (jg (h (h 454 142) (-2) = 102 ∧ jI x14 (h (h 454 142) (-1))) <| if jcmp (h (h 454 142) x14) i3 = 0 then (some (.inr (.inl ()))) else (gX14_addState_j55_9 i1 i3 i5 i6 a7 h)) else (gX14_addState_j55_9 i1 i3 i5 i6 a7 h))
theorem eX14_addState_b9 (i1 : Int) (i3 : Int) (i5 : Int) (i6 : Int) (a7 : Int) {h : AH} (hS : Sh S h) : EQ (fX14_addState_b9 454 i1 i3 i5 i6 h a7) (gX14_addState_b9 i1 i3 i5 i6 h a7) (Sum.elim (fun _ => True) (Sum.elim (fun _ => True) (fun _ => True))) := by
  unfold fX14_addState_b9 gX14_addState_b9
  refine EQ_jgd (show h 454 (-2) = 15 from by rw [k_454 hS]) ?_
  refine EQ_jg Iff.rfl (fun g1 => ?_)
  refine EQ_if Iff.rfl (fun c2 => ?_) (fun c2 => ?_)
  · exact EQ_some trivial
  · refine EQ_jgd (show h 454 (-2) = 15 from by rw [k_454 hS]) ?_
    refine EQ_jgd ⟨(g1.1), (g1.2)⟩ ?_
    refine EQ_jl rfl (fun x14 ex14 => ?_)
    clear ex14
    refine EQ_jgd (show h 454 (-2) = 15 from by rw [k_454 hS]) ?_
    refine EQ_jg Iff.rfl (fun g3 => ?_)
    refine EQ_if Iff.rfl (fun c4 => ?_) (fun c4 => ?_)
    · refine EQ_jgd (show h 454 (-2) = 15 from by rw [k_454 hS]) ?_
      refine EQ_jg Iff.rfl (fun g5 => ?_)
      refine EQ_if Iff.rfl (fun c6 => ?_) (fun c6 => ?_)
      · exact EQ_some trivial
      · exact (eX14_addState_j55_9 i1 i3 i5 i6 a7 hS)
    · exact (eX14_addState_j55_9 i1 i3 i5 i6 a7 hS)
noncomputable def gX14_addState_l9 (i1 : Int) (i3 : Int) (i5 : Int) (i6 : Int) (a7 : Int) (h : AH) : Option ((Unit) ⊕ (Int)) := jit (gX14_addState_b9 i1 i3 i5 i6 h) a7
theorem eX14_addState_l9 (i1 : Int) (i3 : Int) (i5 : Int) (i6 : Int) (a7 : Int) {h : AH} (hS : Sh S h) : EQ (fX14_addState_l9 454 i1 i3 i5 i6 a7 h) (gX14_addState_l9 i1 i3 i5 i6 a7 h) (Sum.elim (fun _ => True) (fun _ => True)) := EQ_jit (I := (fun _ => True)) (fun s _ => eX14_addState_b9 i1 i3 i5 i6 s hS) trivial
noncomputable def gX14_addState (a1 : Int) (a3 : Int) (a5 : Int) (a6 : Int) (h : AH) : Option (AH) := jb (gX14_sumOf a1 a3 18) fun v2 => jb (gX14_addState_l9 a1 a3 a5 a6 v2 h) fun o3 => jm o3 (fun o5 => some h) (fun o6 => jg (h (h 454 141) (-2) = 102 ∧ 200 ≤ h 454 141 ∧ jI (h 454 145) (h (h 454 141) (-1))) <| jl (jst h (h 454 141) (h 454 145) a1) fun h7 => jg (h7 (h7 454 142) (-2) = 102 ∧ 200 ≤ h7 454 142 ∧ jI (h7 454 145) (h7 (h7 454 142) (-1))) <| jl (jst h7 (h7 454 142) (h7 454 145) a3) fun h8 => jg (h8 (h8 454 143) (-2) = 101 ∧ 200 ≤ h8 454 143 ∧ jI (h8 454 145) (h8 (h8 454 143) (-1))) <| jl (jst h8 (h8 454 143) (h8 454 145) a5) fun h9 => jg (h9 (h9 454 144) (-2) = 103 ∧ 200 ≤ h9 454 144 ∧ jI (h9 454 145) (h9 (h9 454 144) (-1))) <| jl (jst h9 (h9 454 144) (h9 454 145) (ji2b (ji2b a6))) fun h10 => jl (jst h10 454 145 (w32 (h10 454 145 + 1))) fun h11 => jg (h11 (h11 454 148) (-2) = 101 ∧ 200 ≤ h11 454 148 ∧ jI o6 (h11 (h11 454 148) (-1))) <| jl (jst h11 (h11 454 148) o6 (h11 454 145)) fun h12 => some h12)
theorem eX14_addState (a1 : Int) (a3 : Int) (a5 : Int) (a6 : Int) {h : AH} (hS : Sh S h) : EQ (fX14_addState 454 a1 a3 a5 a6 h) (gX14_addState a1 a3 a5 a6 h) (fun r => Sh S r) := by
  unfold fX14_addState gX14_addState
  refine EQ_jb (eX14_sumOf a1 a3 18) (fun v2 r1 => ?_)
  refine EQ_jb (eX14_addState_l9 a1 a3 a5 a6 v2 hS) (fun o3 r2 => ?_)
  refine EQ_jm r2 (fun o5 r3 => ?_) (fun o6 r4 => ?_)
  · exact EQ_some hS
  · refine EQ_jgd (show h 454 (-2) = 15 from by rw [k_454 hS]) ?_
    refine EQ_jgd (show h 454 (-2) = 15 from by rw [k_454 hS]) ?_
    refine EQ_jg Iff.rfl (fun g5 => ?_)
    refine EQ_jl rfl (fun h7 eh7 => ?_)
    have s6 := Sh_of eh7 (Sh_stk hS (Or.inr (Or.inl (g5.1))) (g5.2.1) (jI_nn (g5.2.2)) (fun e => absurd (((g5.1)).symm.trans e) (by decide)))
    clear eh7
    refine EQ_jgd (show h7 454 (-2) = 15 from by rw [k_454 s6]) ?_
    refine EQ_jgd (show h7 454 (-2) = 15 from by rw [k_454 s6]) ?_
    refine EQ_jg Iff.rfl (fun g7 => ?_)
    refine EQ_jl rfl (fun h8 eh8 => ?_)
    have s8 := Sh_of eh8 (Sh_stk s6 (Or.inr (Or.inl (g7.1))) (g7.2.1) (jI_nn (g7.2.2)) (fun e => absurd (((g7.1)).symm.trans e) (by decide)))
    clear eh8
    refine EQ_jgd (show h8 454 (-2) = 15 from by rw [k_454 s8]) ?_
    refine EQ_jgd (show h8 454 (-2) = 15 from by rw [k_454 s8]) ?_
    refine EQ_jg Iff.rfl (fun g9 => ?_)
    refine EQ_jl rfl (fun h9 eh9 => ?_)
    have s10 := Sh_of eh9 (Sh_stk s8 (Or.inl (g9.1)) (g9.2.1) (jI_nn (g9.2.2)) (fun e => absurd (((g9.1)).symm.trans e) (by decide)))
    clear eh9
    refine EQ_jgd (show h9 454 (-2) = 15 from by rw [k_454 s10]) ?_
    refine EQ_jgd (show h9 454 (-2) = 15 from by rw [k_454 s10]) ?_
    refine EQ_jg Iff.rfl (fun g11 => ?_)
    refine EQ_jl rfl (fun h10 eh10 => ?_)
    have s12 := Sh_of eh10 (Sh_stk s10 (Or.inr (Or.inr (Or.inl (g11.1)))) (g11.2.1) (jI_nn (g11.2.2)) (fun _ => jBy_b _))
    clear eh10
    refine EQ_jgd (show h10 454 (-2) = 15 from by rw [k_454 s12]) ?_
    refine EQ_jgd ⟨(show h10 454 (-2) = 15 from by rw [k_454 s12]), (show (200 : Int) ≤ 454 from (by decide))⟩ ?_
    refine EQ_jl rfl (fun h11 eh11 => ?_)
    have s13 := Sh_of eh11 (Sh_sto s12 (a := 454) (i := 145) (by decide +kernel))
    clear eh11
    refine EQ_jgd (show h11 454 (-2) = 15 from by rw [k_454 s13]) ?_
    refine EQ_jgd (show h11 454 (-2) = 15 from by rw [k_454 s13]) ?_
    refine EQ_jg Iff.rfl (fun g14 => ?_)
    refine EQ_jl rfl (fun h12 eh12 => ?_)
    have s15 := Sh_of eh12 (Sh_stk s13 (Or.inl (g14.1)) (g14.2.1) (jI_nn (g14.2.2)) (fun e => absurd (((g14.1)).symm.trans e) (by decide)))
    clear eh12
    exact EQ_some s15
noncomputable def gX14_nibble (a0 : Int) (a2 : Int) : Option (Int) := some (jand (w32 (jshrL a0 (w32 (4 * a2)))) 15)
theorem eX14_nibble (a0 : Int) (a2 : Int) : EQ (fX14_nibble a0 a2) (gX14_nibble a0 a2) (fun _ => True) := by
  unfold fX14_nibble gX14_nibble
  exact EQ_some trivial
noncomputable def gX14_stepA (a0 : Int) (a1 : Int) (a2 : Int) : Option (Int) := if a0 < 0 ∨ 17 < a0 then (some a1) else (if a0 = 0 then (some (jand (w32 (a1 + a2)) 15)) else (if a0 = 1 then (some a1) else (if a0 = 2 then (some (jand (w32 (a1 - a2)) 15)) else (if a0 = 3 then (some a1) else (if a0 = 4 then (some (jxor a1 a2)) else (if a0 = 5 then (some a1) else (if a0 = 6 then (some (jand a1 a2)) else (if a0 = 7 then (some a1) else (if a0 = 8 then (some (w32 (15 - a1))) else (if a0 = 9 then (some a1) else (if a0 = 10 then (some a2) else (if a0 = 11 then (some (jand (w32 (a1 + 1)) 15)) else (if a0 = 12 then (some a1) else (if a0 = 13 then (some (jand (w32 (2 * a1)) 15)) else (if a0 = 14 then (some (jdiv a1 2)) else (if a0 = 15 then (some a2) else (if a0 = 16 then (some (jand (w32 (-a1)) 15)) else (some (jand (w32 (a1 * a2)) 15)))))))))))))))))))
theorem eX14_stepA (a0 : Int) (a1 : Int) (a2 : Int) : EQ (fX14_stepA a0 a1 a2) (gX14_stepA a0 a1 a2) (fun _ => True) := by
  unfold fX14_stepA gX14_stepA
  refine EQ_if Iff.rfl (fun c1 => ?_) (fun c1 => ?_)
  · exact EQ_some trivial
  · refine EQ_if Iff.rfl (fun c2 => ?_) (fun c2 => ?_)
    · exact EQ_some trivial
    · refine EQ_if Iff.rfl (fun c3 => ?_) (fun c3 => ?_)
      · exact EQ_some trivial
      · refine EQ_if Iff.rfl (fun c4 => ?_) (fun c4 => ?_)
        · exact EQ_some trivial
        · refine EQ_if Iff.rfl (fun c5 => ?_) (fun c5 => ?_)
          · exact EQ_some trivial
          · refine EQ_if Iff.rfl (fun c6 => ?_) (fun c6 => ?_)
            · exact EQ_some trivial
            · refine EQ_if Iff.rfl (fun c7 => ?_) (fun c7 => ?_)
              · exact EQ_some trivial
              · refine EQ_if Iff.rfl (fun c8 => ?_) (fun c8 => ?_)
                · exact EQ_some trivial
                · refine EQ_if Iff.rfl (fun c9 => ?_) (fun c9 => ?_)
                  · exact EQ_some trivial
                  · refine EQ_if Iff.rfl (fun c10 => ?_) (fun c10 => ?_)
                    · exact EQ_some trivial
                    · refine EQ_if Iff.rfl (fun c11 => ?_) (fun c11 => ?_)
                      · exact EQ_some trivial
                      · refine EQ_if Iff.rfl (fun c12 => ?_) (fun c12 => ?_)
                        · exact EQ_some trivial
                        · refine EQ_if Iff.rfl (fun c13 => ?_) (fun c13 => ?_)
                          · exact EQ_some trivial
                          · refine EQ_if Iff.rfl (fun c14 => ?_) (fun c14 => ?_)
                            · exact EQ_some trivial
                            · refine EQ_if Iff.rfl (fun c15 => ?_) (fun c15 => ?_)
                              · exact EQ_some trivial
                              · refine EQ_if Iff.rfl (fun c16 => ?_) (fun c16 => ?_)
                                · exact EQ_some trivial
                                · refine EQ_if Iff.rfl (fun c17 => ?_) (fun c17 => ?_)
                                  · exact EQ_some trivial
                                  · refine EQ_if Iff.rfl (fun c18 => ?_) (fun c18 => ?_)
                                    · exact EQ_some trivial
                                    · exact EQ_some trivial
noncomputable def gX14_stepB (a0 : Int) (a1 : Int) (a2 : Int) : Option (Int) := if a0 < 1 ∨ 15 < a0 then (some a2) else (if a0 = 1 then (some (jand (w32 (a1 + a2)) 15)) else (if a0 = 2 then (some a2) else (if a0 = 3 then (some (jand (w32 (a2 - a1)) 15)) else (if a0 = 4 then (some a2) else (if a0 = 5 then (some (jxor a1 a2)) else (if a0 = 6 then (some a2) else (if a0 = 7 then (some (jor a1 a2)) else (if a0 = 8 then (some a2) else (if a0 = 9 then (some a1) else (if a0 = 10 then (some a2) else (if a0 = 11 then (some a2) else (if a0 = 12 then (some (jand (w32 (a2 + 1)) 15)) else (if a0 = 13 then (some a2) else (if a0 = 14 then (some a2) else (some a1)))))))))))))))
theorem eX14_stepB (a0 : Int) (a1 : Int) (a2 : Int) : EQ (fX14_stepB a0 a1 a2) (gX14_stepB a0 a1 a2) (fun _ => True) := by
  unfold fX14_stepB gX14_stepB
  refine EQ_if Iff.rfl (fun c1 => ?_) (fun c1 => ?_)
  · exact EQ_some trivial
  · refine EQ_if Iff.rfl (fun c2 => ?_) (fun c2 => ?_)
    · exact EQ_some trivial
    · refine EQ_if Iff.rfl (fun c3 => ?_) (fun c3 => ?_)
      · exact EQ_some trivial
      · refine EQ_if Iff.rfl (fun c4 => ?_) (fun c4 => ?_)
        · exact EQ_some trivial
        · refine EQ_if Iff.rfl (fun c5 => ?_) (fun c5 => ?_)
          · exact EQ_some trivial
          · refine EQ_if Iff.rfl (fun c6 => ?_) (fun c6 => ?_)
            · exact EQ_some trivial
            · refine EQ_if Iff.rfl (fun c7 => ?_) (fun c7 => ?_)
              · exact EQ_some trivial
              · refine EQ_if Iff.rfl (fun c8 => ?_) (fun c8 => ?_)
                · exact EQ_some trivial
                · refine EQ_if Iff.rfl (fun c9 => ?_) (fun c9 => ?_)
                  · exact EQ_some trivial
                  · refine EQ_if Iff.rfl (fun c10 => ?_) (fun c10 => ?_)
                    · exact EQ_some trivial
                    · refine EQ_if Iff.rfl (fun c11 => ?_) (fun c11 => ?_)
                      · exact EQ_some trivial
                      · refine EQ_if Iff.rfl (fun c12 => ?_) (fun c12 => ?_)
                        · exact EQ_some trivial
                        · refine EQ_if Iff.rfl (fun c13 => ?_) (fun c13 => ?_)
                          · exact EQ_some trivial
                          · refine EQ_if Iff.rfl (fun c14 => ?_) (fun c14 => ?_)
                            · exact EQ_some trivial
                            · refine EQ_if Iff.rfl (fun c15 => ?_) (fun c15 => ?_)
                              · exact EQ_some trivial
                              · exact EQ_some trivial
noncomputable def gX14_findLevel_j217 (h : AH) : Option (AH) := jl (jst h 454 146 (w32 (h 454 146 + 1))) fun h17 => jg (jI (h17 454 146) 6) <| jl (jst h17 871 (h17 454 146) (h17 454 145)) fun h18 => some h18
theorem eX14_findLevel_j217 {h : AH} (hS : Sh S h) : EQ (fX14_findLevel_j217 454 h) (gX14_findLevel_j217 h) (fun r => Sh S r) := by
  unfold fX14_findLevel_j217 gX14_findLevel_j217
  refine EQ_jgd (show h 454 (-2) = 15 from by rw [k_454 hS]) ?_
  refine EQ_jgd ⟨(show h 454 (-2) = 15 from by rw [k_454 hS]), (show (200 : Int) ≤ 454 from (by decide))⟩ ?_
  refine EQ_jl rfl (fun h17 eh17 => ?_)
  have s1 := Sh_of eh17 (Sh_sto hS (a := 454) (i := 146) (by decide +kernel))
  clear eh17
  refine EQ_jgd (show h17 454 (-2) = 15 from by rw [k_454 s1]) ?_
  refine EQ_jgd (show h17 454 (-2) = 15 from by rw [k_454 s1]) ?_
  refine EQ_jgd (show h17 454 (-2) = 15 from by rw [k_454 s1]) ?_
  refine EQ_jg ⟨fun ⟨_, _, x0⟩ => (show jI (h17 454 146) (h17 (h17 454 147) (-1)) ↔ jI (h17 454 146) 6 from by rw [r_454_147 s1, l_871 s1]).mp x0, fun x0 => ⟨(show h17 (h17 454 147) (-2) = 101 from by rw [r_454_147 s1, k_871 s1]), (show 200 ≤ h17 454 147 from by rw [r_454_147 s1]; exact (by decide)), (show jI (h17 454 146) (h17 (h17 454 147) (-1)) ↔ jI (h17 454 146) 6 from by rw [r_454_147 s1, l_871 s1]).mpr x0⟩⟩ (fun g2 => ?_)
  refine EQ_jl (by rw [r_454_147 s1]) (fun h18 eh18 => ?_)
  have s3 := Sh_of eh18 (Sh_sta s1 (by decide +kernel) (jI_nn g2) (fun e => absurd ((k_871 s1).symm.trans e) (by decide)))
  clear eh18
  exact EQ_some s3
noncomputable def gX14_findLevel_b121 (i1 : Int) (i2 : Int) (h : AH) (s : Int × Int × Int) : Option ((Int × Int × Int) ⊕ (Int × Int)) := jt3 s fun a3 a5 a7 => if 16 ≤ a7 then (some (.inr (a3, a5))) else (jg (h (h 454 141) (-2) = 102 ∧ jI i1 (h (h 454 141) (-1))) <| jb (gX14_nibble (h (h 454 141) i1) a7) fun v34 => jg (h (h 454 142) (-2) = 102 ∧ jI i1 (h (h 454 142) (-1))) <| jb (gX14_nibble (h (h 454 142) i1) a7) fun v36 => jb (gX14_stepA i2 v34 v36) fun v38 => jl (jorL a3 (jshlL v38 (w32 (4 * a7)))) fun x39 => jb (gX14_stepB i2 v34 v36) fun v41 => jl (jorL a5 (jshlL v41 (w32 (4 * a7)))) fun x42 => jl (w32 (a7 + 1)) fun x43 => some (.inl (x39, x42, x43)))
theorem eX14_findLevel_b121 (i1 : Int) (i2 : Int) (s : Int × Int × Int) {h : AH} (hS : Sh S h) : EQ (fX14_findLevel_b121 454 i1 i2 h s) (gX14_findLevel_b121 i1 i2 h s) (Sum.elim (fun _ => True) (fun _ => True)) := by
  unfold fX14_findLevel_b121 gX14_findLevel_b121
  obtain ⟨a3, a5, a7⟩ := s
  refine EQ_jt3 ?_
  refine EQ_if Iff.rfl (fun c1 => ?_) (fun c1 => ?_)
  · exact EQ_some trivial
  · refine EQ_jgd (show h 454 (-2) = 15 from by rw [k_454 hS]) ?_
    refine EQ_jg Iff.rfl (fun g2 => ?_)
    refine EQ_jb (eX14_nibble (h (h 454 141) i1) a7) (fun v34 r3 => ?_)
    refine EQ_jgd (show h 454 (-2) = 15 from by rw [k_454 hS]) ?_
    refine EQ_jg Iff.rfl (fun g4 => ?_)
    refine EQ_jb (eX14_nibble (h (h 454 142) i1) a7) (fun v36 r5 => ?_)
    refine EQ_jb (eX14_stepA i2 v34 v36) (fun v38 r6 => ?_)
    refine EQ_jl rfl (fun x39 ex39 => ?_)
    clear ex39
    refine EQ_jb (eX14_stepB i2 v34 v36) (fun v41 r7 => ?_)
    refine EQ_jl rfl (fun x42 ex42 => ?_)
    clear ex42
    refine EQ_jl rfl (fun x43 ex43 => ?_)
    clear ex43
    exact EQ_some trivial
noncomputable def gX14_findLevel_l121 (i1 : Int) (i2 : Int) (a3 : Int) (a5 : Int) (a7 : Int) (h : AH) : Option (Int × Int) := jit (gX14_findLevel_b121 i1 i2 h) (a3, a5, a7)
theorem eX14_findLevel_l121 (i1 : Int) (i2 : Int) (a3 : Int) (a5 : Int) (a7 : Int) {h : AH} (hS : Sh S h) : EQ (fX14_findLevel_l121 454 i1 i2 a3 a5 a7 h) (gX14_findLevel_l121 i1 i2 a3 a5 a7 h) (fun _ => True) := EQ_jit (I := (fun _ => True)) (fun s _ => eX14_findLevel_b121 i1 i2 s hS) trivial
noncomputable def gX14_findLevel_b107 (i1 : Int) (s : Int × AH) : Option ((Int × AH) ⊕ (AH)) := jt2 s fun a2 h => if 18 ≤ a2 then (some (.inr h)) else (jb (gX14_findLevel_l121 i1 a2 0 0 0 h) fun o25 => jt2 o25 fun y27 y28 => jb (gX14_addState y27 y28 i1 a2 h) fun h30 => jl (w32 (a2 + 1)) fun x31 => some (.inl (x31, h30)))
theorem eX14_findLevel_b107 (i1 : Int) {s : Int × AH} (hS : (fun r => Sh S r.2) s) : EQ (fX14_findLevel_b107 454 i1 s) (gX14_findLevel_b107 i1 s) (Sum.elim (fun r => Sh S r.2) (fun r => Sh S r)) := by
  unfold fX14_findLevel_b107 gX14_findLevel_b107
  obtain ⟨a2, h⟩ := s
  refine EQ_jt2 ?_
  replace hS : Sh S h := hS
  refine EQ_if Iff.rfl (fun c1 => ?_) (fun c1 => ?_)
  · exact EQ_some hS
  · refine EQ_jb (eX14_findLevel_l121 i1 a2 0 0 0 hS) (fun o25 r2 => ?_)
    obtain ⟨y27, y28⟩ := o25
    refine EQ_jt2 ?_
    refine EQ_jgd (show h 454 (-2) = 15 from by rw [k_454 hS]) ?_
    refine EQ_jb (eX14_addState y27 y28 i1 a2 hS) (fun h30 r3 => ?_)
    refine EQ_jl rfl (fun x31 ex31 => ?_)
    clear ex31
    exact EQ_some r3
noncomputable def gX14_findLevel_l107 (i1 : Int) (a2 : Int) (h : AH) : Option (AH) := jit (gX14_findLevel_b107 i1) (a2, h)
theorem eX14_findLevel_l107 (i1 : Int) (a2 : Int) {h : AH} (hS : Sh S h) : EQ (fX14_findLevel_l107 454 i1 a2 h) (gX14_findLevel_l107 i1 a2 h) (fun r => Sh S r) := EQ_jit (I := (fun r => Sh S r.2)) (fun s hs => eX14_findLevel_b107 i1 hs) hS
noncomputable def gX14_findLevel_b85 (s : Int × AH) : Option ((Int × AH) ⊕ (AH)) := jt2 s fun a1 h => if h 454 146 ≤ 0 then (some (.inr h)) else (jg (jI (h 454 146) 6) <| if h 871 (h 454 146) ≤ a1 then (some (.inr h)) else (jb (gX14_findLevel_l107 a1 0 h) fun o21 => jl (w32 (a1 + 1)) fun x23 => some (.inl (x23, o21))))
theorem eX14_findLevel_b85 {s : Int × AH} (hS : (fun r => Sh S r.2) s) : EQ (fX14_findLevel_b85 454 s) (gX14_findLevel_b85 s) (Sum.elim (fun r => Sh S r.2) (fun r => Sh S r)) := by
  unfold fX14_findLevel_b85 gX14_findLevel_b85
  obtain ⟨a1, h⟩ := s
  refine EQ_jt2 ?_
  replace hS : Sh S h := hS
  refine EQ_jgd (show h 454 (-2) = 15 from by rw [k_454 hS]) ?_
  refine EQ_if Iff.rfl (fun c1 => ?_) (fun c1 => ?_)
  · exact EQ_some hS
  · refine EQ_jgd (show h 454 (-2) = 15 from by rw [k_454 hS]) ?_
    refine EQ_jgd (show h 454 (-2) = 15 from by rw [k_454 hS]) ?_
    refine EQ_jg ⟨fun ⟨_, x0⟩ => (show jI (h 454 146) (h (h 454 147) (-1)) ↔ jI (h 454 146) 6 from by rw [r_454_147 hS, l_871 hS]).mp x0, fun x0 => ⟨(show h (h 454 147) (-2) = 101 from by rw [r_454_147 hS, k_871 hS]), (show jI (h 454 146) (h (h 454 147) (-1)) ↔ jI (h 454 146) 6 from by rw [r_454_147 hS, l_871 hS]).mpr x0⟩⟩ (fun g2 => ?_)
    refine EQ_if (show h (h 454 147) (h 454 146) ≤ a1 ↔ h 871 (h 454 146) ≤ a1 from by rw [r_454_147 hS]) (fun c3 => ?_) (fun c3 => ?_)
    · exact EQ_some hS
    · refine EQ_jb (eX14_findLevel_l107 a1 0 hS) (fun o21 r4 => ?_)
      refine EQ_jl rfl (fun x23 ex23 => ?_)
      clear ex23
      exact EQ_some r4
noncomputable def gX14_findLevel_l85 (a1 : Int) (h : AH) : Option (AH) := jit gX14_findLevel_b85 (a1, h)
theorem eX14_findLevel_l85 (a1 : Int) {h : AH} (hS : Sh S h) : EQ (fX14_findLevel_l85 454 a1 h) (gX14_findLevel_l85 a1 h) (fun r => Sh S r) := EQ_jit (I := (fun r => Sh S r.2)) (fun s hs => eX14_findLevel_b85 hs) hS
noncomputable def gX14_findLevel_j84 (t0 : Int) (h : AH) : Option (AH) := jb (gX14_findLevel_l85 t0 h) fun o15 => gX14_findLevel_j217 o15
theorem eX14_findLevel_j84 (t0 : Int) {h : AH} (hS : Sh S h) : EQ (fX14_findLevel_j84 454 t0 h) (gX14_findLevel_j84 t0 h) (fun r => Sh S r) := by
  unfold fX14_findLevel_j84 gX14_findLevel_j84
  refine EQ_jb (eX14_findLevel_l85 t0 hS) (fun o15 r1 => ?_)
  exact (eX14_findLevel_j217 r1)
noncomputable def gX14_findLevel_j62 (h : AH) : Option (AH) := if h 454 146 = 0 then (gX14_findLevel_j84 0 h) else (jg (jI (w32 (h 454 146 - 1)) 6) <| gX14_findLevel_j84 (h 871 (w32 (h 454 146 - 1))) h)
theorem eX14_findLevel_j62 {h : AH} (hS : Sh S h) : EQ (fX14_findLevel_j62 454 h) (gX14_findLevel_j62 h) (fun r => Sh S r) := by
  unfold fX14_findLevel_j62 gX14_findLevel_j62
  refine EQ_jgd (show h 454 (-2) = 15 from by rw [k_454 hS]) ?_
  refine EQ_if Iff.rfl (fun c1 => ?_) (fun c1 => ?_)
  · exact (eX14_findLevel_j84 0 hS)
  · refine EQ_jgd (show h 454 (-2) = 15 from by rw [k_454 hS]) ?_
    refine EQ_jgd (show h 454 (-2) = 15 from by rw [k_454 hS]) ?_
    refine EQ_jg ⟨fun ⟨_, x0⟩ => (show jI (w32 (h 454 146 - 1)) (h (h 454 147) (-1)) ↔ jI (w32 (h 454 146 - 1)) 6 from by rw [r_454_147 hS, l_871 hS]).mp x0, fun x0 => ⟨(show h (h 454 147) (-2) = 101 from by rw [r_454_147 hS, k_871 hS]), (show jI (w32 (h 454 146 - 1)) (h (h 454 147) (-1)) ↔ jI (w32 (h 454 146 - 1)) 6 from by rw [r_454_147 hS, l_871 hS]).mpr x0⟩⟩ (fun g2 => ?_)
    exact (by rw [r_454_147 hS]; exact eX14_findLevel_j84 (h 871 (w32 (h 454 146 - 1))) hS)
noncomputable def gX14_findLevel (h : AH) : Option (AH) := if h 454 146 = 0 then (jg (jroom h 111152) <| jl (jnew h 102 111152) fun h2 => jl (jst h2 454 141 (h 0 0)) fun h3 => jg (jroom h3 111152) <| jl (jnew h3 102 111152) fun h4 => jl (jst h4 454 142 (h3 0 0)) fun h5 => jg (jroom h5 111152) <| jl (jnew h5 101 111152) fun h6 => jl (jst h6 454 143 (h5 0 0)) fun h7 => jg (jroom h7 111152) <| jl (jnew h7 103 111152) fun h8 => jl (jst h8 454 144 (h7 0 0)) fun h9 => jg (jroom h9 262144) <| jl (jnew h9 101 262144) fun h10 => jl (jst h10 454 148 (h9 0 0)) fun h11 => jb (gX14_addState (-81985529216486896) 0 (-1) 0 h11) fun h13 => gX14_findLevel_j62 h13) else (gX14_findLevel_j62 h)
theorem eX14_findLevel {h : AH} (hS : Sh S h) : EQ (fX14_findLevel 454 h) (gX14_findLevel h) (fun r => Sh S r) := by
  unfold fX14_findLevel gX14_findLevel
  refine EQ_jgd (show h 454 (-2) = 15 from by rw [k_454 hS]) ?_
  refine EQ_if Iff.rfl (fun c1 => ?_) (fun c1 => ?_)
  · refine EQ_jg Iff.rfl (fun g2 => ?_)
    refine EQ_jl rfl (fun h2 eh2 => ?_)
    have s3 := Sh_of eh2 (Sh_new hS (by decide))
    clear eh2
    refine EQ_jgd ⟨(show h2 454 (-2) = 15 from by rw [k_454 s3]), (show (200 : Int) ≤ 454 from (by decide))⟩ ?_
    refine EQ_jl rfl (fun h3 eh3 => ?_)
    have s4 := Sh_of eh3 (Sh_sto s3 (a := 454) (i := 141) (by decide +kernel))
    clear eh3
    refine EQ_jg Iff.rfl (fun g5 => ?_)
    refine EQ_jl rfl (fun h4 eh4 => ?_)
    have s6 := Sh_of eh4 (Sh_new s4 (by decide))
    clear eh4
    refine EQ_jgd ⟨(show h4 454 (-2) = 15 from by rw [k_454 s6]), (show (200 : Int) ≤ 454 from (by decide))⟩ ?_
    refine EQ_jl rfl (fun h5 eh5 => ?_)
    have s7 := Sh_of eh5 (Sh_sto s6 (a := 454) (i := 142) (by decide +kernel))
    clear eh5
    refine EQ_jg Iff.rfl (fun g8 => ?_)
    refine EQ_jl rfl (fun h6 eh6 => ?_)
    have s9 := Sh_of eh6 (Sh_new s7 (by decide))
    clear eh6
    refine EQ_jgd ⟨(show h6 454 (-2) = 15 from by rw [k_454 s9]), (show (200 : Int) ≤ 454 from (by decide))⟩ ?_
    refine EQ_jl rfl (fun h7 eh7 => ?_)
    have s10 := Sh_of eh7 (Sh_sto s9 (a := 454) (i := 143) (by decide +kernel))
    clear eh7
    refine EQ_jg Iff.rfl (fun g11 => ?_)
    refine EQ_jl rfl (fun h8 eh8 => ?_)
    have s12 := Sh_of eh8 (Sh_new s10 (by decide))
    clear eh8
    refine EQ_jgd ⟨(show h8 454 (-2) = 15 from by rw [k_454 s12]), (show (200 : Int) ≤ 454 from (by decide))⟩ ?_
    refine EQ_jl rfl (fun h9 eh9 => ?_)
    have s13 := Sh_of eh9 (Sh_sto s12 (a := 454) (i := 144) (by decide +kernel))
    clear eh9
    refine EQ_jg Iff.rfl (fun g14 => ?_)
    refine EQ_jl rfl (fun h10 eh10 => ?_)
    have s15 := Sh_of eh10 (Sh_new s13 (by decide))
    clear eh10
    refine EQ_jgd ⟨(show h10 454 (-2) = 15 from by rw [k_454 s15]), (show (200 : Int) ≤ 454 from (by decide))⟩ ?_
    refine EQ_jl rfl (fun h11 eh11 => ?_)
    have s16 := Sh_of eh11 (Sh_sto s15 (a := 454) (i := 148) (by decide +kernel))
    clear eh11
    refine EQ_jgd (show h11 454 (-2) = 15 from by rw [k_454 s16]) ?_
    refine EQ_jb (eX14_addState (-81985529216486896) 0 (-1) 0 s16) (fun h13 r17 => ?_)
    exact (eX14_findLevel_j62 r17)
  · exact (eX14_findLevel_j62 hS)
noncomputable def gX14_tellRow_b29 (i1 : Int) (s : Int × Int × AH) : Option ((Int × Int × AH) ⊕ (AH)) := jt3 s fun a4 a5 h => if a5 < 0 then (some (.inr h)) else (jg (h (h 454 144) (-2) = 103 ∧ jI a4 (h (h 454 144) (-1))) <| jg (jI a5 5) <| jl (jst h 850 a5 (h (h 454 144) a4)) fun h8 => jg (h8 (h8 454 143) (-2) = 101 ∧ jI a4 (h8 (h8 454 143) (-1))) <| jl (h8 (h8 454 143) a4) fun x9 => jl (w32 (a5 + (-1))) fun x10 => some (.inl (x9, x10, h8)))
theorem eX14_tellRow_b29 (i1 : Int) {s : Int × Int × AH} (hS : (fun r => Sh S r.2.2) s) : EQ (fX14_tellRow_b29 454 i1 s) (gX14_tellRow_b29 i1 s) (Sum.elim (fun r => Sh S r.2.2) (fun r => Sh S r)) := by
  unfold fX14_tellRow_b29 gX14_tellRow_b29
  obtain ⟨a4, a5, h⟩ := s
  refine EQ_jt3 ?_
  replace hS : Sh S h := hS
  refine EQ_if Iff.rfl (fun c1 => ?_) (fun c1 => ?_)
  · exact EQ_some hS
  · refine EQ_jgd (show h 454 (-2) = 15 from by rw [k_454 hS]) ?_
    refine EQ_jgd (show h 454 (-2) = 15 from by rw [k_454 hS]) ?_
    refine EQ_jg Iff.rfl (fun g2 => ?_)
    refine EQ_jg ⟨fun ⟨_, _, x0⟩ => (show jI a5 (h (h 454 138) (-1)) ↔ jI a5 5 from by rw [r_454_138 hS, l_850 hS]).mp x0, fun x0 => ⟨(show h (h 454 138) (-2) = 101 from by rw [r_454_138 hS, k_850 hS]), (show 200 ≤ h 454 138 from by rw [r_454_138 hS]; exact (by decide)), (show jI a5 (h (h 454 138) (-1)) ↔ jI a5 5 from by rw [r_454_138 hS, l_850 hS]).mpr x0⟩⟩ (fun g3 => ?_)
    refine EQ_jl (by rw [r_454_138 hS]) (fun h8 eh8 => ?_)
    have s4 := Sh_of eh8 (Sh_sta hS (by decide +kernel) (jI_nn g3) (fun e => absurd ((k_850 hS).symm.trans e) (by decide)))
    clear eh8
    refine EQ_jgd (show h8 454 (-2) = 15 from by rw [k_454 s4]) ?_
    refine EQ_jg Iff.rfl (fun g5 => ?_)
    refine EQ_jl rfl (fun x9 ex9 => ?_)
    clear ex9
    refine EQ_jl rfl (fun x10 ex10 => ?_)
    clear ex10
    exact EQ_some s4
noncomputable def gX14_tellRow_l29 (i1 : Int) (a4 : Int) (a5 : Int) (h : AH) : Option (AH) := jit (gX14_tellRow_b29 i1) (a4, a5, h)
theorem eX14_tellRow_l29 (i1 : Int) (a4 : Int) (a5 : Int) {h : AH} (hS : Sh S h) : EQ (fX14_tellRow_l29 454 i1 a4 a5 h) (gX14_tellRow_l29 i1 a4 a5 h) (fun r => Sh S r) := EQ_jit (I := (fun r => Sh S r.2.2)) (fun s hs => eX14_tellRow_b29 i1 hs) hS
noncomputable def gX14_tellRow_j20 (a1 : Int) (a4 : Int) (h : AH) : Option (Int × AH) := jl (w32 (min a1 4 - 1)) fun x4 => jb (gX14_tellRow_l29 a1 a4 x4 h) fun o5 => some (a1, o5)
theorem eX14_tellRow_j20 (a1 : Int) (a4 : Int) {h : AH} (hS : Sh S h) : EQ (fX14_tellRow_j20 454 a1 a4 h) (gX14_tellRow_j20 a1 a4 h) (fun r => Sh S r.2) := by
  unfold fX14_tellRow_j20 gX14_tellRow_j20
  refine EQ_jl rfl (fun x4 ex4 => ?_)
  clear ex4
  refine EQ_jb (eX14_tellRow_l29 a1 a4 x4 hS) (fun o5 r1 => ?_)
  exact EQ_some r1
noncomputable def gX14_tellRow (a1 : Int) (a2 : Int) (a3 : Int) (h : AH) : Option (Int × AH) := jl (jst h 454 137 a1) fun h1 => if a1 = 5 then (jl (jst h1 850 4 a3) fun h3 => gX14_tellRow_j20 a1 a2 h3) else (gX14_tellRow_j20 a1 a2 h1)
theorem eX14_tellRow (a1 : Int) (a2 : Int) (a3 : Int) {h : AH} (hS : Sh S h) : EQ (fX14_tellRow 454 a1 a2 a3 h) (gX14_tellRow a1 a2 a3 h) (fun r => Sh S r.2) := by
  unfold fX14_tellRow gX14_tellRow
  refine EQ_jgd ⟨(show h 454 (-2) = 15 from by rw [k_454 hS]), (show (200 : Int) ≤ 454 from (by decide))⟩ ?_
  refine EQ_jl rfl (fun h1 eh1 => ?_)
  have s1 := Sh_of eh1 (Sh_sto hS (a := 454) (i := 137) (by decide +kernel))
  clear eh1
  refine EQ_if Iff.rfl (fun c2 => ?_) (fun c2 => ?_)
  · refine EQ_jgd (show h1 454 (-2) = 15 from by rw [k_454 s1]) ?_
    refine EQ_jgd ⟨(show h1 (h1 454 138) (-2) = 101 from by rw [r_454_138 s1, k_850 s1]), (show 200 ≤ h1 454 138 from by rw [r_454_138 s1]; exact (by decide)), (show jI 4 (h1 (h1 454 138) (-1)) from by rw [r_454_138 s1, l_850 s1]; unfold jI; decide)⟩ ?_
    refine EQ_jl (by rw [r_454_138 s1]) (fun h3 eh3 => ?_)
    have s3 := Sh_of eh3 (Sh_sta s1 (by decide +kernel) (by decide) (fun e => absurd ((k_850 s1).symm.trans e) (by decide)))
    clear eh3
    exact (eX14_tellRow_j20 a1 a2 s3)
  · exact (eX14_tellRow_j20 a1 a2 s1)
noncomputable def gX14_addLast_b9 (i1 : Int) (i3 : Int) (i4 : Int) (h : AH) (a5 : Int) : Option ((Int) ⊕ ((Unit) ⊕ (Int))) := jg (h (h 454 151) (-2) = 101 ∧ jI a5 (h (h 454 151) (-1))) <| if h (h 454 151) a5 ≤ 0 then (some (.inr (.inr a5))) else (jg (h (h 454 149) (-2) = 102 ∧ jI (w32 (h (h 454 151) a5 - 1)) (h (h 454 149) (-1))) <| if jcmp (h (h 454 149) (w32 (h (h 454 151) a5 - 1))) i1 = 0 then (some (.inr (.inl ()))) else (jl (jand (w32 (a5 + 1)) 524287) fun x15 => some (.inl x15)))
theorem eX14_addLast_b9 (i1 : Int) (i3 : Int) (i4 : Int) (a5 : Int) {h : AH} (hS : Sh S h) : EQ (fX14_addLast_b9 454 i1 i3 i4 h a5) (gX14_addLast_b9 i1 i3 i4 h a5) (Sum.elim (fun _ => True) (Sum.elim (fun _ => True) (fun _ => True))) := by
  unfold fX14_addLast_b9 gX14_addLast_b9
  refine EQ_jgd (show h 454 (-2) = 15 from by rw [k_454 hS]) ?_
  refine EQ_jg Iff.rfl (fun g1 => ?_)
  refine EQ_if Iff.rfl (fun c2 => ?_) (fun c2 => ?_)
  · exact EQ_some trivial
  · refine EQ_jgd (show h 454 (-2) = 15 from by rw [k_454 hS]) ?_
    refine EQ_jgd (show h 454 (-2) = 15 from by rw [k_454 hS]) ?_
    refine EQ_jgd ⟨(g1.1), (g1.2)⟩ ?_
    refine EQ_jg Iff.rfl (fun g3 => ?_)
    refine EQ_if Iff.rfl (fun c4 => ?_) (fun c4 => ?_)
    · exact EQ_some trivial
    · refine EQ_jl rfl (fun x15 ex15 => ?_)
      clear ex15
      exact EQ_some trivial
noncomputable def gX14_addLast_l9 (i1 : Int) (i3 : Int) (i4 : Int) (a5 : Int) (h : AH) : Option ((Unit) ⊕ (Int)) := jit (gX14_addLast_b9 i1 i3 i4 h) a5
theorem eX14_addLast_l9 (i1 : Int) (i3 : Int) (i4 : Int) (a5 : Int) {h : AH} (hS : Sh S h) : EQ (fX14_addLast_l9 454 i1 i3 i4 a5 h) (gX14_addLast_l9 i1 i3 i4 a5 h) (Sum.elim (fun _ => True) (fun _ => True)) := EQ_jit (I := (fun _ => True)) (fun s _ => eX14_addLast_b9 i1 i3 i4 s hS) trivial
noncomputable def gX14_addLast (a1 : Int) (a3 : Int) (a4 : Int) (h : AH) : Option (AH) := jb (gX14_sumOf a1 0 19) fun v2 => jb (gX14_addLast_l9 a1 a3 a4 v2 h) fun o3 => jm o3 (fun o5 => some h) (fun o6 => if h 454 152 = 262144 then (jl (jst h 454 153 0) fun h8 => some h8) else (jg (h (h 454 149) (-2) = 102 ∧ 200 ≤ h 454 149 ∧ jI (h 454 152) (h (h 454 149) (-1))) <| jl (jst h (h 454 149) (h 454 152) a1) fun h9 => jg (h9 (h9 454 150) (-2) = 101 ∧ 200 ≤ h9 454 150 ∧ jI (h9 454 152) (h9 (h9 454 150) (-1))) <| jl (jst h9 (h9 454 150) (h9 454 152) (w32 (w32 (32 * a3) + a4))) fun h10 => jl (jst h10 454 152 (w32 (h10 454 152 + 1))) fun h11 => jg (h11 (h11 454 151) (-2) = 101 ∧ 200 ≤ h11 454 151 ∧ jI o6 (h11 (h11 454 151) (-1))) <| jl (jst h11 (h11 454 151) o6 (h11 454 152)) fun h12 => some h12))
theorem eX14_addLast (a1 : Int) (a3 : Int) (a4 : Int) {h : AH} (hS : Sh S h) : EQ (fX14_addLast 454 a1 a3 a4 h) (gX14_addLast a1 a3 a4 h) (fun r => Sh S r) := by
  unfold fX14_addLast gX14_addLast
  refine EQ_jb (eX14_sumOf a1 0 19) (fun v2 r1 => ?_)
  refine EQ_jb (eX14_addLast_l9 a1 a3 a4 v2 hS) (fun o3 r2 => ?_)
  refine EQ_jm r2 (fun o5 r3 => ?_) (fun o6 r4 => ?_)
  · exact EQ_some hS
  · refine EQ_jgd (show h 454 (-2) = 15 from by rw [k_454 hS]) ?_
    refine EQ_if Iff.rfl (fun c5 => ?_) (fun c5 => ?_)
    · refine EQ_jgd ⟨(show h 454 (-2) = 15 from by rw [k_454 hS]), (show (200 : Int) ≤ 454 from (by decide)), (show jZ 0 from by unfold jZ; decide)⟩ ?_
      refine EQ_jl rfl (fun h8 eh8 => ?_)
      have s6 := Sh_of eh8 (Sh_sto hS (a := 454) (i := 153) (by decide +kernel))
      clear eh8
      exact EQ_some s6
    · refine EQ_jgd (show h 454 (-2) = 15 from by rw [k_454 hS]) ?_
      refine EQ_jgd (show h 454 (-2) = 15 from by rw [k_454 hS]) ?_
      refine EQ_jg Iff.rfl (fun g7 => ?_)
      refine EQ_jl rfl (fun h9 eh9 => ?_)
      have s8 := Sh_of eh9 (Sh_stk hS (Or.inr (Or.inl (g7.1))) (g7.2.1) (jI_nn (g7.2.2)) (fun e => absurd (((g7.1)).symm.trans e) (by decide)))
      clear eh9
      refine EQ_jgd (show h9 454 (-2) = 15 from by rw [k_454 s8]) ?_
      refine EQ_jgd (show h9 454 (-2) = 15 from by rw [k_454 s8]) ?_
      refine EQ_jg Iff.rfl (fun g9 => ?_)
      refine EQ_jl rfl (fun h10 eh10 => ?_)
      have s10 := Sh_of eh10 (Sh_stk s8 (Or.inl (g9.1)) (g9.2.1) (jI_nn (g9.2.2)) (fun e => absurd (((g9.1)).symm.trans e) (by decide)))
      clear eh10
      refine EQ_jgd (show h10 454 (-2) = 15 from by rw [k_454 s10]) ?_
      refine EQ_jgd ⟨(show h10 454 (-2) = 15 from by rw [k_454 s10]), (show (200 : Int) ≤ 454 from (by decide))⟩ ?_
      refine EQ_jl rfl (fun h11 eh11 => ?_)
      have s11 := Sh_of eh11 (Sh_sto s10 (a := 454) (i := 152) (by decide +kernel))
      clear eh11
      refine EQ_jgd (show h11 454 (-2) = 15 from by rw [k_454 s11]) ?_
      refine EQ_jgd (show h11 454 (-2) = 15 from by rw [k_454 s11]) ?_
      refine EQ_jg Iff.rfl (fun g12 => ?_)
      refine EQ_jl rfl (fun h12 eh12 => ?_)
      have s13 := Sh_of eh12 (Sh_stk s11 (Or.inl (g12.1)) (g12.2.1) (jI_nn (g12.2.2)) (fun e => absurd (((g12.1)).symm.trans e) (by decide)))
      clear eh12
      exact EQ_some s13
noncomputable def gX14_findLast_b70 (i1 : Int) (i2 : Int) (h : AH) (s : Int × Int) : Option ((Int × Int) ⊕ (Int)) := jt2 s fun a3 a5 => if 16 ≤ a5 then (some (.inr a3)) else (jg (h (h 454 141) (-2) = 102 ∧ jI i1 (h (h 454 141) (-1))) <| jb (gX14_nibble (h (h 454 141) i1) a5) fun v24 => jg (h (h 454 142) (-2) = 102 ∧ jI i1 (h (h 454 142) (-1))) <| jb (gX14_nibble (h (h 454 142) i1) a5) fun v26 => jb (gX14_stepA i2 v24 v26) fun v28 => jl (jorL a3 (jshlL v28 (w32 (4 * a5)))) fun x29 => jl (w32 (a5 + 1)) fun x30 => some (.inl (x29, x30)))
theorem eX14_findLast_b70 (i1 : Int) (i2 : Int) (s : Int × Int) {h : AH} (hS : Sh S h) : EQ (fX14_findLast_b70 454 i1 i2 h s) (gX14_findLast_b70 i1 i2 h s) (Sum.elim (fun _ => True) (fun _ => True)) := by
  unfold fX14_findLast_b70 gX14_findLast_b70
  obtain ⟨a3, a5⟩ := s
  refine EQ_jt2 ?_
  refine EQ_if Iff.rfl (fun c1 => ?_) (fun c1 => ?_)
  · exact EQ_some trivial
  · refine EQ_jgd (show h 454 (-2) = 15 from by rw [k_454 hS]) ?_
    refine EQ_jg Iff.rfl (fun g2 => ?_)
    refine EQ_jb (eX14_nibble (h (h 454 141) i1) a5) (fun v24 r3 => ?_)
    refine EQ_jgd (show h 454 (-2) = 15 from by rw [k_454 hS]) ?_
    refine EQ_jg Iff.rfl (fun g4 => ?_)
    refine EQ_jb (eX14_nibble (h (h 454 142) i1) a5) (fun v26 r5 => ?_)
    refine EQ_jb (eX14_stepA i2 v24 v26) (fun v28 r6 => ?_)
    refine EQ_jl rfl (fun x29 ex29 => ?_)
    clear ex29
    refine EQ_jl rfl (fun x30 ex30 => ?_)
    clear ex30
    exact EQ_some trivial
noncomputable def gX14_findLast_l70 (i1 : Int) (i2 : Int) (a3 : Int) (a5 : Int) (h : AH) : Option (Int) := jit (gX14_findLast_b70 i1 i2 h) (a3, a5)
theorem eX14_findLast_l70 (i1 : Int) (i2 : Int) (a3 : Int) (a5 : Int) {h : AH} (hS : Sh S h) : EQ (fX14_findLast_l70 454 i1 i2 a3 a5 h) (gX14_findLast_l70 i1 i2 a3 a5 h) (fun _ => True) := EQ_jit (I := (fun _ => True)) (fun s _ => eX14_findLast_b70 i1 i2 s hS) trivial
noncomputable def gX14_findLast_b59 (i1 : Int) (s : Int × AH) : Option ((Int × AH) ⊕ (AH)) := jt2 s fun a2 h => if 18 ≤ a2 then (some (.inr h)) else (jb (gX14_findLast_l70 i1 a2 0 0 h) fun o17 => jb (gX14_addLast o17 i1 a2 h) fun h20 => jl (w32 (a2 + 1)) fun x21 => some (.inl (x21, h20)))
theorem eX14_findLast_b59 (i1 : Int) {s : Int × AH} (hS : (fun r => Sh S r.2) s) : EQ (fX14_findLast_b59 454 i1 s) (gX14_findLast_b59 i1 s) (Sum.elim (fun r => Sh S r.2) (fun r => Sh S r)) := by
  unfold fX14_findLast_b59 gX14_findLast_b59
  obtain ⟨a2, h⟩ := s
  refine EQ_jt2 ?_
  replace hS : Sh S h := hS
  refine EQ_if Iff.rfl (fun c1 => ?_) (fun c1 => ?_)
  · exact EQ_some hS
  · refine EQ_jb (eX14_findLast_l70 i1 a2 0 0 hS) (fun o17 r2 => ?_)
    refine EQ_jgd (show h 454 (-2) = 15 from by rw [k_454 hS]) ?_
    refine EQ_jb (eX14_addLast o17 i1 a2 hS) (fun h20 r3 => ?_)
    refine EQ_jl rfl (fun x21 ex21 => ?_)
    clear ex21
    exact EQ_some r3
noncomputable def gX14_findLast_l59 (i1 : Int) (a2 : Int) (h : AH) : Option (AH) := jit (gX14_findLast_b59 i1) (a2, h)
theorem eX14_findLast_l59 (i1 : Int) (a2 : Int) {h : AH} (hS : Sh S h) : EQ (fX14_findLast_l59 454 i1 a2 h) (gX14_findLast_l59 i1 a2 h) (fun r => Sh S r) := EQ_jit (I := (fun r => Sh S r.2)) (fun s hs => eX14_findLast_b59 i1 hs) hS
noncomputable def gX14_findLast_b47 (s : Int × AH) : Option ((Int × AH) ⊕ (AH)) := jt2 s fun a1 h => if h 871 5 ≤ a1 then (some (.inr h)) else (jb (gX14_findLast_l59 a1 0 h) fun o13 => jl (w32 (a1 + 1)) fun x15 => some (.inl (x15, o13)))
theorem eX14_findLast_b47 {s : Int × AH} (hS : (fun r => Sh S r.2) s) : EQ (fX14_findLast_b47 454 s) (gX14_findLast_b47 s) (Sum.elim (fun r => Sh S r.2) (fun r => Sh S r)) := by
  unfold fX14_findLast_b47 gX14_findLast_b47
  obtain ⟨a1, h⟩ := s
  refine EQ_jt2 ?_
  replace hS : Sh S h := hS
  refine EQ_jgd (show h 454 (-2) = 15 from by rw [k_454 hS]) ?_
  refine EQ_jgd ⟨(show h (h 454 147) (-2) = 101 from by rw [r_454_147 hS, k_871 hS]), (show jI 5 (h (h 454 147) (-1)) from by rw [r_454_147 hS, l_871 hS]; unfold jI; decide)⟩ ?_
  refine EQ_if (show h (h 454 147) 5 ≤ a1 ↔ h 871 5 ≤ a1 from by rw [r_454_147 hS]) (fun c1 => ?_) (fun c1 => ?_)
  · exact EQ_some hS
  · refine EQ_jb (eX14_findLast_l59 a1 0 hS) (fun o13 r2 => ?_)
    refine EQ_jl rfl (fun x15 ex15 => ?_)
    clear ex15
    exact EQ_some r2
noncomputable def gX14_findLast_l47 (a1 : Int) (h : AH) : Option (AH) := jit gX14_findLast_b47 (a1, h)
theorem eX14_findLast_l47 (a1 : Int) {h : AH} (hS : Sh S h) : EQ (fX14_findLast_l47 454 a1 h) (gX14_findLast_l47 a1 h) (fun r => Sh S r) := EQ_jit (I := (fun r => Sh S r.2)) (fun s hs => eX14_findLast_b47 hs) hS
noncomputable def gX14_findLast (h : AH) : Option (AH) := if h 454 151 = 0 then (jg (jroom h 262144) <| jl (jnew h 102 262144) fun h2 => jl (jst h2 454 149 (h 0 0)) fun h3 => jg (jroom h3 262144) <| jl (jnew h3 101 262144) fun h4 => jl (jst h4 454 150 (h3 0 0)) fun h5 => jg (jroom h5 524288) <| jl (jnew h5 101 524288) fun h6 => jl (jst h6 454 151 (h5 0 0)) fun h7 => jl (jst h7 454 153 1) fun h8 => jl (h8 871 4) fun x9 => jb (gX14_findLast_l47 x9 h8) fun o10 => some o10) else (some h)
theorem eX14_findLast {h : AH} (hS : Sh S h) : EQ (fX14_findLast 454 h) (gX14_findLast h) (fun r => Sh S r) := by
  unfold fX14_findLast gX14_findLast
  refine EQ_jgd (show h 454 (-2) = 15 from by rw [k_454 hS]) ?_
  refine EQ_if Iff.rfl (fun c1 => ?_) (fun c1 => ?_)
  · refine EQ_jg Iff.rfl (fun g2 => ?_)
    refine EQ_jl rfl (fun h2 eh2 => ?_)
    have s3 := Sh_of eh2 (Sh_new hS (by decide))
    clear eh2
    refine EQ_jgd ⟨(show h2 454 (-2) = 15 from by rw [k_454 s3]), (show (200 : Int) ≤ 454 from (by decide))⟩ ?_
    refine EQ_jl rfl (fun h3 eh3 => ?_)
    have s4 := Sh_of eh3 (Sh_sto s3 (a := 454) (i := 149) (by decide +kernel))
    clear eh3
    refine EQ_jg Iff.rfl (fun g5 => ?_)
    refine EQ_jl rfl (fun h4 eh4 => ?_)
    have s6 := Sh_of eh4 (Sh_new s4 (by decide))
    clear eh4
    refine EQ_jgd ⟨(show h4 454 (-2) = 15 from by rw [k_454 s6]), (show (200 : Int) ≤ 454 from (by decide))⟩ ?_
    refine EQ_jl rfl (fun h5 eh5 => ?_)
    have s7 := Sh_of eh5 (Sh_sto s6 (a := 454) (i := 150) (by decide +kernel))
    clear eh5
    refine EQ_jg Iff.rfl (fun g8 => ?_)
    refine EQ_jl rfl (fun h6 eh6 => ?_)
    have s9 := Sh_of eh6 (Sh_new s7 (by decide))
    clear eh6
    refine EQ_jgd ⟨(show h6 454 (-2) = 15 from by rw [k_454 s9]), (show (200 : Int) ≤ 454 from (by decide))⟩ ?_
    refine EQ_jl rfl (fun h7 eh7 => ?_)
    have s10 := Sh_of eh7 (Sh_sto s9 (a := 454) (i := 151) (by decide +kernel))
    clear eh7
    refine EQ_jgd ⟨(show h7 454 (-2) = 15 from by rw [k_454 s10]), (show (200 : Int) ≤ 454 from (by decide)), (show jZ 1 from by unfold jZ; decide)⟩ ?_
    refine EQ_jl rfl (fun h8 eh8 => ?_)
    have s11 := Sh_of eh8 (Sh_sto s10 (a := 454) (i := 153) (by decide +kernel))
    clear eh8
    refine EQ_jgd (show h8 454 (-2) = 15 from by rw [k_454 s11]) ?_
    refine EQ_jgd ⟨(show h8 (h8 454 147) (-2) = 101 from by rw [r_454_147 s11, k_871 s11]), (show jI 4 (h8 (h8 454 147) (-1)) from by rw [r_454_147 s11, l_871 s11]; unfold jI; decide)⟩ ?_
    refine EQ_jl (by rw [r_454_147 s11]) (fun x9 ex9 => ?_)
    clear ex9
    refine EQ_jb (eX14_findLast_l47 x9 s11) (fun o10 r12 => ?_)
    exact EQ_some r12
  · exact EQ_some hS
noncomputable def gX14_leads_j58_6 (a1 : Int) (a2 : Int) (a3 : Int) (a6 : Int) (t0 : Int) (h : AH) : Option ((Int × Int) ⊕ (Int)) := jl (w32 (a6 + 1)) fun x14 => some (.inl (t0, x14))
theorem eX14_leads_j58_6 (a1 : Int) (a2 : Int) (a3 : Int) (a6 : Int) (t0 : Int) {h : AH} (hS : Sh S h) : EQ (fX14_leads_j58_6 454 a1 a2 a3 a6 t0 h) (gX14_leads_j58_6 a1 a2 a3 a6 t0 h) (Sum.elim (fun _ => True) (fun _ => True)) := by
  unfold fX14_leads_j58_6 gX14_leads_j58_6
  refine EQ_jl rfl (fun x14 ex14 => ?_)
  clear ex14
  exact EQ_some trivial
noncomputable def gX14_leads_b6 (i1 : Int) (i2 : Int) (i3 : Int) (h : AH) (s : Int × Int) : Option ((Int × Int) ⊕ (Int)) := jt2 s fun a5 a6 => if 16 ≤ a6 then (some (.inr a5)) else (if a5 = 0 then (some (.inr a5)) else (jg (h (h 454 141) (-2) = 102 ∧ jI i1 (h (h 454 141) (-1))) <| jb (gX14_nibble (h (h 454 141) i1) a6) fun v6 => jg (h (h 454 142) (-2) = 102 ∧ jI i1 (h (h 454 142) (-1))) <| jb (gX14_nibble (h (h 454 142) i1) a6) fun v8 => jb (gX14_stepA i2 v6 v8) fun v10 => jb (gX14_nibble i3 a6) fun v12 => if v10 = v12 then (gX14_leads_j58_6 i1 i2 i3 a6 1 h) else (gX14_leads_j58_6 i1 i2 i3 a6 0 h)))
theorem eX14_leads_b6 (i1 : Int) (i2 : Int) (i3 : Int) (s : Int × Int) {h : AH} (hS : Sh S h) : EQ (fX14_leads_b6 454 i1 i2 i3 h s) (gX14_leads_b6 i1 i2 i3 h s) (Sum.elim (fun _ => True) (fun _ => True)) := by
  unfold fX14_leads_b6 gX14_leads_b6
  obtain ⟨a5, a6⟩ := s
  refine EQ_jt2 ?_
  refine EQ_if Iff.rfl (fun c1 => ?_) (fun c1 => ?_)
  · exact EQ_some trivial
  · refine EQ_if Iff.rfl (fun c2 => ?_) (fun c2 => ?_)
    · exact EQ_some trivial
    · refine EQ_jgd (show h 454 (-2) = 15 from by rw [k_454 hS]) ?_
      refine EQ_jg Iff.rfl (fun g3 => ?_)
      refine EQ_jb (eX14_nibble (h (h 454 141) i1) a6) (fun v6 r4 => ?_)
      refine EQ_jgd (show h 454 (-2) = 15 from by rw [k_454 hS]) ?_
      refine EQ_jg Iff.rfl (fun g5 => ?_)
      refine EQ_jb (eX14_nibble (h (h 454 142) i1) a6) (fun v8 r6 => ?_)
      refine EQ_jb (eX14_stepA i2 v6 v8) (fun v10 r7 => ?_)
      refine EQ_jb (eX14_nibble i3 a6) (fun v12 r8 => ?_)
      refine EQ_if Iff.rfl (fun c9 => ?_) (fun c9 => ?_)
      · exact (eX14_leads_j58_6 i1 i2 i3 a6 1 hS)
      · exact (eX14_leads_j58_6 i1 i2 i3 a6 0 hS)
noncomputable def gX14_leads_l6 (i1 : Int) (i2 : Int) (i3 : Int) (a5 : Int) (a6 : Int) (h : AH) : Option (Int) := jit (gX14_leads_b6 i1 i2 i3 h) (a5, a6)
theorem eX14_leads_l6 (i1 : Int) (i2 : Int) (i3 : Int) (a5 : Int) (a6 : Int) {h : AH} (hS : Sh S h) : EQ (fX14_leads_l6 454 i1 i2 i3 a5 a6 h) (gX14_leads_l6 i1 i2 i3 a5 a6 h) (fun _ => True) := EQ_jit (I := (fun _ => True)) (fun s _ => eX14_leads_b6 i1 i2 i3 s hS) trivial
noncomputable def gX14_leads (a1 : Int) (a2 : Int) (a3 : Int) (h : AH) : Option (Int) := jb (gX14_leads_l6 a1 a2 a3 1 0 h) fun o1 => jg (jZ o1) <| some o1
theorem eX14_leads (a1 : Int) (a2 : Int) (a3 : Int) {h : AH} (hS : Sh S h) : EQ (fX14_leads 454 a1 a2 a3 h) (gX14_leads a1 a2 a3 h) (fun _ => True) := by
  unfold fX14_leads gX14_leads
  refine EQ_jb (eX14_leads_l6 a1 a2 a3 1 0 hS) (fun o1 r1 => ?_)
  refine EQ_jg Iff.rfl (fun g2 => ?_)
  exact EQ_some trivial
noncomputable def gX14_lastOf_b12 (i1 : Int) (h : AH) (a3 : Int) : Option ((Int) ⊕ ((Int) ⊕ (Unit))) := jg (h (h 454 151) (-2) = 101 ∧ jI a3 (h (h 454 151) (-1))) <| if h (h 454 151) a3 ≤ 0 then (some (.inr (.inr ()))) else (jg (h (h 454 149) (-2) = 102 ∧ jI (w32 (h (h 454 151) a3 - 1)) (h (h 454 149) (-1))) <| if jcmp (h (h 454 149) (w32 (h (h 454 151) a3 - 1))) i1 = 0 then (some (.inr (.inl a3))) else (jl (jand (w32 (a3 + 1)) 524287) fun x18 => some (.inl x18)))
theorem eX14_lastOf_b12 (i1 : Int) (a3 : Int) {h : AH} (hS : Sh S h) : EQ (fX14_lastOf_b12 454 i1 h a3) (gX14_lastOf_b12 i1 h a3) (Sum.elim (fun _ => True) (Sum.elim (fun _ => True) (fun _ => True))) := by
  unfold fX14_lastOf_b12 gX14_lastOf_b12
  refine EQ_jgd (show h 454 (-2) = 15 from by rw [k_454 hS]) ?_
  refine EQ_jg Iff.rfl (fun g1 => ?_)
  refine EQ_if Iff.rfl (fun c2 => ?_) (fun c2 => ?_)
  · exact EQ_some trivial
  · refine EQ_jgd (show h 454 (-2) = 15 from by rw [k_454 hS]) ?_
    refine EQ_jgd (show h 454 (-2) = 15 from by rw [k_454 hS]) ?_
    refine EQ_jgd ⟨(g1.1), (g1.2)⟩ ?_
    refine EQ_jg Iff.rfl (fun g3 => ?_)
    refine EQ_if Iff.rfl (fun c4 => ?_) (fun c4 => ?_)
    · exact EQ_some trivial
    · refine EQ_jl rfl (fun x18 ex18 => ?_)
      clear ex18
      exact EQ_some trivial
noncomputable def gX14_lastOf_l12 (i1 : Int) (a3 : Int) (h : AH) : Option ((Int) ⊕ (Unit)) := jit (gX14_lastOf_b12 i1 h) a3
theorem eX14_lastOf_l12 (i1 : Int) (a3 : Int) {h : AH} (hS : Sh S h) : EQ (fX14_lastOf_l12 454 i1 a3 h) (gX14_lastOf_l12 i1 a3 h) (Sum.elim (fun _ => True) (fun _ => True)) := EQ_jit (I := (fun _ => True)) (fun s _ => eX14_lastOf_b12 i1 s hS) trivial
noncomputable def gX14_lastOf_b93 (i1 : Int) (i4 : Int) (h : AH) (a5 : Int) : Option ((Int) ⊕ ((Int) ⊕ (Unit))) := if 18 ≤ a5 then (some (.inr (.inr ()))) else (jb (gX14_leads i4 a5 i1 h) fun v28 => if v28 = 0 then (jl (w32 (a5 + 1)) fun x30 => some (.inl x30)) else (some (.inr (.inl a5))))
theorem eX14_lastOf_b93 (i1 : Int) (i4 : Int) (a5 : Int) {h : AH} (hS : Sh S h) : EQ (fX14_lastOf_b93 454 i1 i4 h a5) (gX14_lastOf_b93 i1 i4 h a5) (Sum.elim (fun _ => True) (Sum.elim (fun _ => True) (fun _ => True))) := by
  unfold fX14_lastOf_b93 gX14_lastOf_b93
  refine EQ_if Iff.rfl (fun c1 => ?_) (fun c1 => ?_)
  · exact EQ_some trivial
  · refine EQ_jgd (show h 454 (-2) = 15 from by rw [k_454 hS]) ?_
    refine EQ_jb (eX14_leads i4 a5 i1 hS) (fun v28 r2 => ?_)
    refine EQ_if Iff.rfl (fun c3 => ?_) (fun c3 => ?_)
    · refine EQ_jl rfl (fun x30 ex30 => ?_)
      clear ex30
      exact EQ_some trivial
    · exact EQ_some trivial
noncomputable def gX14_lastOf_l93 (i1 : Int) (i4 : Int) (a5 : Int) (h : AH) : Option ((Int) ⊕ (Unit)) := jit (gX14_lastOf_b93 i1 i4 h) a5
theorem eX14_lastOf_l93 (i1 : Int) (i4 : Int) (a5 : Int) {h : AH} (hS : Sh S h) : EQ (fX14_lastOf_l93 454 i1 i4 a5 h) (gX14_lastOf_l93 i1 i4 a5 h) (Sum.elim (fun _ => True) (fun _ => True)) := EQ_jit (I := (fun _ => True)) (fun s _ => eX14_lastOf_b93 i1 i4 s hS) trivial
noncomputable def gX14_lastOf_b72 (i1 : Int) (h : AH) (a4 : Int) : Option ((Int) ⊕ ((Int × Int) ⊕ (Unit))) := if h 871 5 ≤ a4 then (some (.inr (.inr ()))) else (if h 454 153 = 0 then (jb (gX14_lastOf_l93 i1 a4 0 h) fun o21 => jm o21 (fun o23 => some (.inr (.inl (a4, o23)))) (fun o24 => jl (w32 (a4 + 1)) fun x25 => some (.inl x25))) else (some (.inr (.inr ()))))
theorem eX14_lastOf_b72 (i1 : Int) (a4 : Int) {h : AH} (hS : Sh S h) : EQ (fX14_lastOf_b72 454 i1 h a4) (gX14_lastOf_b72 i1 h a4) (Sum.elim (fun _ => True) (Sum.elim (fun _ => True) (fun _ => True))) := by
  unfold fX14_lastOf_b72 gX14_lastOf_b72
  refine EQ_jgd (show h 454 (-2) = 15 from by rw [k_454 hS]) ?_
  refine EQ_jgd ⟨(show h (h 454 147) (-2) = 101 from by rw [r_454_147 hS, k_871 hS]), (show jI 5 (h (h 454 147) (-1)) from by rw [r_454_147 hS, l_871 hS]; unfold jI; decide)⟩ ?_
  refine EQ_if (show h (h 454 147) 5 ≤ a4 ↔ h 871 5 ≤ a4 from by rw [r_454_147 hS]) (fun c1 => ?_) (fun c1 => ?_)
  · exact EQ_some trivial
  · refine EQ_jgd (show h 454 (-2) = 15 from by rw [k_454 hS]) ?_
    refine EQ_if Iff.rfl (fun c2 => ?_) (fun c2 => ?_)
    · refine EQ_jb (eX14_lastOf_l93 i1 a4 0 hS) (fun o21 r3 => ?_)
      refine EQ_jm r3 (fun o23 r4 => ?_) (fun o24 r5 => ?_)
      · exact EQ_some trivial
      · refine EQ_jl rfl (fun x25 ex25 => ?_)
        clear ex25
        exact EQ_some trivial
    · exact EQ_some trivial
noncomputable def gX14_lastOf_l72 (i1 : Int) (a4 : Int) (h : AH) : Option ((Int × Int) ⊕ (Unit)) := jit (gX14_lastOf_b72 i1 h) a4
theorem eX14_lastOf_l72 (i1 : Int) (a4 : Int) {h : AH} (hS : Sh S h) : EQ (fX14_lastOf_l72 454 i1 a4 h) (gX14_lastOf_l72 i1 a4 h) (Sum.elim (fun _ => True) (fun _ => True)) := EQ_jit (I := (fun _ => True)) (fun s _ => eX14_lastOf_b72 i1 s hS) trivial
noncomputable def gX14_lastOf (a1 : Int) (h : AH) : Option (Int × AH) := jb (gX14_findLast h) fun h2 => jb (gX14_sumOf a1 0 19) fun v4 => jb (gX14_lastOf_l12 a1 v4 h2) fun o5 => jm o5 (fun o7 => jg (h2 (h2 454 151) (-2) = 101 ∧ jI o7 (h2 (h2 454 151) (-1))) <| jg (h2 (h2 454 150) (-2) = 101 ∧ jI (w32 (h2 (h2 454 151) o7 - 1)) (h2 (h2 454 150) (-1))) <| some (h2 (h2 454 150) (w32 (h2 (h2 454 151) o7 - 1)), h2)) (fun o8 => jl (h2 871 4) fun x9 => jb (gX14_lastOf_l72 a1 x9 h2) fun o10 => jm o10 (fun o12 => jt2 o12 fun y14 y15 => some (w32 (w32 (32 * y14) + y15), h2)) (fun o13 => some ((-1), h2)))
theorem eX14_lastOf (a1 : Int) {h : AH} (hS : Sh S h) : EQ (fX14_lastOf 454 a1 h) (gX14_lastOf a1 h) (fun r => Sh S r.2) := by
  unfold fX14_lastOf gX14_lastOf
  refine EQ_jgd (show h 454 (-2) = 15 from by rw [k_454 hS]) ?_
  refine EQ_jb (eX14_findLast hS) (fun h2 r1 => ?_)
  refine EQ_jb (eX14_sumOf a1 0 19) (fun v4 r2 => ?_)
  refine EQ_jb (eX14_lastOf_l12 a1 v4 r1) (fun o5 r3 => ?_)
  refine EQ_jm r3 (fun o7 r4 => ?_) (fun o8 r5 => ?_)
  · refine EQ_jgd (show h2 454 (-2) = 15 from by rw [k_454 r1]) ?_
    refine EQ_jgd (show h2 454 (-2) = 15 from by rw [k_454 r1]) ?_
    refine EQ_jg Iff.rfl (fun g6 => ?_)
    refine EQ_jg Iff.rfl (fun g7 => ?_)
    exact EQ_some r1
  · refine EQ_jgd (show h2 454 (-2) = 15 from by rw [k_454 r1]) ?_
    refine EQ_jgd ⟨(show h2 (h2 454 147) (-2) = 101 from by rw [r_454_147 r1, k_871 r1]), (show jI 4 (h2 (h2 454 147) (-1)) from by rw [r_454_147 r1, l_871 r1]; unfold jI; decide)⟩ ?_
    refine EQ_jl (by rw [r_454_147 r1]) (fun x9 ex9 => ?_)
    clear ex9
    refine EQ_jb (eX14_lastOf_l72 a1 x9 r1) (fun o10 r8 => ?_)
    refine EQ_jm r8 (fun o12 r9 => ?_) (fun o13 r10 => ?_)
    · obtain ⟨y14, y15⟩ := o12
      refine EQ_jt2 ?_
      exact EQ_some r1
    · exact EQ_some r1
noncomputable def gX14_shortest_j123 (t0 : Int) (h : AH) : Option (Int × AH) := if 0 ≤ t0 then (jb2 (gX14_tellRow 5 (jdiv t0 32) (jrem t0 32) h) fun v24 h25 => some (v24, h25)) else (some (100, h))
theorem eX14_shortest_j123 (t0 : Int) {h : AH} (hS : Sh S h) : EQ (fX14_shortest_j123 454 t0 h) (gX14_shortest_j123 t0 h) (fun r => Sh S r.2) := by
  unfold fX14_shortest_j123 gX14_shortest_j123
  refine EQ_if Iff.rfl (fun c1 => ?_) (fun c1 => ?_)
  · refine EQ_jgd (show h 454 (-2) = 15 from by rw [k_454 hS]) ?_
    refine EQ_jb2 (eX14_tellRow 5 (jdiv t0 32) (jrem t0 32) hS) (fun v24 h25 r2 => ?_)
    replace r2 : Sh S h25 := r2
    exact EQ_some r2
  · exact EQ_some hS
noncomputable def gX14_shortest_j109 (a1 : Int) (a3 : Int) (h : AH) : Option (Int × AH) := if a3 = 5 then (jb2 (gX14_lastOf a1 h) fun v20 h21 => gX14_shortest_j123 v20 h21) else (gX14_shortest_j123 (-1) h)
theorem eX14_shortest_j109 (a1 : Int) (a3 : Int) {h : AH} (hS : Sh S h) : EQ (fX14_shortest_j109 454 a1 a3 h) (gX14_shortest_j109 a1 a3 h) (fun r => Sh S r.2) := by
  unfold fX14_shortest_j109 gX14_shortest_j109
  refine EQ_if Iff.rfl (fun c1 => ?_) (fun c1 => ?_)
  · refine EQ_jgd (show h 454 (-2) = 15 from by rw [k_454 hS]) ?_
    refine EQ_jb2 (eX14_lastOf a1 hS) (fun v20 h21 r2 => ?_)
    replace r2 : Sh S h21 := r2
    exact (eX14_shortest_j123 v20 r2)
  · exact (eX14_shortest_j123 (-1) hS)
noncomputable def gX14_shortest_b61 (i1 : Int) (i3 : Int) (i4 : Int) (h : AH) (a5 : Int) : Option ((Int) ⊕ ((Int) ⊕ (Unit))) := jg (jI (w32 (i4 + 1)) 6) <| if h 871 (w32 (i4 + 1)) ≤ a5 then (some (.inr (.inr ()))) else (jg (h (h 454 141) (-2) = 102 ∧ jI a5 (h (h 454 141) (-1))) <| if jcmp (h (h 454 141) a5) i1 = 0 then (some (.inr (.inl a5))) else (jl (w32 (a5 + 1)) fun x39 => some (.inl x39)))
theorem eX14_shortest_b61 (i1 : Int) (i3 : Int) (i4 : Int) (a5 : Int) {h : AH} (hS : Sh S h) : EQ (fX14_shortest_b61 454 i1 i3 i4 h a5) (gX14_shortest_b61 i1 i3 i4 h a5) (Sum.elim (fun _ => True) (Sum.elim (fun _ => True) (fun _ => True))) := by
  unfold fX14_shortest_b61 gX14_shortest_b61
  refine EQ_jgd (show h 454 (-2) = 15 from by rw [k_454 hS]) ?_
  refine EQ_jg ⟨fun ⟨_, x0⟩ => (show jI (w32 (i4 + 1)) (h (h 454 147) (-1)) ↔ jI (w32 (i4 + 1)) 6 from by rw [r_454_147 hS, l_871 hS]).mp x0, fun x0 => ⟨(show h (h 454 147) (-2) = 101 from by rw [r_454_147 hS, k_871 hS]), (show jI (w32 (i4 + 1)) (h (h 454 147) (-1)) ↔ jI (w32 (i4 + 1)) 6 from by rw [r_454_147 hS, l_871 hS]).mpr x0⟩⟩ (fun g1 => ?_)
  refine EQ_if (show h (h 454 147) (w32 (i4 + 1)) ≤ a5 ↔ h 871 (w32 (i4 + 1)) ≤ a5 from by rw [r_454_147 hS]) (fun c2 => ?_) (fun c2 => ?_)
  · exact EQ_some trivial
  · refine EQ_jgd (show h 454 (-2) = 15 from by rw [k_454 hS]) ?_
    refine EQ_jg Iff.rfl (fun g3 => ?_)
    refine EQ_if Iff.rfl (fun c4 => ?_) (fun c4 => ?_)
    · exact EQ_some trivial
    · refine EQ_jl rfl (fun x39 ex39 => ?_)
      clear ex39
      exact EQ_some trivial
noncomputable def gX14_shortest_l61 (i1 : Int) (i3 : Int) (i4 : Int) (a5 : Int) (h : AH) : Option ((Int) ⊕ (Unit)) := jit (gX14_shortest_b61 i1 i3 i4 h) a5
theorem eX14_shortest_l61 (i1 : Int) (i3 : Int) (i4 : Int) (a5 : Int) {h : AH} (hS : Sh S h) : EQ (fX14_shortest_l61 454 i1 i3 i4 a5 h) (gX14_shortest_l61 i1 i3 i4 a5 h) (Sum.elim (fun _ => True) (fun _ => True)) := EQ_jit (I := (fun _ => True)) (fun s _ => eX14_shortest_b61 i1 i3 i4 s hS) trivial
noncomputable def gX14_shortest_j52_27 (a1 : Int) (a3 : Int) (a4 : Int) (h : AH) : Option ((Int × AH) ⊕ ((Int × Int × AH) ⊕ (AH))) := jg (jI a4 6) <| jl (h 871 a4) fun x31 => jb (gX14_shortest_l61 a1 a3 a4 x31 h) fun o32 => jm o32 (fun o34 => some (.inr (.inl (a4, o34, h)))) (fun o35 => jl (w32 (a4 + 1)) fun x36 => some (.inl (x36, h)))
theorem eX14_shortest_j52_27 (a1 : Int) (a3 : Int) (a4 : Int) {h : AH} (hS : Sh S h) : EQ (fX14_shortest_j52_27 454 a1 a3 a4 h) (gX14_shortest_j52_27 a1 a3 a4 h) (Sum.elim (fun r => Sh S r.2) (Sum.elim (fun r => Sh S r.2.2) (fun r => Sh S r))) := by
  unfold fX14_shortest_j52_27 gX14_shortest_j52_27
  refine EQ_jgd (show h 454 (-2) = 15 from by rw [k_454 hS]) ?_
  refine EQ_jg ⟨fun ⟨_, x0⟩ => (show jI a4 (h (h 454 147) (-1)) ↔ jI a4 6 from by rw [r_454_147 hS, l_871 hS]).mp x0, fun x0 => ⟨(show h (h 454 147) (-2) = 101 from by rw [r_454_147 hS, k_871 hS]), (show jI a4 (h (h 454 147) (-1)) ↔ jI a4 6 from by rw [r_454_147 hS, l_871 hS]).mpr x0⟩⟩ (fun g1 => ?_)
  refine EQ_jl (by rw [r_454_147 hS]) (fun x31 ex31 => ?_)
  clear ex31
  refine EQ_jb (eX14_shortest_l61 a1 a3 a4 x31 hS) (fun o32 r2 => ?_)
  refine EQ_jm r2 (fun o34 r3 => ?_) (fun o35 r4 => ?_)
  · exact EQ_some hS
  · refine EQ_jl rfl (fun x36 ex36 => ?_)
    clear ex36
    exact EQ_some hS
noncomputable def gX14_shortest_b27 (i1 : Int) (i3 : Int) (s : Int × AH) : Option ((Int × AH) ⊕ ((Int × Int × AH) ⊕ (AH))) := jt2 s fun a4 h => if i3 < a4 then (some (.inr (.inr h))) else (if 5 ≤ a4 then (some (.inr (.inr h))) else (if a4 < h 454 146 then (gX14_shortest_j52_27 i1 i3 a4 h) else (jb (gX14_findLevel h) fun h30 => gX14_shortest_j52_27 i1 i3 a4 h30)))
theorem eX14_shortest_b27 (i1 : Int) (i3 : Int) {s : Int × AH} (hS : (fun r => Sh S r.2) s) : EQ (fX14_shortest_b27 454 i1 i3 s) (gX14_shortest_b27 i1 i3 s) (Sum.elim (fun r => Sh S r.2) (Sum.elim (fun r => Sh S r.2.2) (fun r => Sh S r))) := by
  unfold fX14_shortest_b27 gX14_shortest_b27
  obtain ⟨a4, h⟩ := s
  refine EQ_jt2 ?_
  replace hS : Sh S h := hS
  refine EQ_if Iff.rfl (fun c1 => ?_) (fun c1 => ?_)
  · exact EQ_some hS
  · refine EQ_if Iff.rfl (fun c2 => ?_) (fun c2 => ?_)
    · exact EQ_some hS
    · refine EQ_jgd (show h 454 (-2) = 15 from by rw [k_454 hS]) ?_
      refine EQ_if Iff.rfl (fun c3 => ?_) (fun c3 => ?_)
      · exact (eX14_shortest_j52_27 i1 i3 a4 hS)
      · refine EQ_jgd (show h 454 (-2) = 15 from by rw [k_454 hS]) ?_
        refine EQ_jb (eX14_findLevel hS) (fun h30 r4 => ?_)
        exact (eX14_shortest_j52_27 i1 i3 a4 r4)
noncomputable def gX14_shortest_l27 (i1 : Int) (i3 : Int) (a4 : Int) (h : AH) : Option ((Int × Int × AH) ⊕ (AH)) := jit (gX14_shortest_b27 i1 i3) (a4, h)
theorem eX14_shortest_l27 (i1 : Int) (i3 : Int) (a4 : Int) {h : AH} (hS : Sh S h) : EQ (fX14_shortest_l27 454 i1 i3 a4 h) (gX14_shortest_l27 i1 i3 a4 h) (Sum.elim (fun r => Sh S r.2.2) (fun r => Sh S r)) := EQ_jit (I := (fun r => Sh S r.2)) (fun s hs => eX14_shortest_b27 i1 i3 hs) hS
noncomputable def gX14_shortest (a1 : Int) (a3 : Int) (h : AH) : Option (Int × AH) := jb2 (gX14_isDown h) fun v2 h3 => if v2 = 0 then (jb (gX14_in a3 0 5) fun v6 => if v6 = 0 then (some ((-1), h3)) else (jb (gX14_shortest_l27 a1 a3 0 h3) fun o8 => jm o8 (fun o10 => jt3 o10 fun y12 y13 h14 => jb2 (gX14_tellRow y12 y13 0 h14) fun v16 h17 => some (v16, h17)) (fun o11 => gX14_shortest_j109 a1 a3 o11))) else (some ((-5), h3))
theorem eX14_shortest (a1 : Int) (a3 : Int) {h : AH} (hS : Sh S h) : EQ (fX14_shortest 454 a1 a3 h) (gX14_shortest a1 a3 h) (fun r => Sh S r.2) := by
  unfold fX14_shortest gX14_shortest
  refine EQ_jgd (show h 454 (-2) = 15 from by rw [k_454 hS]) ?_
  refine EQ_jb2 (eX14_isDown hS) (fun v2 h3 r1 => ?_)
  replace r1 : Sh S h3 := r1
  refine EQ_if Iff.rfl (fun c2 => ?_) (fun c2 => ?_)
  · refine EQ_jb (eX14_in a3 0 5) (fun v6 r3 => ?_)
    refine EQ_if Iff.rfl (fun c4 => ?_) (fun c4 => ?_)
    · exact EQ_some r1
    · refine EQ_jb (eX14_shortest_l27 a1 a3 0 r1) (fun o8 r5 => ?_)
      refine EQ_jm r5 (fun o10 r6 => ?_) (fun o11 r7 => ?_)
      · obtain ⟨y12, y13, h14⟩ := o10
        refine EQ_jt3 ?_
        replace r6 : Sh S h14 := r6
        refine EQ_jgd (show h14 454 (-2) = 15 from by rw [k_454 r6]) ?_
        refine EQ_jb2 (eX14_tellRow y12 y13 0 r6) (fun v16 h17 r8 => ?_)
        replace r8 : Sh S h17 := r8
        exact EQ_some r8
      · exact (eX14_shortest_j109 a1 a3 r7)
  · exact EQ_some r1
noncomputable def gX14_step_2 (a1 : Int) (h : AH) : Option (Int × AH) := jl (jst h 454 51 0) fun h1 => jb (gX14_in a1 0 (w32 (h1 454 137 - 1))) fun v3 => if v3 = 0 then (some ((-1), h1)) else (jg (jI a1 5) <| some (h1 850 a1, h1))
theorem eX14_step_2 (a1 : Int) {h : AH} (hS : Sh S h) : EQ (fX14_step_2 454 a1 h) (gX14_step_2 a1 h) (fun r => Sh S r.2) := by
  unfold fX14_step_2 gX14_step_2
  refine EQ_jgd ⟨(show h 454 (-2) = 15 from by rw [k_454 hS]), (show (200 : Int) ≤ 454 from (by decide))⟩ ?_
  refine EQ_jl rfl (fun h1 eh1 => ?_)
  have s1 := Sh_of eh1 (Sh_sto hS (a := 454) (i := 51) (by decide +kernel))
  clear eh1
  refine EQ_jgd (show h1 454 (-2) = 15 from by rw [k_454 s1]) ?_
  refine EQ_jb (eX14_in a1 0 (w32 (h1 454 137 - 1))) (fun v3 r2 => ?_)
  refine EQ_if Iff.rfl (fun c3 => ?_) (fun c3 => ?_)
  · exact EQ_some s1
  · refine EQ_jgd (show h1 454 (-2) = 15 from by rw [k_454 s1]) ?_
    refine EQ_jg ⟨fun ⟨_, x0⟩ => (show jI a1 (h1 (h1 454 138) (-1)) ↔ jI a1 5 from by rw [r_454_138 s1, l_850 s1]).mp x0, fun x0 => ⟨(show h1 (h1 454 138) (-2) = 101 from by rw [r_454_138 s1, k_850 s1]), (show jI a1 (h1 (h1 454 138) (-1)) ↔ jI a1 5 from by rw [r_454_138 s1, l_850 s1]).mpr x0⟩⟩ (fun g4 => ?_)
    exact EQ_some' (by rw [r_454_138 s1]) s1
noncomputable def gX14_inputs_2_b2 (i1 : Int) (i2 : Int) (s : Int × AH) : Option ((Int × AH) ⊕ (AH)) := jt2 s fun a3 h => if 16 ≤ a3 then (some (.inr h)) else (jg (h i1 (-2) = 101 ∧ 200 ≤ i1 ∧ jI a3 (h i1 (-1))) <| jl (jst h i1 a3 a3) fun h4 => jg (h4 i2 (-2) = 101 ∧ 200 ≤ i2 ∧ jI a3 (h4 i2 (-1))) <| jl (jst h4 i2 a3 0) fun h5 => jl (w32 (a3 + 1)) fun x6 => some (.inl (x6, h5)))
theorem eX14_inputs_2_b2 (i1 : Int) (i2 : Int) {s : Int × AH} (hS : (fun r => Sh S r.2) s) : EQ (fX14_inputs_2_b2 i1 i2 s) (gX14_inputs_2_b2 i1 i2 s) (Sum.elim (fun r => Sh S r.2) (fun r => Sh S r)) := by
  unfold fX14_inputs_2_b2 gX14_inputs_2_b2
  obtain ⟨a3, h⟩ := s
  refine EQ_jt2 ?_
  replace hS : Sh S h := hS
  refine EQ_if Iff.rfl (fun c1 => ?_) (fun c1 => ?_)
  · exact EQ_some hS
  · refine EQ_jg Iff.rfl (fun g2 => ?_)
    refine EQ_jl rfl (fun h4 eh4 => ?_)
    have s3 := Sh_of eh4 (Sh_stk hS (Or.inl (g2.1)) (g2.2.1) (jI_nn (g2.2.2)) (fun e => absurd (((g2.1)).symm.trans e) (by decide)))
    clear eh4
    refine EQ_jg Iff.rfl (fun g4 => ?_)
    refine EQ_jl rfl (fun h5 eh5 => ?_)
    have s5 := Sh_of eh5 (Sh_stk s3 (Or.inl (g4.1)) (g4.2.1) (jI_nn (g2.2.2)) (fun e => absurd (((g4.1)).symm.trans e) (by decide)))
    clear eh5
    refine EQ_jl rfl (fun x6 ex6 => ?_)
    clear ex6
    exact EQ_some s5
noncomputable def gX14_inputs_2_l2 (i1 : Int) (i2 : Int) (a3 : Int) (h : AH) : Option (AH) := jit (gX14_inputs_2_b2 i1 i2) (a3, h)
theorem eX14_inputs_2_l2 (i1 : Int) (i2 : Int) (a3 : Int) {h : AH} (hS : Sh S h) : EQ (fX14_inputs_2_l2 i1 i2 a3 h) (gX14_inputs_2_l2 i1 i2 a3 h) (fun r => Sh S r) := EQ_jit (I := (fun r => Sh S r.2)) (fun s hs => eX14_inputs_2_b2 i1 i2 hs) hS
noncomputable def gX14_inputs_2 (a1 : Int) (a2 : Int) (h : AH) : Option (AH) := jb (gX14_inputs_2_l2 a1 a2 0 h) fun o1 => some o1
theorem eX14_inputs_2 (a1 : Int) (a2 : Int) {h : AH} (hS : Sh S h) : EQ (fX14_inputs_2 454 a1 a2 h) (gX14_inputs_2 a1 a2 h) (fun r => Sh S r) := by
  unfold fX14_inputs_2 gX14_inputs_2
  refine EQ_jb (eX14_inputs_2_l2 a1 a2 0 hS) (fun o1 r1 => ?_)
  exact EQ_some r1
noncomputable def gX14_go_b2 (i1 : Int) (i2 : Int) (s : Int × AH) : Option ((Int × AH) ⊕ (AH)) := jt2 s fun a3 h => if 16 ≤ a3 then (some (.inr h)) else (jg (jI (w32 (i2 + 1)) 9) <| jg (jI i2 9) <| jg (jI a3 16) <| jb (gX14_stepA i1 (h (852 + i2) a3) (h (862 + i2) a3)) fun v5 => jl (jst h (852 + w32 (i2 + 1)) a3 v5) fun h6 => jb (gX14_stepB i1 (h6 (852 + i2) a3) (h6 (862 + i2) a3)) fun v8 => jl (jst h6 (862 + w32 (i2 + 1)) a3 v8) fun h9 => jl (w32 (a3 + 1)) fun x10 => some (.inl (x10, h9)))
theorem eX14_go_b2 (i1 : Int) (i2 : Int) {s : Int × AH} (hS : (fun r => Sh S r.2) s) : EQ (fX14_go_b2 454 i1 i2 s) (gX14_go_b2 i1 i2 s) (Sum.elim (fun r => Sh S r.2) (fun r => Sh S r)) := by
  unfold fX14_go_b2 gX14_go_b2
  obtain ⟨a3, h⟩ := s
  refine EQ_jt2 ?_
  replace hS : Sh S h := hS
  refine EQ_if Iff.rfl (fun c1 => ?_) (fun c1 => ?_)
  · exact EQ_some hS
  · refine EQ_jgd (show h 454 (-2) = 15 from by rw [k_454 hS]) ?_
    refine EQ_jg ⟨fun ⟨_, x0⟩ => (show jI (w32 (i2 + 1)) (h (h 454 139) (-1)) ↔ jI (w32 (i2 + 1)) 9 from by rw [r_454_139 hS, l_851 hS]).mp x0, fun x0 => ⟨(show h (h 454 139) (-2) = 105 from by rw [r_454_139 hS, k_851 hS]), (show jI (w32 (i2 + 1)) (h (h 454 139) (-1)) ↔ jI (w32 (i2 + 1)) 9 from by rw [r_454_139 hS, l_851 hS]).mpr x0⟩⟩ (fun g2 => ?_)
    refine EQ_jgd (show h 454 (-2) = 15 from by rw [k_454 hS]) ?_
    refine EQ_jg ⟨fun ⟨_, x0⟩ => (show jI i2 (h (h 454 139) (-1)) ↔ jI i2 9 from by rw [r_454_139 hS, l_851 hS]).mp x0, fun x0 => ⟨(show h (h 454 139) (-2) = 105 from by rw [r_454_139 hS, k_851 hS]), (show jI i2 (h (h 454 139) (-1)) ↔ jI i2 9 from by rw [r_454_139 hS, l_851 hS]).mpr x0⟩⟩ (fun g3 => ?_)
    refine EQ_jg ⟨fun ⟨_, x0⟩ => (show jI a3 (h (h (h 454 139) i2) (-1)) ↔ jI a3 16 from by rw [r_454_139 hS, rr_851 hS g3, rl_851 hS g3]).mp x0, fun x0 => ⟨(show h (h (h 454 139) i2) (-2) = 101 from by rw [r_454_139 hS, rr_851 hS g3, rk_851 hS g3]), (show jI a3 (h (h (h 454 139) i2) (-1)) ↔ jI a3 16 from by rw [r_454_139 hS, rr_851 hS g3, rl_851 hS g3]).mpr x0⟩⟩ (fun g4 => ?_)
    refine EQ_jgd (show h 454 (-2) = 15 from by rw [k_454 hS]) ?_
    refine EQ_jgd ⟨(show h (h 454 140) (-2) = 105 from by rw [r_454_140 hS, k_861 hS]), ((show jI i2 (h (h 454 140) (-1)) ↔ jI i2 9 from by rw [r_454_140 hS, l_861 hS]).mpr g3)⟩ ?_
    refine EQ_jgd ⟨(show h (h (h 454 140) i2) (-2) = 101 from by rw [r_454_140 hS, rr_861 hS g3, rk_861 hS g3]), ((show jI a3 (h (h (h 454 140) i2) (-1)) ↔ jI a3 16 from by rw [r_454_140 hS, rr_861 hS g3, rl_861 hS g3]).mpr g4)⟩ ?_
    refine EQ_jb (by rw [r_454_139 hS, rr_851 hS g3, r_454_140 hS, rr_861 hS g3]; exact eX14_stepA i1 (h (852 + i2) a3) (h (862 + i2) a3)) (fun v5 r5 => ?_)
    refine EQ_jgd ⟨(show h (h (h 454 139) (w32 (i2 + 1))) (-2) = 101 from by rw [r_454_139 hS, rr_851 hS g2, rk_851 hS g2]), (show 200 ≤ h (h 454 139) (w32 (i2 + 1)) from by rw [r_454_139 hS, rr_851 hS g2]; exact rge_851 g2), ((show jI a3 (h (h (h 454 139) (w32 (i2 + 1))) (-1)) ↔ jI a3 16 from by rw [r_454_139 hS, rr_851 hS g2, rl_851 hS g2]).mpr g4)⟩ ?_
    refine EQ_jl (by rw [r_454_139 hS, rr_851 hS g2]) (fun h6 eh6 => ?_)
    have s6 := Sh_of eh6 (Sh_sta hS (arr_851 g2) (jI_nn g4) (fun e => absurd ((rk_851 hS g2).symm.trans e) (by decide)))
    clear eh6
    refine EQ_jgd (show h6 454 (-2) = 15 from by rw [k_454 s6]) ?_
    refine EQ_jgd ⟨(show h6 (h6 454 140) (-2) = 105 from by rw [r_454_140 s6, k_861 s6]), ((show jI (w32 (i2 + 1)) (h6 (h6 454 140) (-1)) ↔ jI (w32 (i2 + 1)) 9 from by rw [r_454_140 s6, l_861 s6]).mpr g2)⟩ ?_
    refine EQ_jgd (show h6 454 (-2) = 15 from by rw [k_454 s6]) ?_
    refine EQ_jgd ⟨(show h6 (h6 454 139) (-2) = 105 from by rw [r_454_139 s6, k_851 s6]), ((show jI i2 (h6 (h6 454 139) (-1)) ↔ jI i2 9 from by rw [r_454_139 s6, l_851 s6]).mpr g3)⟩ ?_
    refine EQ_jgd ⟨(show h6 (h6 (h6 454 139) i2) (-2) = 101 from by rw [r_454_139 s6, rr_851 s6 g3, rk_851 s6 g3]), ((show jI a3 (h6 (h6 (h6 454 139) i2) (-1)) ↔ jI a3 16 from by rw [r_454_139 s6, rr_851 s6 g3, rl_851 s6 g3]).mpr g4)⟩ ?_
    refine EQ_jgd (show h6 454 (-2) = 15 from by rw [k_454 s6]) ?_
    refine EQ_jgd ⟨(show h6 (h6 454 140) (-2) = 105 from by rw [r_454_140 s6, k_861 s6]), ((show jI i2 (h6 (h6 454 140) (-1)) ↔ jI i2 9 from by rw [r_454_140 s6, l_861 s6]).mpr g3)⟩ ?_
    refine EQ_jgd ⟨(show h6 (h6 (h6 454 140) i2) (-2) = 101 from by rw [r_454_140 s6, rr_861 s6 g3, rk_861 s6 g3]), ((show jI a3 (h6 (h6 (h6 454 140) i2) (-1)) ↔ jI a3 16 from by rw [r_454_140 s6, rr_861 s6 g3, rl_861 s6 g3]).mpr g4)⟩ ?_
    refine EQ_jb (by rw [r_454_139 s6, rr_851 s6 g3, r_454_140 s6, rr_861 s6 g3]; exact eX14_stepB i1 (h6 (852 + i2) a3) (h6 (862 + i2) a3)) (fun v8 r7 => ?_)
    refine EQ_jgd ⟨(show h6 (h6 (h6 454 140) (w32 (i2 + 1))) (-2) = 101 from by rw [r_454_140 s6, rr_861 s6 g2, rk_861 s6 g2]), (show 200 ≤ h6 (h6 454 140) (w32 (i2 + 1)) from by rw [r_454_140 s6, rr_861 s6 g2]; exact rge_861 g2), ((show jI a3 (h6 (h6 (h6 454 140) (w32 (i2 + 1))) (-1)) ↔ jI a3 16 from by rw [r_454_140 s6, rr_861 s6 g2, rl_861 s6 g2]).mpr g4)⟩ ?_
    refine EQ_jl (by rw [r_454_140 s6, rr_861 s6 g2]) (fun h9 eh9 => ?_)
    have s8 := Sh_of eh9 (Sh_sta s6 (arr_861 g2) (jI_nn g4) (fun e => absurd ((rk_861 s6 g2).symm.trans e) (by decide)))
    clear eh9
    refine EQ_jl rfl (fun x10 ex10 => ?_)
    clear ex10
    exact EQ_some s8
noncomputable def gX14_go_l2 (i1 : Int) (i2 : Int) (a3 : Int) (h : AH) : Option (AH) := jit (gX14_go_b2 i1 i2) (a3, h)
theorem eX14_go_l2 (i1 : Int) (i2 : Int) (a3 : Int) {h : AH} (hS : Sh S h) : EQ (fX14_go_l2 454 i1 i2 a3 h) (gX14_go_l2 i1 i2 a3 h) (fun r => Sh S r) := EQ_jit (I := (fun r => Sh S r.2)) (fun s hs => eX14_go_b2 i1 i2 hs) hS
noncomputable def gX14_go (a1 : Int) (a2 : Int) (h : AH) : Option (AH) := jb (gX14_go_l2 a1 a2 0 h) fun o1 => some o1
theorem eX14_go (a1 : Int) (a2 : Int) {h : AH} (hS : Sh S h) : EQ (fX14_go 454 a1 a2 h) (gX14_go a1 a2 h) (fun r => Sh S r) := by
  unfold fX14_go gX14_go
  refine EQ_jb (eX14_go_l2 a1 a2 0 hS) (fun o1 r1 => ?_)
  exact EQ_some r1
noncomputable def gX14_goalOf_b5 (i1 : Int) (h : AH) (s : Int × Int) : Option ((Int × Int) ⊕ (Int)) := jt2 s fun a2 a4 => if 16 ≤ a4 then (some (.inr a2)) else (jg (h i1 (-2) = 101 ∧ jI a4 (h i1 (-1))) <| jl (jorL a2 (jshlL (h i1 a4) (w32 (4 * a4)))) fun x4 => jl (w32 (a4 + 1)) fun x5 => some (.inl (x4, x5)))
theorem eX14_goalOf_b5 (i1 : Int) (s : Int × Int) {h : AH} (hS : Sh S h) : EQ (fX14_goalOf_b5 i1 h s) (gX14_goalOf_b5 i1 h s) (Sum.elim (fun _ => True) (fun _ => True)) := by
  unfold fX14_goalOf_b5 gX14_goalOf_b5
  obtain ⟨a2, a4⟩ := s
  refine EQ_jt2 ?_
  refine EQ_if Iff.rfl (fun c1 => ?_) (fun c1 => ?_)
  · exact EQ_some trivial
  · refine EQ_jg Iff.rfl (fun g2 => ?_)
    refine EQ_jl rfl (fun x4 ex4 => ?_)
    clear ex4
    refine EQ_jl rfl (fun x5 ex5 => ?_)
    clear ex5
    exact EQ_some trivial
noncomputable def gX14_goalOf_l5 (i1 : Int) (a2 : Int) (a4 : Int) (h : AH) : Option (Int) := jit (gX14_goalOf_b5 i1 h) (a2, a4)
theorem eX14_goalOf_l5 (i1 : Int) (a2 : Int) (a4 : Int) {h : AH} (hS : Sh S h) : EQ (fX14_goalOf_l5 i1 a2 a4 h) (gX14_goalOf_l5 i1 a2 a4 h) (fun _ => True) := EQ_jit (I := (fun _ => True)) (fun s _ => eX14_goalOf_b5 i1 s hS) trivial
noncomputable def gX14_goalOf (a1 : Int) (h : AH) : Option (Int) := jb (gX14_goalOf_l5 a1 0 0 h) fun o1 => some o1
theorem eX14_goalOf (a1 : Int) {h : AH} (hS : Sh S h) : EQ (fX14_goalOf 454 a1 h) (gX14_goalOf a1 h) (fun _ => True) := by
  unfold fX14_goalOf gX14_goalOf
  refine EQ_jb (eX14_goalOf_l5 a1 0 0 hS) (fun o1 r1 => ?_)
  exact EQ_some trivial
noncomputable def gX14_goal_b38 (i1 : Int) (i3 : Int) (s : Int × AH) : Option ((Int × AH) ⊕ ((AH) ⊕ (AH))) := jt2 s fun a4 h => if i3 ≤ a4 then (some (.inr (.inr h))) else (jl (w32 (jandL (jshrL i1 (w32 (5 * a4))) 31)) fun x14 => if x14 ≤ 17 then (jb (gX14_go x14 a4 h) fun h17 => jl (w32 (a4 + 1)) fun x18 => some (.inl (x18, h17))) else (some (.inr (.inl h))))
theorem eX14_goal_b38 (i1 : Int) (i3 : Int) {s : Int × AH} (hS : (fun r => Sh S r.2) s) : EQ (fX14_goal_b38 454 i1 i3 s) (gX14_goal_b38 i1 i3 s) (Sum.elim (fun r => Sh S r.2) (Sum.elim (fun r => Sh S r) (fun r => Sh S r))) := by
  unfold fX14_goal_b38 gX14_goal_b38
  obtain ⟨a4, h⟩ := s
  refine EQ_jt2 ?_
  replace hS : Sh S h := hS
  refine EQ_if Iff.rfl (fun c1 => ?_) (fun c1 => ?_)
  · exact EQ_some hS
  · refine EQ_jl rfl (fun x14 ex14 => ?_)
    clear ex14
    refine EQ_if Iff.rfl (fun c2 => ?_) (fun c2 => ?_)
    · refine EQ_jgd (show h 454 (-2) = 15 from by rw [k_454 hS]) ?_
      refine EQ_jb (eX14_go x14 a4 hS) (fun h17 r3 => ?_)
      refine EQ_jl rfl (fun x18 ex18 => ?_)
      clear ex18
      exact EQ_some r3
    · exact EQ_some hS
noncomputable def gX14_goal_l38 (i1 : Int) (i3 : Int) (a4 : Int) (h : AH) : Option ((AH) ⊕ (AH)) := jit (gX14_goal_b38 i1 i3) (a4, h)
theorem eX14_goal_l38 (i1 : Int) (i3 : Int) (a4 : Int) {h : AH} (hS : Sh S h) : EQ (fX14_goal_l38 454 i1 i3 a4 h) (gX14_goal_l38 i1 i3 a4 h) (Sum.elim (fun r => Sh S r) (fun r => Sh S r)) := EQ_jit (I := (fun r => Sh S r.2)) (fun s hs => eX14_goal_b38 i1 i3 hs) hS
noncomputable def gX14_goal (a1 : Int) (a3 : Int) (h : AH) : Option (Int × AH) := jl (jst h 454 51 0) fun h1 => jb (gX14_in a3 0 8) fun v3 => if v3 = 0 then (some (0, h1)) else (jb (gX14_inputs_2 (h1 851 0) (h1 861 0) h1) fun h6 => jb (gX14_goal_l38 a1 a3 0 h6) fun o7 => jm o7 (fun o9 => some (0, o9)) (fun o10 => jg (jI a3 9) <| jb (gX14_goalOf (852 + a3) o10) fun v12 => some (v12, o10)))
theorem eX14_goal (a1 : Int) (a3 : Int) {h : AH} (hS : Sh S h) : EQ (fX14_goal 454 a1 a3 h) (gX14_goal a1 a3 h) (fun r => Sh S r.2) := by
  unfold fX14_goal gX14_goal
  refine EQ_jgd ⟨(show h 454 (-2) = 15 from by rw [k_454 hS]), (show (200 : Int) ≤ 454 from (by decide))⟩ ?_
  refine EQ_jl rfl (fun h1 eh1 => ?_)
  have s1 := Sh_of eh1 (Sh_sto hS (a := 454) (i := 51) (by decide +kernel))
  clear eh1
  refine EQ_jb (eX14_in a3 0 8) (fun v3 r2 => ?_)
  refine EQ_if Iff.rfl (fun c3 => ?_) (fun c3 => ?_)
  · exact EQ_some s1
  · refine EQ_jgd (show h1 454 (-2) = 15 from by rw [k_454 s1]) ?_
    refine EQ_jgd ⟨(show h1 (h1 454 139) (-2) = 105 from by rw [r_454_139 s1, k_851 s1]), (show jI 0 (h1 (h1 454 139) (-1)) from by rw [r_454_139 s1, l_851 s1]; unfold jI; decide)⟩ ?_
    refine EQ_jgd (show h1 454 (-2) = 15 from by rw [k_454 s1]) ?_
    refine EQ_jgd ⟨(show h1 (h1 454 140) (-2) = 105 from by rw [r_454_140 s1, k_861 s1]), (show jI 0 (h1 (h1 454 140) (-1)) from by rw [r_454_140 s1, l_861 s1]; unfold jI; decide)⟩ ?_
    refine EQ_jgd (show h1 454 (-2) = 15 from by rw [k_454 s1]) ?_
    refine EQ_jb (by rw [r_454_139 s1, r_454_140 s1]; exact eX14_inputs_2 (h1 851 0) (h1 861 0) s1) (fun h6 r4 => ?_)
    refine EQ_jb (eX14_goal_l38 a1 a3 0 r4) (fun o7 r5 => ?_)
    refine EQ_jm r5 (fun o9 r6 => ?_) (fun o10 r7 => ?_)
    · exact EQ_some r6
    · refine EQ_jgd (show o10 454 (-2) = 15 from by rw [k_454 r7]) ?_
      refine EQ_jg ⟨fun ⟨_, x0⟩ => (show jI a3 (o10 (o10 454 139) (-1)) ↔ jI a3 9 from by rw [r_454_139 r7, l_851 r7]).mp x0, fun x0 => ⟨(show o10 (o10 454 139) (-2) = 105 from by rw [r_454_139 r7, k_851 r7]), (show jI a3 (o10 (o10 454 139) (-1)) ↔ jI a3 9 from by rw [r_454_139 r7, l_851 r7]).mpr x0⟩⟩ (fun g8 => ?_)
      refine EQ_jgd (show o10 454 (-2) = 15 from by rw [k_454 r7]) ?_
      refine EQ_jb (by rw [r_454_139 r7, rr_851 r7 g8]; exact eX14_goalOf (852 + a3) r7) (fun v12 r9 => ?_)
      exact EQ_some r7
noncomputable def gX14_sumOf_2_b4 (i0 : Int) (h : AH) (s : Int × Int) : Option ((Int × Int) ⊕ (Int)) := jt2 s fun a1 a2 => if 124 ≤ a2 then (some (.inr a1)) else (jg (h i0 (-2) = 101 ∧ jI a2 (h i0 (-1))) <| jl (jxor a1 (h i0 a2)) fun x4 => jl (jor (jshl x4 5) (jushr x4 27)) fun x5 => jl (w32 (x5 * (-1640531535))) fun x6 => jl (w32 (a2 + 1)) fun x7 => some (.inl (x6, x7)))
theorem eX14_sumOf_2_b4 (i0 : Int) (s : Int × Int) {h : AH} (hS : Sh S h) : EQ (fX14_sumOf_2_b4 i0 h s) (gX14_sumOf_2_b4 i0 h s) (Sum.elim (fun _ => True) (fun _ => True)) := by
  unfold fX14_sumOf_2_b4 gX14_sumOf_2_b4
  obtain ⟨a1, a2⟩ := s
  refine EQ_jt2 ?_
  refine EQ_if Iff.rfl (fun c1 => ?_) (fun c1 => ?_)
  · exact EQ_some trivial
  · refine EQ_jg Iff.rfl (fun g2 => ?_)
    refine EQ_jl rfl (fun x4 ex4 => ?_)
    clear ex4
    refine EQ_jl rfl (fun x5 ex5 => ?_)
    clear ex5
    refine EQ_jl rfl (fun x6 ex6 => ?_)
    clear ex6
    refine EQ_jl rfl (fun x7 ex7 => ?_)
    clear ex7
    exact EQ_some trivial
noncomputable def gX14_sumOf_2_l4 (i0 : Int) (a1 : Int) (a2 : Int) (h : AH) : Option (Int) := jit (gX14_sumOf_2_b4 i0 h) (a1, a2)
theorem eX14_sumOf_2_l4 (i0 : Int) (a1 : Int) (a2 : Int) {h : AH} (hS : Sh S h) : EQ (fX14_sumOf_2_l4 i0 a1 a2 h) (gX14_sumOf_2_l4 i0 a1 a2 h) (fun _ => True) := EQ_jit (I := (fun _ => True)) (fun s _ => eX14_sumOf_2_b4 i0 s hS) trivial
noncomputable def gX14_sumOf_2 (a0 : Int) (h : AH) : Option (Int) := jb (gX14_sumOf_2_l4 a0 0 0 h) fun o1 => some o1
theorem eX14_sumOf_2 (a0 : Int) {h : AH} (hS : Sh S h) : EQ (fX14_sumOf_2 a0 h) (gX14_sumOf_2 a0 h) (fun _ => True) := by
  unfold fX14_sumOf_2 gX14_sumOf_2
  refine EQ_jb (eX14_sumOf_2_l4 a0 0 0 hS) (fun o1 r1 => ?_)
  exact EQ_some trivial
noncomputable def gX14_sync_j299_20 (a1 : Int) (a2 : Int) (t1 : Int) (h : AH) : Option ((Int × AH) ⊕ ((Int × AH) ⊕ (AH))) := jl (jst h 454 161 t1) fun h36 => jl (w32 (a2 + 1)) fun x37 => some (.inl (x37, h36))
theorem eX14_sync_j299_20 (a1 : Int) (a2 : Int) (t1 : Int) {h : AH} (hS : Sh S h) : EQ (fX14_sync_j299_20 454 a1 a2 454 t1 h) (gX14_sync_j299_20 a1 a2 t1 h) (Sum.elim (fun r => Sh S r.2) (Sum.elim (fun r => Sh S r.2) (fun r => Sh S r))) := by
  unfold fX14_sync_j299_20 gX14_sync_j299_20
  refine EQ_jgd ⟨(show h 454 (-2) = 15 from by rw [k_454 hS]), (show (200 : Int) ≤ 454 from (by decide))⟩ ?_
  refine EQ_jl rfl (fun h36 eh36 => ?_)
  have s1 := Sh_of eh36 (Sh_sto hS (a := 454) (i := 161) (by decide +kernel))
  clear eh36
  refine EQ_jl rfl (fun x37 ex37 => ?_)
  clear ex37
  exact EQ_some s1
noncomputable def gX14_sync_j217_200 (a1 : Int) (a2 : Int) (a4 : Int) (a5 : Int) (t0 : Int) (t1 : Int) (h : AH) : Option ((Int × AH) ⊕ (AH)) := if t1 ≤ t0 then (some (.inr h)) else (jg (jI (w32 (w32 (h 454 160 + 1) + a2)) 201) <| jg (jI a5 128) <| jl (jst h (874 + w32 (w32 (h 454 160 + 1) + a2)) a5 (h 1075 a5)) fun h40 => jl (w32 (a5 + 1)) fun x41 => some (.inl (x41, h40)))
theorem eX14_sync_j217_200 (a1 : Int) (a2 : Int) (a4 : Int) (a5 : Int) (t0 : Int) (t1 : Int) {h : AH} (hS : Sh S h) : EQ (fX14_sync_j217_200 454 a1 a2 a4 a5 t0 t1 h) (gX14_sync_j217_200 a1 a2 a4 a5 t0 t1 h) (Sum.elim (fun r => Sh S r.2) (fun r => Sh S r)) := by
  unfold fX14_sync_j217_200 gX14_sync_j217_200
  refine EQ_if Iff.rfl (fun c1 => ?_) (fun c1 => ?_)
  · exact EQ_some hS
  · refine EQ_jgd (show h 454 (-2) = 15 from by rw [k_454 hS]) ?_
    refine EQ_jgd (show h 454 (-2) = 15 from by rw [k_454 hS]) ?_
    refine EQ_jg ⟨fun ⟨_, x0⟩ => (show jI (w32 (w32 (h 454 160 + 1) + a2)) (h (h 454 157) (-1)) ↔ jI (w32 (w32 (h 454 160 + 1) + a2)) 201 from by rw [r_454_157 hS, l_873 hS]).mp x0, fun x0 => ⟨(show h (h 454 157) (-2) = 105 from by rw [r_454_157 hS, k_873 hS]), (show jI (w32 (w32 (h 454 160 + 1) + a2)) (h (h 454 157) (-1)) ↔ jI (w32 (w32 (h 454 160 + 1) + a2)) 201 from by rw [r_454_157 hS, l_873 hS]).mpr x0⟩⟩ (fun g2 => ?_)
    refine EQ_jgd (show h 454 (-2) = 15 from by rw [k_454 hS]) ?_
    refine EQ_jg ⟨fun ⟨_, x0⟩ => (show jI a5 (h (h 454 158) (-1)) ↔ jI a5 128 from by rw [r_454_158 hS, l_1075 hS]).mp x0, fun x0 => ⟨(show h (h 454 158) (-2) = 101 from by rw [r_454_158 hS, k_1075 hS]), (show jI a5 (h (h 454 158) (-1)) ↔ jI a5 128 from by rw [r_454_158 hS, l_1075 hS]).mpr x0⟩⟩ (fun g3 => ?_)
    refine EQ_jgd ⟨(show h (h (h 454 157) (w32 (w32 (h 454 160 + 1) + a2))) (-2) = 101 from by rw [r_454_157 hS, rr_873 hS g2, rk_873 hS g2]), (show 200 ≤ h (h 454 157) (w32 (w32 (h 454 160 + 1) + a2)) from by rw [r_454_157 hS, rr_873 hS g2]; exact rge_873 g2), ((show jI a5 (h (h (h 454 157) (w32 (w32 (h 454 160 + 1) + a2))) (-1)) ↔ jI a5 128 from by rw [r_454_157 hS, rr_873 hS g2, rl_873 hS g2]).mpr g3)⟩ ?_
    refine EQ_jl (by rw [r_454_157 hS, rr_873 hS g2, r_454_158 hS]) (fun h40 eh40 => ?_)
    have s4 := Sh_of eh40 (Sh_sta hS (arr_873 g2) (jI_nn g3) (fun e => absurd ((rk_873 hS g2).symm.trans e) (by decide)))
    clear eh40
    refine EQ_jl rfl (fun x41 ex41 => ?_)
    clear ex41
    exact EQ_some s4
noncomputable def gX14_sync_b200 (i1 : Int) (i2 : Int) (i4 : Int) (s : Int × AH) : Option ((Int × AH) ⊕ (AH)) := jt2 s fun a5 h => if i4 = 0 then (gX14_sync_j217_200 i1 i2 i4 a5 a5 128 h) else (gX14_sync_j217_200 i1 i2 i4 a5 a5 (h 454 162) h)
theorem eX14_sync_b200 (i1 : Int) (i2 : Int) (i4 : Int) {s : Int × AH} (hS : (fun r => Sh S r.2) s) : EQ (fX14_sync_b200 454 i1 i2 i4 s) (gX14_sync_b200 i1 i2 i4 s) (Sum.elim (fun r => Sh S r.2) (fun r => Sh S r)) := by
  unfold fX14_sync_b200 gX14_sync_b200
  obtain ⟨a5, h⟩ := s
  refine EQ_jt2 ?_
  replace hS : Sh S h := hS
  refine EQ_if Iff.rfl (fun c1 => ?_) (fun c1 => ?_)
  · exact (eX14_sync_j217_200 i1 i2 i4 a5 a5 128 hS)
  · refine EQ_jgd (show h 454 (-2) = 15 from by rw [k_454 hS]) ?_
    exact (eX14_sync_j217_200 i1 i2 i4 a5 a5 (h 454 162) hS)
noncomputable def gX14_sync_l200 (i1 : Int) (i2 : Int) (i4 : Int) (a5 : Int) (h : AH) : Option (AH) := jit (gX14_sync_b200 i1 i2 i4) (a5, h)
theorem eX14_sync_l200 (i1 : Int) (i2 : Int) (i4 : Int) (a5 : Int) {h : AH} (hS : Sh S h) : EQ (fX14_sync_l200 454 i1 i2 i4 a5 h) (gX14_sync_l200 i1 i2 i4 a5 h) (fun r => Sh S r) := EQ_jit (I := (fun r => Sh S r.2)) (fun s hs => eX14_sync_b200 i1 i2 i4 hs) hS
noncomputable def gX14_sync_j195_20 (a1 : Int) (a2 : Int) (t0 : Int) (h : AH) : Option ((Int × AH) ⊕ ((Int × AH) ⊕ (AH))) := jb (gX14_sync_l200 a1 a2 t0 0 h) fun o32 => if t0 = 0 then (if o32 454 161 ≤ 0 then (gX14_sync_j299_20 a1 a2 (o32 454 161) o32) else (gX14_sync_j299_20 a1 a2 (w32 (o32 454 161 - 1)) o32)) else (some (.inr (.inl (a2, o32))))
theorem eX14_sync_j195_20 (a1 : Int) (a2 : Int) (t0 : Int) {h : AH} (hS : Sh S h) : EQ (fX14_sync_j195_20 454 a1 a2 t0 h) (gX14_sync_j195_20 a1 a2 t0 h) (Sum.elim (fun r => Sh S r.2) (Sum.elim (fun r => Sh S r.2) (fun r => Sh S r))) := by
  unfold fX14_sync_j195_20 gX14_sync_j195_20
  refine EQ_jb (eX14_sync_l200 a1 a2 t0 0 hS) (fun o32 r1 => ?_)
  refine EQ_if Iff.rfl (fun c2 => ?_) (fun c2 => ?_)
  · refine EQ_jgd (show o32 454 (-2) = 15 from by rw [k_454 r1]) ?_
    refine EQ_if Iff.rfl (fun c3 => ?_) (fun c3 => ?_)
    · refine EQ_jgd (show o32 454 (-2) = 15 from by rw [k_454 r1]) ?_
      exact (eX14_sync_j299_20 a1 a2 (o32 454 161) r1)
    · refine EQ_jgd (show o32 454 (-2) = 15 from by rw [k_454 r1]) ?_
      exact (eX14_sync_j299_20 a1 a2 (w32 (o32 454 161 - 1)) r1)
  · exact EQ_some r1
noncomputable def gX14_sync_b101 (i1 : Int) (i2 : Int) (s : Int × AH) : Option ((Int × AH) ⊕ (AH)) := jt2 s fun a3 h => if h 1075 2 ≤ a3 then (some (.inr h)) else (jg (jI (w32 (w32 (121 * i2) + a3)) 24204) <| jg (jI (w32 (3 + a3)) 128) <| jl (jst h 1075 (w32 (3 + a3)) (h 872 (w32 (w32 (121 * i2) + a3)))) fun h43 => jl (w32 (a3 + 1)) fun x44 => some (.inl (x44, h43)))
theorem eX14_sync_b101 (i1 : Int) (i2 : Int) {s : Int × AH} (hS : (fun r => Sh S r.2) s) : EQ (fX14_sync_b101 454 i1 i2 s) (gX14_sync_b101 i1 i2 s) (Sum.elim (fun r => Sh S r.2) (fun r => Sh S r)) := by
  unfold fX14_sync_b101 gX14_sync_b101
  obtain ⟨a3, h⟩ := s
  refine EQ_jt2 ?_
  replace hS : Sh S h := hS
  refine EQ_jgd (show h 454 (-2) = 15 from by rw [k_454 hS]) ?_
  refine EQ_jgd ⟨(show h (h 454 158) (-2) = 101 from by rw [r_454_158 hS, k_1075 hS]), (show jI 2 (h (h 454 158) (-1)) from by rw [r_454_158 hS, l_1075 hS]; unfold jI; decide)⟩ ?_
  refine EQ_if (show h (h 454 158) 2 ≤ a3 ↔ h 1075 2 ≤ a3 from by rw [r_454_158 hS]) (fun c1 => ?_) (fun c1 => ?_)
  · exact EQ_some hS
  · refine EQ_jgd (show h 454 (-2) = 15 from by rw [k_454 hS]) ?_
    refine EQ_jgd (show h 454 (-2) = 15 from by rw [k_454 hS]) ?_
    refine EQ_jg ⟨fun ⟨_, x0⟩ => (show jI (w32 (w32 (121 * i2) + a3)) (h (h 454 155) (-1)) ↔ jI (w32 (w32 (121 * i2) + a3)) 24204 from by rw [r_454_155 hS, l_872 hS]).mp x0, fun x0 => ⟨(show h (h 454 155) (-2) = 101 from by rw [r_454_155 hS, k_872 hS]), (show jI (w32 (w32 (121 * i2) + a3)) (h (h 454 155) (-1)) ↔ jI (w32 (w32 (121 * i2) + a3)) 24204 from by rw [r_454_155 hS, l_872 hS]).mpr x0⟩⟩ (fun g2 => ?_)
    refine EQ_jg ⟨fun ⟨_, _, x0⟩ => (show jI (w32 (3 + a3)) (h (h 454 158) (-1)) ↔ jI (w32 (3 + a3)) 128 from by rw [r_454_158 hS, l_1075 hS]).mp x0, fun x0 => ⟨(show h (h 454 158) (-2) = 101 from by rw [r_454_158 hS, k_1075 hS]), (show 200 ≤ h 454 158 from by rw [r_454_158 hS]; exact (by decide)), (show jI (w32 (3 + a3)) (h (h 454 158) (-1)) ↔ jI (w32 (3 + a3)) 128 from by rw [r_454_158 hS, l_1075 hS]).mpr x0⟩⟩ (fun g3 => ?_)
    refine EQ_jl (by rw [r_454_158 hS, r_454_155 hS]) (fun h43 eh43 => ?_)
    have s4 := Sh_of eh43 (Sh_sta hS (by decide +kernel) (jI_nn g3) (fun e => absurd ((k_1075 hS).symm.trans e) (by decide)))
    clear eh43
    refine EQ_jl rfl (fun x44 ex44 => ?_)
    clear ex44
    exact EQ_some s4
noncomputable def gX14_sync_l101 (i1 : Int) (i2 : Int) (a3 : Int) (h : AH) : Option (AH) := jit (gX14_sync_b101 i1 i2) (a3, h)
theorem eX14_sync_l101 (i1 : Int) (i2 : Int) (a3 : Int) {h : AH} (hS : Sh S h) : EQ (fX14_sync_l101 454 i1 i2 a3 h) (gX14_sync_l101 i1 i2 a3 h) (fun r => Sh S r) := EQ_jit (I := (fun r => Sh S r.2)) (fun s hs => eX14_sync_b101 i1 i2 hs) hS
noncomputable def gX14_sync_b147 (i1 : Int) (i2 : Int) (i3 : Int) (s : Int × AH) : Option ((Int × AH) ⊕ (AH)) := jt2 s fun a4 h => if 4 ≤ a4 then (some (.inr h)) else (jg (jI (w32 (124 + a4)) 128) <| jl (jst h 1075 (w32 (124 + a4)) (jand (jushr i3 (w32 (24 - w32 (8 * a4)))) 255)) fun h46 => jl (w32 (a4 + 1)) fun x47 => some (.inl (x47, h46)))
theorem eX14_sync_b147 (i1 : Int) (i2 : Int) (i3 : Int) {s : Int × AH} (hS : (fun r => Sh S r.2) s) : EQ (fX14_sync_b147 454 i1 i2 i3 s) (gX14_sync_b147 i1 i2 i3 s) (Sum.elim (fun r => Sh S r.2) (fun r => Sh S r)) := by
  unfold fX14_sync_b147 gX14_sync_b147
  obtain ⟨a4, h⟩ := s
  refine EQ_jt2 ?_
  replace hS : Sh S h := hS
  refine EQ_if Iff.rfl (fun c1 => ?_) (fun c1 => ?_)
  · exact EQ_some hS
  · refine EQ_jgd (show h 454 (-2) = 15 from by rw [k_454 hS]) ?_
    refine EQ_jg ⟨fun ⟨_, _, x0⟩ => (show jI (w32 (124 + a4)) (h (h 454 158) (-1)) ↔ jI (w32 (124 + a4)) 128 from by rw [r_454_158 hS, l_1075 hS]).mp x0, fun x0 => ⟨(show h (h 454 158) (-2) = 101 from by rw [r_454_158 hS, k_1075 hS]), (show 200 ≤ h 454 158 from by rw [r_454_158 hS]; exact (by decide)), (show jI (w32 (124 + a4)) (h (h 454 158) (-1)) ↔ jI (w32 (124 + a4)) 128 from by rw [r_454_158 hS, l_1075 hS]).mpr x0⟩⟩ (fun g2 => ?_)
    refine EQ_jl (by rw [r_454_158 hS]) (fun h46 eh46 => ?_)
    have s3 := Sh_of eh46 (Sh_sta hS (by decide +kernel) (jI_nn g2) (fun e => absurd ((k_1075 hS).symm.trans e) (by decide)))
    clear eh46
    refine EQ_jl rfl (fun x47 ex47 => ?_)
    clear ex47
    exact EQ_some s3
noncomputable def gX14_sync_l147 (i1 : Int) (i2 : Int) (i3 : Int) (a4 : Int) (h : AH) : Option (AH) := jit (gX14_sync_b147 i1 i2 i3) (a4, h)
theorem eX14_sync_l147 (i1 : Int) (i2 : Int) (i3 : Int) (a4 : Int) {h : AH} (hS : Sh S h) : EQ (fX14_sync_l147 454 i1 i2 i3 a4 h) (gX14_sync_l147 i1 i2 i3 a4 h) (fun r => Sh S r) := EQ_jit (I := (fun r => Sh S r.2)) (fun s hs => eX14_sync_b147 i1 i2 i3 hs) hS
noncomputable def gX14_sync_j78_20 (a1 : Int) (a2 : Int) (t1 : Int) (t2 : Int) (h : AH) : Option ((Int × AH) ⊕ ((Int × AH) ⊕ (AH))) := jg (jI t1 128) <| jl (jst h 1075 t1 t2) fun h23 => jl (jst h23 1075 2 (min 121 (w32 (h23 454 156 - w32 (121 * a2))))) fun h24 => jb (gX14_sync_l101 a1 a2 0 h24) fun o25 => jb (gX14_sumOf_2 1075 o25) fun v28 => jb (gX14_sync_l147 a1 a2 v28 0 o25) fun o29 => if o29 454 161 = 0 then (gX14_sync_j195_20 a1 a2 1 o29) else (gX14_sync_j195_20 a1 a2 0 o29)
theorem eX14_sync_j78_20 (a1 : Int) (a2 : Int) (t1 : Int) (t2 : Int) {h : AH} (hS : Sh S h) : EQ (fX14_sync_j78_20 454 a1 a2 1075 t1 t2 h) (gX14_sync_j78_20 a1 a2 t1 t2 h) (Sum.elim (fun r => Sh S r.2) (Sum.elim (fun r => Sh S r.2) (fun r => Sh S r))) := by
  unfold fX14_sync_j78_20 gX14_sync_j78_20
  refine EQ_jg ⟨fun ⟨_, _, x0⟩ => (show jI t1 (h 1075 (-1)) ↔ jI t1 128 from by rw [l_1075 hS]).mp x0, fun x0 => ⟨(show h 1075 (-2) = 101 from by rw [k_1075 hS]), (show (200 : Int) ≤ 1075 from (by decide)), (show jI t1 (h 1075 (-1)) ↔ jI t1 128 from by rw [l_1075 hS]).mpr x0⟩⟩ (fun g1 => ?_)
  refine EQ_jl rfl (fun h23 eh23 => ?_)
  have s2 := Sh_of eh23 (Sh_sta hS (by decide +kernel) (jI_nn g1) (fun e => absurd ((k_1075 hS).symm.trans e) (by decide)))
  clear eh23
  refine EQ_jgd (show h23 454 (-2) = 15 from by rw [k_454 s2]) ?_
  refine EQ_jgd (show h23 454 (-2) = 15 from by rw [k_454 s2]) ?_
  refine EQ_jgd ⟨(show h23 (h23 454 158) (-2) = 101 from by rw [r_454_158 s2, k_1075 s2]), (show 200 ≤ h23 454 158 from by rw [r_454_158 s2]; exact (by decide)), (show jI 2 (h23 (h23 454 158) (-1)) from by rw [r_454_158 s2, l_1075 s2]; unfold jI; decide)⟩ ?_
  refine EQ_jl (by rw [r_454_158 s2]) (fun h24 eh24 => ?_)
  have s3 := Sh_of eh24 (Sh_sta s2 (by decide +kernel) (by decide) (fun e => absurd ((k_1075 s2).symm.trans e) (by decide)))
  clear eh24
  refine EQ_jb (eX14_sync_l101 a1 a2 0 s3) (fun o25 r4 => ?_)
  refine EQ_jgd (show o25 454 (-2) = 15 from by rw [k_454 r4]) ?_
  refine EQ_jb (by rw [r_454_158 r4]; exact eX14_sumOf_2 1075 r4) (fun v28 r5 => ?_)
  refine EQ_jb (eX14_sync_l147 a1 a2 v28 0 r4) (fun o29 r6 => ?_)
  refine EQ_jgd (show o29 454 (-2) = 15 from by rw [k_454 r6]) ?_
  refine EQ_if Iff.rfl (fun c7 => ?_) (fun c7 => ?_)
  · exact (eX14_sync_j195_20 a1 a2 1 r6)
  · exact (eX14_sync_j195_20 a1 a2 0 r6)
noncomputable def gX14_sync_b27 (i1 : Int) (i2 : Int) (s : Int × AH) : Option ((Int × AH) ⊕ (AH)) := jt2 s fun a3 h => if 128 ≤ a3 then (some (.inr h)) else (jg (jI a3 128) <| jl (jst h 1075 a3 0) fun h49 => jl (w32 (a3 + 1)) fun x50 => some (.inl (x50, h49)))
theorem eX14_sync_b27 (i1 : Int) (i2 : Int) {s : Int × AH} (hS : (fun r => Sh S r.2) s) : EQ (fX14_sync_b27 454 i1 i2 s) (gX14_sync_b27 i1 i2 s) (Sum.elim (fun r => Sh S r.2) (fun r => Sh S r)) := by
  unfold fX14_sync_b27 gX14_sync_b27
  obtain ⟨a3, h⟩ := s
  refine EQ_jt2 ?_
  replace hS : Sh S h := hS
  refine EQ_if Iff.rfl (fun c1 => ?_) (fun c1 => ?_)
  · exact EQ_some hS
  · refine EQ_jgd (show h 454 (-2) = 15 from by rw [k_454 hS]) ?_
    refine EQ_jg ⟨fun ⟨_, _, x0⟩ => (show jI a3 (h (h 454 158) (-1)) ↔ jI a3 128 from by rw [r_454_158 hS, l_1075 hS]).mp x0, fun x0 => ⟨(show h (h 454 158) (-2) = 101 from by rw [r_454_158 hS, k_1075 hS]), (show 200 ≤ h 454 158 from by rw [r_454_158 hS]; exact (by decide)), (show jI a3 (h (h 454 158) (-1)) ↔ jI a3 128 from by rw [r_454_158 hS, l_1075 hS]).mpr x0⟩⟩ (fun g2 => ?_)
    refine EQ_jl (by rw [r_454_158 hS]) (fun h49 eh49 => ?_)
    have s3 := Sh_of eh49 (Sh_sta hS (by decide +kernel) (jI_nn g2) (fun e => absurd ((k_1075 hS).symm.trans e) (by decide)))
    clear eh49
    refine EQ_jl rfl (fun x50 ex50 => ?_)
    clear ex50
    exact EQ_some s3
noncomputable def gX14_sync_l27 (i1 : Int) (i2 : Int) (a3 : Int) (h : AH) : Option (AH) := jit (gX14_sync_b27 i1 i2) (a3, h)
theorem eX14_sync_l27 (i1 : Int) (i2 : Int) (a3 : Int) {h : AH} (hS : Sh S h) : EQ (fX14_sync_l27 454 i1 i2 a3 h) (gX14_sync_l27 i1 i2 a3 h) (fun r => Sh S r) := EQ_jit (I := (fun r => Sh S r.2)) (fun s hs => eX14_sync_b27 i1 i2 hs) hS
noncomputable def gX14_sync_b20 (i1 : Int) (s : Int × AH) : Option ((Int × AH) ⊕ ((Int × AH) ⊕ (AH))) := jt2 s fun a2 h => if i1 ≤ a2 then (some (.inr (.inr h))) else (jb (gX14_sync_l27 i1 a2 0 h) fun o19 => jl (jst o19 1075 0 (w32 (w32 (o19 454 160 + 1) + a2))) fun h21 => if a2 = w32 (i1 - 1) then (gX14_sync_j78_20 i1 a2 1 1 h21) else (gX14_sync_j78_20 i1 a2 1 0 h21))
theorem eX14_sync_b20 (i1 : Int) {s : Int × AH} (hS : (fun r => Sh S r.2) s) : EQ (fX14_sync_b20 454 i1 s) (gX14_sync_b20 i1 s) (Sum.elim (fun r => Sh S r.2) (Sum.elim (fun r => Sh S r.2) (fun r => Sh S r))) := by
  unfold fX14_sync_b20 gX14_sync_b20
  obtain ⟨a2, h⟩ := s
  refine EQ_jt2 ?_
  replace hS : Sh S h := hS
  refine EQ_if Iff.rfl (fun c1 => ?_) (fun c1 => ?_)
  · exact EQ_some hS
  · refine EQ_jb (eX14_sync_l27 i1 a2 0 hS) (fun o19 r2 => ?_)
    refine EQ_jgd (show o19 454 (-2) = 15 from by rw [k_454 r2]) ?_
    refine EQ_jgd (show o19 454 (-2) = 15 from by rw [k_454 r2]) ?_
    refine EQ_jgd ⟨(show o19 (o19 454 158) (-2) = 101 from by rw [r_454_158 r2, k_1075 r2]), (show 200 ≤ o19 454 158 from by rw [r_454_158 r2]; exact (by decide)), (show jI 0 (o19 (o19 454 158) (-1)) from by rw [r_454_158 r2, l_1075 r2]; unfold jI; decide)⟩ ?_
    refine EQ_jl (by rw [r_454_158 r2]) (fun h21 eh21 => ?_)
    have s3 := Sh_of eh21 (Sh_sta r2 (by decide +kernel) (by decide) (fun e => absurd ((k_1075 r2).symm.trans e) (by decide)))
    clear eh21
    refine EQ_jgd (show h21 454 (-2) = 15 from by rw [k_454 s3]) ?_
    refine EQ_if Iff.rfl (fun c4 => ?_) (fun c4 => ?_)
    · exact (by rw [r_454_158 s3]; exact eX14_sync_j78_20 i1 a2 1 1 s3)
    · exact (by rw [r_454_158 s3]; exact eX14_sync_j78_20 i1 a2 1 0 s3)
noncomputable def gX14_sync_l20 (i1 : Int) (a2 : Int) (h : AH) : Option ((Int × AH) ⊕ (AH)) := jit (gX14_sync_b20 i1) (a2, h)
theorem eX14_sync_l20 (i1 : Int) (a2 : Int) {h : AH} (hS : Sh S h) : EQ (fX14_sync_l20 454 i1 a2 h) (gX14_sync_l20 i1 a2 h) (Sum.elim (fun r => Sh S r.2) (fun r => Sh S r)) := EQ_jit (I := (fun r => Sh S r.2)) (fun s hs => eX14_sync_b20 i1 hs) hS
noncomputable def gX14_sync (h : AH) : Option (Int × AH) := jb2 (gX14_isDown h) fun v2 h3 => if v2 = 0 then (jb (gX14_blocksFor (h3 454 156)) fun v6 => jb (gX14_sync_l20 v6 0 h3) fun o7 => jm o7 (fun o9 => jt2 o9 fun y11 h12 => jg (jI (w32 (w32 (h12 454 160 + 1) + y11)) 201) <| jl (jst h12 (874 + w32 (w32 (h12 454 160 + 1) + y11)) 1 2) fun h13 => jl (jst h13 454 54 1) fun h14 => some ((-4), h14)) (fun o10 => jl (jst o10 454 154 0) fun h15 => jl (jst h15 454 156 0) fun h16 => jl (jst h16 454 160 (w32 (h16 454 160 + v6))) fun h17 => some (v6, h17))) else (some ((-5), h3))
theorem eX14_sync {h : AH} (hS : Sh S h) : EQ (fX14_sync 454 h) (gX14_sync h) (fun r => Sh S r.2) := by
  unfold fX14_sync gX14_sync
  refine EQ_jgd (show h 454 (-2) = 15 from by rw [k_454 hS]) ?_
  refine EQ_jb2 (eX14_isDown hS) (fun v2 h3 r1 => ?_)
  replace r1 : Sh S h3 := r1
  refine EQ_if Iff.rfl (fun c2 => ?_) (fun c2 => ?_)
  · refine EQ_jgd (show h3 454 (-2) = 15 from by rw [k_454 r1]) ?_
    refine EQ_jb (eX14_blocksFor (h3 454 156)) (fun v6 r3 => ?_)
    refine EQ_jb (eX14_sync_l20 v6 0 r1) (fun o7 r4 => ?_)
    refine EQ_jm r4 (fun o9 r5 => ?_) (fun o10 r6 => ?_)
    · obtain ⟨y11, h12⟩ := o9
      refine EQ_jt2 ?_
      replace r5 : Sh S h12 := r5
      refine EQ_jgd (show h12 454 (-2) = 15 from by rw [k_454 r5]) ?_
      refine EQ_jgd (show h12 454 (-2) = 15 from by rw [k_454 r5]) ?_
      refine EQ_jg ⟨fun ⟨_, x0⟩ => (show jI (w32 (w32 (h12 454 160 + 1) + y11)) (h12 (h12 454 157) (-1)) ↔ jI (w32 (w32 (h12 454 160 + 1) + y11)) 201 from by rw [r_454_157 r5, l_873 r5]).mp x0, fun x0 => ⟨(show h12 (h12 454 157) (-2) = 105 from by rw [r_454_157 r5, k_873 r5]), (show jI (w32 (w32 (h12 454 160 + 1) + y11)) (h12 (h12 454 157) (-1)) ↔ jI (w32 (w32 (h12 454 160 + 1) + y11)) 201 from by rw [r_454_157 r5, l_873 r5]).mpr x0⟩⟩ (fun g7 => ?_)
      refine EQ_jgd ⟨(show h12 (h12 (h12 454 157) (w32 (w32 (h12 454 160 + 1) + y11))) (-2) = 101 from by rw [r_454_157 r5, rr_873 r5 g7, rk_873 r5 g7]), (show 200 ≤ h12 (h12 454 157) (w32 (w32 (h12 454 160 + 1) + y11)) from by rw [r_454_157 r5, rr_873 r5 g7]; exact rge_873 g7), (show jI 1 (h12 (h12 (h12 454 157) (w32 (w32 (h12 454 160 + 1) + y11))) (-1)) from by rw [r_454_157 r5, rr_873 r5 g7, rl_873 r5 g7]; unfold jI; decide)⟩ ?_
      refine EQ_jl (by rw [r_454_157 r5, rr_873 r5 g7]) (fun h13 eh13 => ?_)
      have s8 := Sh_of eh13 (Sh_sta r5 (arr_873 g7) (by decide) (fun e => absurd ((rk_873 r5 g7).symm.trans e) (by decide)))
      clear eh13
      refine EQ_jgd ⟨(show h13 454 (-2) = 15 from by rw [k_454 s8]), (show (200 : Int) ≤ 454 from (by decide)), (show jZ 1 from by unfold jZ; decide)⟩ ?_
      refine EQ_jl rfl (fun h14 eh14 => ?_)
      have s9 := Sh_of eh14 (Sh_sto s8 (a := 454) (i := 54) (by decide +kernel))
      clear eh14
      exact EQ_some s9
    · refine EQ_jgd ⟨(show o10 454 (-2) = 15 from by rw [k_454 r6]), (show (200 : Int) ≤ 454 from (by decide))⟩ ?_
      refine EQ_jl rfl (fun h15 eh15 => ?_)
      have s10 := Sh_of eh15 (Sh_sto r6 (a := 454) (i := 154) (by decide +kernel))
      clear eh15
      refine EQ_jgd ⟨(show h15 454 (-2) = 15 from by rw [k_454 s10]), (show (200 : Int) ≤ 454 from (by decide))⟩ ?_
      refine EQ_jl rfl (fun h16 eh16 => ?_)
      have s11 := Sh_of eh16 (Sh_sto s10 (a := 454) (i := 156) (by decide +kernel))
      clear eh16
      refine EQ_jgd (show h16 454 (-2) = 15 from by rw [k_454 s11]) ?_
      refine EQ_jgd ⟨(show h16 454 (-2) = 15 from by rw [k_454 s11]), (show (200 : Int) ≤ 454 from (by decide))⟩ ?_
      refine EQ_jl rfl (fun h17 eh17 => ?_)
      have s12 := Sh_of eh17 (Sh_sto s11 (a := 454) (i := 160) (by decide +kernel))
      clear eh17
      exact EQ_some s12
  · exact EQ_some r1
noncomputable def gX14_cut (a1 : Int) (a2 : Int) (h : AH) : Option (Int × AH) := jb2 (gX14_isDown h) fun v2 h3 => if v2 = 0 then (jb (gX14_in a1 (-1) 400) fun v6 => if v6 = 0 then (some ((-1), h3)) else (jb (gX14_in a2 0 127) fun v9 => if v9 = 0 then (some ((-1), h3)) else (jl (jst h3 454 161 a1) fun h11 => jl (jst h11 454 162 a2) fun h12 => some (1, h12)))) else (some ((-5), h3))
theorem eX14_cut (a1 : Int) (a2 : Int) {h : AH} (hS : Sh S h) : EQ (fX14_cut 454 a1 a2 h) (gX14_cut a1 a2 h) (fun r => Sh S r.2) := by
  unfold fX14_cut gX14_cut
  refine EQ_jgd (show h 454 (-2) = 15 from by rw [k_454 hS]) ?_
  refine EQ_jb2 (eX14_isDown hS) (fun v2 h3 r1 => ?_)
  replace r1 : Sh S h3 := r1
  refine EQ_if Iff.rfl (fun c2 => ?_) (fun c2 => ?_)
  · refine EQ_jb (eX14_in a1 (-1) 400) (fun v6 r3 => ?_)
    refine EQ_if Iff.rfl (fun c4 => ?_) (fun c4 => ?_)
    · exact EQ_some r1
    · refine EQ_jb (eX14_in a2 0 127) (fun v9 r5 => ?_)
      refine EQ_if Iff.rfl (fun c6 => ?_) (fun c6 => ?_)
      · exact EQ_some r1
      · refine EQ_jgd ⟨(show h3 454 (-2) = 15 from by rw [k_454 r1]), (show (200 : Int) ≤ 454 from (by decide))⟩ ?_
        refine EQ_jl rfl (fun h11 eh11 => ?_)
        have s7 := Sh_of eh11 (Sh_sto r1 (a := 454) (i := 161) (by decide +kernel))
        clear eh11
        refine EQ_jgd ⟨(show h11 454 (-2) = 15 from by rw [k_454 s7]), (show (200 : Int) ≤ 454 from (by decide))⟩ ?_
        refine EQ_jl rfl (fun h12 eh12 => ?_)
        have s8 := Sh_of eh12 (Sh_sto s7 (a := 454) (i := 162) (by decide +kernel))
        clear eh12
        exact EQ_some s8
  · exact EQ_some r1
noncomputable def gX14_isRight_j65 (a2 : Int) (h : AH) : Option (Int) := jg (h a2 (-2) = 101 ∧ jI 1 (h a2 (-1))) <| if h a2 1 = 1 then (jg (jI 2 (h a2 (-1))) <| jb (gX14_in (h a2 2) 1 121) fun v11 => if v11 = 0 then (some 0) else (some 1)) else (some 0)
theorem eX14_isRight_j65 (a2 : Int) {h : AH} (hS : Sh S h) : EQ (fX14_isRight_j65 a2 h) (gX14_isRight_j65 a2 h) (fun _ => True) := by
  unfold fX14_isRight_j65 gX14_isRight_j65
  refine EQ_jg Iff.rfl (fun g1 => ?_)
  refine EQ_if Iff.rfl (fun c2 => ?_) (fun c2 => ?_)
  · refine EQ_jg ⟨fun ⟨_, x0⟩ => x0, fun x0 => ⟨(g1.1), x0⟩⟩ (fun g3 => ?_)
    refine EQ_jb (eX14_in (h a2 2) 1 121) (fun v11 r4 => ?_)
    refine EQ_if Iff.rfl (fun c5 => ?_) (fun c5 => ?_)
    · exact EQ_some trivial
    · exact EQ_some trivial
  · exact EQ_some trivial
noncomputable def gX14_isRight (a1 : Int) (h : AH) : Option (Int) := jg (jI a1 201) <| jl (874 + a1) fun x1 => jl (jor (jor (jor (jshl (h (874 + a1) 124) 24) (jshl (h (874 + a1) 125) 16)) (jshl (h (874 + a1) 126) 8)) (h (874 + a1) 127)) fun x2 => if h (874 + a1) 0 = a1 then (jb (gX14_sumOf_2 (874 + a1) h) fun v5 => if x2 = v5 then (if h (874 + a1) 1 = 0 then (if h (874 + a1) 2 = 121 then (some 1) else (gX14_isRight_j65 (874 + a1) h)) else (gX14_isRight_j65 (874 + a1) h)) else (some 0)) else (some 0)
theorem eX14_isRight (a1 : Int) {h : AH} (hS : Sh S h) : EQ (fX14_isRight 454 a1 h) (gX14_isRight a1 h) (fun _ => True) := by
  unfold fX14_isRight gX14_isRight
  refine EQ_jgd (show h 454 (-2) = 15 from by rw [k_454 hS]) ?_
  refine EQ_jg ⟨fun ⟨_, x0⟩ => (show jI a1 (h (h 454 157) (-1)) ↔ jI a1 201 from by rw [r_454_157 hS, l_873 hS]).mp x0, fun x0 => ⟨(show h (h 454 157) (-2) = 105 from by rw [r_454_157 hS, k_873 hS]), (show jI a1 (h (h 454 157) (-1)) ↔ jI a1 201 from by rw [r_454_157 hS, l_873 hS]).mpr x0⟩⟩ (fun g1 => ?_)
  refine EQ_jl (by rw [r_454_157 hS, rr_873 hS g1]) (fun x1 ex1 => ?_)
  refine EQ_jgd ⟨(show h x1 (-2) = 101 from by rw [ex1, rk_873 hS g1]), (show jI 124 (h x1 (-1)) from by rw [ex1, rl_873 hS g1]; unfold jI; decide)⟩ ?_
  refine EQ_jgd ⟨(show h x1 (-2) = 101 from by rw [ex1, rk_873 hS g1]), (show jI 125 (h x1 (-1)) from by rw [ex1, rl_873 hS g1]; unfold jI; decide)⟩ ?_
  refine EQ_jgd ⟨(show h x1 (-2) = 101 from by rw [ex1, rk_873 hS g1]), (show jI 126 (h x1 (-1)) from by rw [ex1, rl_873 hS g1]; unfold jI; decide)⟩ ?_
  refine EQ_jgd ⟨(show h x1 (-2) = 101 from by rw [ex1, rk_873 hS g1]), (show jI 127 (h x1 (-1)) from by rw [ex1, rl_873 hS g1]; unfold jI; decide)⟩ ?_
  refine EQ_jl (by rw [ex1]) (fun x2 ex2 => ?_)
  clear ex2
  refine EQ_jgd ⟨(show h x1 (-2) = 101 from by rw [ex1, rk_873 hS g1]), (show jI 0 (h x1 (-1)) from by rw [ex1, rl_873 hS g1]; unfold jI; decide)⟩ ?_
  refine EQ_if (show h x1 0 = a1 ↔ h (874 + a1) 0 = a1 from by rw [ex1]) (fun c2 => ?_) (fun c2 => ?_)
  · refine EQ_jb (by rw [ex1]; exact eX14_sumOf_2 (874 + a1) hS) (fun v5 r3 => ?_)
    refine EQ_if Iff.rfl (fun c4 => ?_) (fun c4 => ?_)
    · refine EQ_jgd ⟨(show h x1 (-2) = 101 from by rw [ex1, rk_873 hS g1]), (show jI 1 (h x1 (-1)) from by rw [ex1, rl_873 hS g1]; unfold jI; decide)⟩ ?_
      refine EQ_if (show h x1 1 = 0 ↔ h (874 + a1) 1 = 0 from by rw [ex1]) (fun c5 => ?_) (fun c5 => ?_)
      · refine EQ_jgd ⟨(show h x1 (-2) = 101 from by rw [ex1, rk_873 hS g1]), (show jI 2 (h x1 (-1)) from by rw [ex1, rl_873 hS g1]; unfold jI; decide)⟩ ?_
        refine EQ_if (show h x1 2 = 121 ↔ h (874 + a1) 2 = 121 from by rw [ex1]) (fun c6 => ?_) (fun c6 => ?_)
        · exact EQ_some trivial
        · exact (by rw [ex1]; exact eX14_isRight_j65 (874 + a1) hS)
      · exact (by rw [ex1]; exact eX14_isRight_j65 (874 + a1) hS)
    · exact EQ_some trivial
  · exact EQ_some trivial
noncomputable def gX14_keepAgain_j101_47 (a1 : Int) (a2 : Int) (a3 : Int) (h : AH) : Option ((Int × AH) ⊕ ((AH) ⊕ (AH))) := jl (w32 (a3 + 1)) fun x46 => some (.inl (x46, h))
theorem eX14_keepAgain_j101_47 (a1 : Int) (a2 : Int) (a3 : Int) {h : AH} (hS : Sh S h) : EQ (fX14_keepAgain_j101_47 454 a1 a2 a3 h) (gX14_keepAgain_j101_47 a1 a2 a3 h) (Sum.elim (fun r => Sh S r.2) (Sum.elim (fun r => Sh S r) (fun r => Sh S r))) := by
  unfold fX14_keepAgain_j101_47 gX14_keepAgain_j101_47
  refine EQ_jl rfl (fun x46 ex46 => ?_)
  clear ex46
  exact EQ_some hS
noncomputable def gX14_keepAgain_b47 (i1 : Int) (i2 : Int) (s : Int × AH) : Option ((Int × AH) ⊕ ((AH) ⊕ (AH))) := jt2 s fun a3 h => if i2 ≤ a3 then (some (.inr (.inr h))) else (jg (jI (w32 (1 + a3)) 2000) <| jg (jI a3 3) <| jl (jst h 794 a3 (h 473 (w32 (1 + a3)))) fun h42 => if h42 794 a3 = 110 then (gX14_keepAgain_j101_47 i1 i2 a3 h42) else (if h42 794 a3 = 116 then (gX14_keepAgain_j101_47 i1 i2 a3 h42) else (if h42 794 a3 = 115 then (gX14_keepAgain_j101_47 i1 i2 a3 h42) else (some (.inr (.inl h42))))))
theorem eX14_keepAgain_b47 (i1 : Int) (i2 : Int) {s : Int × AH} (hS : (fun r => Sh S r.2) s) : EQ (fX14_keepAgain_b47 454 i1 i2 s) (gX14_keepAgain_b47 i1 i2 s) (Sum.elim (fun r => Sh S r.2) (Sum.elim (fun r => Sh S r) (fun r => Sh S r))) := by
  unfold fX14_keepAgain_b47 gX14_keepAgain_b47
  obtain ⟨a3, h⟩ := s
  refine EQ_jt2 ?_
  replace hS : Sh S h := hS
  refine EQ_if Iff.rfl (fun c1 => ?_) (fun c1 => ?_)
  · exact EQ_some hS
  · refine EQ_jgd (show h 454 (-2) = 15 from by rw [k_454 hS]) ?_
    refine EQ_jgd (show h 454 (-2) = 15 from by rw [k_454 hS]) ?_
    refine EQ_jg ⟨fun ⟨_, x0⟩ => (show jI (w32 (1 + a3)) (h (h 454 24) (-1)) ↔ jI (w32 (1 + a3)) 2000 from by rw [r_454_24 hS, l_473 hS]).mp x0, fun x0 => ⟨(show h (h 454 24) (-2) = 101 from by rw [r_454_24 hS, k_473 hS]), (show jI (w32 (1 + a3)) (h (h 454 24) (-1)) ↔ jI (w32 (1 + a3)) 2000 from by rw [r_454_24 hS, l_473 hS]).mpr x0⟩⟩ (fun g2 => ?_)
    refine EQ_jg ⟨fun ⟨_, _, x0⟩ => (show jI a3 (h (h 454 65) (-1)) ↔ jI a3 3 from by rw [r_454_65 hS, l_794 hS]).mp x0, fun x0 => ⟨(show h (h 454 65) (-2) = 101 from by rw [r_454_65 hS, k_794 hS]), (show 200 ≤ h 454 65 from by rw [r_454_65 hS]; exact (by decide)), (show jI a3 (h (h 454 65) (-1)) ↔ jI a3 3 from by rw [r_454_65 hS, l_794 hS]).mpr x0⟩⟩ (fun g3 => ?_)
    refine EQ_jl (by rw [r_454_65 hS, r_454_24 hS]) (fun h42 eh42 => ?_)
    have s4 := Sh_of eh42 (Sh_sta hS (by decide +kernel) (jI_nn g3) (fun e => absurd ((k_794 hS).symm.trans e) (by decide)))
    clear eh42
    refine EQ_jgd (show h42 454 (-2) = 15 from by rw [k_454 s4]) ?_
    refine EQ_jgd ⟨(show h42 (h42 454 65) (-2) = 101 from by rw [r_454_65 s4, k_794 s4]), ((show jI a3 (h42 (h42 454 65) (-1)) ↔ jI a3 3 from by rw [r_454_65 s4, l_794 s4]).mpr g3)⟩ ?_
    refine EQ_if (show h42 (h42 454 65) a3 = 110 ↔ h42 794 a3 = 110 from by rw [r_454_65 s4]) (fun c5 => ?_) (fun c5 => ?_)
    · exact (eX14_keepAgain_j101_47 i1 i2 a3 s4)
    · refine EQ_jgd (show h42 454 (-2) = 15 from by rw [k_454 s4]) ?_
      refine EQ_jgd ⟨(show h42 (h42 454 65) (-2) = 101 from by rw [r_454_65 s4, k_794 s4]), ((show jI a3 (h42 (h42 454 65) (-1)) ↔ jI a3 3 from by rw [r_454_65 s4, l_794 s4]).mpr g3)⟩ ?_
      refine EQ_if (show h42 (h42 454 65) a3 = 116 ↔ h42 794 a3 = 116 from by rw [r_454_65 s4]) (fun c6 => ?_) (fun c6 => ?_)
      · exact (eX14_keepAgain_j101_47 i1 i2 a3 s4)
      · refine EQ_jgd (show h42 454 (-2) = 15 from by rw [k_454 s4]) ?_
        refine EQ_jgd ⟨(show h42 (h42 454 65) (-2) = 101 from by rw [r_454_65 s4, k_794 s4]), ((show jI a3 (h42 (h42 454 65) (-1)) ↔ jI a3 3 from by rw [r_454_65 s4, l_794 s4]).mpr g3)⟩ ?_
        refine EQ_if (show h42 (h42 454 65) a3 = 115 ↔ h42 794 a3 = 115 from by rw [r_454_65 s4]) (fun c7 => ?_) (fun c7 => ?_)
        · exact (eX14_keepAgain_j101_47 i1 i2 a3 s4)
        · exact EQ_some s4
noncomputable def gX14_keepAgain_l47 (i1 : Int) (i2 : Int) (a3 : Int) (h : AH) : Option ((AH) ⊕ (AH)) := jit (gX14_keepAgain_b47 i1 i2) (a3, h)
theorem eX14_keepAgain_l47 (i1 : Int) (i2 : Int) (a3 : Int) {h : AH} (hS : Sh S h) : EQ (fX14_keepAgain_l47 454 i1 i2 a3 h) (gX14_keepAgain_l47 i1 i2 a3 h) (Sum.elim (fun r => Sh S r) (fun r => Sh S r)) := EQ_jit (I := (fun r => Sh S r.2)) (fun s hs => eX14_keepAgain_b47 i1 i2 hs) hS
noncomputable def gX14_keepAgain_b111 (i1 : Int) (i2 : Int) (s : Int × AH) : Option ((Int × AH) ⊕ (AH)) := jt2 s fun a3 h => if i1 ≤ a3 then (some (.inr h)) else (jg (jI a3 2000) <| jg (jI (w32 (w32 (a3 - i2) - 1)) 2000) <| jl (jst h 473 (w32 (w32 (a3 - i2) - 1)) (h 473 a3)) fun h48 => jl (w32 (a3 + 1)) fun x49 => some (.inl (x49, h48)))
theorem eX14_keepAgain_b111 (i1 : Int) (i2 : Int) {s : Int × AH} (hS : (fun r => Sh S r.2) s) : EQ (fX14_keepAgain_b111 454 i1 i2 s) (gX14_keepAgain_b111 i1 i2 s) (Sum.elim (fun r => Sh S r.2) (fun r => Sh S r)) := by
  unfold fX14_keepAgain_b111 gX14_keepAgain_b111
  obtain ⟨a3, h⟩ := s
  refine EQ_jt2 ?_
  replace hS : Sh S h := hS
  refine EQ_if Iff.rfl (fun c1 => ?_) (fun c1 => ?_)
  · exact EQ_some hS
  · refine EQ_jgd (show h 454 (-2) = 15 from by rw [k_454 hS]) ?_
    refine EQ_jgd (show h 454 (-2) = 15 from by rw [k_454 hS]) ?_
    refine EQ_jg ⟨fun ⟨_, x0⟩ => (show jI a3 (h (h 454 24) (-1)) ↔ jI a3 2000 from by rw [r_454_24 hS, l_473 hS]).mp x0, fun x0 => ⟨(show h (h 454 24) (-2) = 101 from by rw [r_454_24 hS, k_473 hS]), (show jI a3 (h (h 454 24) (-1)) ↔ jI a3 2000 from by rw [r_454_24 hS, l_473 hS]).mpr x0⟩⟩ (fun g2 => ?_)
    refine EQ_jg ⟨fun ⟨_, _, x0⟩ => (show jI (w32 (w32 (a3 - i2) - 1)) (h (h 454 24) (-1)) ↔ jI (w32 (w32 (a3 - i2) - 1)) 2000 from by rw [r_454_24 hS, l_473 hS]).mp x0, fun x0 => ⟨(show h (h 454 24) (-2) = 101 from by rw [r_454_24 hS, k_473 hS]), (show 200 ≤ h 454 24 from by rw [r_454_24 hS]; exact (by decide)), (show jI (w32 (w32 (a3 - i2) - 1)) (h (h 454 24) (-1)) ↔ jI (w32 (w32 (a3 - i2) - 1)) 2000 from by rw [r_454_24 hS, l_473 hS]).mpr x0⟩⟩ (fun g3 => ?_)
    refine EQ_jl (by rw [r_454_24 hS]) (fun h48 eh48 => ?_)
    have s4 := Sh_of eh48 (Sh_sta hS (by decide +kernel) (jI_nn g3) (fun e => absurd ((k_473 hS).symm.trans e) (by decide)))
    clear eh48
    refine EQ_jl rfl (fun x49 ex49 => ?_)
    clear ex49
    exact EQ_some s4
noncomputable def gX14_keepAgain_l111 (i1 : Int) (i2 : Int) (a3 : Int) (h : AH) : Option (AH) := jit (gX14_keepAgain_b111 i1 i2) (a3, h)
theorem eX14_keepAgain_l111 (i1 : Int) (i2 : Int) (a3 : Int) {h : AH} (hS : Sh S h) : EQ (fX14_keepAgain_l111 454 i1 i2 a3 h) (gX14_keepAgain_l111 i1 i2 a3 h) (fun r => Sh S r) := EQ_jit (I := (fun r => Sh S r.2)) (fun s hs => eX14_keepAgain_b111 i1 i2 hs) hS
noncomputable def gX14_keepAgain_j14 (a1 : Int) (t0 : Int) (h : AH) : Option (Int × AH) := jb (gX14_in t0 1 3) fun v3 => if v3 = 0 then (some (0, h)) else (if a1 < w32 (t0 + 1) then (some (0, h)) else (if h 454 77 = 12 then (some (0, h)) else (jb (gX14_keepAgain_l47 a1 t0 0 h) fun o7 => jm o7 (fun o9 => some (0, o9)) (fun o10 => jl (w32 (t0 + 1)) fun x11 => jb (gX14_keepAgain_l111 a1 t0 x11 o10) fun o12 => jl (jst o12 454 25 (w32 (w32 (a1 - t0) - 1))) fun h14 => jb2 (gX14_begin h14) fun t16 h18 => jq t16 (jg (0 < t16) <| some (0, h18)) <| jl (jst h18 454 17 4400) fun h20 => jb3 (gX14_takeTerm 0 0 h20) fun t22 v23 h24 => jq t22 (jg (0 < t22) <| some (0, h24)) <| jb (gX14_parameters 794 0 t0 h24) fun h27 => jb2 (gX14_weighed v23 0 h27) fun v29 h30 => jb2 (gX14_finish h30) fun t32 h34 => jq t32 (jg (0 < t32) <| some (0, h34)) <| jb (gX14_size v23 h34) fun v37 => if v37 ≤ 30 then (jb (gX14_addKept v23 794 t0 h34) fun h40 => some (1, h40)) else (some (0, h34))))))
theorem eX14_keepAgain_j14 (a1 : Int) (t0 : Int) {h : AH} (hS : Sh S h) : EQ (fX14_keepAgain_j14 454 a1 t0 h) (gX14_keepAgain_j14 a1 t0 h) (fun r => Sh S r.2) := by
  unfold fX14_keepAgain_j14 gX14_keepAgain_j14
  refine EQ_jb (eX14_in t0 1 3) (fun v3 r1 => ?_)
  refine EQ_if Iff.rfl (fun c2 => ?_) (fun c2 => ?_)
  · exact EQ_some hS
  · refine EQ_if Iff.rfl (fun c3 => ?_) (fun c3 => ?_)
    · exact EQ_some hS
    · refine EQ_jgd (show h 454 (-2) = 15 from by rw [k_454 hS]) ?_
      refine EQ_if Iff.rfl (fun c4 => ?_) (fun c4 => ?_)
      · exact EQ_some hS
      · refine EQ_jb (eX14_keepAgain_l47 a1 t0 0 hS) (fun o7 r5 => ?_)
        refine EQ_jm r5 (fun o9 r6 => ?_) (fun o10 r7 => ?_)
        · exact EQ_some r6
        · refine EQ_jl rfl (fun x11 ex11 => ?_)
          clear ex11
          refine EQ_jb (eX14_keepAgain_l111 a1 t0 x11 r7) (fun o12 r8 => ?_)
          refine EQ_jgd ⟨(show o12 454 (-2) = 15 from by rw [k_454 r8]), (show (200 : Int) ≤ 454 from (by decide))⟩ ?_
          refine EQ_jl rfl (fun h14 eh14 => ?_)
          have s9 := Sh_of eh14 (Sh_sto r8 (a := 454) (i := 25) (by decide +kernel))
          clear eh14
          refine EQ_jgd (show h14 454 (-2) = 15 from by rw [k_454 s9]) ?_
          refine EQ_jb2 (eX14_begin s9) (fun t16 h18 r10 => ?_)
          replace r10 : Sh S h18 := r10
          refine EQ_jq (fun _ => ?_) (fun _ => ?_)
          · refine EQ_jg Iff.rfl (fun g11 => ?_)
            exact EQ_some r10
          · refine EQ_jgd ⟨(show h18 454 (-2) = 15 from by rw [k_454 r10]), (show (200 : Int) ≤ 454 from (by decide))⟩ ?_
            refine EQ_jl rfl (fun h20 eh20 => ?_)
            have s12 := Sh_of eh20 (Sh_sto r10 (a := 454) (i := 17) (by decide +kernel))
            clear eh20
            refine EQ_jgd (show h20 454 (-2) = 15 from by rw [k_454 s12]) ?_
            refine EQ_jb3 (eX14_takeTerm 0 0 s12) (fun t22 v23 h24 r13 => ?_)
            replace r13 : Sh S h24 := r13
            refine EQ_jq (fun _ => ?_) (fun _ => ?_)
            · refine EQ_jg Iff.rfl (fun g14 => ?_)
              exact EQ_some r13
            · refine EQ_jgd (show h24 454 (-2) = 15 from by rw [k_454 r13]) ?_
              refine EQ_jgd (show h24 454 (-2) = 15 from by rw [k_454 r13]) ?_
              refine EQ_jb (by rw [r_454_65 r13]; exact eX14_parameters 794 0 t0 r13) (fun h27 r15 => ?_)
              refine EQ_jgd (show h27 454 (-2) = 15 from by rw [k_454 r15]) ?_
              refine EQ_jb2 (eX14_weighed v23 0 r15) (fun v29 h30 r16 => ?_)
              replace r16 : Sh S h30 := r16
              refine EQ_jgd (show h30 454 (-2) = 15 from by rw [k_454 r16]) ?_
              refine EQ_jb2 (eX14_finish r16) (fun t32 h34 r17 => ?_)
              replace r17 : Sh S h34 := r17
              refine EQ_jq (fun _ => ?_) (fun _ => ?_)
              · refine EQ_jg Iff.rfl (fun g18 => ?_)
                exact EQ_some r17
              · refine EQ_jgd (show h34 454 (-2) = 15 from by rw [k_454 r17]) ?_
                refine EQ_jb (eX14_size v23 r17) (fun v37 r19 => ?_)
                refine EQ_if Iff.rfl (fun c20 => ?_) (fun c20 => ?_)
                · refine EQ_jgd (show h34 454 (-2) = 15 from by rw [k_454 r17]) ?_
                  refine EQ_jgd (show h34 454 (-2) = 15 from by rw [k_454 r17]) ?_
                  refine EQ_jb (by rw [r_454_65 r17]; exact eX14_addKept v23 794 t0 r17) (fun h40 r21 => ?_)
                  exact EQ_some r21
                · exact EQ_some r17
noncomputable def gX14_keepAgain (a1 : Int) (h : AH) : Option (Int × AH) := if a1 = 0 then (gX14_keepAgain_j14 a1 0 h) else (gX14_keepAgain_j14 a1 (h 473 0) h)
theorem eX14_keepAgain (a1 : Int) {h : AH} (hS : Sh S h) : EQ (fX14_keepAgain 454 a1 h) (gX14_keepAgain a1 h) (fun r => Sh S r.2) := by
  unfold fX14_keepAgain gX14_keepAgain
  refine EQ_if Iff.rfl (fun c1 => ?_) (fun c1 => ?_)
  · exact (eX14_keepAgain_j14 a1 0 hS)
  · refine EQ_jgd (show h 454 (-2) = 15 from by rw [k_454 hS]) ?_
    refine EQ_jgd ⟨(show h (h 454 24) (-2) = 101 from by rw [r_454_24 hS, k_473 hS]), (show jI 0 (h (h 454 24) (-1)) from by rw [r_454_24 hS, l_473 hS]; unfold jI; decide)⟩ ?_
    exact (by rw [r_454_24 hS]; exact eX14_keepAgain_j14 a1 (h 473 0) hS)
noncomputable def gX14_again_2_j107 (t1 : Int) (t2 : Int) (h : AH) : Option (Int × AH) := jb2 (gX14_word_2 t1 t2 0 h) fun v35 h36 => if v35 < 0 then (some (0, h36)) else (some (1, h36))
theorem eX14_again_2_j107 (t1 : Int) (t2 : Int) {h : AH} (hS : Sh S h) : EQ (fX14_again_2_j107 454 t1 t2 h) (gX14_again_2_j107 t1 t2 h) (fun r => Sh S r.2) := by
  unfold fX14_again_2_j107 gX14_again_2_j107
  refine EQ_jgd (show h 454 (-2) = 15 from by rw [k_454 hS]) ?_
  refine EQ_jb2 (eX14_word_2 t1 t2 0 hS) (fun v35 h36 r1 => ?_)
  replace r1 : Sh S h36 := r1
  refine EQ_if Iff.rfl (fun c2 => ?_) (fun c2 => ?_)
  · exact EQ_some r1
  · exact EQ_some r1
noncomputable def gX14_again_2 (a1 : Int) (a2 : Int) (h : AH) : Option (Int × AH) := if a1 < 1 ∨ 6 < a1 then (if a2 ≤ 0 then (jl (jst h 454 109 0) fun h3 => some (1, h3)) else (some (0, h))) else (if a1 = 1 then (jb2 (gX14_readAct h) fun t6 h8 => jq t6 (jg (0 < t6) <| some (0, h8)) <| jb (gX14_newAct h8) fun h11 => some (1, h11)) else (if a1 = 2 then (jb2 (gX14_keepAgain a2 h) fun v14 h15 => jg (jZ v14) <| some (v14, h15)) else (if a1 = 3 then (jb2 (gX14_learn_2 0 h) fun v18 h19 => if v18 < 0 then (some (0, h19)) else (some (1, h19))) else (if a1 = 4 then (if a2 ≤ 0 then (some (0, h)) else (if 1 < h 473 0 then (some (0, h)) else (if h 473 0 = 1 then (gX14_again_2_j107 1 1 h) else (gX14_again_2_j107 1 0 h)))) else (if a1 = 5 then (if a2 ≤ 0 then (jl (jst h 454 128 0) fun h27 => some (1, h27)) else (some (0, h))) else (if a2 ≤ 0 then (some (0, h)) else (jb2 (gX14_example_2 1 (h 473 0) 0 h) fun v31 h32 => if v31 < 0 then (some (0, h32)) else (some (1, h32)))))))))
theorem eX14_again_2 (a1 : Int) (a2 : Int) {h : AH} (hS : Sh S h) : EQ (fX14_again_2 454 a1 a2 h) (gX14_again_2 a1 a2 h) (fun r => Sh S r.2) := by
  unfold fX14_again_2 gX14_again_2
  refine EQ_if Iff.rfl (fun c1 => ?_) (fun c1 => ?_)
  · refine EQ_if Iff.rfl (fun c2 => ?_) (fun c2 => ?_)
    · refine EQ_jgd ⟨(show h 454 (-2) = 15 from by rw [k_454 hS]), (show (200 : Int) ≤ 454 from (by decide))⟩ ?_
      refine EQ_jl rfl (fun h3 eh3 => ?_)
      have s3 := Sh_of eh3 (Sh_sto hS (a := 454) (i := 109) (by decide +kernel))
      clear eh3
      exact EQ_some s3
    · exact EQ_some hS
  · refine EQ_if Iff.rfl (fun c4 => ?_) (fun c4 => ?_)
    · refine EQ_jgd (show h 454 (-2) = 15 from by rw [k_454 hS]) ?_
      refine EQ_jb2 (eX14_readAct hS) (fun t6 h8 r5 => ?_)
      replace r5 : Sh S h8 := r5
      refine EQ_jq (fun _ => ?_) (fun _ => ?_)
      · refine EQ_jg Iff.rfl (fun g6 => ?_)
        exact EQ_some r5
      · refine EQ_jgd (show h8 454 (-2) = 15 from by rw [k_454 r5]) ?_
        refine EQ_jb (eX14_newAct r5) (fun h11 r7 => ?_)
        exact EQ_some r7
    · refine EQ_if Iff.rfl (fun c8 => ?_) (fun c8 => ?_)
      · refine EQ_jgd (show h 454 (-2) = 15 from by rw [k_454 hS]) ?_
        refine EQ_jb2 (eX14_keepAgain a2 hS) (fun v14 h15 r9 => ?_)
        replace r9 : Sh S h15 := r9
        refine EQ_jg Iff.rfl (fun g10 => ?_)
        exact EQ_some r9
      · refine EQ_if Iff.rfl (fun c11 => ?_) (fun c11 => ?_)
        · refine EQ_jgd (show h 454 (-2) = 15 from by rw [k_454 hS]) ?_
          refine EQ_jb2 (eX14_learn_2 0 hS) (fun v18 h19 r12 => ?_)
          replace r12 : Sh S h19 := r12
          refine EQ_if Iff.rfl (fun c13 => ?_) (fun c13 => ?_)
          · exact EQ_some r12
          · exact EQ_some r12
        · refine EQ_if Iff.rfl (fun c14 => ?_) (fun c14 => ?_)
          · refine EQ_if Iff.rfl (fun c15 => ?_) (fun c15 => ?_)
            · exact EQ_some hS
            · refine EQ_jgd (show h 454 (-2) = 15 from by rw [k_454 hS]) ?_
              refine EQ_jgd ⟨(show h (h 454 24) (-2) = 101 from by rw [r_454_24 hS, k_473 hS]), (show jI 0 (h (h 454 24) (-1)) from by rw [r_454_24 hS, l_473 hS]; unfold jI; decide)⟩ ?_
              refine EQ_if (show 1 < h (h 454 24) 0 ↔ 1 < h 473 0 from by rw [r_454_24 hS]) (fun c16 => ?_) (fun c16 => ?_)
              · exact EQ_some hS
              · refine EQ_jgd (show h 454 (-2) = 15 from by rw [k_454 hS]) ?_
                refine EQ_jgd ⟨(show h (h 454 24) (-2) = 101 from by rw [r_454_24 hS, k_473 hS]), (show jI 0 (h (h 454 24) (-1)) from by rw [r_454_24 hS, l_473 hS]; unfold jI; decide)⟩ ?_
                refine EQ_if (show h (h 454 24) 0 = 1 ↔ h 473 0 = 1 from by rw [r_454_24 hS]) (fun c17 => ?_) (fun c17 => ?_)
                · exact (eX14_again_2_j107 1 1 hS)
                · exact (eX14_again_2_j107 1 0 hS)
          · refine EQ_if Iff.rfl (fun c18 => ?_) (fun c18 => ?_)
            · refine EQ_if Iff.rfl (fun c19 => ?_) (fun c19 => ?_)
              · refine EQ_jgd ⟨(show h 454 (-2) = 15 from by rw [k_454 hS]), (show (200 : Int) ≤ 454 from (by decide))⟩ ?_
                refine EQ_jl rfl (fun h27 eh27 => ?_)
                have s20 := Sh_of eh27 (Sh_sto hS (a := 454) (i := 128) (by decide +kernel))
                clear eh27
                exact EQ_some s20
              · exact EQ_some hS
            · refine EQ_if Iff.rfl (fun c21 => ?_) (fun c21 => ?_)
              · exact EQ_some hS
              · refine EQ_jgd (show h 454 (-2) = 15 from by rw [k_454 hS]) ?_
                refine EQ_jgd ⟨(show h (h 454 24) (-2) = 101 from by rw [r_454_24 hS, k_473 hS]), (show jI 0 (h (h 454 24) (-1)) from by rw [r_454_24 hS, l_473 hS]; unfold jI; decide)⟩ ?_
                refine EQ_jgd (show h 454 (-2) = 15 from by rw [k_454 hS]) ?_
                refine EQ_jb2 (by rw [r_454_24 hS]; exact eX14_example_2 1 (h 473 0) 0 hS) (fun v31 h32 r22 => ?_)
                replace r22 : Sh S h32 := r22
                refine EQ_if Iff.rfl (fun c23 => ?_) (fun c23 => ?_)
                · exact EQ_some r22
                · exact EQ_some r22
noncomputable def gX14_again_j148_4 (a1 : Int) (a3 : Int) (a5 : Int) (t0 : Int) (t1 : Int) (h : AH) : Option ((Int × Int × AH) ⊕ ((Int × AH) ⊕ (Int × AH))) := jl (w32 (t0 + t1)) fun x25 => jl (w32 (a3 + w32 (3 + a5))) fun x26 => some (.inl (x25, x26, h))
theorem eX14_again_j148_4 (a1 : Int) (a3 : Int) (a5 : Int) (t0 : Int) (t1 : Int) {h : AH} (hS : Sh S h) : EQ (fX14_again_j148_4 454 a1 a3 a5 t0 t1 h) (gX14_again_j148_4 a1 a3 a5 t0 t1 h) (Sum.elim (fun r => Sh S r.2.2) (Sum.elim (fun r => Sh S r.2) (fun r => Sh S r.2))) := by
  unfold fX14_again_j148_4 gX14_again_j148_4
  refine EQ_jl rfl (fun x25 ex25 => ?_)
  clear ex25
  refine EQ_jl rfl (fun x26 ex26 => ?_)
  clear ex26
  exact EQ_some hS
noncomputable def gX14_again_j120_4 (a1 : Int) (a2 : Int) (a3 : Int) (a4 : Int) (a5 : Int) (a6 : Int) (h : AH) : Option ((Int × Int × AH) ⊕ ((Int × AH) ⊕ (Int × AH))) := jl (jst h 454 25 a5) fun h19 => if a6 = 0 then (gX14_again_j148_4 a1 a3 a5 a2 0 h19) else (jb2 (gX14_again_2 a4 a5 h19) fun v22 h23 => if v22 = 0 then (gX14_again_j148_4 a1 a3 a5 a2 0 h23) else (gX14_again_j148_4 a1 a3 a5 a2 1 h23))
theorem eX14_again_j120_4 (a1 : Int) (a2 : Int) (a3 : Int) (a4 : Int) (a5 : Int) (a6 : Int) {h : AH} (hS : Sh S h) : EQ (fX14_again_j120_4 454 a1 a2 a3 a4 a5 a6 h) (gX14_again_j120_4 a1 a2 a3 a4 a5 a6 h) (Sum.elim (fun r => Sh S r.2.2) (Sum.elim (fun r => Sh S r.2) (fun r => Sh S r.2))) := by
  unfold fX14_again_j120_4 gX14_again_j120_4
  refine EQ_jgd ⟨(show h 454 (-2) = 15 from by rw [k_454 hS]), (show (200 : Int) ≤ 454 from (by decide))⟩ ?_
  refine EQ_jl rfl (fun h19 eh19 => ?_)
  have s1 := Sh_of eh19 (Sh_sto hS (a := 454) (i := 25) (by decide +kernel))
  clear eh19
  refine EQ_if Iff.rfl (fun c2 => ?_) (fun c2 => ?_)
  · exact (eX14_again_j148_4 a1 a3 a5 a2 0 s1)
  · refine EQ_jgd (show h19 454 (-2) = 15 from by rw [k_454 s1]) ?_
    refine EQ_jb2 (eX14_again_2 a4 a5 s1) (fun v22 h23 r3 => ?_)
    replace r3 : Sh S h23 := r3
    refine EQ_if Iff.rfl (fun c4 => ?_) (fun c4 => ?_)
    · exact (eX14_again_j148_4 a1 a3 a5 a2 0 r3)
    · exact (eX14_again_j148_4 a1 a3 a5 a2 1 r3)
noncomputable def gX14_again_b84 (i1 : Int) (i2 : Int) (i3 : Int) (i4 : Int) (i5 : Int) (i6 : Int) (s : Int × AH) : Option ((Int × AH) ⊕ (AH)) := jt2 s fun a7 h => if i5 ≤ a7 then (some (.inr h)) else (if i6 = 0 then (some (.inr h)) else (jg (jI (w32 (w32 (i3 + 3) + a7)) 24200) <| jg (jI a7 2000) <| jl (jst h 473 a7 (h 1076 (w32 (w32 (i3 + 3) + a7)))) fun h29 => jl (w32 (a7 + 1)) fun x30 => some (.inl (x30, h29))))
theorem eX14_again_b84 (i1 : Int) (i2 : Int) (i3 : Int) (i4 : Int) (i5 : Int) (i6 : Int) {s : Int × AH} (hS : (fun r => Sh S r.2) s) : EQ (fX14_again_b84 454 i1 i2 i3 i4 i5 i6 s) (gX14_again_b84 i1 i2 i3 i4 i5 i6 s) (Sum.elim (fun r => Sh S r.2) (fun r => Sh S r)) := by
  unfold fX14_again_b84 gX14_again_b84
  obtain ⟨a7, h⟩ := s
  refine EQ_jt2 ?_
  replace hS : Sh S h := hS
  refine EQ_if Iff.rfl (fun c1 => ?_) (fun c1 => ?_)
  · exact EQ_some hS
  · refine EQ_if Iff.rfl (fun c2 => ?_) (fun c2 => ?_)
    · exact EQ_some hS
    · refine EQ_jgd (show h 454 (-2) = 15 from by rw [k_454 hS]) ?_
      refine EQ_jgd (show h 454 (-2) = 15 from by rw [k_454 hS]) ?_
      refine EQ_jg ⟨fun ⟨_, x0⟩ => (show jI (w32 (w32 (i3 + 3) + a7)) (h (h 454 159) (-1)) ↔ jI (w32 (w32 (i3 + 3) + a7)) 24200 from by rw [r_454_159 hS, l_1076 hS]).mp x0, fun x0 => ⟨(show h (h 454 159) (-2) = 101 from by rw [r_454_159 hS, k_1076 hS]), (show jI (w32 (w32 (i3 + 3) + a7)) (h (h 454 159) (-1)) ↔ jI (w32 (w32 (i3 + 3) + a7)) 24200 from by rw [r_454_159 hS, l_1076 hS]).mpr x0⟩⟩ (fun g3 => ?_)
      refine EQ_jg ⟨fun ⟨_, _, x0⟩ => (show jI a7 (h (h 454 24) (-1)) ↔ jI a7 2000 from by rw [r_454_24 hS, l_473 hS]).mp x0, fun x0 => ⟨(show h (h 454 24) (-2) = 101 from by rw [r_454_24 hS, k_473 hS]), (show 200 ≤ h 454 24 from by rw [r_454_24 hS]; exact (by decide)), (show jI a7 (h (h 454 24) (-1)) ↔ jI a7 2000 from by rw [r_454_24 hS, l_473 hS]).mpr x0⟩⟩ (fun g4 => ?_)
      refine EQ_jl (by rw [r_454_24 hS, r_454_159 hS]) (fun h29 eh29 => ?_)
      have s5 := Sh_of eh29 (Sh_sta hS (by decide +kernel) (jI_nn g4) (fun e => absurd ((k_473 hS).symm.trans e) (by decide)))
      clear eh29
      refine EQ_jl rfl (fun x30 ex30 => ?_)
      clear ex30
      exact EQ_some s5
noncomputable def gX14_again_l84 (i1 : Int) (i2 : Int) (i3 : Int) (i4 : Int) (i5 : Int) (i6 : Int) (a7 : Int) (h : AH) : Option (AH) := jit (gX14_again_b84 i1 i2 i3 i4 i5 i6) (a7, h)
theorem eX14_again_l84 (i1 : Int) (i2 : Int) (i3 : Int) (i4 : Int) (i5 : Int) (i6 : Int) (a7 : Int) {h : AH} (hS : Sh S h) : EQ (fX14_again_l84 454 i1 i2 i3 i4 i5 i6 a7 h) (gX14_again_l84 i1 i2 i3 i4 i5 i6 a7 h) (fun r => Sh S r) := EQ_jit (I := (fun r => Sh S r.2)) (fun s hs => eX14_again_b84 i1 i2 i3 i4 i5 i6 hs) hS
noncomputable def gX14_again_j79_4 (a1 : Int) (a2 : Int) (a3 : Int) (a4 : Int) (a5 : Int) (t0 : Int) (h : AH) : Option ((Int × Int × AH) ⊕ ((Int × AH) ⊕ (Int × AH))) := jb (gX14_again_l84 a1 a2 a3 a4 a5 t0 0 h) fun o17 => gX14_again_j120_4 a1 a2 a3 a4 a5 t0 o17
theorem eX14_again_j79_4 (a1 : Int) (a2 : Int) (a3 : Int) (a4 : Int) (a5 : Int) (t0 : Int) {h : AH} (hS : Sh S h) : EQ (fX14_again_j79_4 454 a1 a2 a3 a4 a5 t0 h) (gX14_again_j79_4 a1 a2 a3 a4 a5 t0 h) (Sum.elim (fun r => Sh S r.2.2) (Sum.elim (fun r => Sh S r.2) (fun r => Sh S r.2))) := by
  unfold fX14_again_j79_4 gX14_again_j79_4
  refine EQ_jb (eX14_again_l84 a1 a2 a3 a4 a5 t0 0 hS) (fun o17 r1 => ?_)
  exact (eX14_again_j120_4 a1 a2 a3 a4 a5 t0 r1)
noncomputable def gX14_again_b4 (i1 : Int) (s : Int × Int × AH) : Option ((Int × Int × AH) ⊕ ((Int × AH) ⊕ (Int × AH))) := jt3 s fun a2 a3 h => if i1 < w32 (a3 + 3) then (some (.inr (.inr (a2, h)))) else (jg (jI a3 24200) <| jl (h 1076 a3) fun x10 => jg (jI (w32 (a3 + 1)) 24200) <| jg (jI (w32 (a3 + 2)) 24200) <| jl (jor (jshl (h 1076 (w32 (a3 + 1))) 8) (h 1076 (w32 (a3 + 2)))) fun x11 => jb (gX14_in x10 1 7) fun v13 => if v13 = 0 then (some (.inr (.inl (a2, h)))) else (if w32 (w32 (a3 + 3) + x11) ≤ i1 then (if 2000 < x11 then (gX14_again_j79_4 i1 a2 a3 x10 x11 0 h) else (gX14_again_j79_4 i1 a2 a3 x10 x11 1 h)) else (some (.inr (.inl (a2, h))))))
theorem eX14_again_b4 (i1 : Int) {s : Int × Int × AH} (hS : (fun r => Sh S r.2.2) s) : EQ (fX14_again_b4 454 i1 s) (gX14_again_b4 i1 s) (Sum.elim (fun r => Sh S r.2.2) (Sum.elim (fun r => Sh S r.2) (fun r => Sh S r.2))) := by
  unfold fX14_again_b4 gX14_again_b4
  obtain ⟨a2, a3, h⟩ := s
  refine EQ_jt3 ?_
  replace hS : Sh S h := hS
  refine EQ_if Iff.rfl (fun c1 => ?_) (fun c1 => ?_)
  · exact EQ_some hS
  · refine EQ_jgd (show h 454 (-2) = 15 from by rw [k_454 hS]) ?_
    refine EQ_jg ⟨fun ⟨_, x0⟩ => (show jI a3 (h (h 454 159) (-1)) ↔ jI a3 24200 from by rw [r_454_159 hS, l_1076 hS]).mp x0, fun x0 => ⟨(show h (h 454 159) (-2) = 101 from by rw [r_454_159 hS, k_1076 hS]), (show jI a3 (h (h 454 159) (-1)) ↔ jI a3 24200 from by rw [r_454_159 hS, l_1076 hS]).mpr x0⟩⟩ (fun g2 => ?_)
    refine EQ_jl (by rw [r_454_159 hS]) (fun x10 ex10 => ?_)
    clear ex10
    refine EQ_jgd (show h 454 (-2) = 15 from by rw [k_454 hS]) ?_
    refine EQ_jg ⟨fun ⟨_, x0⟩ => (show jI (w32 (a3 + 1)) (h (h 454 159) (-1)) ↔ jI (w32 (a3 + 1)) 24200 from by rw [r_454_159 hS, l_1076 hS]).mp x0, fun x0 => ⟨(show h (h 454 159) (-2) = 101 from by rw [r_454_159 hS, k_1076 hS]), (show jI (w32 (a3 + 1)) (h (h 454 159) (-1)) ↔ jI (w32 (a3 + 1)) 24200 from by rw [r_454_159 hS, l_1076 hS]).mpr x0⟩⟩ (fun g3 => ?_)
    refine EQ_jgd (show h 454 (-2) = 15 from by rw [k_454 hS]) ?_
    refine EQ_jg ⟨fun ⟨_, x0⟩ => (show jI (w32 (a3 + 2)) (h (h 454 159) (-1)) ↔ jI (w32 (a3 + 2)) 24200 from by rw [r_454_159 hS, l_1076 hS]).mp x0, fun x0 => ⟨(show h (h 454 159) (-2) = 101 from by rw [r_454_159 hS, k_1076 hS]), (show jI (w32 (a3 + 2)) (h (h 454 159) (-1)) ↔ jI (w32 (a3 + 2)) 24200 from by rw [r_454_159 hS, l_1076 hS]).mpr x0⟩⟩ (fun g4 => ?_)
    refine EQ_jl (by rw [r_454_159 hS]) (fun x11 ex11 => ?_)
    clear ex11
    refine EQ_jb (eX14_in x10 1 7) (fun v13 r5 => ?_)
    refine EQ_if Iff.rfl (fun c6 => ?_) (fun c6 => ?_)
    · exact EQ_some hS
    · refine EQ_if Iff.rfl (fun c7 => ?_) (fun c7 => ?_)
      · refine EQ_if Iff.rfl (fun c8 => ?_) (fun c8 => ?_)
        · exact (eX14_again_j79_4 i1 a2 a3 x10 x11 0 hS)
        · exact (eX14_again_j79_4 i1 a2 a3 x10 x11 1 hS)
      · exact EQ_some hS
noncomputable def gX14_again_l4 (i1 : Int) (a2 : Int) (a3 : Int) (h : AH) : Option ((Int × AH) ⊕ (Int × AH)) := jit (gX14_again_b4 i1) (a2, a3, h)
theorem eX14_again_l4 (i1 : Int) (a2 : Int) (a3 : Int) {h : AH} (hS : Sh S h) : EQ (fX14_again_l4 454 i1 a2 a3 h) (gX14_again_l4 i1 a2 a3 h) (Sum.elim (fun r => Sh S r.2) (fun r => Sh S r.2)) := EQ_jit (I := (fun r => Sh S r.2.2)) (fun s hs => eX14_again_b4 i1 hs) hS
noncomputable def gX14_again (a1 : Int) (h : AH) : Option (Int × AH) := jb (gX14_again_l4 a1 0 0 h) fun o1 => jm o1 (fun o3 => jt2 o3 fun y5 h6 => some (y5, h6)) (fun o4 => jt2 o4 fun y7 h8 => some (y7, h8))
theorem eX14_again (a1 : Int) {h : AH} (hS : Sh S h) : EQ (fX14_again 454 a1 h) (gX14_again a1 h) (fun r => Sh S r.2) := by
  unfold fX14_again gX14_again
  refine EQ_jb (eX14_again_l4 a1 0 0 hS) (fun o1 r1 => ?_)
  refine EQ_jm r1 (fun o3 r2 => ?_) (fun o4 r3 => ?_)
  · obtain ⟨y5, h6⟩ := o3
    refine EQ_jt2 ?_
    replace r2 : Sh S h6 := r2
    exact EQ_some r2
  · obtain ⟨y7, h8⟩ := o4
    refine EQ_jt2 ?_
    replace r3 : Sh S h8 := r3
    exact EQ_some r3
noncomputable def gX14_start_j206_134 (a1 : Int) (a2 : Int) (a3 : Int) (h : AH) : Option ((Int × Int × Int × AH) ⊕ (Int × AH)) := jl (w32 (a3 + 1)) fun x32 => some (.inl (a1, a2, x32, h))
theorem eX14_start_j206_134 (a1 : Int) (a2 : Int) (a3 : Int) {h : AH} (hS : Sh S h) : EQ (fX14_start_j206_134 454 a1 a2 a3 h) (gX14_start_j206_134 a1 a2 a3 h) (Sum.elim (fun r => Sh S r.2.2.2) (fun r => Sh S r.2)) := by
  unfold fX14_start_j206_134 gX14_start_j206_134
  refine EQ_jl rfl (fun x32 ex32 => ?_)
  clear ex32
  exact EQ_some hS
noncomputable def gX14_start_b145 (i1 : Int) (i3 : Int) (s : Int × Int × AH) : Option ((Int × Int × AH) ⊕ (Int × AH)) := jt3 s fun a2 a4 h => jg (jI i3 201) <| if h (874 + i3) 2 ≤ a4 then (some (.inr (a2, h))) else (jg (jI (w32 (3 + a4)) 128) <| jg (jI a2 24200) <| jl (jst h 1076 a2 (h (874 + i3) (w32 (3 + a4)))) fun h34 => jl (w32 (a2 + 1)) fun x35 => jl (w32 (a4 + 1)) fun x36 => some (.inl (x35, x36, h34)))
theorem eX14_start_b145 (i1 : Int) (i3 : Int) {s : Int × Int × AH} (hS : (fun r => Sh S r.2.2) s) : EQ (fX14_start_b145 454 i1 i3 s) (gX14_start_b145 i1 i3 s) (Sum.elim (fun r => Sh S r.2.2) (fun r => Sh S r.2)) := by
  unfold fX14_start_b145 gX14_start_b145
  obtain ⟨a2, a4, h⟩ := s
  refine EQ_jt3 ?_
  replace hS : Sh S h := hS
  refine EQ_jgd (show h 454 (-2) = 15 from by rw [k_454 hS]) ?_
  refine EQ_jg ⟨fun ⟨_, x0⟩ => (show jI i3 (h (h 454 157) (-1)) ↔ jI i3 201 from by rw [r_454_157 hS, l_873 hS]).mp x0, fun x0 => ⟨(show h (h 454 157) (-2) = 105 from by rw [r_454_157 hS, k_873 hS]), (show jI i3 (h (h 454 157) (-1)) ↔ jI i3 201 from by rw [r_454_157 hS, l_873 hS]).mpr x0⟩⟩ (fun g1 => ?_)
  refine EQ_jgd ⟨(show h (h (h 454 157) i3) (-2) = 101 from by rw [r_454_157 hS, rr_873 hS g1, rk_873 hS g1]), (show jI 2 (h (h (h 454 157) i3) (-1)) from by rw [r_454_157 hS, rr_873 hS g1, rl_873 hS g1]; unfold jI; decide)⟩ ?_
  refine EQ_if (show h (h (h 454 157) i3) 2 ≤ a4 ↔ h (874 + i3) 2 ≤ a4 from by rw [r_454_157 hS, rr_873 hS g1]) (fun c2 => ?_) (fun c2 => ?_)
  · exact EQ_some hS
  · refine EQ_jgd (show h 454 (-2) = 15 from by rw [k_454 hS]) ?_
    refine EQ_jgd (show h 454 (-2) = 15 from by rw [k_454 hS]) ?_
    refine EQ_jgd ⟨(show h (h 454 157) (-2) = 105 from by rw [r_454_157 hS, k_873 hS]), ((show jI i3 (h (h 454 157) (-1)) ↔ jI i3 201 from by rw [r_454_157 hS, l_873 hS]).mpr g1)⟩ ?_
    refine EQ_jg ⟨fun ⟨_, x0⟩ => (show jI (w32 (3 + a4)) (h (h (h 454 157) i3) (-1)) ↔ jI (w32 (3 + a4)) 128 from by rw [r_454_157 hS, rr_873 hS g1, rl_873 hS g1]).mp x0, fun x0 => ⟨(show h (h (h 454 157) i3) (-2) = 101 from by rw [r_454_157 hS, rr_873 hS g1, rk_873 hS g1]), (show jI (w32 (3 + a4)) (h (h (h 454 157) i3) (-1)) ↔ jI (w32 (3 + a4)) 128 from by rw [r_454_157 hS, rr_873 hS g1, rl_873 hS g1]).mpr x0⟩⟩ (fun g3 => ?_)
    refine EQ_jg ⟨fun ⟨_, _, x0⟩ => (show jI a2 (h (h 454 159) (-1)) ↔ jI a2 24200 from by rw [r_454_159 hS, l_1076 hS]).mp x0, fun x0 => ⟨(show h (h 454 159) (-2) = 101 from by rw [r_454_159 hS, k_1076 hS]), (show 200 ≤ h 454 159 from by rw [r_454_159 hS]; exact (by decide)), (show jI a2 (h (h 454 159) (-1)) ↔ jI a2 24200 from by rw [r_454_159 hS, l_1076 hS]).mpr x0⟩⟩ (fun g4 => ?_)
    refine EQ_jl (by rw [r_454_159 hS, r_454_157 hS, rr_873 hS g1]) (fun h34 eh34 => ?_)
    have s5 := Sh_of eh34 (Sh_sta hS (by decide +kernel) (jI_nn g4) (fun e => absurd ((k_1076 hS).symm.trans e) (by decide)))
    clear eh34
    refine EQ_jl rfl (fun x35 ex35 => ?_)
    clear ex35
    refine EQ_jl rfl (fun x36 ex36 => ?_)
    clear ex36
    exact EQ_some s5
noncomputable def gX14_start_l145 (i1 : Int) (i3 : Int) (a2 : Int) (a4 : Int) (h : AH) : Option (Int × AH) := jit (gX14_start_b145 i1 i3) (a2, a4, h)
theorem eX14_start_l145 (i1 : Int) (i3 : Int) (a2 : Int) (a4 : Int) {h : AH} (hS : Sh S h) : EQ (fX14_start_l145 454 i1 i3 a2 a4 h) (gX14_start_l145 i1 i3 a2 a4 h) (fun r => Sh S r.2) := EQ_jit (I := (fun r => Sh S r.2.2)) (fun s hs => eX14_start_b145 i1 i3 hs) hS
noncomputable def gX14_start_b134 (s : Int × Int × Int × AH) : Option ((Int × Int × Int × AH) ⊕ (Int × AH)) := jt4 s fun a1 a2 a3 h => if h 454 160 < a3 then (some (.inr (a1, h))) else (jb (gX14_start_l145 a1 a3 a2 0 h) fun o23 => jt2 o23 fun y25 h26 => jg (jI a3 201) <| if h26 (874 + a3) 1 = 1 then (jb2 (gX14_again y25 h26) fun v29 h30 => jl (w32 (a1 + v29)) fun x31 => gX14_start_j206_134 x31 0 a3 h30) else (gX14_start_j206_134 a1 y25 a3 h26))
theorem eX14_start_b134 {s : Int × Int × Int × AH} (hS : (fun r => Sh S r.2.2.2) s) : EQ (fX14_start_b134 454 s) (gX14_start_b134 s) (Sum.elim (fun r => Sh S r.2.2.2) (fun r => Sh S r.2)) := by
  unfold fX14_start_b134 gX14_start_b134
  obtain ⟨a1, a2, a3, h⟩ := s
  refine EQ_jt4 ?_
  replace hS : Sh S h := hS
  refine EQ_jgd (show h 454 (-2) = 15 from by rw [k_454 hS]) ?_
  refine EQ_if Iff.rfl (fun c1 => ?_) (fun c1 => ?_)
  · exact EQ_some hS
  · refine EQ_jb (eX14_start_l145 a1 a3 a2 0 hS) (fun o23 r2 => ?_)
    obtain ⟨y25, h26⟩ := o23
    refine EQ_jt2 ?_
    replace r2 : Sh S h26 := r2
    refine EQ_jgd (show h26 454 (-2) = 15 from by rw [k_454 r2]) ?_
    refine EQ_jg ⟨fun ⟨_, x0⟩ => (show jI a3 (h26 (h26 454 157) (-1)) ↔ jI a3 201 from by rw [r_454_157 r2, l_873 r2]).mp x0, fun x0 => ⟨(show h26 (h26 454 157) (-2) = 105 from by rw [r_454_157 r2, k_873 r2]), (show jI a3 (h26 (h26 454 157) (-1)) ↔ jI a3 201 from by rw [r_454_157 r2, l_873 r2]).mpr x0⟩⟩ (fun g3 => ?_)
    refine EQ_jgd ⟨(show h26 (h26 (h26 454 157) a3) (-2) = 101 from by rw [r_454_157 r2, rr_873 r2 g3, rk_873 r2 g3]), (show jI 1 (h26 (h26 (h26 454 157) a3) (-1)) from by rw [r_454_157 r2, rr_873 r2 g3, rl_873 r2 g3]; unfold jI; decide)⟩ ?_
    refine EQ_if (show h26 (h26 (h26 454 157) a3) 1 = 1 ↔ h26 (874 + a3) 1 = 1 from by rw [r_454_157 r2, rr_873 r2 g3]) (fun c4 => ?_) (fun c4 => ?_)
    · refine EQ_jgd (show h26 454 (-2) = 15 from by rw [k_454 r2]) ?_
      refine EQ_jb2 (eX14_again y25 r2) (fun v29 h30 r5 => ?_)
      replace r5 : Sh S h30 := r5
      refine EQ_jl rfl (fun x31 ex31 => ?_)
      clear ex31
      exact (eX14_start_j206_134 x31 0 a3 r5)
    · exact (eX14_start_j206_134 a1 y25 a3 r2)
noncomputable def gX14_start_l134 (a1 : Int) (a2 : Int) (a3 : Int) (h : AH) : Option (Int × AH) := jit gX14_start_b134 (a1, a2, a3, h)
theorem eX14_start_l134 (a1 : Int) (a2 : Int) (a3 : Int) {h : AH} (hS : Sh S h) : EQ (fX14_start_l134 454 a1 a2 a3 h) (gX14_start_l134 a1 a2 a3 h) (fun r => Sh S r.2) := EQ_jit (I := (fun r => Sh S r.2.2.2)) (fun s hs => eX14_start_b134 hs) hS
noncomputable def gX14_start_j128 (h : AH) : Option (Int × AH) := jb (gX14_start_l134 0 0 1 h) fun o18 => jt2 o18 fun y20 h21 => some (y20, h21)
theorem eX14_start_j128 {h : AH} (hS : Sh S h) : EQ (fX14_start_j128 454 h) (gX14_start_j128 h) (fun r => Sh S r.2) := by
  unfold fX14_start_j128 gX14_start_j128
  refine EQ_jb (eX14_start_l134 0 0 1 hS) (fun o18 r1 => ?_)
  obtain ⟨y20, h21⟩ := o18
  refine EQ_jt2 ?_
  replace r1 : Sh S h21 := r1
  exact EQ_some r1
noncomputable def gX14_start_j119_83 (a1 : Int) (t1 : Int) (h : AH) : Option ((Int × AH) ⊕ (AH)) := jl (jst h 454 160 t1) fun h42 => jl (w32 (a1 + 1)) fun x43 => some (.inl (x43, h42))
theorem eX14_start_j119_83 (a1 : Int) (t1 : Int) {h : AH} (hS : Sh S h) : EQ (fX14_start_j119_83 454 a1 454 t1 h) (gX14_start_j119_83 a1 t1 h) (Sum.elim (fun r => Sh S r.2) (fun r => Sh S r)) := by
  unfold fX14_start_j119_83 gX14_start_j119_83
  refine EQ_jgd ⟨(show h 454 (-2) = 15 from by rw [k_454 hS]), (show (200 : Int) ≤ 454 from (by decide))⟩ ?_
  refine EQ_jl rfl (fun h42 eh42 => ?_)
  have s1 := Sh_of eh42 (Sh_sto hS (a := 454) (i := 160) (by decide +kernel))
  clear eh42
  refine EQ_jl rfl (fun x43 ex43 => ?_)
  clear ex43
  exact EQ_some s1
noncomputable def gX14_start_b83 (s : Int × AH) : Option ((Int × AH) ⊕ (AH)) := jt2 s fun a1 h => if 200 < a1 then (some (.inr h)) else (jb (gX14_isRight a1 h) fun v39 => if v39 = 0 then (some (.inr h)) else (jg (jI a1 201) <| if h (874 + a1) 1 = 1 then (gX14_start_j119_83 a1 a1 h) else (gX14_start_j119_83 a1 (h 454 160) h)))
theorem eX14_start_b83 {s : Int × AH} (hS : (fun r => Sh S r.2) s) : EQ (fX14_start_b83 454 s) (gX14_start_b83 s) (Sum.elim (fun r => Sh S r.2) (fun r => Sh S r)) := by
  unfold fX14_start_b83 gX14_start_b83
  obtain ⟨a1, h⟩ := s
  refine EQ_jt2 ?_
  replace hS : Sh S h := hS
  refine EQ_if Iff.rfl (fun c1 => ?_) (fun c1 => ?_)
  · exact EQ_some hS
  · refine EQ_jgd (show h 454 (-2) = 15 from by rw [k_454 hS]) ?_
    refine EQ_jb (eX14_isRight a1 hS) (fun v39 r2 => ?_)
    refine EQ_if Iff.rfl (fun c3 => ?_) (fun c3 => ?_)
    · exact EQ_some hS
    · refine EQ_jgd (show h 454 (-2) = 15 from by rw [k_454 hS]) ?_
      refine EQ_jg ⟨fun ⟨_, x0⟩ => (show jI a1 (h (h 454 157) (-1)) ↔ jI a1 201 from by rw [r_454_157 hS, l_873 hS]).mp x0, fun x0 => ⟨(show h (h 454 157) (-2) = 105 from by rw [r_454_157 hS, k_873 hS]), (show jI a1 (h (h 454 157) (-1)) ↔ jI a1 201 from by rw [r_454_157 hS, l_873 hS]).mpr x0⟩⟩ (fun g4 => ?_)
      refine EQ_jgd ⟨(show h (h (h 454 157) a1) (-2) = 101 from by rw [r_454_157 hS, rr_873 hS g4, rk_873 hS g4]), (show jI 1 (h (h (h 454 157) a1) (-1)) from by rw [r_454_157 hS, rr_873 hS g4, rl_873 hS g4]; unfold jI; decide)⟩ ?_
      refine EQ_if (show h (h (h 454 157) a1) 1 = 1 ↔ h (874 + a1) 1 = 1 from by rw [r_454_157 hS, rr_873 hS g4]) (fun c5 => ?_) (fun c5 => ?_)
      · exact (eX14_start_j119_83 a1 a1 hS)
      · refine EQ_jgd (show h 454 (-2) = 15 from by rw [k_454 hS]) ?_
        exact (eX14_start_j119_83 a1 (h 454 160) hS)
noncomputable def gX14_start_l83 (a1 : Int) (h : AH) : Option (AH) := jit gX14_start_b83 (a1, h)
theorem eX14_start_l83 (a1 : Int) {h : AH} (hS : Sh S h) : EQ (fX14_start_l83 454 a1 h) (gX14_start_l83 a1 h) (fun r => Sh S r) := EQ_jit (I := (fun r => Sh S r.2)) (fun s hs => eX14_start_b83 hs) hS
noncomputable def gX14_start (h : AH) : Option (Int × AH) := jl (jst h 454 51 0) fun h1 => if h1 454 54 = 0 then (some ((-2), h1)) else (jl (jst h1 454 54 0) fun h3 => jl (jst h3 454 154 0) fun h4 => jl (jst h4 454 156 0) fun h5 => jl (jst h5 454 161 (-1)) fun h6 => jl (jst h6 454 38 0) fun h7 => jl (jst h7 454 92 0) fun h8 => jl (jst h8 454 56 (-1)) fun h9 => jl (jst h9 454 62 0) fun h10 => jl (jst h10 454 77 0) fun h11 => jl (jst h11 454 109 0) fun h12 => jl (jst h12 454 128 0) fun h13 => jl (jst h13 454 5 26) fun h14 => jl (jst h14 454 160 0) fun h15 => jb (gX14_start_l83 1 h15) fun o16 => gX14_start_j128 o16)
theorem eX14_start {h : AH} (hS : Sh S h) : EQ (fX14_start 454 h) (gX14_start h) (fun r => Sh S r.2) := by
  unfold fX14_start gX14_start
  refine EQ_jgd ⟨(show h 454 (-2) = 15 from by rw [k_454 hS]), (show (200 : Int) ≤ 454 from (by decide))⟩ ?_
  refine EQ_jl rfl (fun h1 eh1 => ?_)
  have s1 := Sh_of eh1 (Sh_sto hS (a := 454) (i := 51) (by decide +kernel))
  clear eh1
  refine EQ_jgd (show h1 454 (-2) = 15 from by rw [k_454 s1]) ?_
  refine EQ_if Iff.rfl (fun c2 => ?_) (fun c2 => ?_)
  · exact EQ_some s1
  · refine EQ_jgd ⟨(show h1 454 (-2) = 15 from by rw [k_454 s1]), (show (200 : Int) ≤ 454 from (by decide)), (show jZ 0 from by unfold jZ; decide)⟩ ?_
    refine EQ_jl rfl (fun h3 eh3 => ?_)
    have s3 := Sh_of eh3 (Sh_sto s1 (a := 454) (i := 54) (by decide +kernel))
    clear eh3
    refine EQ_jgd ⟨(show h3 454 (-2) = 15 from by rw [k_454 s3]), (show (200 : Int) ≤ 454 from (by decide))⟩ ?_
    refine EQ_jl rfl (fun h4 eh4 => ?_)
    have s4 := Sh_of eh4 (Sh_sto s3 (a := 454) (i := 154) (by decide +kernel))
    clear eh4
    refine EQ_jgd ⟨(show h4 454 (-2) = 15 from by rw [k_454 s4]), (show (200 : Int) ≤ 454 from (by decide))⟩ ?_
    refine EQ_jl rfl (fun h5 eh5 => ?_)
    have s5 := Sh_of eh5 (Sh_sto s4 (a := 454) (i := 156) (by decide +kernel))
    clear eh5
    refine EQ_jgd ⟨(show h5 454 (-2) = 15 from by rw [k_454 s5]), (show (200 : Int) ≤ 454 from (by decide))⟩ ?_
    refine EQ_jl rfl (fun h6 eh6 => ?_)
    have s6 := Sh_of eh6 (Sh_sto s5 (a := 454) (i := 161) (by decide +kernel))
    clear eh6
    refine EQ_jgd ⟨(show h6 454 (-2) = 15 from by rw [k_454 s6]), (show (200 : Int) ≤ 454 from (by decide))⟩ ?_
    refine EQ_jl rfl (fun h7 eh7 => ?_)
    have s7 := Sh_of eh7 (Sh_sto s6 (a := 454) (i := 38) (by decide +kernel))
    clear eh7
    refine EQ_jgd ⟨(show h7 454 (-2) = 15 from by rw [k_454 s7]), (show (200 : Int) ≤ 454 from (by decide))⟩ ?_
    refine EQ_jl rfl (fun h8 eh8 => ?_)
    have s8 := Sh_of eh8 (Sh_sto s7 (a := 454) (i := 92) (by decide +kernel))
    clear eh8
    refine EQ_jgd ⟨(show h8 454 (-2) = 15 from by rw [k_454 s8]), (show (200 : Int) ≤ 454 from (by decide))⟩ ?_
    refine EQ_jl rfl (fun h9 eh9 => ?_)
    have s9 := Sh_of eh9 (Sh_sto s8 (a := 454) (i := 56) (by decide +kernel))
    clear eh9
    refine EQ_jgd ⟨(show h9 454 (-2) = 15 from by rw [k_454 s9]), (show (200 : Int) ≤ 454 from (by decide))⟩ ?_
    refine EQ_jl rfl (fun h10 eh10 => ?_)
    have s10 := Sh_of eh10 (Sh_sto s9 (a := 454) (i := 62) (by decide +kernel))
    clear eh10
    refine EQ_jgd ⟨(show h10 454 (-2) = 15 from by rw [k_454 s10]), (show (200 : Int) ≤ 454 from (by decide))⟩ ?_
    refine EQ_jl rfl (fun h11 eh11 => ?_)
    have s11 := Sh_of eh11 (Sh_sto s10 (a := 454) (i := 77) (by decide +kernel))
    clear eh11
    refine EQ_jgd ⟨(show h11 454 (-2) = 15 from by rw [k_454 s11]), (show (200 : Int) ≤ 454 from (by decide))⟩ ?_
    refine EQ_jl rfl (fun h12 eh12 => ?_)
    have s12 := Sh_of eh12 (Sh_sto s11 (a := 454) (i := 109) (by decide +kernel))
    clear eh12
    refine EQ_jgd ⟨(show h12 454 (-2) = 15 from by rw [k_454 s12]), (show (200 : Int) ≤ 454 from (by decide))⟩ ?_
    refine EQ_jl rfl (fun h13 eh13 => ?_)
    have s13 := Sh_of eh13 (Sh_sto s12 (a := 454) (i := 128) (by decide +kernel))
    clear eh13
    refine EQ_jgd ⟨(show h13 454 (-2) = 15 from by rw [k_454 s13]), (show (200 : Int) ≤ 454 from (by decide))⟩ ?_
    refine EQ_jl rfl (fun h14 eh14 => ?_)
    have s14 := Sh_of eh14 (Sh_sto s13 (a := 454) (i := 5) (by decide +kernel))
    clear eh14
    refine EQ_jgd ⟨(show h14 454 (-2) = 15 from by rw [k_454 s14]), (show (200 : Int) ≤ 454 from (by decide))⟩ ?_
    refine EQ_jl rfl (fun h15 eh15 => ?_)
    have s15 := Sh_of eh15 (Sh_sto s14 (a := 454) (i := 160) (by decide +kernel))
    clear eh15
    refine EQ_jb (eX14_start_l83 1 s15) (fun o16 r16 => ?_)
    exact (eX14_start_j128 r16)
noncomputable def gX14_octet_j30 (a1 : Int) (a2 : Int) (t1 : Int) (h : AH) : Option (Int × AH) := jl (jst h 454 51 t1) fun h7 => if h7 454 51 ≤ 0 then (jg (jI a1 201) <| jg (jI a2 128) <| some (h7 (874 + a1) a2, h7)) else (some (0, h7))
theorem eX14_octet_j30 (a1 : Int) (a2 : Int) (t1 : Int) {h : AH} (hS : Sh S h) : EQ (fX14_octet_j30 454 a1 a2 454 t1 h) (gX14_octet_j30 a1 a2 t1 h) (fun r => Sh S r.2) := by
  unfold fX14_octet_j30 gX14_octet_j30
  refine EQ_jgd ⟨(show h 454 (-2) = 15 from by rw [k_454 hS]), (show (200 : Int) ≤ 454 from (by decide))⟩ ?_
  refine EQ_jl rfl (fun h7 eh7 => ?_)
  have s1 := Sh_of eh7 (Sh_sto hS (a := 454) (i := 51) (by decide +kernel))
  clear eh7
  refine EQ_jgd (show h7 454 (-2) = 15 from by rw [k_454 s1]) ?_
  refine EQ_if Iff.rfl (fun c2 => ?_) (fun c2 => ?_)
  · refine EQ_jgd (show h7 454 (-2) = 15 from by rw [k_454 s1]) ?_
    refine EQ_jg ⟨fun ⟨_, x0⟩ => (show jI a1 (h7 (h7 454 157) (-1)) ↔ jI a1 201 from by rw [r_454_157 s1, l_873 s1]).mp x0, fun x0 => ⟨(show h7 (h7 454 157) (-2) = 105 from by rw [r_454_157 s1, k_873 s1]), (show jI a1 (h7 (h7 454 157) (-1)) ↔ jI a1 201 from by rw [r_454_157 s1, l_873 s1]).mpr x0⟩⟩ (fun g3 => ?_)
    refine EQ_jg ⟨fun ⟨_, x0⟩ => (show jI a2 (h7 (h7 (h7 454 157) a1) (-1)) ↔ jI a2 128 from by rw [r_454_157 s1, rr_873 s1 g3, rl_873 s1 g3]).mp x0, fun x0 => ⟨(show h7 (h7 (h7 454 157) a1) (-2) = 101 from by rw [r_454_157 s1, rr_873 s1 g3, rk_873 s1 g3]), (show jI a2 (h7 (h7 (h7 454 157) a1) (-1)) ↔ jI a2 128 from by rw [r_454_157 s1, rr_873 s1 g3, rl_873 s1 g3]).mpr x0⟩⟩ (fun g4 => ?_)
    exact EQ_some' (by rw [r_454_157 s1, rr_873 s1 g3]) s1
  · exact EQ_some s1
noncomputable def gX14_octet (a1 : Int) (a2 : Int) (h : AH) : Option (Int × AH) := jb (gX14_in a1 1 200) fun v2 => if v2 = 0 then (gX14_octet_j30 a1 a2 1 h) else (jb (gX14_in a2 0 127) fun v5 => if v5 = 0 then (gX14_octet_j30 a1 a2 1 h) else (gX14_octet_j30 a1 a2 0 h))
theorem eX14_octet (a1 : Int) (a2 : Int) {h : AH} (hS : Sh S h) : EQ (fX14_octet 454 a1 a2 h) (gX14_octet a1 a2 h) (fun r => Sh S r.2) := by
  unfold fX14_octet gX14_octet
  refine EQ_jb (eX14_in a1 1 200) (fun v2 r1 => ?_)
  refine EQ_if Iff.rfl (fun c2 => ?_) (fun c2 => ?_)
  · exact (eX14_octet_j30 a1 a2 1 hS)
  · refine EQ_jb (eX14_in a2 0 127) (fun v5 r3 => ?_)
    refine EQ_if Iff.rfl (fun c4 => ?_) (fun c4 => ?_)
    · exact (eX14_octet_j30 a1 a2 1 hS)
    · exact (eX14_octet_j30 a1 a2 0 hS)
noncomputable def gX14_poke_j30 (a1 : Int) (a2 : Int) (a3 : Int) (t1 : Int) (h : AH) : Option (Int × AH) := jl (jst h 454 51 t1) fun h7 => if h7 454 51 ≤ 0 then (jg (jI a1 201) <| jg (jI a2 128) <| jl (jst h7 (874 + a1) a2 (jxor (h7 (874 + a1) a2) (jand a3 255))) fun h9 => some (h9 (874 + a1) a2, h9)) else (some (0, h7))
theorem eX14_poke_j30 (a1 : Int) (a2 : Int) (a3 : Int) (t1 : Int) {h : AH} (hS : Sh S h) : EQ (fX14_poke_j30 454 a1 a2 a3 454 t1 h) (gX14_poke_j30 a1 a2 a3 t1 h) (fun r => Sh S r.2) := by
  unfold fX14_poke_j30 gX14_poke_j30
  refine EQ_jgd ⟨(show h 454 (-2) = 15 from by rw [k_454 hS]), (show (200 : Int) ≤ 454 from (by decide))⟩ ?_
  refine EQ_jl rfl (fun h7 eh7 => ?_)
  have s1 := Sh_of eh7 (Sh_sto hS (a := 454) (i := 51) (by decide +kernel))
  clear eh7
  refine EQ_jgd (show h7 454 (-2) = 15 from by rw [k_454 s1]) ?_
  refine EQ_if Iff.rfl (fun c2 => ?_) (fun c2 => ?_)
  · refine EQ_jgd (show h7 454 (-2) = 15 from by rw [k_454 s1]) ?_
    refine EQ_jg ⟨fun ⟨_, x0⟩ => (show jI a1 (h7 (h7 454 157) (-1)) ↔ jI a1 201 from by rw [r_454_157 s1, l_873 s1]).mp x0, fun x0 => ⟨(show h7 (h7 454 157) (-2) = 105 from by rw [r_454_157 s1, k_873 s1]), (show jI a1 (h7 (h7 454 157) (-1)) ↔ jI a1 201 from by rw [r_454_157 s1, l_873 s1]).mpr x0⟩⟩ (fun g3 => ?_)
    refine EQ_jg ⟨fun ⟨_, x0⟩ => (show jI a2 (h7 (h7 (h7 454 157) a1) (-1)) ↔ jI a2 128 from by rw [r_454_157 s1, rr_873 s1 g3, rl_873 s1 g3]).mp x0, fun x0 => ⟨(show h7 (h7 (h7 454 157) a1) (-2) = 101 from by rw [r_454_157 s1, rr_873 s1 g3, rk_873 s1 g3]), (show jI a2 (h7 (h7 (h7 454 157) a1) (-1)) ↔ jI a2 128 from by rw [r_454_157 s1, rr_873 s1 g3, rl_873 s1 g3]).mpr x0⟩⟩ (fun g4 => ?_)
    refine EQ_jgd ⟨(show h7 (h7 (h7 454 157) a1) (-2) = 101 from by rw [r_454_157 s1, rr_873 s1 g3, rk_873 s1 g3]), (show 200 ≤ h7 (h7 454 157) a1 from by rw [r_454_157 s1, rr_873 s1 g3]; exact rge_873 g3), ((show jI a2 (h7 (h7 (h7 454 157) a1) (-1)) ↔ jI a2 128 from by rw [r_454_157 s1, rr_873 s1 g3, rl_873 s1 g3]).mpr g4)⟩ ?_
    refine EQ_jl (by rw [r_454_157 s1, rr_873 s1 g3]) (fun h9 eh9 => ?_)
    have s5 := Sh_of eh9 (Sh_sta s1 (arr_873 g3) (jI_nn g4) (fun e => absurd ((rk_873 s1 g3).symm.trans e) (by decide)))
    clear eh9
    refine EQ_jgd (show h9 454 (-2) = 15 from by rw [k_454 s5]) ?_
    refine EQ_jgd ⟨(show h9 (h9 454 157) (-2) = 105 from by rw [r_454_157 s5, k_873 s5]), ((show jI a1 (h9 (h9 454 157) (-1)) ↔ jI a1 201 from by rw [r_454_157 s5, l_873 s5]).mpr g3)⟩ ?_
    refine EQ_jgd ⟨(show h9 (h9 (h9 454 157) a1) (-2) = 101 from by rw [r_454_157 s5, rr_873 s5 g3, rk_873 s5 g3]), ((show jI a2 (h9 (h9 (h9 454 157) a1) (-1)) ↔ jI a2 128 from by rw [r_454_157 s5, rr_873 s5 g3, rl_873 s5 g3]).mpr g4)⟩ ?_
    exact EQ_some' (by rw [r_454_157 s5, rr_873 s5 g3]) s5
  · exact EQ_some s1
noncomputable def gX14_poke (a1 : Int) (a2 : Int) (a3 : Int) (h : AH) : Option (Int × AH) := jb (gX14_in a1 1 200) fun v2 => if v2 = 0 then (gX14_poke_j30 a1 a2 a3 1 h) else (jb (gX14_in a2 0 127) fun v5 => if v5 = 0 then (gX14_poke_j30 a1 a2 a3 1 h) else (gX14_poke_j30 a1 a2 a3 0 h))
theorem eX14_poke (a1 : Int) (a2 : Int) (a3 : Int) {h : AH} (hS : Sh S h) : EQ (fX14_poke 454 a1 a2 a3 h) (gX14_poke a1 a2 a3 h) (fun r => Sh S r.2) := by
  unfold fX14_poke gX14_poke
  refine EQ_jb (eX14_in a1 1 200) (fun v2 r1 => ?_)
  refine EQ_if Iff.rfl (fun c2 => ?_) (fun c2 => ?_)
  · exact (eX14_poke_j30 a1 a2 a3 1 hS)
  · refine EQ_jb (eX14_in a2 0 127) (fun v5 r3 => ?_)
    refine EQ_if Iff.rfl (fun c4 => ?_) (fun c4 => ?_)
    · exact (eX14_poke_j30 a1 a2 a3 1 hS)
    · exact (eX14_poke_j30 a1 a2 a3 0 hS)
noncomputable def gX1_feed (a1 : Int) (a2 : Int) (a3 : Int) (a4 : Int) (a5 : Int) (h : AH) : Option (Int × Int × AH) := if w32 (h 200 55 + 20) ≤ 2000 then (jb (gX1_feedFour a1 h) fun h3 => jb (gX1_feedFour a2 h3) fun h5 => jb (gX1_feedFour a3 h5) fun h7 => jb (gX1_feedFour a4 h7) fun h9 => jb (gX1_feedFour a5 h9) fun h11 => some (0, h11 200 55, h11)) else (jg (jroom h 6) <| some ((-1), 0, jth h))
theorem eX1_feed (a1 : Int) (a2 : Int) (a3 : Int) (a4 : Int) (a5 : Int) {h : AH} (hS : Sh S h) : EQ (fX1_feed 200 a1 a2 a3 a4 a5 h) (gX1_feed a1 a2 a3 a4 a5 h) (fun r => Sh S r.2.2) := by
  unfold fX1_feed gX1_feed
  refine EQ_jgd (show h 200 (-2) = 2 from by rw [k_200 hS]) ?_
  refine EQ_jgd (show h 200 (-2) = 2 from by rw [k_200 hS]) ?_
  refine EQ_jgd ⟨(show 101 ≤ h (h 200 54) (-2) from by rw [r_200_54 hS, k_440 hS]; decide), (show h (h 200 54) (-2) ≤ 107 from by rw [r_200_54 hS, k_440 hS]; decide)⟩ ?_
  refine EQ_if (show w32 (h 200 55 + 20) ≤ h (h 200 54) (-1) ↔ w32 (h 200 55 + 20) ≤ 2000 from by rw [r_200_54 hS, l_440 hS]) (fun c1 => ?_) (fun c1 => ?_)
  · refine EQ_jgd (show h 200 (-2) = 2 from by rw [k_200 hS]) ?_
    refine EQ_jb (eX1_feedFour a1 hS) (fun h3 r2 => ?_)
    refine EQ_jgd (show h3 200 (-2) = 2 from by rw [k_200 r2]) ?_
    refine EQ_jb (eX1_feedFour a2 r2) (fun h5 r3 => ?_)
    refine EQ_jgd (show h5 200 (-2) = 2 from by rw [k_200 r3]) ?_
    refine EQ_jb (eX1_feedFour a3 r3) (fun h7 r4 => ?_)
    refine EQ_jgd (show h7 200 (-2) = 2 from by rw [k_200 r4]) ?_
    refine EQ_jb (eX1_feedFour a4 r4) (fun h9 r5 => ?_)
    refine EQ_jgd (show h9 200 (-2) = 2 from by rw [k_200 r5]) ?_
    refine EQ_jb (eX1_feedFour a5 r5) (fun h11 r6 => ?_)
    refine EQ_jgd (show h11 200 (-2) = 2 from by rw [k_200 r6]) ?_
    exact EQ_some r6
  · refine EQ_jg Iff.rfl (fun g7 => ?_)
    exact EQ_some (Sh_th hS)
noncomputable def gX0_feed (a1 : Int) (a2 : Int) (a3 : Int) (a4 : Int) (a5 : Int) (h : AH) : Option (Int × AH) := jb3 (gX1_feed a1 a2 a3 a4 a5 h) fun t2 v3 h4 => jq t2 (jg (t2 = (-1)) <| some (1, h4)) <| jl (jst h4 1077 0 v3) fun h6 => some (0, h6)
theorem eX0_feed (a1 : Int) (a2 : Int) (a3 : Int) (a4 : Int) (a5 : Int) {h : AH} (hS : Sh S h) : EQ (fX0_feed 200 a1 a2 a3 a4 a5 1077 h) (gX0_feed a1 a2 a3 a4 a5 h) (fun r => Sh S r.2) := by
  unfold fX0_feed gX0_feed
  refine EQ_jgd (show h 200 (-2) = 2 from by rw [k_200 hS]) ?_
  refine EQ_jb3 (eX1_feed a1 a2 a3 a4 a5 hS) (fun t2 v3 h4 r1 => ?_)
  replace r1 : Sh S h4 := r1
  refine EQ_jq (fun _ => ?_) (fun _ => ?_)
  · refine EQ_jg Iff.rfl (fun g2 => ?_)
    exact EQ_some r1
  · refine EQ_jgd ⟨(show h4 1077 (-2) = 102 from by rw [k_1077 r1]), (show (200 : Int) ≤ 1077 from (by decide)), (show jI 0 (h4 1077 (-1)) from by rw [l_1077 r1]; unfold jI; decide)⟩ ?_
    refine EQ_jl rfl (fun h6 eh6 => ?_)
    have s3 := Sh_of eh6 (Sh_sta r1 (by decide +kernel) (by decide) (fun e => absurd ((k_1077 r1).symm.trans e) (by decide)))
    clear eh6
    exact EQ_some s3
noncomputable def gX1_end (a1 : Int) (h : AH) : Option (Int × AH) := jb (gX1_isIn a1 0 (h 200 55)) fun v2 => if v2 = 0 then (jg (jroom h 6) <| some ((-2), jth h)) else (jl (jst h 200 55 a1) fun h4 => some (0, h4))
theorem eX1_end (a1 : Int) {h : AH} (hS : Sh S h) : EQ (fX1_end 200 a1 h) (gX1_end a1 h) (fun r => Sh S r.2) := by
  unfold fX1_end gX1_end
  refine EQ_jgd (show h 200 (-2) = 2 from by rw [k_200 hS]) ?_
  refine EQ_jb (eX1_isIn a1 0 (h 200 55)) (fun v2 r1 => ?_)
  refine EQ_if Iff.rfl (fun c2 => ?_) (fun c2 => ?_)
  · refine EQ_jg Iff.rfl (fun g3 => ?_)
    exact EQ_some (Sh_th hS)
  · refine EQ_jgd ⟨(show h 200 (-2) = 2 from by rw [k_200 hS]), (show (200 : Int) ≤ 200 from (by decide))⟩ ?_
    refine EQ_jl rfl (fun h4 eh4 => ?_)
    have s4 := Sh_of eh4 (Sh_sto hS (a := 200) (i := 55) (by decide +kernel))
    clear eh4
    exact EQ_some s4
noncomputable def gX0_end (a1 : Int) (h : AH) : Option (Int × AH) := jb2 (gX1_end a1 h) fun t2 h4 => jq t2 (jg (t2 = (-2)) <| some (1, h4)) <| some (0, h4)
theorem eX0_end (a1 : Int) {h : AH} (hS : Sh S h) : EQ (fX0_end 200 a1 h) (gX0_end a1 h) (fun r => Sh S r.2) := by
  unfold fX0_end gX0_end
  refine EQ_jgd (show h 200 (-2) = 2 from by rw [k_200 hS]) ?_
  refine EQ_jb2 (eX1_end a1 hS) (fun t2 h4 r1 => ?_)
  replace r1 : Sh S h4 := r1
  refine EQ_jq (fun _ => ?_) (fun _ => ?_)
  · refine EQ_jg Iff.rfl (fun g2 => ?_)
    exact EQ_some r1
  · exact EQ_some r1
noncomputable def gX1_octet (a1 : Int) (a2 : Int) (h : AH) : Option (Int × Int × AH) := jb (gX1_isOctet a1 a2) fun v2 => if v2 = 0 then (jg (jroom h 6) <| some ((-3), 0, jth h)) else (jg (jI (w32 (w32 (a1 * 128) + a2)) 25728) <| some (0, jand (h 435 (w32 (w32 (a1 * 128) + a2))) 255, h))
theorem eX1_octet (a1 : Int) (a2 : Int) {h : AH} (hS : Sh S h) : EQ (fX1_octet 200 a1 a2 h) (gX1_octet a1 a2 h) (fun r => Sh S r.2.2) := by
  unfold fX1_octet gX1_octet
  refine EQ_jb (eX1_isOctet a1 a2) (fun v2 r1 => ?_)
  refine EQ_if Iff.rfl (fun c2 => ?_) (fun c2 => ?_)
  · refine EQ_jg Iff.rfl (fun g3 => ?_)
    exact EQ_some (Sh_th hS)
  · refine EQ_jgd (show h 200 (-2) = 2 from by rw [k_200 hS]) ?_
    refine EQ_jgd (show h (h 200 52) (-2) = 13 from by rw [r_200_52 hS, k_434 hS]) ?_
    refine EQ_jg ⟨fun ⟨_, x0⟩ => (show jI (w32 (w32 (a1 * 128) + a2)) (h (h (h 200 52) 0) (-1)) ↔ jI (w32 (w32 (a1 * 128) + a2)) 25728 from by rw [r_200_52 hS, r_434_0 hS, l_435 hS]).mp x0, fun x0 => ⟨(show h (h (h 200 52) 0) (-2) = 103 from by rw [r_200_52 hS, r_434_0 hS, k_435 hS]), (show jI (w32 (w32 (a1 * 128) + a2)) (h (h (h 200 52) 0) (-1)) ↔ jI (w32 (w32 (a1 * 128) + a2)) 25728 from by rw [r_200_52 hS, r_434_0 hS, l_435 hS]).mpr x0⟩⟩ (fun g4 => ?_)
    exact EQ_some' (by rw [r_200_52 hS, r_434_0 hS]) hS
noncomputable def gX0_octet (a1 : Int) (a2 : Int) (h : AH) : Option (Int × AH) := jb3 (gX1_octet a1 a2 h) fun t2 v3 h4 => jq t2 (jg (t2 = (-3)) <| some (1, h4)) <| jl (jst h4 1077 0 v3) fun h6 => some (0, h6)
theorem eX0_octet (a1 : Int) (a2 : Int) {h : AH} (hS : Sh S h) : EQ (fX0_octet 200 a1 a2 1077 h) (gX0_octet a1 a2 h) (fun r => Sh S r.2) := by
  unfold fX0_octet gX0_octet
  refine EQ_jgd (show h 200 (-2) = 2 from by rw [k_200 hS]) ?_
  refine EQ_jb3 (eX1_octet a1 a2 hS) (fun t2 v3 h4 r1 => ?_)
  replace r1 : Sh S h4 := r1
  refine EQ_jq (fun _ => ?_) (fun _ => ?_)
  · refine EQ_jg Iff.rfl (fun g2 => ?_)
    exact EQ_some r1
  · refine EQ_jgd ⟨(show h4 1077 (-2) = 102 from by rw [k_1077 r1]), (show (200 : Int) ≤ 1077 from (by decide)), (show jI 0 (h4 1077 (-1)) from by rw [l_1077 r1]; unfold jI; decide)⟩ ?_
    refine EQ_jl rfl (fun h6 eh6 => ?_)
    have s3 := Sh_of eh6 (Sh_sta r1 (by decide +kernel) (by decide) (fun e => absurd ((k_1077 r1).symm.trans e) (by decide)))
    clear eh6
    exact EQ_some s3
noncomputable def gX1_poke (a1 : Int) (a2 : Int) (a3 : Int) (h : AH) : Option (Int × Int × AH) := jb (gX1_isOctet a1 a2) fun v2 => if v2 = 0 then (jg (jroom h 6) <| some ((-3), 0, jth h)) else (jg (jI (w32 (w32 (a1 * 128) + a2)) 25728) <| jl (jst h 435 (w32 (w32 (a1 * 128) + a2)) (ji2b (ji2b (jxor (h 435 (w32 (w32 (a1 * 128) + a2))) (ji2b a3))))) fun h4 => some (0, jand (h4 435 (w32 (w32 (a1 * 128) + a2))) 255, h4))
theorem eX1_poke (a1 : Int) (a2 : Int) (a3 : Int) {h : AH} (hS : Sh S h) : EQ (fX1_poke 200 a1 a2 a3 h) (gX1_poke a1 a2 a3 h) (fun r => Sh S r.2.2) := by
  unfold fX1_poke gX1_poke
  refine EQ_jb (eX1_isOctet a1 a2) (fun v2 r1 => ?_)
  refine EQ_if Iff.rfl (fun c2 => ?_) (fun c2 => ?_)
  · refine EQ_jg Iff.rfl (fun g3 => ?_)
    exact EQ_some (Sh_th hS)
  · refine EQ_jgd (show h 200 (-2) = 2 from by rw [k_200 hS]) ?_
    refine EQ_jgd (show h (h 200 52) (-2) = 13 from by rw [r_200_52 hS, k_434 hS]) ?_
    refine EQ_jg ⟨fun ⟨_, x0⟩ => (show jI (w32 (w32 (a1 * 128) + a2)) (h (h (h 200 52) 0) (-1)) ↔ jI (w32 (w32 (a1 * 128) + a2)) 25728 from by rw [r_200_52 hS, r_434_0 hS, l_435 hS]).mp x0, fun x0 => ⟨(show h (h (h 200 52) 0) (-2) = 103 from by rw [r_200_52 hS, r_434_0 hS, k_435 hS]), (show jI (w32 (w32 (a1 * 128) + a2)) (h (h (h 200 52) 0) (-1)) ↔ jI (w32 (w32 (a1 * 128) + a2)) 25728 from by rw [r_200_52 hS, r_434_0 hS, l_435 hS]).mpr x0⟩⟩ (fun g4 => ?_)
    refine EQ_jgd ⟨(show h (h (h 200 52) 0) (-2) = 103 from by rw [r_200_52 hS, r_434_0 hS, k_435 hS]), (show 200 ≤ h (h 200 52) 0 from by rw [r_200_52 hS, r_434_0 hS]; exact (by decide)), ((show jI (w32 (w32 (a1 * 128) + a2)) (h (h (h 200 52) 0) (-1)) ↔ jI (w32 (w32 (a1 * 128) + a2)) 25728 from by rw [r_200_52 hS, r_434_0 hS, l_435 hS]).mpr g4)⟩ ?_
    refine EQ_jl (by rw [r_200_52 hS, r_434_0 hS]) (fun h4 eh4 => ?_)
    have s5 := Sh_of eh4 (Sh_sta hS (by decide +kernel) (jI_nn g4) (fun _ => jBy_b _))
    clear eh4
    refine EQ_jgd (show h4 200 (-2) = 2 from by rw [k_200 s5]) ?_
    refine EQ_jgd (show h4 (h4 200 52) (-2) = 13 from by rw [r_200_52 s5, k_434 s5]) ?_
    refine EQ_jgd ⟨(show h4 (h4 (h4 200 52) 0) (-2) = 103 from by rw [r_200_52 s5, r_434_0 s5, k_435 s5]), ((show jI (w32 (w32 (a1 * 128) + a2)) (h4 (h4 (h4 200 52) 0) (-1)) ↔ jI (w32 (w32 (a1 * 128) + a2)) 25728 from by rw [r_200_52 s5, r_434_0 s5, l_435 s5]).mpr g4)⟩ ?_
    exact EQ_some' (by rw [r_200_52 s5, r_434_0 s5]) s5
noncomputable def gX0_poke (a1 : Int) (a2 : Int) (a3 : Int) (h : AH) : Option (Int × AH) := jb3 (gX1_poke a1 a2 a3 h) fun t2 v3 h4 => jq t2 (jg (t2 = (-3)) <| some (1, h4)) <| jl (jst h4 1077 0 v3) fun h6 => some (0, h6)
theorem eX0_poke (a1 : Int) (a2 : Int) (a3 : Int) {h : AH} (hS : Sh S h) : EQ (fX0_poke 200 a1 a2 a3 1077 h) (gX0_poke a1 a2 a3 h) (fun r => Sh S r.2) := by
  unfold fX0_poke gX0_poke
  refine EQ_jgd (show h 200 (-2) = 2 from by rw [k_200 hS]) ?_
  refine EQ_jb3 (eX1_poke a1 a2 a3 hS) (fun t2 v3 h4 r1 => ?_)
  replace r1 : Sh S h4 := r1
  refine EQ_jq (fun _ => ?_) (fun _ => ?_)
  · refine EQ_jg Iff.rfl (fun g2 => ?_)
    exact EQ_some r1
  · refine EQ_jgd ⟨(show h4 1077 (-2) = 102 from by rw [k_1077 r1]), (show (200 : Int) ≤ 1077 from (by decide)), (show jI 0 (h4 1077 (-1)) from by rw [l_1077 r1]; unfold jI; decide)⟩ ?_
    refine EQ_jl rfl (fun h6 eh6 => ?_)
    have s3 := Sh_of eh6 (Sh_sta r1 (by decide +kernel) (by decide) (fun e => absurd ((k_1077 r1).symm.trans e) (by decide)))
    clear eh6
    exact EQ_some s3
