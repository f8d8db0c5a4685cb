/-! x: levels up to a price: the loop -/
theorem XI_0 {h : AH} {E : EV} {Rf : Int → TR} {W : Int → Int → Int → VW} {f : Int → Int → Int → Int} {A : AD} {pts wh : Int} {rv : Int → Int} {M : Int → (Int → Int) → Prop} (g : seX h E Rf W f A pts wh rv) (pt : h (h 200 16) 18 = pts ∧ 0 ≤ pts) (n : h 307 0 = 0) (z1 : ∀ s, 0 ≤ s → s < 172800 → h 316 s = 0) (z2 : ∀ s, 0 ≤ s → s < 1728000 → h 317 s = 0) : XI h E W A pts M (LV E W pts A 0) := by
  refine ⟨by show (0 : Int) ≤ 120; decide, ⟨g.1.1, pt.1, pt.2, g.2.2.1.2.2, n, Int.le_refl _, by show (0 : Int) ≤ 120; decide, fun a a0 a1 => ?_⟩, ⟨fun k x y k0 k1 x0 x1 y0 y1 => Or.inl ?_, fun x y z x0 x1 y0 y1 z0 z1 => Or.inl ?_⟩, fun a a0 a1 => ?_, fun a b a0 ab b1 => ?_⟩
  · have : a < (0 : Int) := a1; omega
  · exact z1 _ (by unfold ntI; omega) (by unfold ntI; omega)
  · exact z2 _ (by unfold ntI; omega) (by unfold ntI; omega)
  · have : a < (0 : Int) := a1; omega
  · have : b < (0 : Int) := b1; omega
def gsG (h : AH) (E : EV) (W : Int → Int → Int → VW) (A : AD) (pts : Int) (M : Int → (Int → Int) → Prop) (cn : Int → Int → Int) (d : Nat) (fl p : Int) : Prop := ∃ e : Nat, d ≤ e ∧ ((e : Int) = d ∨ (fl = 0 ∧ (e : Int) ≤ p)) ∧ GSx h E W A pts M cn e fl
theorem gsG_ok {h : AH} {E : EV} {W : Int → Int → Int → VW} {A : AD} {pts : Int} {M : Int → (Int → Int) → Prop} {cn : Int → Int → Int} {d e : Nat} {fl p : Int} (l : d ≤ e) (z : fl = 0) (i : ¬ p ≤ (e : Int)) (o : okG h E W A pts M cn e) : gsG h E W A pts M cn d fl p := by
  obtain ⟨⟨o1, o2, o3, o4⟩, o5, o6, o7⟩ := o
  subst z
  exact ⟨e + 1, by omega, Or.inr ⟨rfl, by omega⟩, o1, by omega, by rw [if_neg (by decide)]; exact o3, by omega, Or.inr ⟨_, o5, eQ_r _ _, fun _ => rfl, o6, o7⟩⟩
theorem vX5_grow_l0 (i1 : Int) {h0 : AH} {E : EV} {Rf : Int → TR} {W : Int → Int → Int → VW} {f : Int → Int → Int → Int} {A : AD} {pts wh : Int} {rv : Int → Int} {M : Int → (Int → Int) → Prop} {cn : Int → Int → Int} {d : Nat} {fl : Int} (g : seX h0 E Rf W f A pts wh rv) (va : VA E A pts) (ln : lenX h0) (pt : h0 (h0 200 16) 18 = pts ∧ 0 ≤ pts) (p12 : i1 ≤ 12) (gs : GSx h0 E W A pts M cn d fl) : OK (gX5_grow_l0 i1 h0) (Sum.elim (fun r => jt2 r fun x h' => (∃ e : Nat, d ≤ e ∧ fl = 0 ∧ (e : Int) < i1 ∧ x = (e : Int) + 1 ∧ flG h' E W A pts M cn e) ∧ (fS h0 h' ∧ b10 h')) (fun h' => (∃ e : Nat, rch d fl i1 e fl ∧ GSx h' E W A pts M cn e fl) ∧ (fS h0 h' ∧ b10 h'))) := by
  unfold gX5_grow_l0
  refine OK_jit (I := (fun (h : AH) => (gsG h E W A pts M cn d fl i1) ∧ (fS h0 h) ∧ (b10 h))) (m := (fun (h : AH) => (13 - h 307 7).toNat)) ?_ ?_
  · intro h hs
    try dsimp only at hs
    obtain ⟨q0, fr, bb⟩ := hs
    unfold gX5_grow_b0
    obtain ⟨e, e0, e1, rs, k7, k8, k17, gx⟩ := q0
    have G := seX_S g fr bb
    have LN := lenX_S ln fr
    have x40 : h0 200 16 = 271 ∨ h0 200 16 = 289 := g.1.1
    have PT : h (h 200 16) 18 = pts ∧ 0 ≤ pts := ⟨by { have e16 : h 200 16 = h0 200 16 := fr _ _ (by omega) (by omega) (by omega) (by omega); rw [e16, fr _ _ (by omega) (by omega) (by omega) (by omega)]; exact pt.1 }, pt.2⟩
    have e12 := rs.2.1
    have w14 : w32 (h 307 7 + 1) = e + 1 := by { rw [w32_id (by omega) (by omega)]; omega }
    have fl01 : fl = 0 ∨ fl = 1 := by { rcases rs.2.2 with r | r; { exact Or.inl r }; { exact Or.inr r.1 } }
    refine OK_if (fun c1 => ?_) (fun c1 => ?_)
    · skip
      try simp (disch := omega) only [jst_eq, jst_ne, jst_ni, jI_i, jcmp_lt, jcmp_gt, w32_id, jcpy_out, Sum.elim_inl, Sum.elim_inr, jt2, jt3, jt4, jt5, jt6, jt7, jt8] at c1
      refine OK_ir ?_
      try dsimp only [Sum.elim_inl, Sum.elim_inr, jt2, jt3, jt4, jt5, jt6, jt7, jt8]
      refine ⟨?_, ?_⟩
      · (refine ⟨e, ⟨e0, ?_⟩, rs, k7, k8, k17, gx⟩; rcases fl01 with z | z; { exact Or.inr (Or.inl ⟨z, z, by omega⟩) }; { exact Or.inl ⟨z, by omega, z⟩ }) -- o1 e1.1
      · exact ⟨fr, bb⟩ -- o2 e1.2
    · skip
      try simp (disch := omega) only [jst_eq, jst_ne, jst_ni, jI_i, jcmp_lt, jcmp_gt, w32_id, jcpy_out, Sum.elim_inl, Sum.elim_inr, jt2, jt3, jt4, jt5, jt6, jt7, jt8] at c1
      refine OK_if (fun c2 => ?_) (fun c2 => ?_)
      · skip
        try simp (disch := omega) only [jst_eq, jst_ne, jst_ni, jI_i, jcmp_lt, jcmp_gt, w32_id, jcpy_out, Sum.elim_inl, Sum.elim_inr, jt2, jt3, jt4, jt5, jt6, jt7, jt8] at c2
        refine OK_ir ?_
        try dsimp only [Sum.elim_inl, Sum.elim_inr, jt2, jt3, jt4, jt5, jt6, jt7, jt8]
        refine ⟨?_, ?_⟩
        · (refine ⟨e, ⟨e0, ?_⟩, rs, k7, k8, k17, gx⟩; rcases fl01 with z | z; { rw [if_neg (by omega)] at k8; omega }; { exact Or.inl ⟨z, by omega, z⟩ }) -- o3 e2.1
        · exact ⟨fr, bb⟩ -- o4 e2.2
      · skip
        try simp (disch := omega) only [jst_eq, jst_ne, jst_ni, jI_i, jcmp_lt, jcmp_gt, w32_id, jcpy_out, Sum.elim_inl, Sum.elim_inr, jt2, jt3, jt4, jt5, jt6, jt7, jt8] at c2
        have fl0 : fl = 0 := by { rcases fl01 with z | z; { exact z }; { rw [if_pos z] at k8; omega } }
        have k83 : h 307 8 = 13 := by { rw [if_neg (by omega)] at k8; exact k8 }
        rw [fl0] at rs
        refine OK_if (fun c3 => ?_) (fun c3 => ?_)
        · skip
          try simp (disch := omega) only [jst_eq, jst_ne, jst_ni, jI_i, jcmp_lt, jcmp_gt, w32_id, jcpy_out, Sum.elim_inl, Sum.elim_inr, jt2, jt3, jt4, jt5, jt6, jt7, jt8] at c3
          refine OK_jb (vX5_begin (by (first | ((first | exact gsG_ok e0 fl0 (by omega) ok2 | exact gsG_ok e0 fl0 (by omega) ok4)) | ((first | exact fS_t fr (fS_t FS fs2.1) | exact fS_t fr fs4.1)) | ((first | exact fs2.2 | exact fs4.2)) | ((first | exact ⟨_, e0, fl0, by omega, fs3.2.2, fl3⟩ | exact ⟨_, e0, fl0, by omega, fs5.2.2, fl5⟩)) | ((first | exact ⟨fS_t fr (fS_t FS fs3.1), fs3.2.1⟩ | exact ⟨fS_t fr fs5.1, fs5.2.1⟩)) | ((first | (have o := ok2.1.2.1; omega) | (have o := ok4.1.2.1; omega))) | (first | assumption | omega | ((try dsimp only [jt2, jt3, jt4]); first | omega | (simp (disch := omega) only [jst_eq, jst_ne, jst_ni, jst_o, jI_i, jcpy_out, w32_id, jdiv_nn, jshr_k, jand_255] <;> first | done | omega | assumption)) | (intros; simp (disch := omega) only [jst_eq, jst_ne, jst_ni, jst_o, jI_i, jcpy_out, w32_id, jdiv_nn, *] <;> first | done | omega) | (intros; simp (disch := omega) only [jst_eq, jst_ne, jst_ni, jst_o, jI_i, jcpy_out, w32_id, jdiv_nn] at * <;> first | done | omega | assumption) | (intros; first | rfl | (exfalso; omega) | ((repeat' apply And.intro) <;> first | assumption | rfl | omega | trivial)))))) (fun h13 r1 => ?_)
          try dsimp only [Sum.elim_inl, Sum.elim_inr, jt2, jt3, jt4, jt5, jt6, jt7, jt8] at r1
          have be1 := r1
          clear r1
          try simp (disch := omega) only [jst_eq, jst_ne, jst_ni, jI_i, jcmp_lt, jcmp_gt, w32_id, jcpy_out, Sum.elim_inl, Sum.elim_inr, jt2, jt3, jt4, jt5, jt6, jt7, jt8] at be1
          have BF : ∀ a s, ¬ (a = 316 ∨ a = 317 ∨ a = 321 ∨ a = 314) → h13 a s = h a s := fun a s y => by { rw [be1, if_neg (by omega)] }
          have FS : fS h h13 := fun a s y1 y2 y3 y4 => by { rw [be1]; exact if_neg (by omega) }
          have B13 : b10 h13 := by { unfold b10; rw [BF _ _ (by omega)]; exact bb }
          have G13 := seX_S G FS B13
          have ez : e = 0 := by omega
          subst ez
          have N0 : h 307 0 = 0 := by { rcases gx with r | ⟨T, r1, r2, r3, r4, r5⟩; { exact r.2.2 }; { have := r1.2.1.2.2.2.2.1; rw [r3 fl0] at this; exact this } }
          have PT13 : h13 (h13 200 16) 18 = pts ∧ 0 ≤ pts := ⟨by { have x4 : h 200 16 = 271 ∨ h 200 16 = 289 := G.1.1; rw [BF 200 16 (by omega), BF _ _ (by omega)]; exact PT.1 }, pt.2⟩
          have X13 : XI h13 E W A pts M (LV E W pts A 0) := XI_0 G13 PT13 (by rw [BF _ _ (by omega)]; exact N0) (fun s s0 s1 => by rw [be1]; exact if_pos (by omega)) (fun s s0 s1 => by rw [be1]; exact if_pos (by omega))
          have U13 : (∀ m : Nat, m ≤ 0 → h13 314 m = (LV E W pts A m).1) ∧ cnX h13 cn := ⟨fun m l => by { have em : m = 0 := (by omega); subst em; rw [be1]; exact if_pos (by omega) }, fun q f a b c d => by { rw [BF 307 _ (by omega), if_neg (by omega), be1]; exact if_pos (by omega) }⟩
          refine OK_mono (vX5_grow_j32_0 (E := E) (Rf := Rf) (W := W) (f := f) (A := A) (pts := pts) (wh := wh) (rv := rv) (M := M) (cn := cn) _ (by exact G13) (by exact va) (by exact ⟨rs, by omega, by rw [BF _ _ (by omega)]; exact k7, by rw [BF _ _ (by omega)]; exact k83, by rw [BF _ _ (by omega)]; exact k17⟩) (by exact X13) (by exact U13)) (fun r r2 => ?_)
          rcases r with r | r
          · skip
            have r3 := r2; clear r2; dsimp only [Sum.elim_inl, Sum.elim_inr] at r3
            try dsimp only [Sum.elim_inl, Sum.elim_inr, jt2, jt3, jt4, jt5, jt6, jt7, jt8] at r3
            obtain ⟨ok2, fs2⟩ := r3
            try simp (disch := omega) only [jst_eq, jst_ne, jst_ni, jI_i, jcmp_lt, jcmp_gt, w32_id, jcpy_out, Sum.elim_inl, Sum.elim_inr, jt2, jt3, jt4, jt5, jt6, jt7, jt8] at ok2
            try simp (disch := omega) only [jst_eq, jst_ne, jst_ni, jI_i, jcmp_lt, jcmp_gt, w32_id, jcpy_out, Sum.elim_inl, Sum.elim_inr, jt2, jt3, jt4, jt5, jt6, jt7, jt8] at fs2
            try dsimp only [Sum.elim_inl, Sum.elim_inr, jt2, jt3, jt4, jt5, jt6, jt7, jt8]
            refine ⟨?_, ?_⟩
            · try dsimp only [Sum.elim_inl, Sum.elim_inr, jt2, jt3, jt4, jt5, jt6, jt7, jt8]
              refine ⟨?_, ?_, ?_⟩
              · (first | ((first | exact gsG_ok e0 fl0 (by omega) ok2 | exact gsG_ok e0 fl0 (by omega) ok4)) | ((first | exact fS_t fr (fS_t FS fs2.1) | exact fS_t fr fs4.1)) | ((first | exact fs2.2 | exact fs4.2)) | ((first | exact ⟨_, e0, fl0, by omega, fs3.2.2, fl3⟩ | exact ⟨_, e0, fl0, by omega, fs5.2.2, fl5⟩)) | ((first | exact ⟨fS_t fr (fS_t FS fs3.1), fs3.2.1⟩ | exact ⟨fS_t fr fs5.1, fs5.2.1⟩)) | ((first | (have o := ok2.1.2.1; omega) | (have o := ok4.1.2.1; omega))) | (first | assumption | omega | ((try dsimp only [jt2, jt3, jt4]); first | omega | (simp (disch := omega) only [jst_eq, jst_ne, jst_ni, jst_o, jI_i, jcpy_out, w32_id, jdiv_nn, jshr_k, jand_255] <;> first | done | omega | assumption)) | (intros; simp (disch := omega) only [jst_eq, jst_ne, jst_ni, jst_o, jI_i, jcpy_out, w32_id, jdiv_nn, *] <;> first | done | omega) | (intros; simp (disch := omega) only [jst_eq, jst_ne, jst_ni, jst_o, jI_i, jcpy_out, w32_id, jdiv_nn] at * <;> first | done | omega | assumption) | (intros; first | rfl | (exfalso; omega) | ((repeat' apply And.intro) <;> first | assumption | rfl | omega | trivial)))) -- o11 e3i.1
              · (first | ((first | exact gsG_ok e0 fl0 (by omega) ok2 | exact gsG_ok e0 fl0 (by omega) ok4)) | ((first | exact fS_t fr (fS_t FS fs2.1) | exact fS_t fr fs4.1)) | ((first | exact fs2.2 | exact fs4.2)) | ((first | exact ⟨_, e0, fl0, by omega, fs3.2.2, fl3⟩ | exact ⟨_, e0, fl0, by omega, fs5.2.2, fl5⟩)) | ((first | exact ⟨fS_t fr (fS_t FS fs3.1), fs3.2.1⟩ | exact ⟨fS_t fr fs5.1, fs5.2.1⟩)) | ((first | (have o := ok2.1.2.1; omega) | (have o := ok4.1.2.1; omega))) | (first | assumption | omega | ((try dsimp only [jt2, jt3, jt4]); first | omega | (simp (disch := omega) only [jst_eq, jst_ne, jst_ni, jst_o, jI_i, jcpy_out, w32_id, jdiv_nn, jshr_k, jand_255] <;> first | done | omega | assumption)) | (intros; simp (disch := omega) only [jst_eq, jst_ne, jst_ni, jst_o, jI_i, jcpy_out, w32_id, jdiv_nn, *] <;> first | done | omega) | (intros; simp (disch := omega) only [jst_eq, jst_ne, jst_ni, jst_o, jI_i, jcpy_out, w32_id, jdiv_nn] at * <;> first | done | omega | assumption) | (intros; first | rfl | (exfalso; omega) | ((repeat' apply And.intro) <;> first | assumption | rfl | omega | trivial)))) -- o12 e3i.2
              · (first | ((first | exact gsG_ok e0 fl0 (by omega) ok2 | exact gsG_ok e0 fl0 (by omega) ok4)) | ((first | exact fS_t fr (fS_t FS fs2.1) | exact fS_t fr fs4.1)) | ((first | exact fs2.2 | exact fs4.2)) | ((first | exact ⟨_, e0, fl0, by omega, fs3.2.2, fl3⟩ | exact ⟨_, e0, fl0, by omega, fs5.2.2, fl5⟩)) | ((first | exact ⟨fS_t fr (fS_t FS fs3.1), fs3.2.1⟩ | exact ⟨fS_t fr fs5.1, fs5.2.1⟩)) | ((first | (have o := ok2.1.2.1; omega) | (have o := ok4.1.2.1; omega))) | (first | assumption | omega | ((try dsimp only [jt2, jt3, jt4]); first | omega | (simp (disch := omega) only [jst_eq, jst_ne, jst_ni, jst_o, jI_i, jcpy_out, w32_id, jdiv_nn, jshr_k, jand_255] <;> first | done | omega | assumption)) | (intros; simp (disch := omega) only [jst_eq, jst_ne, jst_ni, jst_o, jI_i, jcpy_out, w32_id, jdiv_nn, *] <;> first | done | omega) | (intros; simp (disch := omega) only [jst_eq, jst_ne, jst_ni, jst_o, jI_i, jcpy_out, w32_id, jdiv_nn] at * <;> first | done | omega | assumption) | (intros; first | rfl | (exfalso; omega) | ((repeat' apply And.intro) <;> first | assumption | rfl | omega | trivial)))) -- o13 e3i.3
            · (first | ((first | exact gsG_ok e0 fl0 (by omega) ok2 | exact gsG_ok e0 fl0 (by omega) ok4)) | ((first | exact fS_t fr (fS_t FS fs2.1) | exact fS_t fr fs4.1)) | ((first | exact fs2.2 | exact fs4.2)) | ((first | exact ⟨_, e0, fl0, by omega, fs3.2.2, fl3⟩ | exact ⟨_, e0, fl0, by omega, fs5.2.2, fl5⟩)) | ((first | exact ⟨fS_t fr (fS_t FS fs3.1), fs3.2.1⟩ | exact ⟨fS_t fr fs5.1, fs5.2.1⟩)) | ((first | (have o := ok2.1.2.1; omega) | (have o := ok4.1.2.1; omega))) | (first | assumption | omega | ((try dsimp only [jt2, jt3, jt4]); first | omega | (simp (disch := omega) only [jst_eq, jst_ne, jst_ni, jst_o, jI_i, jcpy_out, w32_id, jdiv_nn, jshr_k, jand_255] <;> first | done | omega | assumption)) | (intros; simp (disch := omega) only [jst_eq, jst_ne, jst_ni, jst_o, jI_i, jcpy_out, w32_id, jdiv_nn, *] <;> first | done | omega) | (intros; simp (disch := omega) only [jst_eq, jst_ne, jst_ni, jst_o, jI_i, jcpy_out, w32_id, jdiv_nn] at * <;> first | done | omega | assumption) | (intros; first | rfl | (exfalso; omega) | ((repeat' apply And.intro) <;> first | assumption | rfl | omega | trivial)))) -- o14 e3m
          · skip
            have r4 := r2; clear r2; dsimp only [Sum.elim_inl, Sum.elim_inr] at r4
            rcases r with r | r
            · skip
              have r5 := r4; clear r4; dsimp only [Sum.elim_inl, Sum.elim_inr] at r5
              obtain ⟨y1, y2⟩ := r
              try dsimp only [Sum.elim_inl, Sum.elim_inr, jt2, jt3, jt4, jt5, jt6, jt7, jt8] at r5
              obtain ⟨fl3, fs3⟩ := r5
              try simp (disch := omega) only [jst_eq, jst_ne, jst_ni, jI_i, jcmp_lt, jcmp_gt, w32_id, jcpy_out, Sum.elim_inl, Sum.elim_inr, jt2, jt3, jt4, jt5, jt6, jt7, jt8] at fl3
              try simp (disch := omega) only [jst_eq, jst_ne, jst_ni, jI_i, jcmp_lt, jcmp_gt, w32_id, jcpy_out, Sum.elim_inl, Sum.elim_inr, jt2, jt3, jt4, jt5, jt6, jt7, jt8] at fs3
              try dsimp only [Sum.elim_inl, Sum.elim_inr, jt2, jt3, jt4, jt5, jt6, jt7, jt8]
              try dsimp only [Sum.elim_inl, Sum.elim_inr, jt2, jt3, jt4, jt5, jt6, jt7, jt8]
              refine ⟨?_, ?_⟩
              · (first | ((first | exact gsG_ok e0 fl0 (by omega) ok2 | exact gsG_ok e0 fl0 (by omega) ok4)) | ((first | exact fS_t fr (fS_t FS fs2.1) | exact fS_t fr fs4.1)) | ((first | exact fs2.2 | exact fs4.2)) | ((first | exact ⟨_, e0, fl0, by omega, fs3.2.2, fl3⟩ | exact ⟨_, e0, fl0, by omega, fs5.2.2, fl5⟩)) | ((first | exact ⟨fS_t fr (fS_t FS fs3.1), fs3.2.1⟩ | exact ⟨fS_t fr fs5.1, fs5.2.1⟩)) | ((first | (have o := ok2.1.2.1; omega) | (have o := ok4.1.2.1; omega))) | (first | assumption | omega | ((try dsimp only [jt2, jt3, jt4]); first | omega | (simp (disch := omega) only [jst_eq, jst_ne, jst_ni, jst_o, jI_i, jcpy_out, w32_id, jdiv_nn, jshr_k, jand_255] <;> first | done | omega | assumption)) | (intros; simp (disch := omega) only [jst_eq, jst_ne, jst_ni, jst_o, jI_i, jcpy_out, w32_id, jdiv_nn, *] <;> first | done | omega) | (intros; simp (disch := omega) only [jst_eq, jst_ne, jst_ni, jst_o, jI_i, jcpy_out, w32_id, jdiv_nn] at * <;> first | done | omega | assumption) | (intros; first | rfl | (exfalso; omega) | ((repeat' apply And.intro) <;> first | assumption | rfl | omega | trivial)))) -- o15 e4.1
              · (first | ((first | exact gsG_ok e0 fl0 (by omega) ok2 | exact gsG_ok e0 fl0 (by omega) ok4)) | ((first | exact fS_t fr (fS_t FS fs2.1) | exact fS_t fr fs4.1)) | ((first | exact fs2.2 | exact fs4.2)) | ((first | exact ⟨_, e0, fl0, by omega, fs3.2.2, fl3⟩ | exact ⟨_, e0, fl0, by omega, fs5.2.2, fl5⟩)) | ((first | exact ⟨fS_t fr (fS_t FS fs3.1), fs3.2.1⟩ | exact ⟨fS_t fr fs5.1, fs5.2.1⟩)) | ((first | (have o := ok2.1.2.1; omega) | (have o := ok4.1.2.1; omega))) | (first | assumption | omega | ((try dsimp only [jt2, jt3, jt4]); first | omega | (simp (disch := omega) only [jst_eq, jst_ne, jst_ni, jst_o, jI_i, jcpy_out, w32_id, jdiv_nn, jshr_k, jand_255] <;> first | done | omega | assumption)) | (intros; simp (disch := omega) only [jst_eq, jst_ne, jst_ni, jst_o, jI_i, jcpy_out, w32_id, jdiv_nn, *] <;> first | done | omega) | (intros; simp (disch := omega) only [jst_eq, jst_ne, jst_ni, jst_o, jI_i, jcpy_out, w32_id, jdiv_nn] at * <;> first | done | omega | assumption) | (intros; first | rfl | (exfalso; omega) | ((repeat' apply And.intro) <;> first | assumption | rfl | omega | trivial)))) -- o16 e4.2
            · skip
              have r6 := r4; clear r4; dsimp only [Sum.elim_inl, Sum.elim_inr] at r6
              all_goals exact r6.elim
        · skip
          try simp (disch := omega) only [jst_eq, jst_ne, jst_ni, jI_i, jcmp_lt, jcmp_gt, w32_id, jcpy_out, Sum.elim_inl, Sum.elim_inr, jt2, jt3, jt4, jt5, jt6, jt7, jt8] at c3
          have GX : XI h E W A pts M (LV E W pts A e) ∧ (∀ m : Nat, m ≤ e → h 314 m = (LV E W pts A m).1) ∧ cnX h cn := by { rcases gx with r | ⟨T, r1, r2, r3, r4, r5⟩; { omega }; { rw [r3 fl0] at r1; exact ⟨r1, r4, r5⟩ } }
          refine OK_mono (vX5_grow_j32_0 (E := E) (Rf := Rf) (W := W) (f := f) (A := A) (pts := pts) (wh := wh) (rv := rv) (M := M) (cn := cn) _ (by exact G) (by exact va) (by exact ⟨rs, by omega, k7, k83, k17⟩) (by exact GX.1) (by exact GX.2)) (fun r r7 => ?_)
          rcases r with r | r
          · skip
            have r8 := r7; clear r7; dsimp only [Sum.elim_inl, Sum.elim_inr] at r8
            try dsimp only [Sum.elim_inl, Sum.elim_inr, jt2, jt3, jt4, jt5, jt6, jt7, jt8] at r8
            obtain ⟨ok4, fs4⟩ := r8
            try simp (disch := omega) only [jst_eq, jst_ne, jst_ni, jI_i, jcmp_lt, jcmp_gt, w32_id, jcpy_out, Sum.elim_inl, Sum.elim_inr, jt2, jt3, jt4, jt5, jt6, jt7, jt8] at ok4
            try simp (disch := omega) only [jst_eq, jst_ne, jst_ni, jI_i, jcmp_lt, jcmp_gt, w32_id, jcpy_out, Sum.elim_inl, Sum.elim_inr, jt2, jt3, jt4, jt5, jt6, jt7, jt8] at fs4
            try dsimp only [Sum.elim_inl, Sum.elim_inr, jt2, jt3, jt4, jt5, jt6, jt7, jt8]
            refine ⟨?_, ?_⟩
            · try dsimp only [Sum.elim_inl, Sum.elim_inr, jt2, jt3, jt4, jt5, jt6, jt7, jt8]
              refine ⟨?_, ?_, ?_⟩
              · (first | ((first | exact gsG_ok e0 fl0 (by omega) ok2 | exact gsG_ok e0 fl0 (by omega) ok4)) | ((first | exact fS_t fr (fS_t FS fs2.1) | exact fS_t fr fs4.1)) | ((first | exact fs2.2 | exact fs4.2)) | ((first | exact ⟨_, e0, fl0, by omega, fs3.2.2, fl3⟩ | exact ⟨_, e0, fl0, by omega, fs5.2.2, fl5⟩)) | ((first | exact ⟨fS_t fr (fS_t FS fs3.1), fs3.2.1⟩ | exact ⟨fS_t fr fs5.1, fs5.2.1⟩)) | ((first | (have o := ok2.1.2.1; omega) | (have o := ok4.1.2.1; omega))) | (first | assumption | omega | ((try dsimp only [jt2, jt3, jt4]); first | omega | (simp (disch := omega) only [jst_eq, jst_ne, jst_ni, jst_o, jI_i, jcpy_out, w32_id, jdiv_nn, jshr_k, jand_255] <;> first | done | omega | assumption)) | (intros; simp (disch := omega) only [jst_eq, jst_ne, jst_ni, jst_o, jI_i, jcpy_out, w32_id, jdiv_nn, *] <;> first | done | omega) | (intros; simp (disch := omega) only [jst_eq, jst_ne, jst_ni, jst_o, jI_i, jcpy_out, w32_id, jdiv_nn] at * <;> first | done | omega | assumption) | (intros; first | rfl | (exfalso; omega) | ((repeat' apply And.intro) <;> first | assumption | rfl | omega | trivial)))) -- o22 e5i.1
              · (first | ((first | exact gsG_ok e0 fl0 (by omega) ok2 | exact gsG_ok e0 fl0 (by omega) ok4)) | ((first | exact fS_t fr (fS_t FS fs2.1) | exact fS_t fr fs4.1)) | ((first | exact fs2.2 | exact fs4.2)) | ((first | exact ⟨_, e0, fl0, by omega, fs3.2.2, fl3⟩ | exact ⟨_, e0, fl0, by omega, fs5.2.2, fl5⟩)) | ((first | exact ⟨fS_t fr (fS_t FS fs3.1), fs3.2.1⟩ | exact ⟨fS_t fr fs5.1, fs5.2.1⟩)) | ((first | (have o := ok2.1.2.1; omega) | (have o := ok4.1.2.1; omega))) | (first | assumption | omega | ((try dsimp only [jt2, jt3, jt4]); first | omega | (simp (disch := omega) only [jst_eq, jst_ne, jst_ni, jst_o, jI_i, jcpy_out, w32_id, jdiv_nn, jshr_k, jand_255] <;> first | done | omega | assumption)) | (intros; simp (disch := omega) only [jst_eq, jst_ne, jst_ni, jst_o, jI_i, jcpy_out, w32_id, jdiv_nn, *] <;> first | done | omega) | (intros; simp (disch := omega) only [jst_eq, jst_ne, jst_ni, jst_o, jI_i, jcpy_out, w32_id, jdiv_nn] at * <;> first | done | omega | assumption) | (intros; first | rfl | (exfalso; omega) | ((repeat' apply And.intro) <;> first | assumption | rfl | omega | trivial)))) -- o23 e5i.2
              · (first | ((first | exact gsG_ok e0 fl0 (by omega) ok2 | exact gsG_ok e0 fl0 (by omega) ok4)) | ((first | exact fS_t fr (fS_t FS fs2.1) | exact fS_t fr fs4.1)) | ((first | exact fs2.2 | exact fs4.2)) | ((first | exact ⟨_, e0, fl0, by omega, fs3.2.2, fl3⟩ | exact ⟨_, e0, fl0, by omega, fs5.2.2, fl5⟩)) | ((first | exact ⟨fS_t fr (fS_t FS fs3.1), fs3.2.1⟩ | exact ⟨fS_t fr fs5.1, fs5.2.1⟩)) | ((first | (have o := ok2.1.2.1; omega) | (have o := ok4.1.2.1; omega))) | (first | assumption | omega | ((try dsimp only [jt2, jt3, jt4]); first | omega | (simp (disch := omega) only [jst_eq, jst_ne, jst_ni, jst_o, jI_i, jcpy_out, w32_id, jdiv_nn, jshr_k, jand_255] <;> first | done | omega | assumption)) | (intros; simp (disch := omega) only [jst_eq, jst_ne, jst_ni, jst_o, jI_i, jcpy_out, w32_id, jdiv_nn, *] <;> first | done | omega) | (intros; simp (disch := omega) only [jst_eq, jst_ne, jst_ni, jst_o, jI_i, jcpy_out, w32_id, jdiv_nn] at * <;> first | done | omega | assumption) | (intros; first | rfl | (exfalso; omega) | ((repeat' apply And.intro) <;> first | assumption | rfl | omega | trivial)))) -- o24 e5i.3
            · (first | ((first | exact gsG_ok e0 fl0 (by omega) ok2 | exact gsG_ok e0 fl0 (by omega) ok4)) | ((first | exact fS_t fr (fS_t FS fs2.1) | exact fS_t fr fs4.1)) | ((first | exact fs2.2 | exact fs4.2)) | ((first | exact ⟨_, e0, fl0, by omega, fs3.2.2, fl3⟩ | exact ⟨_, e0, fl0, by omega, fs5.2.2, fl5⟩)) | ((first | exact ⟨fS_t fr (fS_t FS fs3.1), fs3.2.1⟩ | exact ⟨fS_t fr fs5.1, fs5.2.1⟩)) | ((first | (have o := ok2.1.2.1; omega) | (have o := ok4.1.2.1; omega))) | (first | assumption | omega | ((try dsimp only [jt2, jt3, jt4]); first | omega | (simp (disch := omega) only [jst_eq, jst_ne, jst_ni, jst_o, jI_i, jcpy_out, w32_id, jdiv_nn, jshr_k, jand_255] <;> first | done | omega | assumption)) | (intros; simp (disch := omega) only [jst_eq, jst_ne, jst_ni, jst_o, jI_i, jcpy_out, w32_id, jdiv_nn, *] <;> first | done | omega) | (intros; simp (disch := omega) only [jst_eq, jst_ne, jst_ni, jst_o, jI_i, jcpy_out, w32_id, jdiv_nn] at * <;> first | done | omega | assumption) | (intros; first | rfl | (exfalso; omega) | ((repeat' apply And.intro) <;> first | assumption | rfl | omega | trivial)))) -- o25 e5m
          · skip
            have r9 := r7; clear r7; dsimp only [Sum.elim_inl, Sum.elim_inr] at r9
            rcases r with r | r
            · skip
              have r10 := r9; clear r9; dsimp only [Sum.elim_inl, Sum.elim_inr] at r10
              obtain ⟨y3, y4⟩ := r
              try dsimp only [Sum.elim_inl, Sum.elim_inr, jt2, jt3, jt4, jt5, jt6, jt7, jt8] at r10
              obtain ⟨fl5, fs5⟩ := r10
              try simp (disch := omega) only [jst_eq, jst_ne, jst_ni, jI_i, jcmp_lt, jcmp_gt, w32_id, jcpy_out, Sum.elim_inl, Sum.elim_inr, jt2, jt3, jt4, jt5, jt6, jt7, jt8] at fl5
              try simp (disch := omega) only [jst_eq, jst_ne, jst_ni, jI_i, jcmp_lt, jcmp_gt, w32_id, jcpy_out, Sum.elim_inl, Sum.elim_inr, jt2, jt3, jt4, jt5, jt6, jt7, jt8] at fs5
              try dsimp only [Sum.elim_inl, Sum.elim_inr, jt2, jt3, jt4, jt5, jt6, jt7, jt8]
              try dsimp only [Sum.elim_inl, Sum.elim_inr, jt2, jt3, jt4, jt5, jt6, jt7, jt8]
              refine ⟨?_, ?_⟩
              · (first | ((first | exact gsG_ok e0 fl0 (by omega) ok2 | exact gsG_ok e0 fl0 (by omega) ok4)) | ((first | exact fS_t fr (fS_t FS fs2.1) | exact fS_t fr fs4.1)) | ((first | exact fs2.2 | exact fs4.2)) | ((first | exact ⟨_, e0, fl0, by omega, fs3.2.2, fl3⟩ | exact ⟨_, e0, fl0, by omega, fs5.2.2, fl5⟩)) | ((first | exact ⟨fS_t fr (fS_t FS fs3.1), fs3.2.1⟩ | exact ⟨fS_t fr fs5.1, fs5.2.1⟩)) | ((first | (have o := ok2.1.2.1; omega) | (have o := ok4.1.2.1; omega))) | (first | assumption | omega | ((try dsimp only [jt2, jt3, jt4]); first | omega | (simp (disch := omega) only [jst_eq, jst_ne, jst_ni, jst_o, jI_i, jcpy_out, w32_id, jdiv_nn, jshr_k, jand_255] <;> first | done | omega | assumption)) | (intros; simp (disch := omega) only [jst_eq, jst_ne, jst_ni, jst_o, jI_i, jcpy_out, w32_id, jdiv_nn, *] <;> first | done | omega) | (intros; simp (disch := omega) only [jst_eq, jst_ne, jst_ni, jst_o, jI_i, jcpy_out, w32_id, jdiv_nn] at * <;> first | done | omega | assumption) | (intros; first | rfl | (exfalso; omega) | ((repeat' apply And.intro) <;> first | assumption | rfl | omega | trivial)))) -- o26 e6.1
              · (first | ((first | exact gsG_ok e0 fl0 (by omega) ok2 | exact gsG_ok e0 fl0 (by omega) ok4)) | ((first | exact fS_t fr (fS_t FS fs2.1) | exact fS_t fr fs4.1)) | ((first | exact fs2.2 | exact fs4.2)) | ((first | exact ⟨_, e0, fl0, by omega, fs3.2.2, fl3⟩ | exact ⟨_, e0, fl0, by omega, fs5.2.2, fl5⟩)) | ((first | exact ⟨fS_t fr (fS_t FS fs3.1), fs3.2.1⟩ | exact ⟨fS_t fr fs5.1, fs5.2.1⟩)) | ((first | (have o := ok2.1.2.1; omega) | (have o := ok4.1.2.1; omega))) | (first | assumption | omega | ((try dsimp only [jt2, jt3, jt4]); first | omega | (simp (disch := omega) only [jst_eq, jst_ne, jst_ni, jst_o, jI_i, jcpy_out, w32_id, jdiv_nn, jshr_k, jand_255] <;> first | done | omega | assumption)) | (intros; simp (disch := omega) only [jst_eq, jst_ne, jst_ni, jst_o, jI_i, jcpy_out, w32_id, jdiv_nn, *] <;> first | done | omega) | (intros; simp (disch := omega) only [jst_eq, jst_ne, jst_ni, jst_o, jI_i, jcpy_out, w32_id, jdiv_nn] at * <;> first | done | omega | assumption) | (intros; first | rfl | (exfalso; omega) | ((repeat' apply And.intro) <;> first | assumption | rfl | omega | trivial)))) -- o27 e6.2
            · skip
              have r11 := r9; clear r9; dsimp only [Sum.elim_inl, Sum.elim_inr] at r11
              all_goals exact r11.elim
  · try dsimp only [Sum.elim_inl, Sum.elim_inr, jt2, jt3, jt4, jt5, jt6, jt7, jt8]
    refine ⟨?_, ?_, ?_⟩
    · exact ⟨d, Nat.le_refl _, Or.inl rfl, gs⟩ -- o28 init.1
    · exact fS_r _ -- o29 init.2
    · exact g.1.2.2.2.2 -- o30 init.3
theorem vX5_grow (a1 : Int) {h : AH} {E : EV} {Rf : Int → TR} {W : Int → Int → Int → VW} {f : Int → Int → Int → Int} {A : AD} {pts wh : Int} {rv : Int → Int} {M : Int → (Int → Int) → Prop} {cn : Int → Int → Int} {d : Nat} {fl : Int} (g : seX h E Rf W f A pts wh rv) (va : VA E A pts) (ln : lenX h) (pt : h (h 200 16) 18 = pts ∧ 0 ≤ pts) (p12 : a1 ≤ 12) (gs : GSx h E W A pts M cn d fl) : OK (gX5_grow a1 h) (fun r => jt2 r fun v h' => (∃ (e : Nat) (fl' : Int), rch d fl a1 e fl' ∧ GSx h' E W A pts M cn e fl' ∧ ((v = 0 ∧ (e : Int) < a1) ∨ (v = 1 ∧ a1 ≤ (e : Int)))) ∧ (fS h h' ∧ b10 h')) := by
  unfold gX5_grow
  refine OK_jb (vX5_grow_l0 (E := E) (Rf := Rf) (W := W) (f := f) (A := A) (pts := pts) (wh := wh) (rv := rv) (M := M) (cn := cn) (d := d) (fl := fl) _ (by (first | ((first | exact fs2 | exact fs1)) | (first | assumption | omega | ((try dsimp only [jt2, jt3, jt4]); first | omega | (simp (disch := omega) only [jst_eq, jst_ne, jst_ni, jst_o, jI_i, jcpy_out, w32_id, jdiv_nn, jshr_k, jand_255] <;> first | done | omega | assumption)) | (intros; simp (disch := omega) only [jst_eq, jst_ne, jst_ni, jst_o, jI_i, jcpy_out, w32_id, jdiv_nn, *] <;> first | done | omega) | (intros; simp (disch := omega) only [jst_eq, jst_ne, jst_ni, jst_o, jI_i, jcpy_out, w32_id, jdiv_nn] at * <;> first | done | omega | assumption) | (intros; first | rfl | (exfalso; omega) | ((repeat' apply And.intro) <;> first | assumption | rfl | omega | trivial))))) (by (first | ((first | exact fs2 | exact fs1)) | (first | assumption | omega | ((try dsimp only [jt2, jt3, jt4]); first | omega | (simp (disch := omega) only [jst_eq, jst_ne, jst_ni, jst_o, jI_i, jcpy_out, w32_id, jdiv_nn, jshr_k, jand_255] <;> first | done | omega | assumption)) | (intros; simp (disch := omega) only [jst_eq, jst_ne, jst_ni, jst_o, jI_i, jcpy_out, w32_id, jdiv_nn, *] <;> first | done | omega) | (intros; simp (disch := omega) only [jst_eq, jst_ne, jst_ni, jst_o, jI_i, jcpy_out, w32_id, jdiv_nn] at * <;> first | done | omega | assumption) | (intros; first | rfl | (exfalso; omega) | ((repeat' apply And.intro) <;> first | assumption | rfl | omega | trivial))))) (by (first | ((first | exact fs2 | exact fs1)) | (first | assumption | omega | ((try dsimp only [jt2, jt3, jt4]); first | omega | (simp (disch := omega) only [jst_eq, jst_ne, jst_ni, jst_o, jI_i, jcpy_out, w32_id, jdiv_nn, jshr_k, jand_255] <;> first | done | omega | assumption)) | (intros; simp (disch := omega) only [jst_eq, jst_ne, jst_ni, jst_o, jI_i, jcpy_out, w32_id, jdiv_nn, *] <;> first | done | omega) | (intros; simp (disch := omega) only [jst_eq, jst_ne, jst_ni, jst_o, jI_i, jcpy_out, w32_id, jdiv_nn] at * <;> first | done | omega | assumption) | (intros; first | rfl | (exfalso; omega) | ((repeat' apply And.intro) <;> first | assumption | rfl | omega | trivial))))) (by (first | ((first | exact fs2 | exact fs1)) | (first | assumption | omega | ((try dsimp only [jt2, jt3, jt4]); first | omega | (simp (disch := omega) only [jst_eq, jst_ne, jst_ni, jst_o, jI_i, jcpy_out, w32_id, jdiv_nn, jshr_k, jand_255] <;> first | done | omega | assumption)) | (intros; simp (disch := omega) only [jst_eq, jst_ne, jst_ni, jst_o, jI_i, jcpy_out, w32_id, jdiv_nn, *] <;> first | done | omega) | (intros; simp (disch := omega) only [jst_eq, jst_ne, jst_ni, jst_o, jI_i, jcpy_out, w32_id, jdiv_nn] at * <;> first | done | omega | assumption) | (intros; first | rfl | (exfalso; omega) | ((repeat' apply And.intro) <;> first | assumption | rfl | omega | trivial))))) (by (first | ((first | exact fs2 | exact fs1)) | (first | assumption | omega | ((try dsimp only [jt2, jt3, jt4]); first | omega | (simp (disch := omega) only [jst_eq, jst_ne, jst_ni, jst_o, jI_i, jcpy_out, w32_id, jdiv_nn, jshr_k, jand_255] <;> first | done | omega | assumption)) | (intros; simp (disch := omega) only [jst_eq, jst_ne, jst_ni, jst_o, jI_i, jcpy_out, w32_id, jdiv_nn, *] <;> first | done | omega) | (intros; simp (disch := omega) only [jst_eq, jst_ne, jst_ni, jst_o, jI_i, jcpy_out, w32_id, jdiv_nn] at * <;> first | done | omega | assumption) | (intros; first | rfl | (exfalso; omega) | ((repeat' apply And.intro) <;> first | assumption | rfl | omega | trivial))))) (by (first | ((first | exact fs2 | exact fs1)) | (first | assumption | omega | ((try dsimp only [jt2, jt3, jt4]); first | omega | (simp (disch := omega) only [jst_eq, jst_ne, jst_ni, jst_o, jI_i, jcpy_out, w32_id, jdiv_nn, jshr_k, jand_255] <;> first | done | omega | assumption)) | (intros; simp (disch := omega) only [jst_eq, jst_ne, jst_ni, jst_o, jI_i, jcpy_out, w32_id, jdiv_nn, *] <;> first | done | omega) | (intros; simp (disch := omega) only [jst_eq, jst_ne, jst_ni, jst_o, jI_i, jcpy_out, w32_id, jdiv_nn] at * <;> first | done | omega | assumption) | (intros; first | rfl | (exfalso; omega) | ((repeat' apply And.intro) <;> first | assumption | rfl | omega | trivial)))))) (fun o1 r1 => ?_)
  rcases o1 with o3 | o4
  · skip
    have r2 := r1; clear r1
    dsimp only [Sum.elim_inl, Sum.elim_inr] at r2
    refine OK_jml ?_
    obtain ⟨y5, h6⟩ := o3
    refine OK_jt2 ?_
    try dsimp only [Sum.elim_inl, Sum.elim_inr, jt2, jt3, jt4, jt5, jt6, jt7, jt8] at r2
    obtain ⟨fl1, fs1⟩ := r2
    try simp (disch := omega) only [jst_eq, jst_ne, jst_ni, jI_i, jcmp_lt, jcmp_gt, w32_id, jcpy_out, Sum.elim_inl, Sum.elim_inr, jt2, jt3, jt4, jt5, jt6, jt7, jt8] at fl1
    try simp (disch := omega) only [jst_eq, jst_ne, jst_ni, jI_i, jcmp_lt, jcmp_gt, w32_id, jcpy_out, Sum.elim_inl, Sum.elim_inr, jt2, jt3, jt4, jt5, jt6, jt7, jt8] at fs1
    obtain ⟨e, e0, e1, e2, e3, f1, f2, f3, T, f4, f5, f6, f7⟩ := fl1
    have F7 : ∀ a s, ¬ (a = 307 ∧ s = 8) → jst h6 307 8 y5 a s = h6 a s := fun a s y => jst_o y
    have K8 : jst h6 307 8 y5 307 8 = (e : Int) + 1 := by { rw [jst_eq]; exact e3 }
    have GS : GSx (jst h6 307 8 y5) E W A pts M cn e 1 := ⟨f1, by rw [F7 _ _ (by omega)]; exact f2, by rw [K8, if_pos rfl], by rw [F7 _ _ (by omega)]; exact f3, Or.inr ⟨T, XI_f (fun a s y1 y2 => F7 a s (by omega)) f4, f5, fun z => by omega, fun m l => by rw [F7 _ _ (by omega)]; exact f6 m l, fun q f a b c d => by rw [F7 _ _ (by omega), F7 307 17 (by omega)]; exact f7 q f a b c d⟩⟩
    refine OK_jl ?_
    refine OK_some ?_
    try dsimp only [Sum.elim_inl, Sum.elim_inr, jt2, jt3, jt4, jt5, jt6, jt7, jt8]
    try dsimp only [Sum.elim_inl, Sum.elim_inr, jt2, jt3, jt4, jt5, jt6, jt7, jt8]
    refine ⟨?_, ?_⟩
    · exact ⟨e, 1, ⟨e0, Or.inr (Or.inr ⟨e1, rfl, e2⟩)⟩, GS, Or.inl ⟨rfl, by omega⟩⟩ -- o7 e1.1
    · exact ⟨fun a s y1 y2 y3 y4 => by rw [F7 _ _ (by omega)]; exact fs1.1 a s y1 y2 y3 y4, by unfold b10; rw [F7 _ _ (by omega)]; exact fs1.2⟩ -- o8 e1.2
  · skip
    have r3 := r1; clear r1
    dsimp only [Sum.elim_inl, Sum.elim_inr] at r3
    try dsimp only [Sum.elim_inl, Sum.elim_inr, jt2, jt3, jt4, jt5, jt6, jt7, jt8] at r3
    obtain ⟨gr2, fs2⟩ := r3
    try simp (disch := omega) only [jst_eq, jst_ne, jst_ni, jI_i, jcmp_lt, jcmp_gt, w32_id, jcpy_out, Sum.elim_inl, Sum.elim_inr, jt2, jt3, jt4, jt5, jt6, jt7, jt8] at gr2
    try simp (disch := omega) only [jst_eq, jst_ne, jst_ni, jI_i, jcmp_lt, jcmp_gt, w32_id, jcpy_out, Sum.elim_inl, Sum.elim_inr, jt2, jt3, jt4, jt5, jt6, jt7, jt8] at fs2
    refine OK_jmr ?_
    obtain ⟨e, r1, r2⟩ := gr2
    have k7 := r2.2.1
    unfold gX5_grow_j72
    refine OK_if (fun c1 => ?_) (fun c1 => ?_)
    · skip
      try simp (disch := omega) only [jst_eq, jst_ne, jst_ni, jI_i, jcmp_lt, jcmp_gt, w32_id, jcpy_out, Sum.elim_inl, Sum.elim_inr, jt2, jt3, jt4, jt5, jt6, jt7, jt8] at c1
      refine OK_some ?_
      try dsimp only [Sum.elim_inl, Sum.elim_inr, jt2, jt3, jt4, jt5, jt6, jt7, jt8]
      try dsimp only [Sum.elim_inl, Sum.elim_inr, jt2, jt3, jt4, jt5, jt6, jt7, jt8]
      refine ⟨?_, ?_⟩
      · exact ⟨e, fl, r1, r2, Or.inl ⟨rfl, by omega⟩⟩ -- o9 e2.1
      · (first | ((first | exact fs2 | exact fs1)) | (first | assumption | omega | ((try dsimp only [jt2, jt3, jt4]); first | omega | (simp (disch := omega) only [jst_eq, jst_ne, jst_ni, jst_o, jI_i, jcpy_out, w32_id, jdiv_nn, jshr_k, jand_255] <;> first | done | omega | assumption)) | (intros; simp (disch := omega) only [jst_eq, jst_ne, jst_ni, jst_o, jI_i, jcpy_out, w32_id, jdiv_nn, *] <;> first | done | omega) | (intros; simp (disch := omega) only [jst_eq, jst_ne, jst_ni, jst_o, jI_i, jcpy_out, w32_id, jdiv_nn] at * <;> first | done | omega | assumption) | (intros; first | rfl | (exfalso; omega) | ((repeat' apply And.intro) <;> first | assumption | rfl | omega | trivial)))) -- o10 e2.2
    · skip
      try simp (disch := omega) only [jst_eq, jst_ne, jst_ni, jI_i, jcmp_lt, jcmp_gt, w32_id, jcpy_out, Sum.elim_inl, Sum.elim_inr, jt2, jt3, jt4, jt5, jt6, jt7, jt8] at c1
      refine OK_some ?_
      try dsimp only [Sum.elim_inl, Sum.elim_inr, jt2, jt3, jt4, jt5, jt6, jt7, jt8]
      try dsimp only [Sum.elim_inl, Sum.elim_inr, jt2, jt3, jt4, jt5, jt6, jt7, jt8]
      refine ⟨?_, ?_⟩
      · exact ⟨e, fl, r1, r2, Or.inr ⟨rfl, by omega⟩⟩ -- o11 e3.1
      · (first | ((first | exact fs2 | exact fs1)) | (first | assumption | omega | ((try dsimp only [jt2, jt3, jt4]); first | omega | (simp (disch := omega) only [jst_eq, jst_ne, jst_ni, jst_o, jI_i, jcpy_out, w32_id, jdiv_nn, jshr_k, jand_255] <;> first | done | omega | assumption)) | (intros; simp (disch := omega) only [jst_eq, jst_ne, jst_ni, jst_o, jI_i, jcpy_out, w32_id, jdiv_nn, *] <;> first | done | omega) | (intros; simp (disch := omega) only [jst_eq, jst_ne, jst_ni, jst_o, jI_i, jcpy_out, w32_id, jdiv_nn] at * <;> first | done | omega | assumption) | (intros; first | rfl | (exfalso; omega) | ((repeat' apply And.intro) <;> first | assumption | rfl | omega | trivial)))) -- o12 e3.2

