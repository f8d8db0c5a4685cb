/-! x: a told term is read, whole -/
theorem preB {B : Int → Int} {n : Int} {sk : Bool} {E : EV} {h hh : AH} (hn : 0 ≤ n ∧ n ≤ 2000) (ac : actX h E.1.1 E.1.2.1 E.1.2.2.1 E.1.2.2.2.1 E.1.2.2.2.2) (od : Od h) (cp : capT h 324 2200 ∧ h 327 (-2) = 101) (tx : TX B n 440 hh) (F : frXr h hh) (C : hh 324 0 = 0 ∧ hh 441 8 = 0 ∧ hh 441 15 = 0 ∧ hh 441 16 = 0 ∧ hh 441 17 = 324 ∧ hh 441 14 = if sk = true then 1 else 0) (l0 : E.2.2.1 = 0) (px : parX B n hh E.2.1.1 E.2.1.2.1 E.2.1.2.2) : preT B n 440 324 sk E 0 hh := by
  have k0 : FK hh = 1000000 := by unfold FK; rw [if_pos (by omega)]
  refine ⟨⟨tx, ⟨actX_fr ac (fun a s q => ?_), px, ⟨by rw [l0]; exact C.2.2.1, Or.inl l0, fun y => by omega⟩⟩, Od_fr od (fun a i a0 a1 => ?_), C.2.2.2.2.1, Or.inl rfl, capT_fr cp.1 (fun a a0 a1 => ?_), C.2.2.2.2.2, ?_⟩, ⟨by omega, by omega, Int.le_refl _⟩, ⟨by omega, by omega⟩, by omega, by omega, by omega, fun y => by omega⟩
  · unfold actC at q; exact F _ _ (by omega) (by omega) (by omega) (by omega) (by omega) (by omega)
  · exact F _ _ (by omega) (by omega) (by omega) (by omega) (by omega) (by omega)
  · exact F _ _ (by omega) (by omega) (by omega) (by omega) (by omega) (by omega)
  · rw [F _ _ (by omega) (by omega) (by omega) (by omega) (by omega) (by omega)]; exact cp.2
theorem vX1_readTerm (a1 : Int) (a2 : Int) {h : AH} {B : Int → Int} {n : Int} {sk : Bool} {E : EV} (hB : ∀ i, 0 ≤ i → i < n → 0 ≤ B i ∧ B i < 256) (tb : n = h 200 55 ∧ tapX B n h) (hs : a1 = if sk = true then 1 else 0) (ac : actX h E.1.1 E.1.2.1 E.1.2.2.1 E.1.2.2.2.1 E.1.2.2.2.2) (od : Od h) (cp : capT h 324 2200 ∧ h 327 (-2) = 101) (l0 : E.2.2.1 = 0) (xx : isX4 (h 200 16)) (p0 : h (h 200 16) 19 = 0 → E.2.1.1 = 0) (pm : h (h 200 16) 19 ≠ 0 → pmX h (h 200 16) E) : OK (gX1_readTerm a1 a2 h) (fun r => jt2 r fun v h' => (outX E (if a2 = 0 ∨ h (h 200 16) 19 = 0 then -1 else h (h 200 16) 2) (pA B n sk (beg B n)) (h 200 56) v h') ∧ (frXr h h')) := by
  have n55 := tb.1
  have T := tb.2
  have T1 : 0 ≤ n ∧ n ≤ 2000 := ⟨T.1, T.2.1⟩
  have xx2 : h 200 16 = 271 ∨ h 200 16 = 289 := xx
  have skz : jZ a1 := by { rw [hs]; unfold jZ; by_cases y : sk = true; { rw [if_pos y]; first | exact Or.inr rfl | omega }; { rw [if_neg y]; first | exact Or.inl rfl | omega } }
  unfold gX1_readTerm
  refine OK_jl ?_
  refine OK_jb2 (vX1_takeTape) (fun v3 h4 r1 => ?_)
  try dsimp only [Sum.elim_inl, Sum.elim_inr, jt2, jt3, jt4, jt5, jt6, jt7, jt8] at r1
  obtain ⟨v1, hh1⟩ := r1
  try simp (disch := omega) only [jst_eq, jst_ne, jst_ni, jI_i, jcmp_lt, jcmp_gt, w32_id, jcpy_out, Sum.elim_inl, Sum.elim_inr, jt2, jt3, jt4, jt5, jt6, jt7, jt8] at v1
  try simp (disch := omega) only [jst_eq, jst_ne, jst_ni, jI_i, jcmp_lt, jcmp_gt, w32_id, jcpy_out, Sum.elim_inl, Sum.elim_inr, jt2, jt3, jt4, jt5, jt6, jt7, jt8] at hh1
  have en : v3 = n := by { rw [v1, n55]; try exact jst_o (by omega) }
  rw [en]
  have F4 : ∀ a s, ¬ (a = 324 ∧ s = 0) → ¬ (a = 200 ∧ s = 55) → h4 a s = h a s := fun a s y1 y2 => by { rw [hh1, jst_o (by omega), jst_o (by omega)] }
  have z4 : h4 324 0 = 0 := by { rw [hh1, jst_o (by omega), jst_eq] }
  have tb4 : ∀ s, h4 440 s = h 440 s := fun s => F4 _ _ (by omega) (by omega)
  refine OK_jb (vX13_begin (B := B) _ _ _ (by exact hB) (by exact ⟨T1.1, T1.2, by decide, by decide, by rw [tb4]; exact T.2.2.1, by rw [tb4]; exact T.2.2.2.1, fun i i0 i1 => by rw [tb4]; exact T.2.2.2.2 i i0 i1⟩)) (fun h6 r2 => ?_)
  try dsimp only [Sum.elim_inl, Sum.elim_inr, jt2, jt3, jt4, jt5, jt6, jt7, jt8] at r2
  obtain ⟨sx2, tx2, ce2, fr2⟩ := r2
  try simp (disch := omega) only [jst_eq, jst_ne, jst_ni, jI_i, jcmp_lt, jcmp_gt, w32_id, jcpy_out, Sum.elim_inl, Sum.elim_inr, jt2, jt3, jt4, jt5, jt6, jt7, jt8] at sx2
  try simp (disch := omega) only [jst_eq, jst_ne, jst_ni, jI_i, jcmp_lt, jcmp_gt, w32_id, jcpy_out, Sum.elim_inl, Sum.elim_inr, jt2, jt3, jt4, jt5, jt6, jt7, jt8] at tx2
  try simp (disch := omega) only [jst_eq, jst_ne, jst_ni, jI_i, jcmp_lt, jcmp_gt, w32_id, jcpy_out, Sum.elim_inl, Sum.elim_inr, jt2, jt3, jt4, jt5, jt6, jt7, jt8] at ce2
  try simp (disch := omega) only [jst_eq, jst_ne, jst_ni, jI_i, jcmp_lt, jcmp_gt, w32_id, jcpy_out, Sum.elim_inl, Sum.elim_inr, jt2, jt3, jt4, jt5, jt6, jt7, jt8] at fr2
  refine OK_jg (by (first | assumption | omega | ((try dsimp only [jt2, jt3, jt4]); first | omega | (simp (disch := omega) only [jst_eq, jst_ne, jst_ni, jst_o, jI_i, jcpy_out, w32_id, jdiv_nn, jshr_k, jand_255] <;> first | done | omega | assumption)) | (intros; simp (disch := omega) only [jst_eq, jst_ne, jst_ni, jst_o, jI_i, jcpy_out, w32_id, jdiv_nn, *] <;> first | done | omega) | (intros; simp (disch := omega) only [jst_eq, jst_ne, jst_ni, jst_o, jI_i, jcpy_out, w32_id, jdiv_nn] at * <;> first | done | omega | assumption) | (intros; first | rfl | (exfalso; omega) | ((repeat' apply And.intro) <;> first | assumption | rfl | omega | trivial)))) ?_ -- o3
  refine OK_jl ?_
  have F7 : ∀ a s, ¬ (a = 324 ∧ s = 0) → ¬ (a = 200 ∧ s = 55) → ¬ (a = 441 ∧ (0 ≤ s ∧ s ≤ 8 ∨ 13 ≤ s ∧ s ≤ 17)) → jst h6 441 14 a1 a s = h a s := fun a s y1 y2 y3 => by { rw [jst_o (by omega), fr2 a s y3, F4 a s y1 y2] }
  have C7 : jst h6 441 14 a1 324 0 = 0 ∧ jst h6 441 14 a1 441 8 = 0 ∧ jst h6 441 14 a1 441 15 = 0 ∧ jst h6 441 14 a1 441 16 = 0 ∧ jst h6 441 14 a1 441 17 = 324 ∧ jst h6 441 14 a1 441 14 = (if sk = true then 1 else 0) := ⟨by { rw [jst_o (by omega), fr2 _ _ (by omega)]; exact z4 }, by { rw [jst_o (by omega)]; exact ce2.1 }, by { rw [jst_o (by omega)]; exact ce2.2.2.2.1 }, by { rw [jst_o (by omega)]; exact ce2.2.2.2.2.1 }, by { rw [jst_o (by omega)]; exact ce2.2.2.2.2.2 }, by { rw [jst_eq]; exact hs }⟩
  have T7 : TX B n 440 (jst h6 441 14 a1) := TX_fr tx2 (jst_o (by omega)) (jst_o (by omega)) (fun s => jst_o (by omega))
  have S7 : Sx B n (beg B n) (jst h6 441 14 a1) := Sx_fr sx2 (fun s s0 s1 => jst_o (by omega))
  have P7 : jst h6 441 14 a1 441 13 = 0 := by { rw [jst_o (by omega)]; exact ce2.2.1 }
  have E16 : h6 200 16 = h 200 16 := by { rw [fr2 _ _ (by omega)]; exact F4 _ _ (by omega) (by omega) }
  generalize e7 : jst h6 441 14 a1 = hh at *
  have F7' : frXr h hh := fun a s y1 y2 y3 y4 y5 y6 => F7 a s y2 (by omega) (by omega)
  have E16' : hh 200 16 = h 200 16 := F7 _ _ (by omega) (by omega) (by omega)
  rw [E16']
  have pX : ∀ s, hh (h 200 16) s = h (h 200 16) s ∧ hh (h 200 16 + 1) s = h (h 200 16 + 1) s := fun s => ⟨F7 _ _ (by omega) (by omega) (by omega), F7 _ _ (by omega) (by omega) (by omega)⟩
  rw [(pX 19).1]
  refine OK_if (fun c1 => ?_) (fun c1 => ?_)
  · skip
    try simp (disch := omega) only [jst_eq, jst_ne, jst_ni, jI_i, jcmp_lt, jcmp_gt, w32_id, jcpy_out, Sum.elim_inl, Sum.elim_inr, jt2, jt3, jt4, jt5, jt6, jt7, jt8] at c1
    have e0 := p0 c1
    have PR : preT B n 440 324 sk E 0 hh := preB T1 ac od cp T7 F7' C7 l0 ⟨by { rw [e0]; exact P7 }, by omega, by omega, fun k k0 k1 => by omega⟩
    refine OK_mono (vX1_readTerm_j66 (B := B) (n := n) (sk := sk) (E := E) (R := beg B n) _ (by (first | assumption | omega | ((try dsimp only [jt2, jt3, jt4]); first | omega | (simp (disch := omega) only [jst_eq, jst_ne, jst_ni, jst_o, jI_i, jcpy_out, w32_id, jdiv_nn, jshr_k, jand_255] <;> first | done | omega | assumption)) | (intros; simp (disch := omega) only [jst_eq, jst_ne, jst_ni, jst_o, jI_i, jcpy_out, w32_id, jdiv_nn, *] <;> first | done | omega) | (intros; simp (disch := omega) only [jst_eq, jst_ne, jst_ni, jst_o, jI_i, jcpy_out, w32_id, jdiv_nn] at * <;> first | done | omega | assumption) | (intros; first | rfl | (exfalso; omega) | ((repeat' apply And.intro) <;> first | assumption | rfl | omega | trivial)))) (by (first | assumption | omega | ((try dsimp only [jt2, jt3, jt4]); first | omega | (simp (disch := omega) only [jst_eq, jst_ne, jst_ni, jst_o, jI_i, jcpy_out, w32_id, jdiv_nn, jshr_k, jand_255] <;> first | done | omega | assumption)) | (intros; simp (disch := omega) only [jst_eq, jst_ne, jst_ni, jst_o, jI_i, jcpy_out, w32_id, jdiv_nn, *] <;> first | done | omega) | (intros; simp (disch := omega) only [jst_eq, jst_ne, jst_ni, jst_o, jI_i, jcpy_out, w32_id, jdiv_nn] at * <;> first | done | omega | assumption) | (intros; first | rfl | (exfalso; omega) | ((repeat' apply And.intro) <;> first | assumption | rfl | omega | trivial)))) (by exact beg_0) (by (first | assumption | omega | ((try dsimp only [jt2, jt3, jt4]); first | omega | (simp (disch := omega) only [jst_eq, jst_ne, jst_ni, jst_o, jI_i, jcpy_out, w32_id, jdiv_nn, jshr_k, jand_255] <;> first | done | omega | assumption)) | (intros; simp (disch := omega) only [jst_eq, jst_ne, jst_ni, jst_o, jI_i, jcpy_out, w32_id, jdiv_nn, *] <;> first | done | omega) | (intros; simp (disch := omega) only [jst_eq, jst_ne, jst_ni, jst_o, jI_i, jcpy_out, w32_id, jdiv_nn] at * <;> first | done | omega | assumption) | (intros; first | rfl | (exfalso; omega) | ((repeat' apply And.intro) <;> first | assumption | rfl | omega | trivial)))) (by (first | assumption | omega | ((try dsimp only [jt2, jt3, jt4]); first | omega | (simp (disch := omega) only [jst_eq, jst_ne, jst_ni, jst_o, jI_i, jcpy_out, w32_id, jdiv_nn, jshr_k, jand_255] <;> first | done | omega | assumption)) | (intros; simp (disch := omega) only [jst_eq, jst_ne, jst_ni, jst_o, jI_i, jcpy_out, w32_id, jdiv_nn, *] <;> first | done | omega) | (intros; simp (disch := omega) only [jst_eq, jst_ne, jst_ni, jst_o, jI_i, jcpy_out, w32_id, jdiv_nn] at * <;> first | done | omega | assumption) | (intros; first | rfl | (exfalso; omega) | ((repeat' apply And.intro) <;> first | assumption | rfl | omega | trivial)))) (by (first | assumption | omega | ((try dsimp only [jt2, jt3, jt4]); first | omega | (simp (disch := omega) only [jst_eq, jst_ne, jst_ni, jst_o, jI_i, jcpy_out, w32_id, jdiv_nn, jshr_k, jand_255] <;> first | done | omega | assumption)) | (intros; simp (disch := omega) only [jst_eq, jst_ne, jst_ni, jst_o, jI_i, jcpy_out, w32_id, jdiv_nn, *] <;> first | done | omega) | (intros; simp (disch := omega) only [jst_eq, jst_ne, jst_ni, jst_o, jI_i, jcpy_out, w32_id, jdiv_nn] at * <;> first | done | omega | assumption) | (intros; first | rfl | (exfalso; omega) | ((repeat' apply And.intro) <;> first | assumption | rfl | omega | trivial))))) (fun r r3 => ?_)
    obtain ⟨y1, y2⟩ := r
    try dsimp only [Sum.elim_inl, Sum.elim_inr, jt2, jt3, jt4, jt5, jt6, jt7, jt8] at r3
    obtain ⟨o3, fr3⟩ := r3
    try simp (disch := omega) only [jst_eq, jst_ne, jst_ni, jI_i, jcmp_lt, jcmp_gt, w32_id, jcpy_out, Sum.elim_inl, Sum.elim_inr, jt2, jt3, jt4, jt5, jt6, jt7, jt8] at o3
    try simp (disch := omega) only [jst_eq, jst_ne, jst_ni, jI_i, jcmp_lt, jcmp_gt, w32_id, jcpy_out, Sum.elim_inl, Sum.elim_inr, jt2, jt3, jt4, jt5, jt6, jt7, jt8] at fr3
    try dsimp only [Sum.elim_inl, Sum.elim_inr, jt2, jt3, jt4, jt5, jt6, jt7, jt8]
    try dsimp only [Sum.elim_inl, Sum.elim_inr, jt2, jt3, jt4, jt5, jt6, jt7, jt8]
    refine ⟨?_, ?_⟩
    · (rw [E16', (pX 19).1, (pX 2).1, F7 200 56 (by omega) (by omega) (by omega)] at o3; exact o3) -- o10 e1.1
    · exact frXr_tr F7' fr3 -- o11 e1.2
  · skip
    try simp (disch := omega) only [jst_eq, jst_ne, jst_ni, jI_i, jcmp_lt, jcmp_gt, w32_id, jcpy_out, Sum.elim_inl, Sum.elim_inr, jt2, jt3, jt4, jt5, jt6, jt7, jt8] at c1
    have PM := pm c1
    rw [(pX 1).1]
    have PA : hh (h 200 16 + 1) (-2) = 101 := by { rw [(pX _).2]; exact PM.2.2.2.2.1 }
    have PB : hh (h 200 16 + 1) (-1) = 3 := by { rw [(pX _).2]; exact PM.2.2.2.2.2.1 }
    have PD := PM.2.2.1
    have PE := PM.2.2.2.1
    refine OK_jb (vX13_parameters _ _ (by (first | assumption | omega | ((try dsimp only [jt2, jt3, jt4]); first | omega | (simp (disch := omega) only [jst_eq, jst_ne, jst_ni, jst_o, jI_i, jcpy_out, w32_id, jdiv_nn, jshr_k, jand_255] <;> first | done | omega | assumption)) | (intros; simp (disch := omega) only [jst_eq, jst_ne, jst_ni, jst_o, jI_i, jcpy_out, w32_id, jdiv_nn, *] <;> first | done | omega) | (intros; simp (disch := omega) only [jst_eq, jst_ne, jst_ni, jst_o, jI_i, jcpy_out, w32_id, jdiv_nn] at * <;> first | done | omega | assumption) | (intros; first | rfl | (exfalso; omega) | ((repeat' apply And.intro) <;> first | assumption | rfl | omega | trivial)))) (by (first | assumption | omega | ((try dsimp only [jt2, jt3, jt4]); first | omega | (simp (disch := omega) only [jst_eq, jst_ne, jst_ni, jst_o, jI_i, jcpy_out, w32_id, jdiv_nn, jshr_k, jand_255] <;> first | done | omega | assumption)) | (intros; simp (disch := omega) only [jst_eq, jst_ne, jst_ni, jst_o, jI_i, jcpy_out, w32_id, jdiv_nn, *] <;> first | done | omega) | (intros; simp (disch := omega) only [jst_eq, jst_ne, jst_ni, jst_o, jI_i, jcpy_out, w32_id, jdiv_nn] at * <;> first | done | omega | assumption) | (intros; first | rfl | (exfalso; omega) | ((repeat' apply And.intro) <;> first | assumption | rfl | omega | trivial))))) (fun h10 r4 => ?_)
    try dsimp only [Sum.elim_inl, Sum.elim_inr, jt2, jt3, jt4, jt5, jt6, jt7, jt8] at r4
    obtain ⟨pp4, fr4⟩ := r4
    try simp (disch := omega) only [jst_eq, jst_ne, jst_ni, jI_i, jcmp_lt, jcmp_gt, w32_id, jcpy_out, Sum.elim_inl, Sum.elim_inr, jt2, jt3, jt4, jt5, jt6, jt7, jt8] at pp4
    try simp (disch := omega) only [jst_eq, jst_ne, jst_ni, jI_i, jcmp_lt, jcmp_gt, w32_id, jcpy_out, Sum.elim_inl, Sum.elim_inr, jt2, jt3, jt4, jt5, jt6, jt7, jt8] at fr4
    have pk : h10 441 13 = E.2.1.1 := by { rw [pp4.1]; exact PM.2.1.symm }
    have F10 : frXr h h10 := frXr_o F7' (fun a s y1 y2 => fr4 a s (by omega) y2)
    have PR : preT B n 440 324 sk E 0 h10 := preB T1 ac od cp (TX_fr T7 (fr4 _ _ (by omega) (by omega)) (fr4 _ _ (by omega) (by omega)) (fun s => fr4 _ _ (by omega) (by omega))) F10 (by { rw [fr4 _ _ (by omega) (by omega), fr4 _ _ (by omega) (by omega), fr4 _ _ (by omega) (by omega), fr4 _ _ (by omega) (by omega), fr4 _ _ (by omega) (by omega), fr4 _ _ (by omega) (by omega)]; exact C7 }) l0 ⟨pk, by rw [PM.2.1]; exact PD, by rw [PM.2.1]; exact PE, fun k k0 k1 => by { have a := PM.2.2.2.2.2.2 k k0 (by rw [← PM.2.1]; exact k1); have b := pp4.2 k k0 (by rw [← PM.2.1]; exact k1); rw [(pX k).2] at b; exact ⟨by omega, a.2.2.1, a.2.2.2, Or.inl ⟨b.1, a.1⟩⟩ }⟩
    have C10 : h10 324 0 = 0 ∧ h10 441 16 = 0 ∧ h10 441 8 = 0 := by { rw [fr4 _ _ (by omega) (by omega), fr4 _ _ (by omega) (by omega), fr4 _ _ (by omega) (by omega)]; exact ⟨C7.1, C7.2.2.2.1, C7.2.1⟩ }
    have S10 : Sx B n (beg B n) h10 := Sx_fr S7 (fun s s0 s1 => fr4 _ _ (by omega) (by omega))
    have X10 : ∀ s, h10 (h 200 16) s = h (h 200 16) s := fun s => by { rw [fr4 _ _ (by omega) (by omega)]; exact (pX s).1 }
    have E10 : h10 200 16 = h 200 16 := by { rw [fr4 _ _ (by omega) (by omega)]; exact E16' }
    refine OK_mono (vX1_readTerm_j66 (B := B) (n := n) (sk := sk) (E := E) (R := beg B n) _ (by (first | assumption | omega | ((try dsimp only [jt2, jt3, jt4]); first | omega | (simp (disch := omega) only [jst_eq, jst_ne, jst_ni, jst_o, jI_i, jcpy_out, w32_id, jdiv_nn, jshr_k, jand_255] <;> first | done | omega | assumption)) | (intros; simp (disch := omega) only [jst_eq, jst_ne, jst_ni, jst_o, jI_i, jcpy_out, w32_id, jdiv_nn, *] <;> first | done | omega) | (intros; simp (disch := omega) only [jst_eq, jst_ne, jst_ni, jst_o, jI_i, jcpy_out, w32_id, jdiv_nn] at * <;> first | done | omega | assumption) | (intros; first | rfl | (exfalso; omega) | ((repeat' apply And.intro) <;> first | assumption | rfl | omega | trivial)))) (by (first | assumption | omega | ((try dsimp only [jt2, jt3, jt4]); first | omega | (simp (disch := omega) only [jst_eq, jst_ne, jst_ni, jst_o, jI_i, jcpy_out, w32_id, jdiv_nn, jshr_k, jand_255] <;> first | done | omega | assumption)) | (intros; simp (disch := omega) only [jst_eq, jst_ne, jst_ni, jst_o, jI_i, jcpy_out, w32_id, jdiv_nn, *] <;> first | done | omega) | (intros; simp (disch := omega) only [jst_eq, jst_ne, jst_ni, jst_o, jI_i, jcpy_out, w32_id, jdiv_nn] at * <;> first | done | omega | assumption) | (intros; first | rfl | (exfalso; omega) | ((repeat' apply And.intro) <;> first | assumption | rfl | omega | trivial)))) (by exact beg_0) (by (first | assumption | omega | ((try dsimp only [jt2, jt3, jt4]); first | omega | (simp (disch := omega) only [jst_eq, jst_ne, jst_ni, jst_o, jI_i, jcpy_out, w32_id, jdiv_nn, jshr_k, jand_255] <;> first | done | omega | assumption)) | (intros; simp (disch := omega) only [jst_eq, jst_ne, jst_ni, jst_o, jI_i, jcpy_out, w32_id, jdiv_nn, *] <;> first | done | omega) | (intros; simp (disch := omega) only [jst_eq, jst_ne, jst_ni, jst_o, jI_i, jcpy_out, w32_id, jdiv_nn] at * <;> first | done | omega | assumption) | (intros; first | rfl | (exfalso; omega) | ((repeat' apply And.intro) <;> first | assumption | rfl | omega | trivial)))) (by exact C10) (by (first | assumption | omega | ((try dsimp only [jt2, jt3, jt4]); first | omega | (simp (disch := omega) only [jst_eq, jst_ne, jst_ni, jst_o, jI_i, jcpy_out, w32_id, jdiv_nn, jshr_k, jand_255] <;> first | done | omega | assumption)) | (intros; simp (disch := omega) only [jst_eq, jst_ne, jst_ni, jst_o, jI_i, jcpy_out, w32_id, jdiv_nn, *] <;> first | done | omega) | (intros; simp (disch := omega) only [jst_eq, jst_ne, jst_ni, jst_o, jI_i, jcpy_out, w32_id, jdiv_nn] at * <;> first | done | omega | assumption) | (intros; first | rfl | (exfalso; omega) | ((repeat' apply And.intro) <;> first | assumption | rfl | omega | trivial))))) (fun r r5 => ?_)
    obtain ⟨y3, y4⟩ := r
    try dsimp only [Sum.elim_inl, Sum.elim_inr, jt2, jt3, jt4, jt5, jt6, jt7, jt8] at r5
    obtain ⟨o5, fr5⟩ := r5
    try simp (disch := omega) only [jst_eq, jst_ne, jst_ni, jI_i, jcmp_lt, jcmp_gt, w32_id, jcpy_out, Sum.elim_inl, Sum.elim_inr, jt2, jt3, jt4, jt5, jt6, jt7, jt8] at o5
    try simp (disch := omega) only [jst_eq, jst_ne, jst_ni, jI_i, jcmp_lt, jcmp_gt, w32_id, jcpy_out, Sum.elim_inl, Sum.elim_inr, jt2, jt3, jt4, jt5, jt6, jt7, jt8] at fr5
    try dsimp only [Sum.elim_inl, Sum.elim_inr, jt2, jt3, jt4, jt5, jt6, jt7, jt8]
    try dsimp only [Sum.elim_inl, Sum.elim_inr, jt2, jt3, jt4, jt5, jt6, jt7, jt8]
    refine ⟨?_, ?_⟩
    · (rw [E10, X10, X10, fr4 200 56 (by omega) (by omega), F7 200 56 (by omega) (by omega) (by omega)] at o5; exact o5) -- o20 e2.1
    · exact frXr_tr F10 fr5 -- o21 e2.2

