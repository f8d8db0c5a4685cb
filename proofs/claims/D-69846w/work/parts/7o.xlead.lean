/-! x: a state's ways, one by one -/
def LDX (h : AH) (e : CE) (t d : Int → Int) (N s : Int) (l : ML) : Prop := (cuX h e ∧ spX h e 178) ∧ tbC h t d N ∧ TI e t d N ∧ (0 ≤ s ∧ s < N ∧ d s < 4) ∧ (∀ k, 0 ≤ k → k < N → d k ≤ d s + 1) ∧ FX (h 417) (h 418) e t d N s ∧ rwX (h 417) (h 418) t N s l ∧ prE t d N s l ∧ h 408 11 = 1
def frCu (h h' : AH) : Prop := ∀ a s, ¬ (a = 408 ∧ (s = 9 ∨ s = 11)) → ¬ ((a = 415 ∨ a = 416 ∨ a = 417 ∨ a = 418) ∧ 0 ≤ s) → h' a s = h a s
theorem frCu_t {a b c : AH} (x : frCu a b) (y : frCu b c) : frCu a c := fun p s y1 y2 => by rw [y p s y1 y2]; exact x p s y1 y2
/-- what may be led to -/
def ldV (e : CE) (d : Int → Int) (s v : Int) : Prop := ∃ w : Nat, v = w ∧ stU e w ∧ rcP e ((d s).toNat + 1) v
theorem LD_pl {h h4 : AH} {e : CE} {t d : Int → Int} {N s v v3 : Int} {l : ML} (L : LDX h e t d N s l) (hv : ldV e d s v) (pl : (0 ≤ v3 ∧ v3 < N ∧ t v3 = v ∧ h4 = h) ∨ (v3 = -1 ∧ N = 400 ∧ (∀ k, 0 ≤ k → k < N → t k ≠ v) ∧ h4 = h) ∨ (v3 = N ∧ N < 400 ∧ (∀ k, 0 ≤ k → k < N → t k ≠ v) ∧ tbC h4 (up1 t N v) (up1 d N (d s + 1)) (N + 1) ∧ ∀ a s, ¬ ((a = 415 ∨ a = 416) ∧ s = N) → ¬ (a = 408 ∧ s = 9) → h4 a s = h a s)) : (v3 = -1 ∧ ovf e ∧ h4 = h) ∨ ∃ t' d' N', LDX h4 e t' d' N' s l ∧ (0 ≤ v3 ∧ v3 < N' ∧ t' v3 = v ∧ d' v3 ≤ d' s + 1) ∧ t' s = t s ∧ d' s = d s ∧ frCu h h4 := by
  have L0 := L
  obtain ⟨L1, L2, L3, L4, L5, L6, L7, L8, L9⟩ := L
  obtain ⟨w, w1, w2, w3⟩ := hv
  rcases pl with ⟨a0, a1, a2, a3⟩ | ⟨a0, a1, a2, a3⟩ | ⟨a0, a1, a2, a3, a4⟩
  · subst a3
    exact Or.inr ⟨t, d, N, L0, ⟨a0, a1, a2, L5 v3 a0 a1⟩, rfl, rfl, fun _ _ _ _ => rfl⟩
  · refine Or.inl ⟨a0, ⟨fun i => if i < 400 then t i else v, fun i j i0 ij j4 => ?_, fun i i0 i4 => ?_⟩, a3⟩
    · show (if i < 400 then t i else v) ≠ (if j < 400 then t j else v)
      rw [if_pos (by omega)]
      by_cases y : j < 400
      · rw [if_pos y]; exact L3.2.2.2.1 i j i0 ij (by omega)
      · rw [if_neg y]; exact a2 i i0 (by omega)
    · show RC e (if i < 400 then t i else v)
      by_cases y : i < 400
      · rw [if_pos y]
        have q := L3.2.2.1 i i0 (by omega)
        exact ⟨(d i).toNat, by omega, q.2.2⟩
      · rw [if_neg y]
        have q := L3.2.2.1 s L4.1 L4.2.1
        exact ⟨(d s).toNat + 1, by omega, w3⟩
  · have ee : ∀ k, 0 ≤ k → k < N → up1 t N v k = t k ∧ up1 d N (d s + 1) k = d k := fun k k0 k1 => ⟨up1_o (by omega), up1_o (by omega)⟩
    have es := ee s L4.1 L4.2.1
    have ds : ∀ i j, 0 ≤ i → i < j → j < N + 1 → up1 t N v i ≠ up1 t N v j := fun i j i0 ij j1 => by
      rw [(ee i i0 (by omega)).1]
      by_cases y : j = N
      · rw [y, up1_e]; exact a2 i i0 (by omega)
      · rw [(ee j (by omega) (by omega)).1]; exact L3.2.2.2.1 i j i0 ij (by omega)
    have q := L3.2.2.1 s L4.1 L4.2.1
    have g7 : h4 417 = h 417 := funext fun x => a4 _ _ (by omega) (by omega)
    have g8 : h4 418 = h 418 := funext fun x => a4 _ _ (by omega) (by omega)
    refine Or.inr ⟨up1 t N v, up1 d N (d s + 1), N + 1, ⟨⟨cuX_f L1.1 (fun a x y => a4 a x (by omega) (by omega)), spX_f L1.2 (fun a x y => a4 a x (by omega) (by omega))⟩, a3, ⟨by omega, ?_, fun k k0 k1 => ?_, ds, fun i j i0 ij j1 => ?_⟩, ?_, fun k k0 k1 => ?_, ?_, ?_, prE_e L8 (by omega) ⟨L4.1, L4.2.1⟩ ee, by rw [a4 _ _ (by omega) (by omega)]; exact L9⟩, ⟨by omega, by omega, by rw [a0, up1_e], by rw [a0, up1_e, es.2]; exact Int.le_refl _⟩, es.1, es.2, fun a x y1 y2 => a4 a x (by omega) (by omega)⟩
    · have := L3.1.1
      rw [(ee 0 (by omega) (by omega)).1, (ee 0 (by omega) (by omega)).2]
      exact L3.2.1
    · by_cases y : k = N
      · rw [y, up1_e, up1_e]
        exact ⟨⟨w, w1, w2⟩, by omega, by rw [show (d s + 1).toNat = (d s).toNat + 1 by omega]; exact w3⟩
      · rw [(ee k k0 (by omega)).1, (ee k k0 (by omega)).2]; exact L3.2.2.1 k k0 (by omega)
    · rw [(ee i i0 (by omega)).2]
      by_cases y : j = N
      · rw [y, up1_e]; exact L5 i i0 (by omega)
      · rw [(ee j (by omega) (by omega)).2]; exact L3.2.2.2.2 i j i0 ij (by omega)
    · rw [es.2]; omega
    · rw [es.2]
      by_cases y : k = N
      · rw [y, up1_e]; exact Int.le_refl _
      · rw [(ee k k0 (by omega)).2]; exact L5 k k0 (by omega)
    · rw [g7, g8]; exact FX_e L6 (by omega) (by omega) ee ds
    · rw [g7, g8]; exact rwX_e L7 L8 (by omega) (fun k k0 k1 => (ee k k0 k1).1) ds
theorem mem_1 {m x : Int × Int} {l : ML} (h : m ∈ l ++ [x]) : m ∈ l ∨ m = x := by
  rcases List.mem_append.mp h with y | y
  · exact Or.inl y
  · exact Or.inr (List.mem_singleton.mp y)
theorem mem_l {m x : Int × Int} {l : ML} (h : m ∈ l) : m ∈ l ++ [x] := List.mem_append.mpr (Or.inl h)
theorem mem_x {x : Int × Int} {l : ML} : x ∈ l ++ [x] := List.mem_append.mpr (Or.inr List.mem_cons_self)
theorem LD_add {h h' : AH} {e : CE} {t d : Int → Int} {N s v j p : Int} {l : ML} (L : LDX h e t d N s l) (hj : 0 ≤ j ∧ j < N ∧ t j = v ∧ d j ≤ d s + 1) (f7 : h' 417 = up1 (h 417) (400 * s + j) (h 417 (400 * s + j) + 1)) (f8 : h' 418 = up1 (h 418) (400 * s + j) (if h 417 (400 * s + j) = 0 then p else min (h 418 (400 * s + j)) p)) (fr : ∀ a x, a ≠ 417 → a ≠ 418 → h' a x = h a x) : LDX h' e t d N s (l ++ [(p, v)]) := by
  obtain ⟨L1, L2, L3, L4, L5, L6, L7, L8, L9⟩ := L
  have N4 := L3.1.2
  refine ⟨⟨cuX_f L1.1 (fun a x y => fr a x (by omega) (by omega)), spX_f L1.2 (fun a x y => fr a x (by omega) (by omega))⟩, ⟨by rw [fr _ _ (by decide) (by decide)]; exact L2.1, fun k k0 k1 => by rw [fr _ _ (by decide) (by decide), fr _ _ (by decide) (by decide)]; exact L2.2 k k0 k1⟩, L3, L4, L5, FX_c L6 (fun i il => by rw [f7, f8, up1_o (by omega), up1_o (by omega)]; exact ⟨rfl, rfl⟩), fun i i0 i4 => ?_, fun m hm => ?_, by rw [fr _ _ (by decide) (by decide)]; exact L9⟩
  · obtain ⟨a, b⟩ := L7 i i0 i4
    rw [f7, f8]
    by_cases y : i = j
    · rw [y, up1_e, up1_e]
      rw [y] at a
      obtain ⟨a1, a2⟩ := a hj.2.1
      refine ⟨fun _ => ⟨?_, fun _ => ?_⟩, fun q => by omega⟩
      · rw [smL_a, a1]
        show _ = _ + (dlt (t j) v + 0)
        have : dlt (t j) v = 1 := if_pos hj.2.2.1.symm
        omega
      · by_cases z : h 417 (400 * s + j) = 0
        · rw [if_pos z]
          have no : ∀ m ∈ l, m.2 ≠ t j := fun m hm q => by
            have := sm_pos (x := t j) ⟨m, hm, q⟩
            omega
          refine ⟨⟨(p, v), mem_x, hj.2.2.1.symm, rfl⟩, fun m hm q => ?_⟩
          rcases mem_1 hm with u | u
          · exact absurd q (no m u)
          · rw [u]; exact Int.le_refl _
        · rw [if_neg z]
          have zb : 0 < h 417 (400 * s + j) := by
            have := (smL_b (g := dlt (t j)) (B := 1) (by decide) l (fun m _ => dlt_b (t j) m.2)).1
            omega
          obtain ⟨⟨m, m1, m2, m3⟩, a3⟩ := a2 zb
          refine ⟨?_, fun m' hm' q => ?_⟩
          · by_cases w : p < h 418 (400 * s + j)
            · exact ⟨(p, v), mem_x, hj.2.2.1.symm, by show p = _; omega⟩
            · exact ⟨m, mem_l m1, m2, by omega⟩
          · rcases mem_1 hm' with u | u
            · have := a3 m' u q; omega
            · rw [u]; show _ ≤ p; omega
    · rw [up1_o (by omega), up1_o (by omega)]
      refine ⟨fun il => ?_, b⟩
      obtain ⟨a1, a2⟩ := a il
      have ne : v ≠ t i := by
        rw [← hj.2.2.1]
        rcases Int.lt_or_gt_of_ne y with q | q
        · exact fun z => L3.2.2.2.1 i j i0 q hj.2.1 z.symm
        · exact L3.2.2.2.1 j i hj.1 q il
      refine ⟨?_, fun q => ?_⟩
      · rw [smL_a, a1]
        show _ = _ + (dlt (t i) v + 0)
        have : dlt (t i) v = 0 := if_neg ne
        omega
      · obtain ⟨⟨m, m1, m2, m3⟩, a3⟩ := a2 q
        refine ⟨⟨m, mem_l m1, m2, m3⟩, fun m' hm' q => ?_⟩
        rcases mem_1 hm' with u | u
        · exact a3 m' u q
        · rw [u] at q; exact absurd q ne
  · rcases mem_1 hm with u | u
    · exact L8 m u
    · rw [u]; exact ⟨j, hj.1, hj.2.1, hj.2.2.1, hj.2.2.2⟩
theorem vX9_lead (a1 : Int) (a2 : Int) (a4 : Int) {h : AH} {e : CE} {t d : Int → Int} {N : Int} {l : ML} (L : LDX h e t d N a1 l) (hv : a2 = -1 ∨ ldV e d a1 a2) (hp : 0 ≤ a4 ∧ a4 ≤ 10) (hl : l.length ≤ 31687) : OK (gX9_lead a1 a2 a4 h) (fun h' => (a2 = -1 ∧ h' = h) ∨ (a2 ≠ -1 ∧ ovf e ∧ h' = jst h 408 11 0) ∨ (a2 ≠ -1 ∧ ∃ t' d' N', LDX h' e t' d' N' a1 (l ++ [(a4, a2)]) ∧ t' a1 = t a1 ∧ d' a1 = d a1 ∧ frCu h h')) := by
  have L0 := L
  obtain ⟨L1, L2, L3, L4, L5, L6, L7, L8, L9⟩ := L0
  have N4 := L3.1
  have D1 := (L2.2 a1 L4.1 L4.2.1).2
  have dq := (L3.2.2.1 a1 L4.1 L4.2.1).2.1
  have WD : w32 (h 416 a1 + 1) = d a1 + 1 := by rw [D1]; exact w32_id (by omega) (by omega)
  unfold gX9_lead
  refine OK_if (fun c1 => ?_) (fun c1 => ?_)
  · skip
    try simp (disch := omega) only [jst_eq, jst_ne, jst_ni, jI_i, jcmp_lt, jcmp_gt, w32_id, jcpy_out, Sum.elim_inl, Sum.elim_inr, jt2, jt3, jt4, jt5, jt6, jt7, jt8] at c1
    refine OK_some ?_
    try dsimp only [Sum.elim_inl, Sum.elim_inr, jt2, jt3, jt4, jt5, jt6, jt7, jt8]
    exact Or.inl ⟨jcmp_eq.mp c1, rfl⟩ -- o1 e1
  · skip
    try simp (disch := omega) only [jst_eq, jst_ne, jst_ni, jI_i, jcmp_lt, jcmp_gt, w32_id, jcpy_out, Sum.elim_inl, Sum.elim_inr, jt2, jt3, jt4, jt5, jt6, jt7, jt8] at c1
    have hv2 : ldV e d a1 a2 := by { rcases hv with y | y; { exact absurd (jcmp_eq.mpr y) c1 }; { exact y } }
    have nv : a2 ≠ -1 := fun y => c1 (jcmp_eq.mpr y)
    rw [WD]
    refine OK_jg (by (first | assumption | omega | ((try dsimp only [jt2, jt3, jt4]); first | omega | (simp (disch := omega) only [jst_eq, jst_ne, jst_ni, jst_o, jI_i, jcpy_out, w32_id, jdiv_nn, jshr_k, jand_255] <;> first | done | omega | assumption)) | (intros; simp (disch := omega) only [jst_eq, jst_ne, jst_ni, jst_o, jI_i, jcpy_out, w32_id, jdiv_nn, *] <;> first | done | omega) | (intros; simp (disch := omega) only [jst_eq, jst_ne, jst_ni, jst_o, jI_i, jcpy_out, w32_id, jdiv_nn] at * <;> first | done | omega | assumption) | (intros; first | rfl | (exfalso; omega) | ((repeat' apply And.intro) <;> first | assumption | rfl | omega | trivial)))) ?_ -- o2
    refine OK_jb2 (vX9_place (t := t) (d := d) (N := N) _ _ (by exact L2) (by (first | assumption | omega | ((try dsimp only [jt2, jt3, jt4]); first | omega | (simp (disch := omega) only [jst_eq, jst_ne, jst_ni, jst_o, jI_i, jcpy_out, w32_id, jdiv_nn, jshr_k, jand_255] <;> first | done | omega | assumption)) | (intros; simp (disch := omega) only [jst_eq, jst_ne, jst_ni, jst_o, jI_i, jcpy_out, w32_id, jdiv_nn, *] <;> first | done | omega) | (intros; simp (disch := omega) only [jst_eq, jst_ne, jst_ni, jst_o, jI_i, jcpy_out, w32_id, jdiv_nn] at * <;> first | done | omega | assumption) | (intros; first | rfl | (exfalso; omega) | ((repeat' apply And.intro) <;> first | assumption | rfl | omega | trivial))))) (fun v3 h4 r1 => ?_)
    try dsimp only [Sum.elim_inl, Sum.elim_inr, jt2, jt3, jt4, jt5, jt6, jt7, jt8] at r1
    have pl1 := r1
    clear r1
    try simp (disch := omega) only [jst_eq, jst_ne, jst_ni, jI_i, jcmp_lt, jcmp_gt, w32_id, jcpy_out, Sum.elim_inl, Sum.elim_inr, jt2, jt3, jt4, jt5, jt6, jt7, jt8] at pl1
    have R := LD_pl L hv2 pl1
    refine OK_if (fun c2 => ?_) (fun c2 => ?_)
    · skip
      try simp (disch := omega) only [jst_eq, jst_ne, jst_ni, jI_i, jcmp_lt, jcmp_gt, w32_id, jcpy_out, Sum.elim_inl, Sum.elim_inr, jt2, jt3, jt4, jt5, jt6, jt7, jt8] at c2
      refine OK_jl ?_
      refine OK_some ?_
      try dsimp only [Sum.elim_inl, Sum.elim_inr, jt2, jt3, jt4, jt5, jt6, jt7, jt8]
      (rcases R with z | ⟨t', d', N', G, gj, _⟩; { rw [z.2.2]; exact Or.inr (Or.inl ⟨nv, z.2.1, rfl⟩) }; { exfalso; omega }) -- o5 e2
    · skip
      try simp (disch := omega) only [jst_eq, jst_ne, jst_ni, jI_i, jcmp_lt, jcmp_gt, w32_id, jcpy_out, Sum.elim_inl, Sum.elim_inr, jt2, jt3, jt4, jt5, jt6, jt7, jt8] at c2
      obtain ⟨t', d', N', G, gj, gt, gd, gf⟩ := R.resolve_left (fun z => c2 z.1)
      have N5 := G.2.2.1.1
      have G7 := (G.2.2.2.2.2.2.1 v3 gj.1 (by omega)).1 gj.2.1
      have cb := smL_b (g := dlt (t' v3)) (B := 1) (by decide) l (fun m _ => dlt_b (t' v3) m.2)
      refine OK_jlx (fun x7 ex7 => ?_)
      try simp (disch := omega) only [jst_eq, jst_ne, jst_ni, jI_i, jcmp_lt, jcmp_gt, w32_id, jcpy_out, Sum.elim_inl, Sum.elim_inr, jt2, jt3, jt4, jt5, jt6, jt7, jt8] at ex7
      have e7 : x7 = 400 * a1 + v3 := by { omega }
      subst e7
      refine OK_jg (by (first | assumption | omega | ((try dsimp only [jt2, jt3, jt4]); first | omega | (simp (disch := omega) only [jst_eq, jst_ne, jst_ni, jst_o, jI_i, jcpy_out, w32_id, jdiv_nn, jshr_k, jand_255] <;> first | done | omega | assumption)) | (intros; simp (disch := omega) only [jst_eq, jst_ne, jst_ni, jst_o, jI_i, jcpy_out, w32_id, jdiv_nn, *] <;> first | done | omega) | (intros; simp (disch := omega) only [jst_eq, jst_ne, jst_ni, jst_o, jI_i, jcpy_out, w32_id, jdiv_nn] at * <;> first | done | omega | assumption) | (intros; first | rfl | (exfalso; omega) | ((repeat' apply And.intro) <;> first | assumption | rfl | omega | trivial)))) ?_ -- o6
      refine OK_if (fun c3 => ?_) (fun c3 => ?_)
      · skip
        try simp (disch := omega) only [jst_eq, jst_ne, jst_ni, jI_i, jcmp_lt, jcmp_gt, w32_id, jcpy_out, Sum.elim_inl, Sum.elim_inr, jt2, jt3, jt4, jt5, jt6, jt7, jt8] at c3
        unfold gX9_lead_j81
        refine OK_jg (by (first | assumption | omega | ((try dsimp only [jt2, jt3, jt4]); first | omega | (simp (disch := omega) only [jst_eq, jst_ne, jst_ni, jst_o, jI_i, jcpy_out, w32_id, jdiv_nn, jshr_k, jand_255] <;> first | done | omega | assumption)) | (intros; simp (disch := omega) only [jst_eq, jst_ne, jst_ni, jst_o, jI_i, jcpy_out, w32_id, jdiv_nn, *] <;> first | done | omega) | (intros; simp (disch := omega) only [jst_eq, jst_ne, jst_ni, jst_o, jI_i, jcpy_out, w32_id, jdiv_nn] at * <;> first | done | omega | assumption) | (intros; first | rfl | (exfalso; omega) | ((repeat' apply And.intro) <;> first | assumption | rfl | omega | trivial)))) ?_ -- o7
        refine OK_jl ?_
        have W64 : w64 (h4 417 (400 * a1 + v3) + 1) = h4 417 (400 * a1 + v3) + 1 := w64_id (by omega) (by omega)
        rw [jst_ne (by decide), W64]
        refine OK_jg (by (first | assumption | omega | ((try dsimp only [jt2, jt3, jt4]); first | omega | (simp (disch := omega) only [jst_eq, jst_ne, jst_ni, jst_o, jI_i, jcpy_out, w32_id, jdiv_nn, jshr_k, jand_255] <;> first | done | omega | assumption)) | (intros; simp (disch := omega) only [jst_eq, jst_ne, jst_ni, jst_o, jI_i, jcpy_out, w32_id, jdiv_nn, *] <;> first | done | omega) | (intros; simp (disch := omega) only [jst_eq, jst_ne, jst_ni, jst_o, jI_i, jcpy_out, w32_id, jdiv_nn] at * <;> first | done | omega | assumption) | (intros; first | rfl | (exfalso; omega) | ((repeat' apply And.intro) <;> first | assumption | rfl | omega | trivial)))) ?_ -- o8
        refine OK_jl ?_
        refine OK_some ?_
        try dsimp only [Sum.elim_inl, Sum.elim_inr, jt2, jt3, jt4, jt5, jt6, jt7, jt8]
        (refine Or.inr (Or.inr ⟨nv, t', d', N', LD_add G gj (funext fun x => ?_) (funext fun x => ?_) (fun a x y1 y2 => by rw [jst_ne y1, jst_ne y2]), gt, gd, fun a x y1 y2 => by rw [jst_o (by omega), jst_o (by omega)]; exact gf a x y1 y2⟩); { by_cases y : x = 400 * a1 + v3; { rw [y, jst_eq, up1_e] }; { rw [jst_ni y, jst_ne (by decide), up1_o y] } }; { rw [jst_ne (by decide), if_pos (jcmp_eq.mp c3)]; by_cases y : x = 400 * a1 + v3; { rw [y, jst_eq, up1_e] }; { rw [jst_ni y, up1_o y] } }) -- o9 e3
      · skip
        try simp (disch := omega) only [jst_eq, jst_ne, jst_ni, jI_i, jcmp_lt, jcmp_gt, w32_id, jcpy_out, Sum.elim_inl, Sum.elim_inr, jt2, jt3, jt4, jt5, jt6, jt7, jt8] at c3
        unfold gX9_lead_j81
        refine OK_jg (by (first | assumption | omega | ((try dsimp only [jt2, jt3, jt4]); first | omega | (simp (disch := omega) only [jst_eq, jst_ne, jst_ni, jst_o, jI_i, jcpy_out, w32_id, jdiv_nn, jshr_k, jand_255] <;> first | done | omega | assumption)) | (intros; simp (disch := omega) only [jst_eq, jst_ne, jst_ni, jst_o, jI_i, jcpy_out, w32_id, jdiv_nn, *] <;> first | done | omega) | (intros; simp (disch := omega) only [jst_eq, jst_ne, jst_ni, jst_o, jI_i, jcpy_out, w32_id, jdiv_nn] at * <;> first | done | omega | assumption) | (intros; first | rfl | (exfalso; omega) | ((repeat' apply And.intro) <;> first | assumption | rfl | omega | trivial)))) ?_ -- o10
        refine OK_jl ?_
        have W64 : w64 (h4 417 (400 * a1 + v3) + 1) = h4 417 (400 * a1 + v3) + 1 := w64_id (by omega) (by omega)
        rw [jst_ne (by decide), W64]
        refine OK_jg (by (first | assumption | omega | ((try dsimp only [jt2, jt3, jt4]); first | omega | (simp (disch := omega) only [jst_eq, jst_ne, jst_ni, jst_o, jI_i, jcpy_out, w32_id, jdiv_nn, jshr_k, jand_255] <;> first | done | omega | assumption)) | (intros; simp (disch := omega) only [jst_eq, jst_ne, jst_ni, jst_o, jI_i, jcpy_out, w32_id, jdiv_nn, *] <;> first | done | omega) | (intros; simp (disch := omega) only [jst_eq, jst_ne, jst_ni, jst_o, jI_i, jcpy_out, w32_id, jdiv_nn] at * <;> first | done | omega | assumption) | (intros; first | rfl | (exfalso; omega) | ((repeat' apply And.intro) <;> first | assumption | rfl | omega | trivial)))) ?_ -- o11
        refine OK_jl ?_
        refine OK_some ?_
        try dsimp only [Sum.elim_inl, Sum.elim_inr, jt2, jt3, jt4, jt5, jt6, jt7, jt8]
        (refine Or.inr (Or.inr ⟨nv, t', d', N', LD_add G gj (funext fun x => ?_) (funext fun x => ?_) (fun a x y1 y2 => by rw [jst_ne y1, jst_ne y2]), gt, gd, fun a x y1 y2 => by rw [jst_o (by omega), jst_o (by omega)]; exact gf a x y1 y2⟩); { by_cases y : x = 400 * a1 + v3; { rw [y, jst_eq, up1_e] }; { rw [jst_ni y, jst_ne (by decide), up1_o y] } }; { rw [jst_ne (by decide), if_neg (fun z => c3 (jcmp_eq.mpr z))]; by_cases y : x = 400 * a1 + v3; { rw [y, jst_eq, up1_e] }; { rw [jst_ni y, up1_o y] } }) -- o12 e4

