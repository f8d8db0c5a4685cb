/-! m: weights of terms whose names are known -/
def resM (h : AH) : TR → Int → Int → Prop
  | .leaf i, d, j => 0 ≤ d ∧ d < 8800 ∧ h 465 d = j ∧ h 466 d = -1 ∧ h 461 d = kch i.2.2.1 ∧ (i.1 = 0 → h 460 d = 1 ∧ h 462 d = i.2.1) ∧ (i.1 = 1 → h 460 d = 0 ∧ h 462 d = i.2.1) ∧ (i.1 = 2 → h 460 d = 2 ∧ h 463 d = i.2.1) ∧ (i.1 = 4 → h 460 d = 2 ∧ h 463 d = -1) ∧ (i.1 = 3 → h 460 d = 3) ∧ 0 ≤ i.1 ∧ i.1 ≤ 4
  | .branch _ s r, d, j => j < 3 ∧ resM h s (h 464 (3 * d + j)) 0 ∧ resM h r d (j + 1)
def lwI (wA : Int → Int) (i : NI) : Int := if i.1 = 2 then 1 + (if 26 ≤ i.2.1 then wA i.2.1 else 0) else if i.1 = 4 then 1 else 0
def wtR (wA : Int → Int) : TR → Int
  | .leaf i => lwI wA i
  | .branch _ s r => wtR wA s + wtR wA r
def acR (N : Int) : TR → Prop
  | .leaf i => i.1 = 2 → 0 ≤ i.2.1 ∧ i.2.1 < N
  | .branch _ s r => ((inf r).1 = 2 ∨ (inf r).1 = 4) ∧ acR N s ∧ acR N r
theorem resM_k {h : AH} : ∀ {r : TR} {d j : Int}, resM h r d j → 0 ≤ d ∧ d < 8800 ∧ h 465 d = j + nk r ∧ h 466 d = -1
  | .leaf i, d, j, q => ⟨q.1, q.2.1, by rw [q.2.2.1]; show j = j + 0; omega, q.2.2.2.1⟩
  | .branch b s r, d, j, q => by
    have := resM_k (r := r) q.2.2
    exact ⟨this.1, this.2.1, by rw [this.2.2.1]; show j + 1 + nk r = j + (nk r + 1); omega, this.2.2.2⟩
theorem nk_0 : ∀ r : TR, 0 ≤ nk r
  | .leaf _ => Int.le_refl _
  | .branch _ _ r => by have := nk_0 r; show 0 ≤ nk r + 1; omega
theorem resM_br {h : AH} {r : TR} {d j : Int} (q : resM h r d j) (lt : j < h 465 d) : ∃ b s r', r = .branch b s r' := by
  cases r with
  | leaf i => have := q.2.2.1; omega
  | branch b s r' => exact ⟨b, s, r', rfl⟩
theorem resM_lf {h : AH} {r : TR} {d j : Int} (q : resM h r d j) (le : h 465 d ≤ j) : ∃ i, r = .leaf i := by
  cases r with
  | leaf i => exact ⟨i, rfl⟩
  | branch b s r' =>
    have := (resM_k q).2.2.1
    have n := nk_0 r'
    have e : nk (.branch b s r') = nk r' + 1 := rfl
    omega
theorem resM_j {h : AH} {r : TR} {d j : Int} (q : resM h r d j) (n : nk r ≠ 0) : j < 3 := by
  cases r with
  | leaf i => exact absurd rfl n
  | branch b s r' => exact q.1
theorem wtR_0 {wA : Int → Int} (W : ∀ a, 26 ≤ a → 0 ≤ wA a) : ∀ r : TR, 0 ≤ wtR wA r ∧ lwI wA (inf r) ≤ wtR wA r ∧ 0 ≤ lwI wA (inf r)
  | .leaf i => by
    have : 0 ≤ lwI wA i := by
      unfold lwI
      by_cases a : i.1 = 2
      · rw [if_pos a]
        by_cases b : 26 ≤ i.2.1
        · rw [if_pos b]; have := W _ b; omega
        · rw [if_neg b]; omega
      · rw [if_neg a]
        by_cases b : i.1 = 4
        · rw [if_pos b]; omega
        · rw [if_neg b]; omega
    exact ⟨this, Int.le_refl _, this⟩
  | .branch b s r => by
    have a := wtR_0 W s
    have c := wtR_0 W r
    show 0 ≤ wtR wA s + wtR wA r ∧ lwI wA (inf r) ≤ wtR wA s + wtR wA r ∧ 0 ≤ lwI wA (inf r)
    omega
def CWR (F : Int → AH → Option Int) (h : AH) (N : Int) (wA : Int → Int) (w : Int) : Prop := ∀ (d : Int) (R : TR), resM h R d 0 → acR N R → wtR wA R ≤ w → OK (F d h) (fun v => v = wtR wA R)
def OW (h : AH) (N : Int) (wA : Int → Int) : Prop := ∀ a, 26 ≤ a → a < N → 0 ≤ wA a ∧ wA a ≤ 40 ∧ ∃ R, resM h R (h 459 a) 0 ∧ acR N R ∧ wtR wA R = wA a
theorem wl49R {F : Int → AH → Option (Int)} (i1 : Int) (a20 : Int) (a30 : Int) {h : AH} {N w : Int} {wA : Int → Int} {R : TR} (hF : CWR F h N wA w) (W : ∀ a, 26 ≤ a → 0 ≤ wA a) (q : resM h R i1 0 ∧ acR N R ∧ (nk R ≠ 0 → wtR wA R - lwI wA (inf R) ≤ w) ∧ wtR wA R ≤ 5000) (z : a30 = 0 ∧ a20 = lwI wA (inf R)) : OK (gX14_weight_l49 F i1 a20 a30 h) (fun v => v = wtR wA R) := by
  unfold gX14_weight_l49
  refine OK_jit (I := (fun (s : Int × Int) => jt2 s fun a2 a3 => ∃ r : TR, resM h r i1 a3 ∧ acR N r ∧ inf r = inf R ∧ a2 + wtR wA r = wtR wA R + lwI wA (inf R) ∧ 0 ≤ a2 ∧ 0 ≤ a3 ∧ (nk r ≠ 0 → wtR wA r - lwI wA (inf R) ≤ w))) (m := (fun (s : Int × Int) => jt2 s fun a2 a3 => (3 - a3).toNat)) ?_ ?_
  · intro s hs
    obtain ⟨a2, a3⟩ := s
    dsimp only [Sum.elim_inl, Sum.elim_inr, jt2, jt3, jt4, jt5, jt6, jt7, jt8] at hs
    have q0 := hs; clear hs
    unfold gX14_weight_b49
    refine OK_jt2 ?_
    obtain ⟨r, r1, r2, r3, r4, r5, r6, r7⟩ := q0
    have rk := resM_k r1
    have w0 := wtR_0 W r
    rw [r3] at w0
    refine OK_jg (by (first | assumption | omega | ((try dsimp only [jt2, jt3, jt4]); first | omega | (simp (disch := omega) only [jst_eq, jst_ne, jst_ni, jst_o, jI_i, jcpy_out, w32_id, jdiv_nn, jshr_k, jand_255] <;> first | done | omega | assumption)) | (intros; simp (disch := omega) only [jst_eq, jst_ne, jst_ni, jst_o, jI_i, jcpy_out, w32_id, jdiv_nn, *] <;> first | done | omega) | (intros; simp (disch := omega) only [jst_eq, jst_ne, jst_ni, jst_o, jI_i, jcpy_out, w32_id, jdiv_nn] at * <;> first | done | omega | assumption) | (intros; first | rfl | (exfalso; omega) | ((repeat' apply And.intro) <;> first | assumption | rfl | omega | trivial)))) ?_ -- o1
    refine OK_if (fun c1 => ?_) (fun c1 => ?_)
    · skip
      try simp (disch := omega) only [jst_eq, jst_ne, jst_ni, jI_i, jcmp_lt, jcmp_gt, w32_id, jcpy_out, Sum.elim_inl, Sum.elim_inr, jt2, jt3, jt4, jt5, jt6, jt7, jt8] at c1
      refine OK_ir ?_
      (obtain ⟨i, rfl⟩ := resM_lf r1 (by omega); have e1 : wtR wA (.leaf i) = lwI wA i := rfl; have e2 : inf (.leaf i) = i := rfl; rw [e2] at r3; rw [e1, r3] at r4; show a2 = wtR wA R; omega) -- o2 e1
    · skip
      try simp (disch := omega) only [jst_eq, jst_ne, jst_ni, jI_i, jcmp_lt, jcmp_gt, w32_id, jcpy_out, Sum.elim_inl, Sum.elim_inr, jt2, jt3, jt4, jt5, jt6, jt7, jt8] at c1
      obtain ⟨b, s, r', rfl⟩ := resM_br r1 (by omega)
      have ws := wtR_0 W s
      have wr := wtR_0 W r'
      have we : wtR wA (.branch b s r') = wtR wA s + wtR wA r' := rfl
      have ie : inf (.branch b s r') = inf r' := rfl
      rw [← ie, r3] at wr
      have w7 := r7 (by have := nk_0 r'; show nk r' + 1 ≠ 0; omega)
      refine OK_if (fun c2 => ?_) (fun c2 => ?_)
      · skip
        try simp (disch := omega) only [jst_eq, jst_ne, jst_ni, jI_i, jcmp_lt, jcmp_gt, w32_id, jcpy_out, Sum.elim_inl, Sum.elim_inr, jt2, jt3, jt4, jt5, jt6, jt7, jt8] at c2
        refine OK_ir ?_
        (exfalso; have := r1.1; omega) -- o3 e2
      · skip
        try simp (disch := omega) only [jst_eq, jst_ne, jst_ni, jI_i, jcmp_lt, jcmp_gt, w32_id, jcpy_out, Sum.elim_inl, Sum.elim_inr, jt2, jt3, jt4, jt5, jt6, jt7, jt8] at c2
        refine OK_jg (by (first | assumption | omega | ((try dsimp only [jt2, jt3, jt4]); first | omega | (simp (disch := omega) only [jst_eq, jst_ne, jst_ni, jst_o, jI_i, jcpy_out, w32_id, jdiv_nn, jshr_k, jand_255] <;> first | done | omega | assumption)) | (intros; simp (disch := omega) only [jst_eq, jst_ne, jst_ni, jst_o, jI_i, jcpy_out, w32_id, jdiv_nn, *] <;> first | done | omega) | (intros; simp (disch := omega) only [jst_eq, jst_ne, jst_ni, jst_o, jI_i, jcpy_out, w32_id, jdiv_nn] at * <;> first | done | omega | assumption) | (intros; first | rfl | (exfalso; omega) | ((repeat' apply And.intro) <;> first | assumption | rfl | omega | trivial)))) ?_ -- o4
        refine OK_jb (hF _ s (by ((try simp (disch := omega) only [jst_eq, jst_ne, jst_ni, jI_i, jcmp_lt, jcmp_gt, w32_id, jcpy_out, Sum.elim_inl, Sum.elim_inr, jt2, jt3, jt4, jt5, jt6, jt7, jt8]); exact r1.2.1)) (by exact r2.2.1) (by omega)) (fun v18 r1 => ?_)
        try dsimp only [Sum.elim_inl, Sum.elim_inr, jt2, jt3, jt4, jt5, jt6, jt7, jt8] at r1
        have wv1 := r1
        clear r1
        try simp (disch := omega) only [jst_eq, jst_ne, jst_ni, jI_i, jcmp_lt, jcmp_gt, w32_id, jcpy_out, Sum.elim_inl, Sum.elim_inr, jt2, jt3, jt4, jt5, jt6, jt7, jt8] at wv1
        refine OK_jlx (fun x19 ex19 => ?_)
        try simp (disch := omega) only [jst_eq, jst_ne, jst_ni, jI_i, jcmp_lt, jcmp_gt, w32_id, jcpy_out, Sum.elim_inl, Sum.elim_inr, jt2, jt3, jt4, jt5, jt6, jt7, jt8] at ex19
        refine OK_jlx (fun x20 ex20 => ?_)
        try simp (disch := omega) only [jst_eq, jst_ne, jst_ni, jI_i, jcmp_lt, jcmp_gt, w32_id, jcpy_out, Sum.elim_inl, Sum.elim_inr, jt2, jt3, jt4, jt5, jt6, jt7, jt8] at ex20
        have ee : x20 = a3 + 1 ∧ x19 = a2 + wtR wA s := ⟨by omega, by omega⟩
        refine OK_il ?_ ?_
        · (show ∃ r : TR, resM h r i1 x20 ∧ acR N r ∧ inf r = inf R ∧ x19 + wtR wA r = wtR wA R + lwI wA (inf R) ∧ 0 ≤ x19 ∧ 0 ≤ x20 ∧ (nk r ≠ 0 → wtR wA r - lwI wA (inf R) ≤ w); rw [ee.1, ee.2]; exact ⟨r', r1.2.2, r2.2.2, by rw [← ie]; exact r3, by omega, by omega, by omega, fun _ => by omega⟩) -- o8 e3i
        · (first | assumption | omega | ((try dsimp only [jt2, jt3, jt4]); first | omega | (simp (disch := omega) only [jst_eq, jst_ne, jst_ni, jst_o, jI_i, jcpy_out, w32_id, jdiv_nn, jshr_k, jand_255] <;> first | done | omega | assumption)) | (intros; simp (disch := omega) only [jst_eq, jst_ne, jst_ni, jst_o, jI_i, jcpy_out, w32_id, jdiv_nn, *] <;> first | done | omega) | (intros; simp (disch := omega) only [jst_eq, jst_ne, jst_ni, jst_o, jI_i, jcpy_out, w32_id, jdiv_nn] at * <;> first | done | omega | assumption) | (intros; first | rfl | (exfalso; omega) | ((repeat' apply And.intro) <;> first | assumption | rfl | omega | trivial))) -- o9 e3m
  · (show ∃ r : TR, resM h r i1 a30 ∧ acR N r ∧ inf r = inf R ∧ a20 + wtR wA r = wtR wA R + lwI wA (inf R) ∧ 0 ≤ a20 ∧ 0 ≤ a30 ∧ (nk r ≠ 0 → wtR wA r - lwI wA (inf R) ≤ w); rw [z.1, z.2]; have := wtR_0 W R; exact ⟨R, q.1, q.2.1, rfl, by omega, by omega, by omega, q.2.2.1⟩) -- o10 init
theorem wl100R {F : Int → AH → Option (Int)} (a20 : Int) (a30 : Int) {h : AH} (z : a30 = -1) : OK (gX14_weight_l100 F a20 a30 h) (fun v => v = a20) := by
  unfold gX14_weight_l100
  refine OK_jit (I := (fun (s : Int × Int) => jt2 s fun a2 a3 => (a3 = -1) ∧ (a2 = a20))) (m := (fun (s : Int × Int) => jt2 s fun a2 a3 => 0)) ?_ ?_
  · intro s hs
    obtain ⟨a2, a3⟩ := s
    dsimp only [Sum.elim_inl, Sum.elim_inr, jt2, jt3, jt4, jt5, jt6, jt7, jt8] at hs
    obtain ⟨q0, q1⟩ := hs
    unfold gX14_weight_b100
    refine OK_jt2 ?_
    refine OK_if (fun c1 => ?_) (fun c1 => ?_)
    · skip
      try simp (disch := omega) only [jst_eq, jst_ne, jst_ni, jI_i, jcmp_lt, jcmp_gt, w32_id, jcpy_out, Sum.elim_inl, Sum.elim_inr, jt2, jt3, jt4, jt5, jt6, jt7, jt8] at c1
      refine OK_ir ?_
      (first | assumption | omega | ((try dsimp only [jt2, jt3, jt4]); first | omega | (simp (disch := omega) only [jst_eq, jst_ne, jst_ni, jst_o, jI_i, jcpy_out, w32_id, jdiv_nn, jshr_k, jand_255] <;> first | done | omega | assumption)) | (intros; simp (disch := omega) only [jst_eq, jst_ne, jst_ni, jst_o, jI_i, jcpy_out, w32_id, jdiv_nn, *] <;> first | done | omega) | (intros; simp (disch := omega) only [jst_eq, jst_ne, jst_ni, jst_o, jI_i, jcpy_out, w32_id, jdiv_nn] at * <;> first | done | omega | assumption) | (intros; first | rfl | (exfalso; omega) | ((repeat' apply And.intro) <;> first | assumption | rfl | omega | trivial))) -- o1 e1
    · skip
      try simp (disch := omega) only [jst_eq, jst_ne, jst_ni, jI_i, jcmp_lt, jcmp_gt, w32_id, jcpy_out, Sum.elim_inl, Sum.elim_inr, jt2, jt3, jt4, jt5, jt6, jt7, jt8] at c1
      exfalso
      omega
  · try dsimp only [Sum.elim_inl, Sum.elim_inr, jt2, jt3, jt4, jt5, jt6, jt7, jt8]
    refine ⟨?_, ?_⟩
    · (first | assumption | omega | ((try dsimp only [jt2, jt3, jt4]); first | omega | (simp (disch := omega) only [jst_eq, jst_ne, jst_ni, jst_o, jI_i, jcpy_out, w32_id, jdiv_nn, jshr_k, jand_255] <;> first | done | omega | assumption)) | (intros; simp (disch := omega) only [jst_eq, jst_ne, jst_ni, jst_o, jI_i, jcpy_out, w32_id, jdiv_nn, *] <;> first | done | omega) | (intros; simp (disch := omega) only [jst_eq, jst_ne, jst_ni, jst_o, jI_i, jcpy_out, w32_id, jdiv_nn] at * <;> first | done | omega | assumption) | (intros; first | rfl | (exfalso; omega) | ((repeat' apply And.intro) <;> first | assumption | rfl | omega | trivial))) -- o2 init.1
    · (first | assumption | omega | ((try dsimp only [jt2, jt3, jt4]); first | omega | (simp (disch := omega) only [jst_eq, jst_ne, jst_ni, jst_o, jI_i, jcpy_out, w32_id, jdiv_nn, jshr_k, jand_255] <;> first | done | omega | assumption)) | (intros; simp (disch := omega) only [jst_eq, jst_ne, jst_ni, jst_o, jI_i, jcpy_out, w32_id, jdiv_nn, *] <;> first | done | omega) | (intros; simp (disch := omega) only [jst_eq, jst_ne, jst_ni, jst_o, jI_i, jcpy_out, w32_id, jdiv_nn] at * <;> first | done | omega | assumption) | (intros; first | rfl | (exfalso; omega) | ((repeat' apply And.intro) <;> first | assumption | rfl | omega | trivial))) -- o3 init.2
theorem wl_inf {h : AH} : ∀ {r : TR} {d j : Int}, resM h r d j → ((inf r).1 = 0 → h 460 d = 1) ∧ ((inf r).1 = 1 → h 460 d = 0) ∧ ((inf r).1 = 2 → h 460 d = 2 ∧ h 463 d = (inf r).2.1) ∧ ((inf r).1 = 4 → h 460 d = 2 ∧ h 463 d = -1) ∧ ((inf r).1 = 3 → h 460 d = 3) ∧ 0 ≤ (inf r).1 ∧ (inf r).1 ≤ 4
  | .leaf i, d, j, q => ⟨fun z => (q.2.2.2.2.2.1 z).1, fun z => (q.2.2.2.2.2.2.1 z).1, q.2.2.2.2.2.2.2.1, q.2.2.2.2.2.2.2.2.1, q.2.2.2.2.2.2.2.2.2.1, q.2.2.2.2.2.2.2.2.2.2⟩
  | .branch _ s r, d, j, q => wl_inf (r := r) q.2.2
theorem ac_inf {N : Int} : ∀ {r : TR}, acR N r → (inf r).1 = 2 → 0 ≤ (inf r).2.1 ∧ (inf r).2.1 < N
  | .leaf i, q => q
  | .branch _ s r, q => ac_inf (r := r) q.2.2
theorem ac_nk {N : Int} : ∀ {r : TR}, acR N r → nk r ≠ 0 → (inf r).1 = 2 ∨ (inf r).1 = 4
  | .leaf i, _, n => absurd rfl n
  | .branch _ s r, q, _ => q.1
theorem wj46R {F : Int → AH → Option (Int)} (a1 : Int) (t0 : Int) {h : AH} {N w : Int} {wA : Int → Int} {R : TR} (hF : CWR F h N wA w) (W : ∀ a, 26 ≤ a → 0 ≤ wA a) (q : resM h R a1 0 ∧ acR N R ∧ (nk R ≠ 0 → wtR wA R - lwI wA (inf R) ≤ w) ∧ wtR wA R ≤ 5000) (z : t0 = lwI wA (inf R)) : OK (gX14_weight_j46 F a1 t0 h) (fun v => v = wtR wA R) := by
  have rk := resM_k q.1
  unfold gX14_weight_j46
  refine OK_jb (wl49R (N := N) (w := w) (wA := wA) (R := R) _ _ _ (by (first | assumption | omega | ((try dsimp only [jt2, jt3, jt4]); first | omega | (simp (disch := omega) only [jst_eq, jst_ne, jst_ni, jst_o, jI_i, jcpy_out, w32_id, jdiv_nn, jshr_k, jand_255] <;> first | done | omega | assumption)) | (intros; simp (disch := omega) only [jst_eq, jst_ne, jst_ni, jst_o, jI_i, jcpy_out, w32_id, jdiv_nn, *] <;> first | done | omega) | (intros; simp (disch := omega) only [jst_eq, jst_ne, jst_ni, jst_o, jI_i, jcpy_out, w32_id, jdiv_nn] at * <;> first | done | omega | assumption) | (intros; first | rfl | (exfalso; omega) | ((repeat' apply And.intro) <;> first | assumption | rfl | omega | trivial)))) (by (first | assumption | omega | ((try dsimp only [jt2, jt3, jt4]); first | omega | (simp (disch := omega) only [jst_eq, jst_ne, jst_ni, jst_o, jI_i, jcpy_out, w32_id, jdiv_nn, jshr_k, jand_255] <;> first | done | omega | assumption)) | (intros; simp (disch := omega) only [jst_eq, jst_ne, jst_ni, jst_o, jI_i, jcpy_out, w32_id, jdiv_nn, *] <;> first | done | omega) | (intros; simp (disch := omega) only [jst_eq, jst_ne, jst_ni, jst_o, jI_i, jcpy_out, w32_id, jdiv_nn] at * <;> first | done | omega | assumption) | (intros; first | rfl | (exfalso; omega) | ((repeat' apply And.intro) <;> first | assumption | rfl | omega | trivial)))) (by (first | assumption | omega | ((try dsimp only [jt2, jt3, jt4]); first | omega | (simp (disch := omega) only [jst_eq, jst_ne, jst_ni, jst_o, jI_i, jcpy_out, w32_id, jdiv_nn, jshr_k, jand_255] <;> first | done | omega | assumption)) | (intros; simp (disch := omega) only [jst_eq, jst_ne, jst_ni, jst_o, jI_i, jcpy_out, w32_id, jdiv_nn, *] <;> first | done | omega) | (intros; simp (disch := omega) only [jst_eq, jst_ne, jst_ni, jst_o, jI_i, jcpy_out, w32_id, jdiv_nn] at * <;> first | done | omega | assumption) | (intros; first | rfl | (exfalso; omega) | ((repeat' apply And.intro) <;> first | assumption | rfl | omega | trivial)))) (by (first | assumption | omega | ((try dsimp only [jt2, jt3, jt4]); first | omega | (simp (disch := omega) only [jst_eq, jst_ne, jst_ni, jst_o, jI_i, jcpy_out, w32_id, jdiv_nn, jshr_k, jand_255] <;> first | done | omega | assumption)) | (intros; simp (disch := omega) only [jst_eq, jst_ne, jst_ni, jst_o, jI_i, jcpy_out, w32_id, jdiv_nn, *] <;> first | done | omega) | (intros; simp (disch := omega) only [jst_eq, jst_ne, jst_ni, jst_o, jI_i, jcpy_out, w32_id, jdiv_nn] at * <;> first | done | omega | assumption) | (intros; first | rfl | (exfalso; omega) | ((repeat' apply And.intro) <;> first | assumption | rfl | omega | trivial))))) (fun o5 r1 => ?_)
  try dsimp only [Sum.elim_inl, Sum.elim_inr, jt2, jt3, jt4, jt5, jt6, jt7, jt8] at r1
  have wv1 := r1
  clear r1
  try simp (disch := omega) only [jst_eq, jst_ne, jst_ni, jI_i, jcmp_lt, jcmp_gt, w32_id, jcpy_out, Sum.elim_inl, Sum.elim_inr, jt2, jt3, jt4, jt5, jt6, jt7, jt8] at wv1
  unfold gX14_weight_j93
  refine OK_jg (by (first | assumption | omega | ((try dsimp only [jt2, jt3, jt4]); first | omega | (simp (disch := omega) only [jst_eq, jst_ne, jst_ni, jst_o, jI_i, jcpy_out, w32_id, jdiv_nn, jshr_k, jand_255] <;> first | done | omega | assumption)) | (intros; simp (disch := omega) only [jst_eq, jst_ne, jst_ni, jst_o, jI_i, jcpy_out, w32_id, jdiv_nn, *] <;> first | done | omega) | (intros; simp (disch := omega) only [jst_eq, jst_ne, jst_ni, jst_o, jI_i, jcpy_out, w32_id, jdiv_nn] at * <;> first | done | omega | assumption) | (intros; first | rfl | (exfalso; omega) | ((repeat' apply And.intro) <;> first | assumption | rfl | omega | trivial)))) ?_ -- o5
  refine OK_jlx (fun x7 ex7 => ?_)
  try simp (disch := omega) only [jst_eq, jst_ne, jst_ni, jI_i, jcmp_lt, jcmp_gt, w32_id, jcpy_out, Sum.elim_inl, Sum.elim_inr, jt2, jt3, jt4, jt5, jt6, jt7, jt8] at ex7
  refine OK_jb (wl100R _ _ (by (first | assumption | omega | ((try dsimp only [jt2, jt3, jt4]); first | omega | (simp (disch := omega) only [jst_eq, jst_ne, jst_ni, jst_o, jI_i, jcpy_out, w32_id, jdiv_nn, jshr_k, jand_255] <;> first | done | omega | assumption)) | (intros; simp (disch := omega) only [jst_eq, jst_ne, jst_ni, jst_o, jI_i, jcpy_out, w32_id, jdiv_nn, *] <;> first | done | omega) | (intros; simp (disch := omega) only [jst_eq, jst_ne, jst_ni, jst_o, jI_i, jcpy_out, w32_id, jdiv_nn] at * <;> first | done | omega | assumption) | (intros; first | rfl | (exfalso; omega) | ((repeat' apply And.intro) <;> first | assumption | rfl | omega | trivial))))) (fun o8 r2 => ?_)
  try dsimp only [Sum.elim_inl, Sum.elim_inr, jt2, jt3, jt4, jt5, jt6, jt7, jt8] at r2
  have v2 := r2
  clear r2
  try simp (disch := omega) only [jst_eq, jst_ne, jst_ni, jI_i, jcmp_lt, jcmp_gt, w32_id, jcpy_out, Sum.elim_inl, Sum.elim_inr, jt2, jt3, jt4, jt5, jt6, jt7, jt8] at v2
  refine OK_some ?_
  try dsimp only [Sum.elim_inl, Sum.elim_inr, jt2, jt3, jt4, jt5, jt6, jt7, jt8]
  (first | assumption | omega | ((try dsimp only [jt2, jt3, jt4]); first | omega | (simp (disch := omega) only [jst_eq, jst_ne, jst_ni, jst_o, jI_i, jcpy_out, w32_id, jdiv_nn, jshr_k, jand_255] <;> first | done | omega | assumption)) | (intros; simp (disch := omega) only [jst_eq, jst_ne, jst_ni, jst_o, jI_i, jcpy_out, w32_id, jdiv_nn, *] <;> first | done | omega) | (intros; simp (disch := omega) only [jst_eq, jst_ne, jst_ni, jst_o, jI_i, jcpy_out, w32_id, jdiv_nn] at * <;> first | done | omega | assumption) | (intros; first | rfl | (exfalso; omega) | ((repeat' apply And.intro) <;> first | assumption | rfl | omega | trivial))) -- o7 e1
theorem wtR_ {F : Int → AH → Option (Int)} (a1 : Int) {h : AH} {N w : Int} {wA : Int → Int} {R : TR} (hF : ∀ w', w = w' + 1 → CWR F h N wA w') (ow : OW h N wA) (W : ∀ a, 26 ≤ a → 0 ≤ wA a) (q : resM h R a1 0 ∧ acR N R ∧ wtR wA R ≤ w ∧ w ≤ 5000 ∧ N ≤ 36) : OK (gX14_weight_ F a1 h) (fun v => v = wtR wA R) := by
  have rk := resM_k q.1
  have ri := wl_inf q.1
  have ra := ac_inf q.2.1
  have w0 := wtR_0 W R
  have kn : nk R ≠ 0 → wtR wA R - lwI wA (inf R) ≤ w - 1 := fun n => by { have := ac_nk q.2.1 n; have l1 : 1 ≤ lwI wA (inf R) := (by { unfold lwI; by_cases a : (inf R).1 = 2; { rw [if_pos a]; by_cases b : 26 ≤ (inf R).2.1; { rw [if_pos b]; have := W _ b; omega }; { rw [if_neg b]; omega } }; { rw [if_neg a, if_pos (by omega)]; omega } }); omega }
  unfold gX14_weight_
  refine OK_jg (by (first | assumption | omega | ((try dsimp only [jt2, jt3, jt4]); first | omega | (simp (disch := omega) only [jst_eq, jst_ne, jst_ni, jst_o, jI_i, jcpy_out, w32_id, jdiv_nn, jshr_k, jand_255] <;> first | done | omega | assumption)) | (intros; simp (disch := omega) only [jst_eq, jst_ne, jst_ni, jst_o, jI_i, jcpy_out, w32_id, jdiv_nn, *] <;> first | done | omega) | (intros; simp (disch := omega) only [jst_eq, jst_ne, jst_ni, jst_o, jI_i, jcpy_out, w32_id, jdiv_nn] at * <;> first | done | omega | assumption) | (intros; first | rfl | (exfalso; omega) | ((repeat' apply And.intro) <;> first | assumption | rfl | omega | trivial)))) ?_ -- o1
  refine OK_if (fun c1 => ?_) (fun c1 => ?_)
  · skip
    try simp (disch := omega) only [jst_eq, jst_ne, jst_ni, jI_i, jcmp_lt, jcmp_gt, w32_id, jcpy_out, Sum.elim_inl, Sum.elim_inr, jt2, jt3, jt4, jt5, jt6, jt7, jt8] at c1
    have cs : ((inf R).1 = 2 ∧ h 463 a1 = (inf R).2.1) ∨ ((inf R).1 = 4 ∧ h 463 a1 = -1) := by { rcases (show (inf R).1 = 0 ∨ (inf R).1 = 1 ∨ (inf R).1 = 2 ∨ (inf R).1 = 3 ∨ (inf R).1 = 4 by omega) with y | y | y | y | y; { have := ri.1 y; omega }; { have := ri.2.1 y; omega }; { exact Or.inl ⟨y, (ri.2.2.1 y).2⟩ }; { have := ri.2.2.2.2.1 y; omega }; { exact Or.inr ⟨y, (ri.2.2.2.1 y).2⟩ } }
    refine OK_if (fun c2 => ?_) (fun c2 => ?_)
    · skip
      try simp (disch := omega) only [jst_eq, jst_ne, jst_ni, jI_i, jcmp_lt, jcmp_gt, w32_id, jcpy_out, Sum.elim_inl, Sum.elim_inr, jt2, jt3, jt4, jt5, jt6, jt7, jt8] at c2
      have ca := cs.resolve_right (fun y => by omega)
      have rb := ra ca.1
      obtain ⟨o1, o2, S, sM, sA, sW⟩ := ow (h 463 a1) c2 (by omega)
      have lw : lwI wA (inf R) = 1 + wA (h 463 a1) := by { unfold lwI; rw [if_pos ca.1, if_pos (by omega), ca.2] }
      refine OK_jg (by (first | assumption | omega | ((try dsimp only [jt2, jt3, jt4]); first | omega | (simp (disch := omega) only [jst_eq, jst_ne, jst_ni, jst_o, jI_i, jcpy_out, w32_id, jdiv_nn, jshr_k, jand_255] <;> first | done | omega | assumption)) | (intros; simp (disch := omega) only [jst_eq, jst_ne, jst_ni, jst_o, jI_i, jcpy_out, w32_id, jdiv_nn, *] <;> first | done | omega) | (intros; simp (disch := omega) only [jst_eq, jst_ne, jst_ni, jst_o, jI_i, jcpy_out, w32_id, jdiv_nn] at * <;> first | done | omega | assumption) | (intros; first | rfl | (exfalso; omega) | ((repeat' apply And.intro) <;> first | assumption | rfl | omega | trivial)))) ?_ -- o2
      refine OK_jb (hF (w - 1) (by omega) _ S (by exact sM) (by exact sA) (by omega)) (fun v4 r1 => ?_)
      try dsimp only [Sum.elim_inl, Sum.elim_inr, jt2, jt3, jt4, jt5, jt6, jt7, jt8] at r1
      have wv1 := r1
      clear r1
      try simp (disch := omega) only [jst_eq, jst_ne, jst_ni, jI_i, jcmp_lt, jcmp_gt, w32_id, jcpy_out, Sum.elim_inl, Sum.elim_inr, jt2, jt3, jt4, jt5, jt6, jt7, jt8] at wv1
      refine OK_mono (wj46R (N := N) (w := w - 1) (wA := wA) (R := R) _ _ (by (first | assumption | omega | ((try dsimp only [jt2, jt3, jt4]); first | omega | (simp (disch := omega) only [jst_eq, jst_ne, jst_ni, jst_o, jI_i, jcpy_out, w32_id, jdiv_nn, jshr_k, jand_255] <;> first | done | omega | assumption)) | (intros; simp (disch := omega) only [jst_eq, jst_ne, jst_ni, jst_o, jI_i, jcpy_out, w32_id, jdiv_nn, *] <;> first | done | omega) | (intros; simp (disch := omega) only [jst_eq, jst_ne, jst_ni, jst_o, jI_i, jcpy_out, w32_id, jdiv_nn] at * <;> first | done | omega | assumption) | (intros; first | rfl | (exfalso; omega) | ((repeat' apply And.intro) <;> first | assumption | rfl | omega | trivial)))) (by (first | assumption | omega | ((try dsimp only [jt2, jt3, jt4]); first | omega | (simp (disch := omega) only [jst_eq, jst_ne, jst_ni, jst_o, jI_i, jcpy_out, w32_id, jdiv_nn, jshr_k, jand_255] <;> first | done | omega | assumption)) | (intros; simp (disch := omega) only [jst_eq, jst_ne, jst_ni, jst_o, jI_i, jcpy_out, w32_id, jdiv_nn, *] <;> first | done | omega) | (intros; simp (disch := omega) only [jst_eq, jst_ne, jst_ni, jst_o, jI_i, jcpy_out, w32_id, jdiv_nn] at * <;> first | done | omega | assumption) | (intros; first | rfl | (exfalso; omega) | ((repeat' apply And.intro) <;> first | assumption | rfl | omega | trivial)))) (by exact ⟨q.1, q.2.1, kn, by omega⟩) (by (rw [lw, wv1, sW]; (try simp (disch := omega) only [jst_eq, jst_ne, jst_ni, jI_i, jcmp_lt, jcmp_gt, w32_id, jcpy_out, Sum.elim_inl, Sum.elim_inr, jt2, jt3, jt4, jt5, jt6, jt7, jt8])))) (fun r r2 => ?_)
      try dsimp only [Sum.elim_inl, Sum.elim_inr, jt2, jt3, jt4, jt5, jt6, jt7, jt8] at r2
      have wv2 := r2
      clear r2
      try simp (disch := omega) only [jst_eq, jst_ne, jst_ni, jI_i, jcmp_lt, jcmp_gt, w32_id, jcpy_out, Sum.elim_inl, Sum.elim_inr, jt2, jt3, jt4, jt5, jt6, jt7, jt8] at wv2
      try dsimp only [Sum.elim_inl, Sum.elim_inr, jt2, jt3, jt4, jt5, jt6, jt7, jt8]
      (first | assumption | omega | ((try dsimp only [jt2, jt3, jt4]); first | omega | (simp (disch := omega) only [jst_eq, jst_ne, jst_ni, jst_o, jI_i, jcpy_out, w32_id, jdiv_nn, jshr_k, jand_255] <;> first | done | omega | assumption)) | (intros; simp (disch := omega) only [jst_eq, jst_ne, jst_ni, jst_o, jI_i, jcpy_out, w32_id, jdiv_nn, *] <;> first | done | omega) | (intros; simp (disch := omega) only [jst_eq, jst_ne, jst_ni, jst_o, jI_i, jcpy_out, w32_id, jdiv_nn] at * <;> first | done | omega | assumption) | (intros; first | rfl | (exfalso; omega) | ((repeat' apply And.intro) <;> first | assumption | rfl | omega | trivial))) -- o10 e1
    · skip
      try simp (disch := omega) only [jst_eq, jst_ne, jst_ni, jI_i, jcmp_lt, jcmp_gt, w32_id, jcpy_out, Sum.elim_inl, Sum.elim_inr, jt2, jt3, jt4, jt5, jt6, jt7, jt8] at c2
      refine OK_mono (wj46R (N := N) (w := w - 1) (wA := wA) (R := R) _ _ (by (first | assumption | omega | ((try dsimp only [jt2, jt3, jt4]); first | omega | (simp (disch := omega) only [jst_eq, jst_ne, jst_ni, jst_o, jI_i, jcpy_out, w32_id, jdiv_nn, jshr_k, jand_255] <;> first | done | omega | assumption)) | (intros; simp (disch := omega) only [jst_eq, jst_ne, jst_ni, jst_o, jI_i, jcpy_out, w32_id, jdiv_nn, *] <;> first | done | omega) | (intros; simp (disch := omega) only [jst_eq, jst_ne, jst_ni, jst_o, jI_i, jcpy_out, w32_id, jdiv_nn] at * <;> first | done | omega | assumption) | (intros; first | rfl | (exfalso; omega) | ((repeat' apply And.intro) <;> first | assumption | rfl | omega | trivial)))) (by (first | assumption | omega | ((try dsimp only [jt2, jt3, jt4]); first | omega | (simp (disch := omega) only [jst_eq, jst_ne, jst_ni, jst_o, jI_i, jcpy_out, w32_id, jdiv_nn, jshr_k, jand_255] <;> first | done | omega | assumption)) | (intros; simp (disch := omega) only [jst_eq, jst_ne, jst_ni, jst_o, jI_i, jcpy_out, w32_id, jdiv_nn, *] <;> first | done | omega) | (intros; simp (disch := omega) only [jst_eq, jst_ne, jst_ni, jst_o, jI_i, jcpy_out, w32_id, jdiv_nn] at * <;> first | done | omega | assumption) | (intros; first | rfl | (exfalso; omega) | ((repeat' apply And.intro) <;> first | assumption | rfl | omega | trivial)))) (by exact ⟨q.1, q.2.1, kn, by omega⟩) (by (unfold lwI; rcases cs with y | y; { rw [if_pos y.1, if_neg (by omega)]; rfl }; { rw [if_neg (by omega), if_pos y.1] }))) (fun r r3 => ?_)
      try dsimp only [Sum.elim_inl, Sum.elim_inr, jt2, jt3, jt4, jt5, jt6, jt7, jt8] at r3
      have wv3 := r3
      clear r3
      try simp (disch := omega) only [jst_eq, jst_ne, jst_ni, jI_i, jcmp_lt, jcmp_gt, w32_id, jcpy_out, Sum.elim_inl, Sum.elim_inr, jt2, jt3, jt4, jt5, jt6, jt7, jt8] at wv3
      try dsimp only [Sum.elim_inl, Sum.elim_inr, jt2, jt3, jt4, jt5, jt6, jt7, jt8]
      (first | assumption | omega | ((try dsimp only [jt2, jt3, jt4]); first | omega | (simp (disch := omega) only [jst_eq, jst_ne, jst_ni, jst_o, jI_i, jcpy_out, w32_id, jdiv_nn, jshr_k, jand_255] <;> first | done | omega | assumption)) | (intros; simp (disch := omega) only [jst_eq, jst_ne, jst_ni, jst_o, jI_i, jcpy_out, w32_id, jdiv_nn, *] <;> first | done | omega) | (intros; simp (disch := omega) only [jst_eq, jst_ne, jst_ni, jst_o, jI_i, jcpy_out, w32_id, jdiv_nn] at * <;> first | done | omega | assumption) | (intros; first | rfl | (exfalso; omega) | ((repeat' apply And.intro) <;> first | assumption | rfl | omega | trivial))) -- o15 e2
  · skip
    try simp (disch := omega) only [jst_eq, jst_ne, jst_ni, jI_i, jcmp_lt, jcmp_gt, w32_id, jcpy_out, Sum.elim_inl, Sum.elim_inr, jt2, jt3, jt4, jt5, jt6, jt7, jt8] at c1
    refine OK_mono (wj46R (N := N) (w := w - 1) (wA := wA) (R := R) _ _ (by (first | assumption | omega | ((try dsimp only [jt2, jt3, jt4]); first | omega | (simp (disch := omega) only [jst_eq, jst_ne, jst_ni, jst_o, jI_i, jcpy_out, w32_id, jdiv_nn, jshr_k, jand_255] <;> first | done | omega | assumption)) | (intros; simp (disch := omega) only [jst_eq, jst_ne, jst_ni, jst_o, jI_i, jcpy_out, w32_id, jdiv_nn, *] <;> first | done | omega) | (intros; simp (disch := omega) only [jst_eq, jst_ne, jst_ni, jst_o, jI_i, jcpy_out, w32_id, jdiv_nn] at * <;> first | done | omega | assumption) | (intros; first | rfl | (exfalso; omega) | ((repeat' apply And.intro) <;> first | assumption | rfl | omega | trivial)))) (by (first | assumption | omega | ((try dsimp only [jt2, jt3, jt4]); first | omega | (simp (disch := omega) only [jst_eq, jst_ne, jst_ni, jst_o, jI_i, jcpy_out, w32_id, jdiv_nn, jshr_k, jand_255] <;> first | done | omega | assumption)) | (intros; simp (disch := omega) only [jst_eq, jst_ne, jst_ni, jst_o, jI_i, jcpy_out, w32_id, jdiv_nn, *] <;> first | done | omega) | (intros; simp (disch := omega) only [jst_eq, jst_ne, jst_ni, jst_o, jI_i, jcpy_out, w32_id, jdiv_nn] at * <;> first | done | omega | assumption) | (intros; first | rfl | (exfalso; omega) | ((repeat' apply And.intro) <;> first | assumption | rfl | omega | trivial)))) (by exact ⟨q.1, q.2.1, kn, by omega⟩) (by (unfold lwI; rw [if_neg (fun y => c1 (ri.2.2.1 y).1), if_neg (fun y => c1 (ri.2.2.2.1 y).1)]))) (fun r r4 => ?_)
    try dsimp only [Sum.elim_inl, Sum.elim_inr, jt2, jt3, jt4, jt5, jt6, jt7, jt8] at r4
    have wv4 := r4
    clear r4
    try simp (disch := omega) only [jst_eq, jst_ne, jst_ni, jI_i, jcmp_lt, jcmp_gt, w32_id, jcpy_out, Sum.elim_inl, Sum.elim_inr, jt2, jt3, jt4, jt5, jt6, jt7, jt8] at wv4
    try dsimp only [Sum.elim_inl, Sum.elim_inr, jt2, jt3, jt4, jt5, jt6, jt7, jt8]
    (first | assumption | omega | ((try dsimp only [jt2, jt3, jt4]); first | omega | (simp (disch := omega) only [jst_eq, jst_ne, jst_ni, jst_o, jI_i, jcpy_out, w32_id, jdiv_nn, jshr_k, jand_255] <;> first | done | omega | assumption)) | (intros; simp (disch := omega) only [jst_eq, jst_ne, jst_ni, jst_o, jI_i, jcpy_out, w32_id, jdiv_nn, *] <;> first | done | omega) | (intros; simp (disch := omega) only [jst_eq, jst_ne, jst_ni, jst_o, jI_i, jcpy_out, w32_id, jdiv_nn] at * <;> first | done | omega | assumption) | (intros; first | rfl | (exfalso; omega) | ((repeat' apply And.intro) <;> first | assumption | rfl | omega | trivial))) -- o20 e3
theorem CWR_D {h : AH} {N : Int} {wA : Int → Int} (ow : OW h N wA) (W : ∀ a, 26 ≤ a → 0 ≤ wA a) (hN : N ≤ 36) : ∀ (D : Nat) (w : Int), w < D → w ≤ 5000 → CWR (gX14_weightD D) h N wA w
  | 0, w, l, _ => fun d R q a b => by have := (wtR_0 W R).1; omega
  | D + 1, w, l, l2 => fun d R q a b => OK_mono (wtR_ d (w := w) (fun w' hw => CWR_D ow W hN D w' (by omega) (by omega)) ow W ⟨q, a, b, l2, hN⟩) (fun r z => z)

