/-! m: weights of terms as they are read, when their acts are known -/
def ndS (h : AH) (d : Int) (i : NI) : Prop := (i.1 = 0 → h 460 d = 0) ∧ (i.1 = 1 → h 460 d = 1) ∧ (i.1 = 2 → h 460 d = 2) ∧ (i.1 = 3 → h 460 d = 3)
/-- the build of a term that is read -/
def rawS (h : AH) : TR → Int → Int → Int → Int → Prop
  | .leaf i, d, j, _, pv => ndS h d i ∧ h 465 d = j ∧ h 466 d = pv
  | .branch _ s r, d, j, p, pv => (j < 3 → h 464 (3 * d + j) = p) ∧ rawS h s p 0 (p + 1) (-1) ∧ (3 ≤ j → h 467 p = pv) ∧ rawS h r d (j + 1) (p + sz s) (if j < 3 then pv else p)
theorem rawM_S {h : AH} : ∀ {t : TR} {d j p pv : Int}, rawM h t d j p pv → rawS h t d j p pv
  | .leaf i, d, j, p, pv, q => ⟨⟨fun z => (q.1.1 z).1, fun z => (q.1.2.1 z).1, fun z => (q.1.2.2.1 z).1, fun z => (q.1.2.2.2.1 z).1⟩, q.2.1, q.2.2⟩
  | .branch b s r, d, j, p, pv, q => ⟨q.1, rawM_S q.2.1, q.2.2.1, rawM_S q.2.2.2⟩
theorem rawS_fr {h h' : AH} (f0 : ∀ s, h' 460 s = h 460 s) (f4 : ∀ s, h' 464 s = h 464 s) (f5 : ∀ s, h' 465 s = h 465 s) (f6 : ∀ s, h' 466 s = h 466 s) (f7 : ∀ s, h' 467 s = h 467 s) : ∀ {t : TR} {d j p pv : Int}, rawS h t d j p pv → rawS h' t d j p pv
  | .leaf i, d, j, p, pv, q => ⟨by unfold ndS; rw [f0]; exact q.1, by rw [f5]; exact q.2.1, by rw [f6]; exact q.2.2⟩
  | .branch b s r, d, j, p, pv, q => ⟨by rw [f4]; exact q.1, rawS_fr f0 f4 f5 f6 f7 q.2.1, by rw [f7]; exact q.2.2.1, rawS_fr f0 f4 f5 f6 f7 q.2.2.2⟩
def actT (h : AH) (E : EV) : TR → Int → Int → Prop
  | .leaf i, d, _ => i.1 = 2 → h 463 d = (if eRs E i.2.2.1 = -2 then -1 else eRs E i.2.2.1)
  | .branch _ s r, d, p => actT h E s p (p + 1) ∧ actT h E r d (p + sz s)
def dpT : TR → Int
  | .leaf _ => 0
  | .branch _ s r => max (dpT s + 1) (dpT r)
/-- only calls have operands; sorts are 0 .. 3 -/
def kcT : TR → Prop
  | .leaf i => 0 ≤ i.1 ∧ i.1 ≤ 3
  | .branch _ s r => (inf r).1 = 2 ∧ kcT s ∧ kcT r
theorem dpT_0 : ∀ t : TR, 0 ≤ dpT t
  | .leaf _ => Int.le_refl _
  | .branch _ s r => by have := dpT_0 s; have := dpT_0 r; show 0 ≤ max (dpT s + 1) (dpT r); omega
def exL : TR → Int → List (Int × TR)
  | .leaf _, _ => []
  | .branch _ s r, p => (p, s) :: exL r (p + sz s)
def okC (h : AH) (E : EV) (k : Int) (x : Int × TR) : Prop := rawS h x.2 x.1 0 (x.1 + 1) (-1) ∧ actT h E x.2 x.1 (x.1 + 1) ∧ kcT x.2 ∧ 0 ≤ x.1 ∧ x.1 + sz x.2 ≤ 8800 ∧ sz x.2 ≤ 1100 ∧ dpT x.2 ≤ k
def chn (h : AH) (E : EV) (k : Int) : Int → List (Int × TR) → Prop
  | x, [] => x = -1
  | x, y :: L => x = y.1 ∧ okC h E k y ∧ h 467 x < x ∧ chn h E k (h 467 x) L
def sumW (E : EV) : List (Int × TR) → Int
  | [] => 0
  | y :: L => wtE E y.2 + sumW E L
theorem sumW_app (E : EV) : ∀ (L M : List (Int × TR)), sumW E (L ++ M) = sumW E L + sumW E M
  | [], M => by show sumW E M = 0 + sumW E M; omega
  | y :: L, M => by show wtE E y.2 + sumW E (L ++ M) = wtE E y.2 + sumW E L + sumW E M; rw [sumW_app E L]; omega
theorem sumW_rev (E : EV) : ∀ L : List (Int × TR), sumW E L.reverse = sumW E L
  | [] => rfl
  | y :: L => by
    rw [List.reverse_cons, sumW_app, sumW_rev E L]
    show sumW E L + (wtE E y.2 + 0) = wtE E y.2 + sumW E L
    omega
def lwE (E : EV) (i : NI) : Int := if i.1 = 2 then 1 + eW E (eRs E i.2.2.1) else 0
theorem sumW_ex (E : EV) : ∀ (r : TR) (p : Int), wtE E r = sumW E (exL r p) + lwE E (inf r)
  | .leaf i, p => by show lwE E i = 0 + lwE E i; omega
  | .branch _ s r, p => by
    have := sumW_ex E r (p + sz s)
    show wtE E s + wtE E r = wtE E s + sumW E (exL r (p + sz s)) + lwE E (inf r)
    omega
theorem chn_ex {h : AH} {E : EV} {k d : Int} : ∀ {r : TR} {j p pv : Int} {L : List (Int × TR)}, 3 ≤ j → rawS h r d j p pv → actT h E r d p → kcT r → 0 ≤ p → p + (sz r - 1) ≤ 8800 → sz r ≤ 1101 → dpT r ≤ k + 1 → pv < p → chn h E k pv L → chn h E k (h 466 d) ((exL r p).reverse ++ L)
  | .leaf i, j, p, pv, L, hj, a, _, _, _, _, _, _, _, c => by rw [a.2.2]; exact c
  | .branch b s r, j, p, pv, L, hj, a, b2, kc, p0, p1, z, dp, pp, c => by
    have z1 := sz_pos s
    have z2 := sz_pos r
    have e : sz (.branch b s r) = sz s + sz r := rfl
    have ed : dpT (.branch b s r) = max (dpT s + 1) (dpT r) := rfl
    rw [e] at p1 z
    rw [ed] at dp
    obtain ⟨a1, a2, a3, a4⟩ := a
    rw [if_neg (by omega)] at a4
    have ih := chn_ex (h := h) (E := E) (k := k) (d := d) (r := r) (j := j + 1) (p := p + sz s) (pv := p) (L := (p, s) :: L) (by omega) a4 b2.2 kc.2.2 (by omega) (by omega) (by omega) (by omega) (by omega) ⟨rfl, ⟨a2, b2.1, kc.2.1, p0, by show p + sz s ≤ 8800; omega, by show sz s ≤ 1100; omega, by show dpT s ≤ k; omega⟩, by rw [a3 hj]; exact pp, by rw [a3 hj]; exact c⟩
    show chn h E k (h 466 d) (((p, s) :: exL r (p + sz s)).reverse ++ L)
    rw [List.reverse_cons, List.append_assoc]
    exact ih
theorem rawS_k {h : AH} : ∀ {r : TR} {d j p pv : Int}, rawS h r d j p pv → h 465 d = j + nk r ∧ ndS h d (inf r)
  | .leaf i, d, j, p, pv, q => ⟨by rw [q.2.1]; show j = j + 0; omega, q.1⟩
  | .branch b s r, d, j, p, pv, q => by
    have := rawS_k (r := r) q.2.2.2
    exact ⟨by rw [this.1]; show j + 1 + nk r = j + (nk r + 1); omega, this.2⟩
theorem actT_k {h : AH} {E : EV} : ∀ {r : TR} {d p : Int}, actT h E r d p → (inf r).1 = 2 → h 463 d = (if eRs E (inf r).2.2.1 = -2 then -1 else eRs E (inf r).2.2.1)
  | .leaf i, d, p, q => q
  | .branch b s r, d, p, q => actT_k (r := r) q.2
theorem kcT_k : ∀ {r : TR}, kcT r → 0 ≤ (inf r).1 ∧ (inf r).1 ≤ 3
  | .leaf i, q => q
  | .branch b s r, q => kcT_k (r := r) q.2.2
theorem TR_br {r : TR} (n : nk r ≠ 0) : ∃ b s r', r = .branch b s r' := by
  cases r with
  | leaf i => exact absurd rfl n
  | branch b s r' => exact ⟨b, s, r', rfl⟩
def CWT (F : Int → AH → Option Int) (h : AH) (E : EV) (k : Int) : Prop := ∀ (d : Int) (T : TR), okC h E k (d, T) → OK (F d h) (fun v => v = wtE E T)
theorem wl49T {F : Int → AH → Option (Int)} (i1 : Int) (a20 : Int) (a30 : Int) {h : AH} {E : EV} {T : TR} {k : Int} (hF : CWT F h E k) (W : ∀ w, 0 ≤ eW E (eRs E w) ∧ eW E (eRs E w) ≤ 40) (q : okC h E (k + 1) (i1, T)) (z : a30 = 0 ∧ a20 = lwE E (inf T)) : OK (gX14_weight_l49 F i1 a20 a30 h) (fun v => ∃ (r : TR) (j p : Int), rawS h r i1 j p (-1) ∧ actT h E r i1 p ∧ kcT r ∧ inf r = inf T ∧ v + wtE E r = wtE E T + lwE E (inf T) ∧ 0 ≤ v ∧ i1 < p ∧ p + (sz r - 1) = i1 + sz T ∧ dpT r ≤ k + 1 ∧ (nk r = 0 ∨ j = 3)) := by
  unfold gX14_weight_l49
  refine OK_jit (I := (fun (s : Int × Int) => jt2 s fun a2 a3 => ∃ (r : TR) (p : Int), rawS h r i1 a3 p (-1) ∧ actT h E r i1 p ∧ kcT r ∧ inf r = inf T ∧ a2 + wtE E r = wtE E T + lwE E (inf T) ∧ 0 ≤ a2 ∧ 0 ≤ a3 ∧ a3 ≤ 3 ∧ i1 < p ∧ p + (sz r - 1) = i1 + sz T ∧ dpT r ≤ k + 1)) (m := (fun (s : Int × Int) => jt2 s fun a2 a3 => (3 - a3).toNat)) ?_ ?_
  · intro s hs
    obtain ⟨a2, a3⟩ := s
    dsimp only [Sum.elim_inl, Sum.elim_inr, jt2, jt3, jt4, jt5, jt6, jt7, jt8] at hs
    have q0 := hs; clear hs
    unfold gX14_weight_b49
    refine OK_jt2 ?_
    obtain ⟨r, p, r1, r2, r3, r4, r5, r6, r7, r8, r9, r10, r11⟩ := q0
    have rk := rawS_k r1
    have q1 : 0 ≤ i1 ∧ i1 + sz T ≤ 8800 ∧ sz T ≤ 1100 := ⟨q.2.2.2.1, q.2.2.2.2.1, q.2.2.2.2.2.1⟩
    have zr := sz_pos r
    have zT := sz_pos T
    have w0 := wtE_r W r
    have wT := wtE_r W T
    have lw0 : 0 ≤ lwE E (inf T) ∧ lwE E (inf T) ≤ 41 := by { unfold lwE; by_cases a : (inf T).1 = 2; { rw [if_pos a]; have := W (inf T).2.2.1; omega }; { rw [if_neg a]; omega } }
    refine OK_jg (by (first | assumption | omega | ((try dsimp only [jt2, jt3, jt4]); first | omega | (simp (disch := omega) only [jst_eq, jst_ne, jst_ni, jst_o, jI_i, jcpy_out, w32_id, jdiv_nn, jshr_k, jand_255] <;> first | done | omega | assumption)) | (intros; simp (disch := omega) only [jst_eq, jst_ne, jst_ni, jst_o, jI_i, jcpy_out, w32_id, jdiv_nn, *] <;> first | done | omega) | (intros; simp (disch := omega) only [jst_eq, jst_ne, jst_ni, jst_o, jI_i, jcpy_out, w32_id, jdiv_nn] at * <;> first | done | omega | assumption) | (intros; first | rfl | (exfalso; omega) | ((repeat' apply And.intro) <;> first | assumption | rfl | omega | trivial)))) ?_ -- o1
    refine OK_if (fun c1 => ?_) (fun c1 => ?_)
    · skip
      try simp (disch := omega) only [jst_eq, jst_ne, jst_ni, jI_i, jcmp_lt, jcmp_gt, w32_id, jcpy_out, Sum.elim_inl, Sum.elim_inr, jt2, jt3, jt4, jt5, jt6, jt7, jt8] at c1
      refine OK_ir ?_
      (have n0 := nk_0 r; exact ⟨r, a3, p, r1, r2, r3, r4, r5, r6, r9, r10, r11, Or.inl (by omega)⟩) -- o2 e1
    · skip
      try simp (disch := omega) only [jst_eq, jst_ne, jst_ni, jI_i, jcmp_lt, jcmp_gt, w32_id, jcpy_out, Sum.elim_inl, Sum.elim_inr, jt2, jt3, jt4, jt5, jt6, jt7, jt8] at c1
      refine OK_if (fun c2 => ?_) (fun c2 => ?_)
      · skip
        try simp (disch := omega) only [jst_eq, jst_ne, jst_ni, jI_i, jcmp_lt, jcmp_gt, w32_id, jcpy_out, Sum.elim_inl, Sum.elim_inr, jt2, jt3, jt4, jt5, jt6, jt7, jt8] at c2
        refine OK_ir ?_
        exact ⟨r, a3, p, r1, r2, r3, r4, r5, r6, r9, r10, r11, Or.inr (by omega)⟩ -- o3 e2
      · skip
        try simp (disch := omega) only [jst_eq, jst_ne, jst_ni, jI_i, jcmp_lt, jcmp_gt, w32_id, jcpy_out, Sum.elim_inl, Sum.elim_inr, jt2, jt3, jt4, jt5, jt6, jt7, jt8] at c2
        obtain ⟨b, s, r', rfl⟩ := TR_br (r := r) (by have := rk.1; omega)
        have we : wtE E (.branch b s r') = wtE E s + wtE E r' := rfl
        have se : sz (.branch b s r') = sz s + sz r' := rfl
        have de : dpT (.branch b s r') = max (dpT s + 1) (dpT r') := rfl
        have ie : inf (.branch b s r') = inf r' := rfl
        obtain ⟨x1, x2, x3, x4⟩ := r1
        have zs := sz_pos s
        have zr' := sz_pos r'
        have ws := wtE_r W s
        have wr := wtE_r W r'
        rw [if_pos (by omega)] at x4
        have x1' := x1 (by omega)
        have i64 : w32 (w32 (3 * i1) + a3) = 3 * i1 + a3 := by { rw [w32_id (x := 3 * i1) (by omega) (by omega), w32_id (by omega) (by omega)] }
        refine OK_jg (by (first | assumption | omega | ((try dsimp only [jt2, jt3, jt4]); first | omega | (simp (disch := omega) only [jst_eq, jst_ne, jst_ni, jst_o, jI_i, jcpy_out, w32_id, jdiv_nn, jshr_k, jand_255] <;> first | done | omega | assumption)) | (intros; simp (disch := omega) only [jst_eq, jst_ne, jst_ni, jst_o, jI_i, jcpy_out, w32_id, jdiv_nn, *] <;> first | done | omega) | (intros; simp (disch := omega) only [jst_eq, jst_ne, jst_ni, jst_o, jI_i, jcpy_out, w32_id, jdiv_nn] at * <;> first | done | omega | assumption) | (intros; first | rfl | (exfalso; omega) | ((repeat' apply And.intro) <;> first | assumption | rfl | omega | trivial)))) ?_ -- o4
        refine OK_jb (hF _ s (by (rw [i64, x1']; exact ⟨x2, r2.1, r3.2.1, by show 0 ≤ p; omega, by show p + sz s ≤ 8800; omega, by show sz s ≤ 1100; omega, by show dpT s ≤ k; omega⟩))) (fun v18 r1 => ?_)
        try dsimp only [Sum.elim_inl, Sum.elim_inr, jt2, jt3, jt4, jt5, jt6, jt7, jt8] at r1
        have wv1 := r1
        clear r1
        try simp (disch := omega) only [jst_eq, jst_ne, jst_ni, jI_i, jcmp_lt, jcmp_gt, w32_id, jcpy_out, Sum.elim_inl, Sum.elim_inr, jt2, jt3, jt4, jt5, jt6, jt7, jt8] at wv1
        refine OK_jlx (fun x19 ex19 => ?_)
        try simp (disch := omega) only [jst_eq, jst_ne, jst_ni, jI_i, jcmp_lt, jcmp_gt, w32_id, jcpy_out, Sum.elim_inl, Sum.elim_inr, jt2, jt3, jt4, jt5, jt6, jt7, jt8] at ex19
        refine OK_jlx (fun x20 ex20 => ?_)
        try simp (disch := omega) only [jst_eq, jst_ne, jst_ni, jI_i, jcmp_lt, jcmp_gt, w32_id, jcpy_out, Sum.elim_inl, Sum.elim_inr, jt2, jt3, jt4, jt5, jt6, jt7, jt8] at ex20
        have ee : x20 = a3 + 1 ∧ x19 = a2 + wtE E s := ⟨by omega, by omega⟩
        refine OK_il ?_ ?_
        · (show ∃ (r : TR) (p : Int), rawS h r i1 x20 p (-1) ∧ actT h E r i1 p ∧ kcT r ∧ inf r = inf T ∧ x19 + wtE E r = wtE E T + lwE E (inf T) ∧ 0 ≤ x19 ∧ 0 ≤ x20 ∧ x20 ≤ 3 ∧ i1 < p ∧ p + (sz r - 1) = i1 + sz T ∧ dpT r ≤ k + 1; rw [ee.1, ee.2]; exact ⟨r', p + sz s, x4, r2.2, r3.2.2, by rw [← ie]; exact r4, by omega, by omega, by omega, by omega, by omega, by omega, by omega⟩) -- o6 e3i
        · (first | assumption | omega | ((try dsimp only [jt2, jt3, jt4]); first | omega | (simp (disch := omega) only [jst_eq, jst_ne, jst_ni, jst_o, jI_i, jcpy_out, w32_id, jdiv_nn, jshr_k, jand_255] <;> first | done | omega | assumption)) | (intros; simp (disch := omega) only [jst_eq, jst_ne, jst_ni, jst_o, jI_i, jcpy_out, w32_id, jdiv_nn, *] <;> first | done | omega) | (intros; simp (disch := omega) only [jst_eq, jst_ne, jst_ni, jst_o, jI_i, jcpy_out, w32_id, jdiv_nn] at * <;> first | done | omega | assumption) | (intros; first | rfl | (exfalso; omega) | ((repeat' apply And.intro) <;> first | assumption | rfl | omega | trivial))) -- o7 e3m
  · (show ∃ (r : TR) (p : Int), rawS h r i1 a30 p (-1) ∧ actT h E r i1 p ∧ kcT r ∧ inf r = inf T ∧ a20 + wtE E r = wtE E T + lwE E (inf T) ∧ 0 ≤ a20 ∧ 0 ≤ a30 ∧ a30 ≤ 3 ∧ i1 < p ∧ p + (sz r - 1) = i1 + sz T ∧ dpT r ≤ k + 1; rw [z.1, z.2]; have lw0 : 0 ≤ lwE E (inf T) := (by { unfold lwE; by_cases a : (inf T).1 = 2; { rw [if_pos a]; have := W (inf T).2.2.1; omega }; { rw [if_neg a]; omega } }); exact ⟨T, i1 + 1, q.1, q.2.1, q.2.2.1, rfl, by omega, by omega, by omega, by omega, by omega, by omega, q.2.2.2.2.2.2⟩) -- o8 init
theorem sumW_0 {E : EV} (W : ∀ w, 0 ≤ eW E (eRs E w) ∧ eW E (eRs E w) ≤ 40) : ∀ L : List (Int × TR), 0 ≤ sumW E L
  | [] => Int.le_refl _
  | y :: L => by have := (wtE_r W y.2).1; have := sumW_0 W L; show 0 ≤ wtE E y.2 + sumW E L; omega
theorem chn_c {h : AH} {E : EV} {k x : Int} {L : List (Int × TR)} (c : chn h E k x L) (n : ¬ x < 0) : ∃ y M, L = y :: M ∧ x = y.1 ∧ okC h E k y ∧ h 467 x < x ∧ chn h E k (h 467 x) M := by
  cases L with
  | nil => have : x = -1 := c; omega
  | cons y M => exact ⟨y, M, rfl, c⟩
theorem chn_n {h : AH} {E : EV} {k x : Int} {L : List (Int × TR)} (c : chn h E k x L) (n : x < 0) : L = [] := by
  cases L with
  | nil => rfl
  | cons y M => have := c.1; have := c.2.1.2.2.2.1; omega
theorem chn_m {h : AH} {E : EV} {k x : Int} {L : List (Int × TR)} (c : chn h E k x L) : -1 ≤ x := by
  cases L with
  | nil => have : x = -1 := c; omega
  | cons y M => have := c.1; have := c.2.1.2.2.2.1; omega
theorem wl100T {F : Int → AH → Option (Int)} (a20 : Int) (a30 : Int) {h : AH} {E : EV} {k : Int} {L0 : List (Int × TR)} (hF : CWT F h E k) (W : ∀ w, 0 ≤ eW E (eRs E w) ∧ eW E (eRs E w) ≤ 40) (c : chn h E k a30 L0) (b : 0 ≤ a20 ∧ a20 + sumW E L0 ≤ 90000) : OK (gX14_weight_l100 F a20 a30 h) (fun v => v = a20 + sumW E L0) := by
  unfold gX14_weight_l100
  refine OK_jit (I := (fun (s : Int × Int) => jt2 s fun a2 a3 => ∃ L : List (Int × TR), chn h E k a3 L ∧ a2 + sumW E L = a20 + sumW E L0 ∧ 0 ≤ a2)) (m := (fun (s : Int × Int) => jt2 s fun a2 a3 => (a3 + 1).toNat)) ?_ ?_
  · intro s hs
    obtain ⟨a2, a3⟩ := s
    dsimp only [Sum.elim_inl, Sum.elim_inr, jt2, jt3, jt4, jt5, jt6, jt7, jt8] at hs
    have q0 := hs; clear hs
    unfold gX14_weight_b100
    refine OK_jt2 ?_
    obtain ⟨L, l1, l2, l3⟩ := q0
    have s0 := sumW_0 W L
    have cm := chn_m l1
    refine OK_if (fun c1 => ?_) (fun c1 => ?_)
    · skip
      try simp (disch := omega) only [jst_eq, jst_ne, jst_ni, jI_i, jcmp_lt, jcmp_gt, w32_id, jcpy_out, Sum.elim_inl, Sum.elim_inr, jt2, jt3, jt4, jt5, jt6, jt7, jt8] at c1
      have ln := chn_n l1 c1
      refine OK_ir ?_
      (show a2 = a20 + sumW E L0; rw [ln] at l2; have e0 : sumW E [] = 0 := rfl; omega) -- o1 e1
    · skip
      try simp (disch := omega) only [jst_eq, jst_ne, jst_ni, jI_i, jcmp_lt, jcmp_gt, w32_id, jcpy_out, Sum.elim_inl, Sum.elim_inr, jt2, jt3, jt4, jt5, jt6, jt7, jt8] at c1
      obtain ⟨y, M, eL, y1, y2, y3, y4⟩ := chn_c l1 c1
      have wy := wtE_r W y.2
      have sM := sumW_0 W M
      have se : sumW E L = wtE E y.2 + sumW E M := by rw [eL]; rfl
      have y5 := y2.2.2.2.2.1
      have y6 := sz_pos y.2
      have cm2 := chn_m y4
      refine OK_jb (hF _ y.2 (by (rw [y1]; exact y2))) (fun v12 r1 => ?_)
      try dsimp only [Sum.elim_inl, Sum.elim_inr, jt2, jt3, jt4, jt5, jt6, jt7, jt8] at r1
      have wv1 := r1
      clear r1
      try simp (disch := omega) only [jst_eq, jst_ne, jst_ni, jI_i, jcmp_lt, jcmp_gt, w32_id, jcpy_out, Sum.elim_inl, Sum.elim_inr, jt2, jt3, jt4, jt5, jt6, jt7, jt8] at wv1
      refine OK_jlx (fun x13 ex13 => ?_)
      try simp (disch := omega) only [jst_eq, jst_ne, jst_ni, jI_i, jcmp_lt, jcmp_gt, w32_id, jcpy_out, Sum.elim_inl, Sum.elim_inr, jt2, jt3, jt4, jt5, jt6, jt7, jt8] at ex13
      refine OK_jg (by (first | assumption | omega | ((try dsimp only [jt2, jt3, jt4]); first | omega | (simp (disch := omega) only [jst_eq, jst_ne, jst_ni, jst_o, jI_i, jcpy_out, w32_id, jdiv_nn, jshr_k, jand_255] <;> first | done | omega | assumption)) | (intros; simp (disch := omega) only [jst_eq, jst_ne, jst_ni, jst_o, jI_i, jcpy_out, w32_id, jdiv_nn, *] <;> first | done | omega) | (intros; simp (disch := omega) only [jst_eq, jst_ne, jst_ni, jst_o, jI_i, jcpy_out, w32_id, jdiv_nn] at * <;> first | done | omega | assumption) | (intros; first | rfl | (exfalso; omega) | ((repeat' apply And.intro) <;> first | assumption | rfl | omega | trivial)))) ?_ -- o3
      refine OK_jlx (fun x14 ex14 => ?_)
      try simp (disch := omega) only [jst_eq, jst_ne, jst_ni, jI_i, jcmp_lt, jcmp_gt, w32_id, jcpy_out, Sum.elim_inl, Sum.elim_inr, jt2, jt3, jt4, jt5, jt6, jt7, jt8] at ex14
      have ee : x13 = a2 + wtE E y.2 ∧ x14 = h 467 a3 := ⟨by omega, by omega⟩
      refine OK_il ?_ ?_
      · (show ∃ L : List (Int × TR), chn h E k x14 L ∧ x13 + sumW E L = a20 + sumW E L0 ∧ 0 ≤ x13; rw [ee.1, ee.2]; exact ⟨M, y4, by omega, by omega⟩) -- o4 e2i
      · (first | assumption | omega | ((try dsimp only [jt2, jt3, jt4]); first | omega | (simp (disch := omega) only [jst_eq, jst_ne, jst_ni, jst_o, jI_i, jcpy_out, w32_id, jdiv_nn, jshr_k, jand_255] <;> first | done | omega | assumption)) | (intros; simp (disch := omega) only [jst_eq, jst_ne, jst_ni, jst_o, jI_i, jcpy_out, w32_id, jdiv_nn, *] <;> first | done | omega) | (intros; simp (disch := omega) only [jst_eq, jst_ne, jst_ni, jst_o, jI_i, jcpy_out, w32_id, jdiv_nn] at * <;> first | done | omega | assumption) | (intros; first | rfl | (exfalso; omega) | ((repeat' apply And.intro) <;> first | assumption | rfl | omega | trivial))) -- o5 e2m
  · exact ⟨L0, c, rfl, b.1⟩ -- o6 init
theorem wj46T {F : Int → AH → Option (Int)} (a1 : Int) (t0 : Int) {h : AH} {E : EV} {T : TR} {k : Int} (hF : CWT F h E k) (W : ∀ w, 0 ≤ eW E (eRs E w) ∧ eW E (eRs E w) ≤ 40) (q : okC h E (k + 1) (a1, T)) (z : t0 = lwE E (inf T)) : OK (gX14_weight_j46 F a1 t0 h) (fun v => v = wtE E T) := by
  have q1 : 0 ≤ a1 ∧ a1 + sz T ≤ 8800 ∧ sz T ≤ 1100 := ⟨q.2.2.2.1, q.2.2.2.2.1, q.2.2.2.2.2.1⟩
  have zT := sz_pos T
  have wT := wtE_r W T
  unfold gX14_weight_j46
  refine OK_jb (wl49T (E := E) (T := T) (k := k) _ _ _ (by (first | assumption | omega | ((try dsimp only [jt2, jt3, jt4]); first | omega | (simp (disch := omega) only [jst_eq, jst_ne, jst_ni, jst_o, jI_i, jcpy_out, w32_id, jdiv_nn, jshr_k, jand_255] <;> first | done | omega | assumption)) | (intros; simp (disch := omega) only [jst_eq, jst_ne, jst_ni, jst_o, jI_i, jcpy_out, w32_id, jdiv_nn, *] <;> first | done | omega) | (intros; simp (disch := omega) only [jst_eq, jst_ne, jst_ni, jst_o, jI_i, jcpy_out, w32_id, jdiv_nn] at * <;> first | done | omega | assumption) | (intros; first | rfl | (exfalso; omega) | ((repeat' apply And.intro) <;> first | assumption | rfl | omega | trivial)))) (by (first | assumption | omega | ((try dsimp only [jt2, jt3, jt4]); first | omega | (simp (disch := omega) only [jst_eq, jst_ne, jst_ni, jst_o, jI_i, jcpy_out, w32_id, jdiv_nn, jshr_k, jand_255] <;> first | done | omega | assumption)) | (intros; simp (disch := omega) only [jst_eq, jst_ne, jst_ni, jst_o, jI_i, jcpy_out, w32_id, jdiv_nn, *] <;> first | done | omega) | (intros; simp (disch := omega) only [jst_eq, jst_ne, jst_ni, jst_o, jI_i, jcpy_out, w32_id, jdiv_nn] at * <;> first | done | omega | assumption) | (intros; first | rfl | (exfalso; omega) | ((repeat' apply And.intro) <;> first | assumption | rfl | omega | trivial)))) (by (first | assumption | omega | ((try dsimp only [jt2, jt3, jt4]); first | omega | (simp (disch := omega) only [jst_eq, jst_ne, jst_ni, jst_o, jI_i, jcpy_out, w32_id, jdiv_nn, jshr_k, jand_255] <;> first | done | omega | assumption)) | (intros; simp (disch := omega) only [jst_eq, jst_ne, jst_ni, jst_o, jI_i, jcpy_out, w32_id, jdiv_nn, *] <;> first | done | omega) | (intros; simp (disch := omega) only [jst_eq, jst_ne, jst_ni, jst_o, jI_i, jcpy_out, w32_id, jdiv_nn] at * <;> first | done | omega | assumption) | (intros; first | rfl | (exfalso; omega) | ((repeat' apply And.intro) <;> first | assumption | rfl | omega | trivial)))) (by (first | assumption | omega | ((try dsimp only [jt2, jt3, jt4]); first | omega | (simp (disch := omega) only [jst_eq, jst_ne, jst_ni, jst_o, jI_i, jcpy_out, w32_id, jdiv_nn, jshr_k, jand_255] <;> first | done | omega | assumption)) | (intros; simp (disch := omega) only [jst_eq, jst_ne, jst_ni, jst_o, jI_i, jcpy_out, w32_id, jdiv_nn, *] <;> first | done | omega) | (intros; simp (disch := omega) only [jst_eq, jst_ne, jst_ni, jst_o, jI_i, jcpy_out, w32_id, jdiv_nn] at * <;> first | done | omega | assumption) | (intros; first | rfl | (exfalso; omega) | ((repeat' apply And.intro) <;> first | assumption | rfl | omega | trivial))))) (fun o5 r1 => ?_)
  try dsimp only [Sum.elim_inl, Sum.elim_inr, jt2, jt3, jt4, jt5, jt6, jt7, jt8] at r1
  have r1 := r1
  clear r1
  try simp (disch := omega) only [jst_eq, jst_ne, jst_ni, jI_i, jcmp_lt, jcmp_gt, w32_id, jcpy_out, Sum.elim_inl, Sum.elim_inr, jt2, jt3, jt4, jt5, jt6, jt7, jt8] at r1
  obtain ⟨r, j, p, g1, g2, g3, g4, g5, g6, g7, g8, g9, g10⟩ := r1
  have zr := sz_pos r
  have wr := wtE_r W r
  have sx := sumW_ex E r p
  rw [g4] at sx
  obtain ⟨L0, cL, sL⟩ : ∃ L0, chn h E k (h 466 a1) L0 ∧ sumW E L0 = sumW E (exL r p) := by { rcases g10 with n0 | j3; { cases r with | leaf i => exact ⟨[], g1.2.2, rfl⟩ | branch b s r' => exfalso; have := nk_0 r'; have e : nk (.branch b s r') = nk r' + 1 := rfl; omega }; { have c := chn_ex (k := k) (L := []) (by omega) g1 g2 g3 (by omega) (by omega) (by omega) g9 (by omega) rfl; rw [List.append_nil] at c; exact ⟨_, c, sumW_rev E _⟩ } }
  have s0 := sumW_0 W L0
  unfold gX14_weight_j93
  refine OK_jg (by (first | assumption | omega | ((try dsimp only [jt2, jt3, jt4]); first | omega | (simp (disch := omega) only [jst_eq, jst_ne, jst_ni, jst_o, jI_i, jcpy_out, w32_id, jdiv_nn, jshr_k, jand_255] <;> first | done | omega | assumption)) | (intros; simp (disch := omega) only [jst_eq, jst_ne, jst_ni, jst_o, jI_i, jcpy_out, w32_id, jdiv_nn, *] <;> first | done | omega) | (intros; simp (disch := omega) only [jst_eq, jst_ne, jst_ni, jst_o, jI_i, jcpy_out, w32_id, jdiv_nn] at * <;> first | done | omega | assumption) | (intros; first | rfl | (exfalso; omega) | ((repeat' apply And.intro) <;> first | assumption | rfl | omega | trivial)))) ?_ -- o5
  refine OK_jlx (fun x7 ex7 => ?_)
  try simp (disch := omega) only [jst_eq, jst_ne, jst_ni, jI_i, jcmp_lt, jcmp_gt, w32_id, jcpy_out, Sum.elim_inl, Sum.elim_inr, jt2, jt3, jt4, jt5, jt6, jt7, jt8] at ex7
  refine OK_jb (wl100T (E := E) (k := k) (L0 := L0) _ _ (by (first | assumption | omega | ((try dsimp only [jt2, jt3, jt4]); first | omega | (simp (disch := omega) only [jst_eq, jst_ne, jst_ni, jst_o, jI_i, jcpy_out, w32_id, jdiv_nn, jshr_k, jand_255] <;> first | done | omega | assumption)) | (intros; simp (disch := omega) only [jst_eq, jst_ne, jst_ni, jst_o, jI_i, jcpy_out, w32_id, jdiv_nn, *] <;> first | done | omega) | (intros; simp (disch := omega) only [jst_eq, jst_ne, jst_ni, jst_o, jI_i, jcpy_out, w32_id, jdiv_nn] at * <;> first | done | omega | assumption) | (intros; first | rfl | (exfalso; omega) | ((repeat' apply And.intro) <;> first | assumption | rfl | omega | trivial)))) (by (first | assumption | omega | ((try dsimp only [jt2, jt3, jt4]); first | omega | (simp (disch := omega) only [jst_eq, jst_ne, jst_ni, jst_o, jI_i, jcpy_out, w32_id, jdiv_nn, jshr_k, jand_255] <;> first | done | omega | assumption)) | (intros; simp (disch := omega) only [jst_eq, jst_ne, jst_ni, jst_o, jI_i, jcpy_out, w32_id, jdiv_nn, *] <;> first | done | omega) | (intros; simp (disch := omega) only [jst_eq, jst_ne, jst_ni, jst_o, jI_i, jcpy_out, w32_id, jdiv_nn] at * <;> first | done | omega | assumption) | (intros; first | rfl | (exfalso; omega) | ((repeat' apply And.intro) <;> first | assumption | rfl | omega | trivial)))) (by (first | assumption | omega | ((try dsimp only [jt2, jt3, jt4]); first | omega | (simp (disch := omega) only [jst_eq, jst_ne, jst_ni, jst_o, jI_i, jcpy_out, w32_id, jdiv_nn, jshr_k, jand_255] <;> first | done | omega | assumption)) | (intros; simp (disch := omega) only [jst_eq, jst_ne, jst_ni, jst_o, jI_i, jcpy_out, w32_id, jdiv_nn, *] <;> first | done | omega) | (intros; simp (disch := omega) only [jst_eq, jst_ne, jst_ni, jst_o, jI_i, jcpy_out, w32_id, jdiv_nn] at * <;> first | done | omega | assumption) | (intros; first | rfl | (exfalso; omega) | ((repeat' apply And.intro) <;> first | assumption | rfl | omega | trivial)))) (by (first | assumption | omega | ((try dsimp only [jt2, jt3, jt4]); first | omega | (simp (disch := omega) only [jst_eq, jst_ne, jst_ni, jst_o, jI_i, jcpy_out, w32_id, jdiv_nn, jshr_k, jand_255] <;> first | done | omega | assumption)) | (intros; simp (disch := omega) only [jst_eq, jst_ne, jst_ni, jst_o, jI_i, jcpy_out, w32_id, jdiv_nn, *] <;> first | done | omega) | (intros; simp (disch := omega) only [jst_eq, jst_ne, jst_ni, jst_o, jI_i, jcpy_out, w32_id, jdiv_nn] at * <;> first | done | omega | assumption) | (intros; first | rfl | (exfalso; omega) | ((repeat' apply And.intro) <;> first | assumption | rfl | omega | trivial))))) (fun o8 r2 => ?_)
  try dsimp only [Sum.elim_inl, Sum.elim_inr, jt2, jt3, jt4, jt5, jt6, jt7, jt8] at r2
  have wv2 := r2
  clear r2
  try simp (disch := omega) only [jst_eq, jst_ne, jst_ni, jI_i, jcmp_lt, jcmp_gt, w32_id, jcpy_out, Sum.elim_inl, Sum.elim_inr, jt2, jt3, jt4, jt5, jt6, jt7, jt8] at wv2
  refine OK_some ?_
  try dsimp only [Sum.elim_inl, Sum.elim_inr, jt2, jt3, jt4, jt5, jt6, jt7, jt8]
  (first | assumption | omega | ((try dsimp only [jt2, jt3, jt4]); first | omega | (simp (disch := omega) only [jst_eq, jst_ne, jst_ni, jst_o, jI_i, jcpy_out, w32_id, jdiv_nn, jshr_k, jand_255] <;> first | done | omega | assumption)) | (intros; simp (disch := omega) only [jst_eq, jst_ne, jst_ni, jst_o, jI_i, jcpy_out, w32_id, jdiv_nn, *] <;> first | done | omega) | (intros; simp (disch := omega) only [jst_eq, jst_ne, jst_ni, jst_o, jI_i, jcpy_out, w32_id, jdiv_nn] at * <;> first | done | omega | assumption) | (intros; first | rfl | (exfalso; omega) | ((repeat' apply And.intro) <;> first | assumption | rfl | omega | trivial))) -- o10 e1
theorem nd_sort {h : AH} {d : Int} {i : NI} (n : ndS h d i) (k : 0 ≤ i.1 ∧ i.1 ≤ 3) : (h 460 d = 2 ↔ i.1 = 2) ∧ (h 460 d = 0 ↔ i.1 = 0) ∧ (h 460 d = 1 ↔ i.1 = 1) ∧ (h 460 d = 3 ↔ i.1 = 3) := by
  obtain ⟨n0, n1, n2, n3⟩ := n
  rcases (show i.1 = 0 ∨ i.1 = 1 ∨ i.1 = 2 ∨ i.1 = 3 by omega) with c | c | c | c
  · have := n0 c; omega
  · have := n1 c; omega
  · have := n2 c; omega
  · have := n3 c; omega
theorem wtT_ {F : Int → AH → Option (Int)} (a1 : Int) {h : AH} {E : EV} {T : TR} {k : Int} (hK : CWT F h E (k - 1)) (hO : CWR F h E.1.1 E.1.2.2.2.1 40) (ow : OW h E.1.1 E.1.2.2.2.1) (W : ∀ w, 0 ≤ eW E (eRs E w) ∧ eW E (eRs E w) ≤ 40) (q : okC h E k (a1, T)) (hN : E.1.1 ≤ 36) : OK (gX14_weight_ F a1 h) (fun v => v = wtE E T) := by
  have q1 : 0 ≤ a1 ∧ a1 + sz T ≤ 8800 ∧ sz T ≤ 1100 := ⟨q.2.2.2.1, q.2.2.2.2.1, q.2.2.2.2.2.1⟩
  have zT := sz_pos T
  have rk := rawS_k q.1
  have kc := kcT_k q.2.2.1
  have ns := nd_sort rk.2 kc
  have ak : (inf T).1 = 2 → h 463 a1 = (if eRs E (inf T).2.2.1 = -2 then -1 else eRs E (inf T).2.2.1) := actT_k q.2.1
  have ER := eRs_r (E := E) (inf T).2.2.1
  have q' : okC h E (k - 1 + 1) (a1, T) := by { rw [show k - 1 + 1 = k by omega]; exact q }
  unfold gX14_weight_
  refine OK_jg (by (first | assumption | omega | ((try dsimp only [jt2, jt3, jt4]); first | omega | (simp (disch := omega) only [jst_eq, jst_ne, jst_ni, jst_o, jI_i, jcpy_out, w32_id, jdiv_nn, jshr_k, jand_255] <;> first | done | omega | assumption)) | (intros; simp (disch := omega) only [jst_eq, jst_ne, jst_ni, jst_o, jI_i, jcpy_out, w32_id, jdiv_nn, *] <;> first | done | omega) | (intros; simp (disch := omega) only [jst_eq, jst_ne, jst_ni, jst_o, jI_i, jcpy_out, w32_id, jdiv_nn] at * <;> first | done | omega | assumption) | (intros; first | rfl | (exfalso; omega) | ((repeat' apply And.intro) <;> first | assumption | rfl | omega | trivial)))) ?_ -- o1
  refine OK_if (fun c1 => ?_) (fun c1 => ?_)
  · skip
    try simp (disch := omega) only [jst_eq, jst_ne, jst_ni, jI_i, jcmp_lt, jcmp_gt, w32_id, jcpy_out, Sum.elim_inl, Sum.elim_inr, jt2, jt3, jt4, jt5, jt6, jt7, jt8] at c1
    have i2 := ns.1.mp c1
    have ak2 := ak i2
    refine OK_if (fun c2 => ?_) (fun c2 => ?_)
    · skip
      try simp (disch := omega) only [jst_eq, jst_ne, jst_ni, jI_i, jcmp_lt, jcmp_gt, w32_id, jcpy_out, Sum.elim_inl, Sum.elim_inr, jt2, jt3, jt4, jt5, jt6, jt7, jt8] at c2
      have n2 : eRs E (inf T).2.2.1 ≠ -2 := fun y => by { rw [if_pos y] at ak2; omega }
      rw [if_neg n2] at ak2
      obtain ⟨o1, o2, S, sM, sA, sW⟩ := ow (h 463 a1) c2 (by omega)
      refine OK_jg (by (first | assumption | omega | ((try dsimp only [jt2, jt3, jt4]); first | omega | (simp (disch := omega) only [jst_eq, jst_ne, jst_ni, jst_o, jI_i, jcpy_out, w32_id, jdiv_nn, jshr_k, jand_255] <;> first | done | omega | assumption)) | (intros; simp (disch := omega) only [jst_eq, jst_ne, jst_ni, jst_o, jI_i, jcpy_out, w32_id, jdiv_nn, *] <;> first | done | omega) | (intros; simp (disch := omega) only [jst_eq, jst_ne, jst_ni, jst_o, jI_i, jcpy_out, w32_id, jdiv_nn] at * <;> first | done | omega | assumption) | (intros; first | rfl | (exfalso; omega) | ((repeat' apply And.intro) <;> first | assumption | rfl | omega | trivial)))) ?_ -- o2
      refine OK_jb (hO _ S (by exact sM) (by exact sA) (by omega)) (fun v4 r1 => ?_)
      try dsimp only [Sum.elim_inl, Sum.elim_inr, jt2, jt3, jt4, jt5, jt6, jt7, jt8] at r1
      have wv1 := r1
      clear r1
      try simp (disch := omega) only [jst_eq, jst_ne, jst_ni, jI_i, jcmp_lt, jcmp_gt, w32_id, jcpy_out, Sum.elim_inl, Sum.elim_inr, jt2, jt3, jt4, jt5, jt6, jt7, jt8] at wv1
      refine OK_mono (wj46T (E := E) (T := T) (k := k - 1) _ _ (by (first | assumption | omega | ((try dsimp only [jt2, jt3, jt4]); first | omega | (simp (disch := omega) only [jst_eq, jst_ne, jst_ni, jst_o, jI_i, jcpy_out, w32_id, jdiv_nn, jshr_k, jand_255] <;> first | done | omega | assumption)) | (intros; simp (disch := omega) only [jst_eq, jst_ne, jst_ni, jst_o, jI_i, jcpy_out, w32_id, jdiv_nn, *] <;> first | done | omega) | (intros; simp (disch := omega) only [jst_eq, jst_ne, jst_ni, jst_o, jI_i, jcpy_out, w32_id, jdiv_nn] at * <;> first | done | omega | assumption) | (intros; first | rfl | (exfalso; omega) | ((repeat' apply And.intro) <;> first | assumption | rfl | omega | trivial)))) (by (first | assumption | omega | ((try dsimp only [jt2, jt3, jt4]); first | omega | (simp (disch := omega) only [jst_eq, jst_ne, jst_ni, jst_o, jI_i, jcpy_out, w32_id, jdiv_nn, jshr_k, jand_255] <;> first | done | omega | assumption)) | (intros; simp (disch := omega) only [jst_eq, jst_ne, jst_ni, jst_o, jI_i, jcpy_out, w32_id, jdiv_nn, *] <;> first | done | omega) | (intros; simp (disch := omega) only [jst_eq, jst_ne, jst_ni, jst_o, jI_i, jcpy_out, w32_id, jdiv_nn] at * <;> first | done | omega | assumption) | (intros; first | rfl | (exfalso; omega) | ((repeat' apply And.intro) <;> first | assumption | rfl | omega | trivial)))) (by exact q') (by (unfold lwE eW; rw [if_pos i2, ← ak2, if_neg (by omega), wv1, sW]; (try simp (disch := omega) only [jst_eq, jst_ne, jst_ni, jI_i, jcmp_lt, jcmp_gt, w32_id, jcpy_out, Sum.elim_inl, Sum.elim_inr, jt2, jt3, jt4, jt5, jt6, jt7, jt8])))) (fun r r2 => ?_)
      try dsimp only [Sum.elim_inl, Sum.elim_inr, jt2, jt3, jt4, jt5, jt6, jt7, jt8] at r2
      have wv2 := r2
      clear r2
      try simp (disch := omega) only [jst_eq, jst_ne, jst_ni, jI_i, jcmp_lt, jcmp_gt, w32_id, jcpy_out, Sum.elim_inl, Sum.elim_inr, jt2, jt3, jt4, jt5, jt6, jt7, jt8] at wv2
      try dsimp only [Sum.elim_inl, Sum.elim_inr, jt2, jt3, jt4, jt5, jt6, jt7, jt8]
      (first | assumption | omega | ((try dsimp only [jt2, jt3, jt4]); first | omega | (simp (disch := omega) only [jst_eq, jst_ne, jst_ni, jst_o, jI_i, jcpy_out, w32_id, jdiv_nn, jshr_k, jand_255] <;> first | done | omega | assumption)) | (intros; simp (disch := omega) only [jst_eq, jst_ne, jst_ni, jst_o, jI_i, jcpy_out, w32_id, jdiv_nn, *] <;> first | done | omega) | (intros; simp (disch := omega) only [jst_eq, jst_ne, jst_ni, jst_o, jI_i, jcpy_out, w32_id, jdiv_nn] at * <;> first | done | omega | assumption) | (intros; first | rfl | (exfalso; omega) | ((repeat' apply And.intro) <;> first | assumption | rfl | omega | trivial))) -- o10 e1
    · skip
      try simp (disch := omega) only [jst_eq, jst_ne, jst_ni, jI_i, jcmp_lt, jcmp_gt, w32_id, jcpy_out, Sum.elim_inl, Sum.elim_inr, jt2, jt3, jt4, jt5, jt6, jt7, jt8] at c2
      refine OK_mono (wj46T (E := E) (T := T) (k := k - 1) _ _ (by (first | assumption | omega | ((try dsimp only [jt2, jt3, jt4]); first | omega | (simp (disch := omega) only [jst_eq, jst_ne, jst_ni, jst_o, jI_i, jcpy_out, w32_id, jdiv_nn, jshr_k, jand_255] <;> first | done | omega | assumption)) | (intros; simp (disch := omega) only [jst_eq, jst_ne, jst_ni, jst_o, jI_i, jcpy_out, w32_id, jdiv_nn, *] <;> first | done | omega) | (intros; simp (disch := omega) only [jst_eq, jst_ne, jst_ni, jst_o, jI_i, jcpy_out, w32_id, jdiv_nn] at * <;> first | done | omega | assumption) | (intros; first | rfl | (exfalso; omega) | ((repeat' apply And.intro) <;> first | assumption | rfl | omega | trivial)))) (by (first | assumption | omega | ((try dsimp only [jt2, jt3, jt4]); first | omega | (simp (disch := omega) only [jst_eq, jst_ne, jst_ni, jst_o, jI_i, jcpy_out, w32_id, jdiv_nn, jshr_k, jand_255] <;> first | done | omega | assumption)) | (intros; simp (disch := omega) only [jst_eq, jst_ne, jst_ni, jst_o, jI_i, jcpy_out, w32_id, jdiv_nn, *] <;> first | done | omega) | (intros; simp (disch := omega) only [jst_eq, jst_ne, jst_ni, jst_o, jI_i, jcpy_out, w32_id, jdiv_nn] at * <;> first | done | omega | assumption) | (intros; first | rfl | (exfalso; omega) | ((repeat' apply And.intro) <;> first | assumption | rfl | omega | trivial)))) (by exact q') (by (unfold lwE eW; rw [if_pos i2, if_pos (by by_cases y : eRs E (inf T).2.2.1 = -2; { omega }; { rw [if_neg y] at ak2; omega })]; rfl))) (fun r r3 => ?_)
      try dsimp only [Sum.elim_inl, Sum.elim_inr, jt2, jt3, jt4, jt5, jt6, jt7, jt8] at r3
      have wv3 := r3
      clear r3
      try simp (disch := omega) only [jst_eq, jst_ne, jst_ni, jI_i, jcmp_lt, jcmp_gt, w32_id, jcpy_out, Sum.elim_inl, Sum.elim_inr, jt2, jt3, jt4, jt5, jt6, jt7, jt8] at wv3
      try dsimp only [Sum.elim_inl, Sum.elim_inr, jt2, jt3, jt4, jt5, jt6, jt7, jt8]
      (first | assumption | omega | ((try dsimp only [jt2, jt3, jt4]); first | omega | (simp (disch := omega) only [jst_eq, jst_ne, jst_ni, jst_o, jI_i, jcpy_out, w32_id, jdiv_nn, jshr_k, jand_255] <;> first | done | omega | assumption)) | (intros; simp (disch := omega) only [jst_eq, jst_ne, jst_ni, jst_o, jI_i, jcpy_out, w32_id, jdiv_nn, *] <;> first | done | omega) | (intros; simp (disch := omega) only [jst_eq, jst_ne, jst_ni, jst_o, jI_i, jcpy_out, w32_id, jdiv_nn] at * <;> first | done | omega | assumption) | (intros; first | rfl | (exfalso; omega) | ((repeat' apply And.intro) <;> first | assumption | rfl | omega | trivial))) -- o15 e2
  · skip
    try simp (disch := omega) only [jst_eq, jst_ne, jst_ni, jI_i, jcmp_lt, jcmp_gt, w32_id, jcpy_out, Sum.elim_inl, Sum.elim_inr, jt2, jt3, jt4, jt5, jt6, jt7, jt8] at c1
    refine OK_mono (wj46T (E := E) (T := T) (k := k - 1) _ _ (by (first | assumption | omega | ((try dsimp only [jt2, jt3, jt4]); first | omega | (simp (disch := omega) only [jst_eq, jst_ne, jst_ni, jst_o, jI_i, jcpy_out, w32_id, jdiv_nn, jshr_k, jand_255] <;> first | done | omega | assumption)) | (intros; simp (disch := omega) only [jst_eq, jst_ne, jst_ni, jst_o, jI_i, jcpy_out, w32_id, jdiv_nn, *] <;> first | done | omega) | (intros; simp (disch := omega) only [jst_eq, jst_ne, jst_ni, jst_o, jI_i, jcpy_out, w32_id, jdiv_nn] at * <;> first | done | omega | assumption) | (intros; first | rfl | (exfalso; omega) | ((repeat' apply And.intro) <;> first | assumption | rfl | omega | trivial)))) (by (first | assumption | omega | ((try dsimp only [jt2, jt3, jt4]); first | omega | (simp (disch := omega) only [jst_eq, jst_ne, jst_ni, jst_o, jI_i, jcpy_out, w32_id, jdiv_nn, jshr_k, jand_255] <;> first | done | omega | assumption)) | (intros; simp (disch := omega) only [jst_eq, jst_ne, jst_ni, jst_o, jI_i, jcpy_out, w32_id, jdiv_nn, *] <;> first | done | omega) | (intros; simp (disch := omega) only [jst_eq, jst_ne, jst_ni, jst_o, jI_i, jcpy_out, w32_id, jdiv_nn] at * <;> first | done | omega | assumption) | (intros; first | rfl | (exfalso; omega) | ((repeat' apply And.intro) <;> first | assumption | rfl | omega | trivial)))) (by exact q') (by (unfold lwE; rw [if_neg (fun y => c1 (ns.1.mpr y))]))) (fun r r4 => ?_)
    try dsimp only [Sum.elim_inl, Sum.elim_inr, jt2, jt3, jt4, jt5, jt6, jt7, jt8] at r4
    have wv4 := r4
    clear r4
    try simp (disch := omega) only [jst_eq, jst_ne, jst_ni, jI_i, jcmp_lt, jcmp_gt, w32_id, jcpy_out, Sum.elim_inl, Sum.elim_inr, jt2, jt3, jt4, jt5, jt6, jt7, jt8] at wv4
    try dsimp only [Sum.elim_inl, Sum.elim_inr, jt2, jt3, jt4, jt5, jt6, jt7, jt8]
    (first | assumption | omega | ((try dsimp only [jt2, jt3, jt4]); first | omega | (simp (disch := omega) only [jst_eq, jst_ne, jst_ni, jst_o, jI_i, jcpy_out, w32_id, jdiv_nn, jshr_k, jand_255] <;> first | done | omega | assumption)) | (intros; simp (disch := omega) only [jst_eq, jst_ne, jst_ni, jst_o, jI_i, jcpy_out, w32_id, jdiv_nn, *] <;> first | done | omega) | (intros; simp (disch := omega) only [jst_eq, jst_ne, jst_ni, jst_o, jI_i, jcpy_out, w32_id, jdiv_nn] at * <;> first | done | omega | assumption) | (intros; first | rfl | (exfalso; omega) | ((repeat' apply And.intro) <;> first | assumption | rfl | omega | trivial))) -- o20 e3
theorem CWT_D {h : AH} {E : EV} (ow : OW h E.1.1 E.1.2.2.2.1) (W : ∀ w, 0 ≤ eW E (eRs E w) ∧ eW E (eRs E w) ≤ 40) (W2 : ∀ a, 26 ≤ a → 0 ≤ E.1.2.2.2.1 a) (hN : E.1.1 ≤ 36) : ∀ (D : Nat) (k : Int), k + 43 ≤ D → CWT (gX14_weightD D) h E k
  | 0, k, l => fun d T q => by have := q.2.2.2.2.2.2; have := dpT_0 T; have e : dpT (d, T).2 = dpT T := rfl; omega
  | D + 1, k, l => fun d T q => by
    have d0 := dpT_0 T
    have d1 : dpT T ≤ k := q.2.2.2.2.2.2
    exact OK_mono (wtT_ d (k := k) (CWT_D ow W W2 hN D (k - 1) (by omega)) (CWR_D ow W2 hN D 40 (by omega) (by omega)) ow W q hN) (fun r z => z)
theorem vX14_weight (a1 : Int) {h : AH} {E : EV} {T : TR} (ow : OW h E.1.1 E.1.2.2.2.1) (W : ∀ w, 0 ≤ eW E (eRs E w) ∧ eW E (eRs E w) ≤ 40) (W2 : ∀ a, 26 ≤ a → 0 ≤ E.1.2.2.2.1 a) (hN : E.1.1 ≤ 36) (q : okC h E 50 (a1, T)) : OK (gX14_weight a1 h) (fun v => v = wtE E T) :=
  CWT_D ow W W2 hN 100 50 (by decide) a1 T q

