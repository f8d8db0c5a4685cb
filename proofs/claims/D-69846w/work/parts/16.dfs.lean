/-! Machines: the search -/
def updT (T : Int → Int) (i v : Int) : Int → Int := fun j => if j = i then v else T j
def tryS {α : Type} (f : Int → Option α) : Nat → Int → Option α
  | 0, _ => none
  | k + 1, t => match f t with
    | some r => some r
    | none => tryS f k (t + 1)
theorem tryS_congr {α : Type} {f g : Int → Option α} : ∀ {k : Nat} {t : Int}, (∀ s, t ≤ s → s < t + k → f s = g s) → tryS f k t = tryS g k t
  | 0, _, _ => rfl
  | k + 1, t, h => by
    show (match f t with | some r => some r | none => tryS f k (t + 1)) = (match g t with | some r => some r | none => tryS g k (t + 1))
    rw [h t (by omega) (by omega), tryS_congr (k := k) (t := t + 1) (fun s s0 s1 => h s (by omega) (by omega))]
theorem tryS_none {α : Type} {f : Int → Option α} {k : Nat} {t : Int} (hk : 0 < k) (h : f t = none) : tryS f k t = tryS f (k - 1) (t + 1) := by
  obtain ⟨k, rfl⟩ : ∃ j, k = j + 1 := ⟨k - 1, by omega⟩
  show (match f t with | some r => some r | none => tryS f k (t + 1)) = _
  rw [h]; rfl
theorem tryS_some {α : Type} {f : Int → Option α} {k : Nat} {t : Int} {r : α} (hk : 0 < k) (h : f t = some r) : tryS f k t = some r := by
  obtain ⟨k, rfl⟩ : ∃ j, k = j + 1 := ⟨k - 1, by omega⟩
  show (match f t with | some r => some r | none => tryS f k (t + 1)) = _
  rw [h]
theorem tryS_all {α : Type} {f : Int → Option α} {P : α → Prop} : ∀ {k : Nat} {t : Int} {r : α}, (∀ s q, t ≤ s → f s = some q → P q) → tryS f k t = some r → P r
  | 0, _, _, _, e => by cases e
  | k + 1, t, r, h, e => by
    cases z : f t with
    | none => rw [tryS_none (by omega) z] at e; exact tryS_all (k := k) (fun s q s0 => h s q (by omega)) e
    | some q => rw [tryS_some (by omega) z] at e; cases e; exact h t _ (by omega) z
def srX (n : Int) (ok : (Int → Int) → Bool) : Nat → Int → Int → (Int → Int) → Option (Int → Int)
  | 0, _, met, T => if met = n ∧ ok T = true then some T else none
  | k + 1, p, met, T => if p / 2 < met then tryS (fun t => srX n ok k (p + 1) (max met (t + 1)) (updT T p t)) (min n (met + 1)).toNat 0 else none
def srM (n : Int) (ok : (Int → Int) → Bool) : Nat → Int → Int → (Int → Int) → Option (Int → Int)
  | 0, _, seen, T => if ok T = false then none else if seen = n then some T else none
  | k + 1, p, seen, T => if ok T = false then none else if p / 2 < seen then tryS (fun t => srM n ok k (p + 1) (if t = seen then seen + 1 else seen) (updT T p t)) (min n (seen + 1)).toNat 0 else none
/-- words: letters, sizes, which are good, how many -/
def okT (B : Int → Int → Int) (sz g : Int → Int) (nw : Int) (T : Int → Int) : Bool := okW (fun k => runW T (B k) (sz k).toNat) g nw.toNat
theorem srX_ok {n : Int} {ok : (Int → Int) → Bool} : ∀ {k : Nat} {p met : Int} {T T' : Int → Int}, srX n ok k p met T = some T' → ok T' = true ∧ ∀ i, i < p → T' i = T i
  | 0, p, met, T, T', e => by
    unfold srX at e
    by_cases q : met = n ∧ ok T = true
    · rw [if_pos q] at e; cases e; exact ⟨q.2, fun _ _ => rfl⟩
    · rw [if_neg q] at e; cases e
  | k + 1, p, met, T, T', e => by
    unfold srX at e
    by_cases q : p / 2 < met
    · rw [if_pos q] at e
      refine tryS_all (P := fun T' => ok T' = true ∧ ∀ i, i < p → T' i = T i) (fun s U _ z => ?_) e
      obtain ⟨h1, h2⟩ := srX_ok (k := k) z
      refine ⟨h1, fun i hi => ?_⟩
      rw [h2 i (by omega)]
      exact if_neg (by omega)
    · rw [if_neg q] at e; cases e
theorem runW_ext {T T' b : Int → Int} (hb : ∀ i, 0 ≤ b i) (h : ∀ i, 0 ≤ i → 0 ≤ T i → T' i = T i) : ∀ n, 0 ≤ runW T b n → runW T' b n = runW T b n
  | 0, _ => rfl
  | n + 1, h0 => by
    have z : ¬ runW T b n < 0 := fun q => by rw [runW_neg q (n + 1) (by omega)] at h0; omega
    have e := runW_ext hb h n (by omega)
    have e1 : runW T b (n + 1) = T (2 * runW T b n + b n) := if_neg z
    have e2 : runW T' b (n + 1) = T' (2 * runW T b n + b n) := by rw [← e]; exact if_neg (by omega)
    have := hb n
    rw [e2, e1, h _ (by omega) (by omega)]
theorem okW_ext {e e' g : Int → Int} (hg : ∀ k, g k = 1 ∨ g k = 2) (h : ∀ k, 0 ≤ e k → e' k = e k) : ∀ n, okW e' g n = true → okW e g n = true ∧ ∀ s, 0 ≤ s → endW e g n s ≠ 0 → endW e' g n s = endW e g n s
  | 0, _ => ⟨rfl, fun s _ z => absurd rfl z⟩
  | n + 1, q => by
    have q2 : (okW e' g n && !(decide (0 ≤ e' n) && decide (endW e' g n (e' n) = 3 - g n))) = true := q
    rw [Bool.and_eq_true] at q2
    obtain ⟨i1, i2⟩ := okW_ext hg h n q2.1
    have q3 : ¬ (0 ≤ e' n ∧ endW e' g n (e' n) = 3 - g n) := fun z => by
      have := q2.2
      rw [decide_eq_true z.1, decide_eq_true z.2] at this
      exact absurd this (by decide)
    have hgn := hg n
    refine ⟨?_, fun s s0 z => ?_⟩
    · show (okW e g n && !(decide (0 ≤ e n) && decide (endW e g n (e n) = 3 - g n))) = true
      rw [i1]
      by_cases c : 0 ≤ e n
      · rw [h n c] at q3
        by_cases d : endW e g n (e n) = 3 - g n
        · exfalso; exact q3 ⟨c, (i2 _ c (by omega)).trans d⟩
        · rw [decide_eq_false d, Bool.and_false]; rfl
      · rw [decide_eq_false c]; rfl
    · rw [show endW e g (n + 1) s = if e (n : Int) = s then g (n : Int) else endW e g n s from rfl] at z ⊢
      rw [show endW e' g (n + 1) s = if e' (n : Int) = s then g (n : Int) else endW e' g n s from rfl]
      by_cases c : e n = s
      · rw [if_pos c, if_pos (by rw [h n (by omega)]; exact c)]
      · rw [if_neg c] at z ⊢
        by_cases d : e' n = s
        · rw [if_pos d]
          have w := i2 s s0 z
          have v := endW_v hg s n (e := e)
          rw [d] at q3
          omega
        · rw [if_neg d]; exact i2 s s0 z
theorem okT_ext {B : Int → Int → Int} {sz g : Int → Int} {nw : Int} {T T' : Int → Int} (hB : ∀ k i, 0 ≤ B k i) (hg : ∀ k, g k = 1 ∨ g k = 2) (h : ∀ i, 0 ≤ i → 0 ≤ T i → T' i = T i) (q : okT B sz g nw T' = true) : okT B sz g nw T = true :=
  (okW_ext hg (fun k hk => runW_ext (hB k) h _ hk) _ q).1
theorem srM_srX {n : Int} {B : Int → Int → Int} {sz g : Int → Int} {nw : Int} (hB : ∀ k i, 0 ≤ B k i) (hg : ∀ k, g k = 1 ∨ g k = 2) : ∀ {k : Nat} {p met : Int} {T : Int → Int}, (∀ i, p ≤ i → T i < 0) → srM n (okT B sz g nw) k p met T = srX n (okT B sz g nw) k p met T
  | 0, p, met, T, hT => by
    unfold srM srX
    by_cases c : okT B sz g nw T = false
    · rw [if_pos c, if_neg (fun z => by rw [c] at z; exact absurd z.2 (by decide))]
    · have c2 : okT B sz g nw T = true := by revert c; cases okT B sz g nw T <;> simp
      rw [if_neg c]
      by_cases d : met = n
      · rw [if_pos d, if_pos ⟨d, c2⟩]
      · rw [if_neg d, if_neg (fun z => d z.1)]
  | k + 1, p, met, T, hT => by
    by_cases c : okT B sz g nw T = false
    · have e : srM n (okT B sz g nw) (k + 1) p met T = none := by unfold srM; rw [if_pos c]
      rw [e]
      cases z : srX n (okT B sz g nw) (k + 1) p met T with
      | none => rfl
      | some T' =>
        obtain ⟨h1, h2⟩ := srX_ok z
        have := okT_ext hB hg (T := T) (T' := T') (fun i _ i1 => h2 i (by
          by_cases q : i < p
          · exact q
          · have := hT i (by omega); omega)) h1
        rw [this] at c; cases c
    · unfold srM srX
      rw [if_neg c]
      by_cases d : p / 2 < met
      · rw [if_pos d, if_pos d]
        refine tryS_congr (fun s s0 s1 => ?_)
        rw [show (if s = met then met + 1 else met) = max met (s + 1) by split <;> omega]
        exact srM_srX hB hg (fun i hi => by unfold updT; rw [if_neg (by omega)]; exact hT i (by omega))
      · rw [if_neg d, if_neg d]
theorem runW_congr {T T' b b' : Int → Int} {N : Int} (hT : tabN T N) (h : ∀ i, 0 ≤ i → i < 2 * N → T' i = T i) : ∀ {n : Nat}, (∀ i : Int, 0 ≤ i → i < n → b' i = b i ∧ 0 ≤ b i ∧ b i ≤ 1) → runW T' b' n = runW T b n ∧ 0 ≤ runW T b n ∧ runW T b n < N
  | 0, _ => ⟨rfl, show (0 : Int) ≤ 0 by decide, by have := hT.1; show (0 : Int) < N; omega⟩
  | n + 1, hb => by
    obtain ⟨e, e0, e1⟩ := runW_congr (b := b) (b' := b') hT h (n := n) (fun i i0 i1 => hb i i0 (by omega))
    obtain ⟨b1, b2, b3⟩ := hb n (by omega) (by omega)
    have x1 : runW T b (n + 1) = T (2 * runW T b n + b n) := if_neg (by omega)
    have x2 : runW T' b' (n + 1) = T' (2 * runW T' b' n + b' n) := if_neg (by omega)
    rw [x1, x2, e, b1, h _ (by omega) (by omega)]
    exact ⟨rfl, hT.2.2 _ (by omega) (by omega)⟩
theorem endW_congr {e e' g g' : Int → Int} {s : Int} : ∀ {n : Nat}, (∀ k : Int, 0 ≤ k → k < n → e' k = e k ∧ g' k = g k) → endW e' g' n s = endW e g n s
  | 0, _ => rfl
  | n + 1, h => by
    show (if e' n = s then g' n else endW e' g' n s) = (if e n = s then g n else endW e g n s)
    rw [(h n (by omega) (by omega)).1, (h n (by omega) (by omega)).2, endW_congr (n := n) (fun k k0 k1 => h k k0 (by omega))]
theorem okW_congr {e e' g g' : Int → Int} : ∀ {n : Nat}, (∀ k : Int, 0 ≤ k → k < n → e' k = e k ∧ g' k = g k) → okW e' g' n = okW e g n
  | 0, _ => rfl
  | n + 1, h => by
    show (okW e' g' n && !(decide (0 ≤ e' n) && decide (endW e' g' n (e' n) = 3 - g' n))) = (okW e g n && !(decide (0 ≤ e n) && decide (endW e g n (e n) = 3 - g n)))
    rw [(h n (by omega) (by omega)).1, (h n (by omega) (by omega)).2, okW_congr (n := n) (fun k k0 k1 => h k k0 (by omega)), endW_congr (n := n) (fun k k0 k1 => h k k0 (by omega))]
def envX (h : AH) (sz : Int → Int) (B : Int → Int → Int) (g : Int → Int) (nw : Int) : Prop := wX h sz ∧ nw = h 424 0 ∧ ∀ k, 0 ≤ k → k < nw → (∀ i, 0 ≤ i → i < sz k → bX h k (sz k) i = B k i) ∧ gX h k = g k
theorem envX_fr {h h' : AH} {sz : Int → Int} {B : Int → Int → Int} {g : Int → Int} {nw : Int} (hv : envX h sz B g nw) (f : ∀ a, a ≠ 429 → a ≠ 430 → h' a = h a) : envX h' sz B g nw := by
  unfold envX wX bX gX at *
  rw [f 424 (by decide) (by decide), f 425 (by decide) (by decide), f 426 (by decide) (by decide)]
  exact hv
theorem okT_X {h : AH} {sz : Int → Int} {B : Int → Int → Int} {g : Int → Int} {nw N : Int} {T : Int → Int} (hv : envX h sz B g nw) (hT : tabN (h 429) N) (e : ∀ i, 0 ≤ i → i < 2 * N → T i = h 429 i) : okW (eX h sz) (gX h) (h 424 0).toNat = okT B sz g nw T ∧ ∀ s, endW (eX h sz) (gX h) (h 424 0).toNat s = endW (fun k => runW T (B k) (sz k).toNat) g nw.toNat s := by
  obtain ⟨hw, hn, hk⟩ := hv
  have K : ∀ k : Int, 0 ≤ k → k < nw.toNat → runW T (B k) (sz k).toNat = eX h sz k ∧ g k = gX h k := fun k k0 k1 => by
    obtain ⟨b1, b2⟩ := hk k k0 (by omega)
    refine ⟨(runW_congr hT e (fun i i0 i1 => ?_)).1, b2.symm⟩
    have := b1 i i0 (by omega)
    refine ⟨this.symm, ?_⟩
    unfold bX
    rw [jand_1]
    omega
  rw [← hn]
  exact ⟨(okW_congr K).symm, fun s => (endW_congr K).symm⟩
def preX (N : Int) (sz : Int → Int) (B : Int → Int → Int) (g : Int → Int) (nw : Int) (k : Nat) (p met : Int) (h : AH) (T : Int → Int) : Prop := envX h sz B g nw ∧ 1 ≤ N ∧ N ≤ 5 ∧ 0 ≤ p ∧ p + k = 2 * N ∧ 1 ≤ met ∧ met ≤ N ∧ ∀ i, 0 ≤ i → i < p → h 429 i = T i ∧ 0 ≤ T i ∧ T i < N
def foundX (N : Int) (sz : Int → Int) (B : Int → Int → Int) (g : Int → Int) (nw : Int) (r : Option (Int → Int)) (h' : AH) : Prop := ∃ T', r = some T' ∧ (∀ i, 0 ≤ i → i < 2 * N → h' 429 i = T' i) ∧ ∀ s, 0 ≤ s → s < 5 → h' 430 s = endW (fun k => runW T' (B k) (sz k).toNat) g nw.toNat s
def keptX (p : Int) (h h' : AH) : Prop := (∀ i, 0 ≤ i → i < p → h' 429 i = h 429 i) ∧ ∀ a s, ¬ (a = 429 ∧ 0 ≤ s) → ¬ (a = 430 ∧ 0 ≤ s ∧ s < 5) → h' a s = h a s
def postX (N : Int) (sz : Int → Int) (B : Int → Int → Int) (g : Int → Int) (nw : Int) (k : Nat) (p met : Int) (h : AH) (T : Int → Int) (v : Int) (h' : AH) : Prop := ((v = 0 ∧ srX N (okT B sz g nw) k p met T = none) ∨ (v = 1 ∧ foundX N sz B g nw (srX N (okT B sz g nw) k p met T) h')) ∧ keptX p h h'
def CX (F : Int → Int → Int → AH → Option (Int × AH)) (N : Int) (sz : Int → Int) (B : Int → Int → Int) (g : Int → Int) (nw : Int) (k : Nat) : Prop := ∀ (p met : Int) (h : AH) (T : Int → Int), preX N sz B g nw k p met h T → OK (F p met N h) (fun r => jt2 r fun v h' => postX N sz B g nw k p met h T v h')
theorem srX_1 {N : Int} {ok : (Int → Int) → Bool} {j : Nat} {p met : Int} {T : Int → Int} (h : p / 2 < met) : srX N ok (j + 1) p met T = tryS (fun t => srX N ok j (p + 1) (max met (t + 1)) (updT T p t)) (min N (met + 1)).toNat 0 := if_pos h
theorem vX10_tryFrom_l37 {F : Int → Int → Int → AH → Option (Int × AH)} (i1 : Int) (i2 : Int) (i3 : Int) (a40 : Int) {h0 : AH} {sz : Int → Int} {B : Int → Int → Int} {g : Int → Int} {nw : Int} {j : Nat} {T : Int → Int} (hF : CX F i3 sz B g nw j) (hp : preX i3 sz B g nw (j + 1) i1 i2 h0 T) (h4 : a40 = 0) (hlt : i1 / 2 < i2) : OK (gX10_tryFrom_l37 F i1 i2 i3 a40 h0) (Sum.elim (fun h' => (foundX i3 sz B g nw (srX i3 (okT B sz g nw) (j + 1) i1 i2 T) h') ∧ (keptX i1 h0 h')) (fun h' => (srX i3 (okT B sz g nw) (j + 1) i1 i2 T = none) ∧ (keptX i1 h0 h'))) := by
  obtain ⟨hv, hN1, hN5, hp0, hpk, hm1, hm2, hT⟩ := hp
  unfold gX10_tryFrom_l37
  refine OK_jit (I := (fun (s : Int × AH) => jt2 s fun a4 h => (0 ≤ a4 ∧ a4 ≤ min i3 (i2 + 1)) ∧ (tryS (fun t => srX i3 (okT B sz g nw) j (i1 + 1) (max i2 (t + 1)) (updT T i1 t)) (min i3 (i2 + 1) - a4).toNat a4 = srX i3 (okT B sz g nw) (j + 1) i1 i2 T) ∧ (keptX i1 h0 h))) (m := (fun (s : Int × AH) => jt2 s fun a4 h => (min i3 (i2 + 1) - a4).toNat)) ?_ ?_
  · intro s hs
    obtain ⟨a4, h⟩ := s
    dsimp only [Sum.elim_inl, Sum.elim_inr, jt2, jt3, jt4, jt5, jt6, jt7, jt8] at hs
    obtain ⟨q0, q1, q2⟩ := hs
    unfold gX10_tryFrom_b37
    refine OK_jt2 ?_
    refine OK_if (fun c1 => ?_) (fun c1 => ?_)
    · skip
      try simp (disch := omega) only [jst_eq, jst_ne, jst_ni, jI_i, jcmp_lt, jcmp_gt, w32_id, jcpy_out, Sum.elim_inl, Sum.elim_inr, jt2, jt3, jt4, jt5, jt6, jt7, jt8] at c1
      refine OK_ir ?_
      try dsimp only [Sum.elim_inl, Sum.elim_inr, jt2, jt3, jt4, jt5, jt6, jt7, jt8]
      refine ⟨?_, ?_⟩
      · (rw [show (min i3 (i2 + 1) - a4).toNat = 0 by omega] at q1; exact q1.symm) -- o1 e1.1
      · (first | assumption | omega | ((try dsimp only [jt2, jt3, jt4]); first | omega | (simp (disch := omega) only [jst_eq, jst_ne, jst_ni, jst_o, jI_i, jcpy_out, w32_id, jdiv_nn, jshr_k, jand_255] <;> first | done | omega | assumption)) | (intros; simp (disch := omega) only [jst_eq, jst_ne, jst_ni, jst_o, jI_i, jcpy_out, w32_id, jdiv_nn, *] <;> first | done | omega) | (intros; simp (disch := omega) only [jst_eq, jst_ne, jst_ni, jst_o, jI_i, jcpy_out, w32_id, jdiv_nn] at * <;> first | done | omega | assumption) | (intros; first | rfl | (exfalso; omega) | ((repeat' apply And.intro) <;> first | assumption | rfl | omega | trivial))) -- o2 e1.2
    · skip
      try simp (disch := omega) only [jst_eq, jst_ne, jst_ni, jI_i, jcmp_lt, jcmp_gt, w32_id, jcpy_out, Sum.elim_inl, Sum.elim_inr, jt2, jt3, jt4, jt5, jt6, jt7, jt8] at c1
      refine OK_jg (by (first | assumption | omega | ((try dsimp only [jt2, jt3, jt4]); first | omega | (simp (disch := omega) only [jst_eq, jst_ne, jst_ni, jst_o, jI_i, jcpy_out, w32_id, jdiv_nn, jshr_k, jand_255] <;> first | done | omega | assumption)) | (intros; simp (disch := omega) only [jst_eq, jst_ne, jst_ni, jst_o, jI_i, jcpy_out, w32_id, jdiv_nn, *] <;> first | done | omega) | (intros; simp (disch := omega) only [jst_eq, jst_ne, jst_ni, jst_o, jI_i, jcpy_out, w32_id, jdiv_nn] at * <;> first | done | omega | assumption) | (intros; first | rfl | (exfalso; omega) | ((repeat' apply And.intro) <;> first | assumption | rfl | omega | trivial)))) ?_ -- o3
      refine OK_jl ?_
      refine OK_jb2 (hF _ _ _ (updT T i1 a4) (by (refine ⟨envX_fr hv (fun a x y => funext fun s => by rw [jst_o (by omega)]; exact q2.2 a s (by omega) (by omega)), hN1, hN5, by (try simp (disch := omega) only [jst_eq, jst_ne, jst_ni, jI_i, jcmp_lt, jcmp_gt, w32_id, jcpy_out, Sum.elim_inl, Sum.elim_inr, jt2, jt3, jt4, jt5, jt6, jt7, jt8]); omega, by (try simp (disch := omega) only [jst_eq, jst_ne, jst_ni, jI_i, jcmp_lt, jcmp_gt, w32_id, jcpy_out, Sum.elim_inl, Sum.elim_inr, jt2, jt3, jt4, jt5, jt6, jt7, jt8]); omega, by (try simp (disch := omega) only [jst_eq, jst_ne, jst_ni, jI_i, jcmp_lt, jcmp_gt, w32_id, jcpy_out, Sum.elim_inl, Sum.elim_inr, jt2, jt3, jt4, jt5, jt6, jt7, jt8]); omega, by (try simp (disch := omega) only [jst_eq, jst_ne, jst_ni, jI_i, jcmp_lt, jcmp_gt, w32_id, jcpy_out, Sum.elim_inl, Sum.elim_inr, jt2, jt3, jt4, jt5, jt6, jt7, jt8]); omega, fun i y0 y1 => ?_⟩; (try simp (disch := omega) only [jst_eq, jst_ne, jst_ni, jI_i, jcmp_lt, jcmp_gt, w32_id, jcpy_out, Sum.elim_inl, Sum.elim_inr, jt2, jt3, jt4, jt5, jt6, jt7, jt8] at y1); unfold updT; rw [jst_at]; by_cases z : i = i1; { rw [if_pos z, if_pos z]; exact ⟨rfl, by omega, by omega⟩ }; { rw [if_neg z, if_neg z, q2.1 i y0 (by omega)]; exact hT i y0 (by omega) }))) (fun v15 h16 r1 => ?_)
      try dsimp only [Sum.elim_inl, Sum.elim_inr, jt2, jt3, jt4, jt5, jt6, jt7, jt8] at r1
      have px1 := r1
      clear r1
      try simp (disch := omega) only [jst_eq, jst_ne, jst_ni, jI_i, jcmp_lt, jcmp_gt, w32_id, jcpy_out, Sum.elim_inl, Sum.elim_inr, jt2, jt3, jt4, jt5, jt6, jt7, jt8] at px1
      obtain ⟨px, pk⟩ := px1
      refine OK_if (fun c2 => ?_) (fun c2 => ?_)
      · skip
        try simp (disch := omega) only [jst_eq, jst_ne, jst_ni, jI_i, jcmp_lt, jcmp_gt, w32_id, jcpy_out, Sum.elim_inl, Sum.elim_inr, jt2, jt3, jt4, jt5, jt6, jt7, jt8] at c2
        refine OK_jlx (fun x18 ex18 => ?_)
        try simp (disch := omega) only [jst_eq, jst_ne, jst_ni, jI_i, jcmp_lt, jcmp_gt, w32_id, jcpy_out, Sum.elim_inl, Sum.elim_inr, jt2, jt3, jt4, jt5, jt6, jt7, jt8] at ex18
        refine OK_il ?_ ?_
        · try dsimp only [Sum.elim_inl, Sum.elim_inr, jt2, jt3, jt4, jt5, jt6, jt7, jt8]
          refine ⟨?_, ?_, ?_⟩
          · (first | assumption | omega | ((try dsimp only [jt2, jt3, jt4]); first | omega | (simp (disch := omega) only [jst_eq, jst_ne, jst_ni, jst_o, jI_i, jcpy_out, w32_id, jdiv_nn, jshr_k, jand_255] <;> first | done | omega | assumption)) | (intros; simp (disch := omega) only [jst_eq, jst_ne, jst_ni, jst_o, jI_i, jcpy_out, w32_id, jdiv_nn, *] <;> first | done | omega) | (intros; simp (disch := omega) only [jst_eq, jst_ne, jst_ni, jst_o, jI_i, jcpy_out, w32_id, jdiv_nn] at * <;> first | done | omega | assumption) | (intros; first | rfl | (exfalso; omega) | ((repeat' apply And.intro) <;> first | assumption | rfl | omega | trivial))) -- o5 e2i.1
          · (have no := (px.resolve_right (fun z => absurd z.1 (by omega))).2; refine Eq.trans ?_ q1; rw [show (min i3 (i2 + 1) - x18).toNat = (min i3 (i2 + 1) - a4).toNat - 1 by omega, ex18]; refine (tryS_none (by omega) ?_).symm; exact no) -- o6 e2i.2
          · (exact ⟨fun i x y => by rw [pk.1 i x (by omega), jst_o (by omega)]; exact q2.1 i x y, fun a s x y => by rw [pk.2 a s x y, jst_o (by omega)]; exact q2.2 a s x y⟩) -- o7 e2i.3
        · (first | assumption | omega | ((try dsimp only [jt2, jt3, jt4]); first | omega | (simp (disch := omega) only [jst_eq, jst_ne, jst_ni, jst_o, jI_i, jcpy_out, w32_id, jdiv_nn, jshr_k, jand_255] <;> first | done | omega | assumption)) | (intros; simp (disch := omega) only [jst_eq, jst_ne, jst_ni, jst_o, jI_i, jcpy_out, w32_id, jdiv_nn, *] <;> first | done | omega) | (intros; simp (disch := omega) only [jst_eq, jst_ne, jst_ni, jst_o, jI_i, jcpy_out, w32_id, jdiv_nn] at * <;> first | done | omega | assumption) | (intros; first | rfl | (exfalso; omega) | ((repeat' apply And.intro) <;> first | assumption | rfl | omega | trivial))) -- o8 e2m
      · skip
        try simp (disch := omega) only [jst_eq, jst_ne, jst_ni, jI_i, jcmp_lt, jcmp_gt, w32_id, jcpy_out, Sum.elim_inl, Sum.elim_inr, jt2, jt3, jt4, jt5, jt6, jt7, jt8] at c2
        refine OK_ir ?_
        try dsimp only [Sum.elim_inl, Sum.elim_inr, jt2, jt3, jt4, jt5, jt6, jt7, jt8]
        refine ⟨?_, ?_⟩
        · (obtain ⟨T', t1, t2, t3⟩ := (px.resolve_left (fun z => c2 z.1)).2; refine ⟨T', ?_, t2, t3⟩; rw [← q1]; exact tryS_some (by omega) t1) -- o9 e3.1
        · (exact ⟨fun i x y => by rw [pk.1 i x (by omega), jst_o (by omega)]; exact q2.1 i x y, fun a s x y => by rw [pk.2 a s x y, jst_o (by omega)]; exact q2.2 a s x y⟩) -- o10 e3.2
  · try dsimp only [Sum.elim_inl, Sum.elim_inr, jt2, jt3, jt4, jt5, jt6, jt7, jt8]
    refine ⟨?_, ?_, ?_⟩
    · (first | assumption | omega | ((try dsimp only [jt2, jt3, jt4]); first | omega | (simp (disch := omega) only [jst_eq, jst_ne, jst_ni, jst_o, jI_i, jcpy_out, w32_id, jdiv_nn, jshr_k, jand_255] <;> first | done | omega | assumption)) | (intros; simp (disch := omega) only [jst_eq, jst_ne, jst_ni, jst_o, jI_i, jcpy_out, w32_id, jdiv_nn, *] <;> first | done | omega) | (intros; simp (disch := omega) only [jst_eq, jst_ne, jst_ni, jst_o, jI_i, jcpy_out, w32_id, jdiv_nn] at * <;> first | done | omega | assumption) | (intros; first | rfl | (exfalso; omega) | ((repeat' apply And.intro) <;> first | assumption | rfl | omega | trivial))) -- o11 init.1
    · (subst h4; rw [srX_1 hlt, Int.sub_zero]) -- o12 init.2
    · exact ⟨fun _ _ _ => rfl, fun _ _ _ _ => rfl⟩ -- o13 init.3
theorem vX10_tryFrom_ {F : Int → Int → Int → AH → Option (Int × AH)} (a1 : Int) (a2 : Int) (a3 : Int) {h : AH} {sz : Int → Int} {B : Int → Int → Int} {g : Int → Int} {nw : Int} {k : Nat} {T : Int → Int} (hF : ∀ j, k = j + 1 → CX F a3 sz B g nw j) (hp : preX a3 sz B g nw k a1 a2 h T) : OK (gX10_tryFrom_ F a1 a2 a3 h) (fun r => jt2 r fun v h' => postX a3 sz B g nw k a1 a2 h T v h') := by
  have hp' := hp
  obtain ⟨hv, hN1, hN5, hp0, hpk, hm1, hm2, hT⟩ := hp
  have D : jdiv a1 2 = a1 / 2 := jdiv_nn hp0 (by omega) (by decide) (by decide)
  unfold gX10_tryFrom_
  refine OK_if (fun c1 => ?_) (fun c1 => ?_)
  · skip
    try simp (disch := omega) only [jst_eq, jst_ne, jst_ni, jI_i, jcmp_lt, jcmp_gt, w32_id, jcpy_out, Sum.elim_inl, Sum.elim_inr, jt2, jt3, jt4, jt5, jt6, jt7, jt8] at c1
    refine OK_if (fun c2 => ?_) (fun c2 => ?_)
    · skip
      try simp (disch := omega) only [jst_eq, jst_ne, jst_ni, jI_i, jcmp_lt, jcmp_gt, w32_id, jcpy_out, Sum.elim_inl, Sum.elim_inr, jt2, jt3, jt4, jt5, jt6, jt7, jt8] at c2
      refine OK_jb2 (vX10_fits (N := a3) (sz := sz) (by exact hv.1) (by exact ⟨hN1, hN5, fun i x y => by obtain ⟨z1, z2, z3⟩ := hT i x (by omega); rw [z1]; exact ⟨z2, z3⟩⟩)) (fun v4 h5 r1 => ?_)
      try dsimp only [Sum.elim_inl, Sum.elim_inr, jt2, jt3, jt4, jt5, jt6, jt7, jt8] at r1
      obtain ⟨v01, v11, en1, fr1⟩ := r1
      try simp (disch := omega) only [jst_eq, jst_ne, jst_ni, jI_i, jcmp_lt, jcmp_gt, w32_id, jcpy_out, Sum.elim_inl, Sum.elim_inr, jt2, jt3, jt4, jt5, jt6, jt7, jt8] at v01
      try simp (disch := omega) only [jst_eq, jst_ne, jst_ni, jI_i, jcmp_lt, jcmp_gt, w32_id, jcpy_out, Sum.elim_inl, Sum.elim_inr, jt2, jt3, jt4, jt5, jt6, jt7, jt8] at v11
      try simp (disch := omega) only [jst_eq, jst_ne, jst_ni, jI_i, jcmp_lt, jcmp_gt, w32_id, jcpy_out, Sum.elim_inl, Sum.elim_inr, jt2, jt3, jt4, jt5, jt6, jt7, jt8] at en1
      try simp (disch := omega) only [jst_eq, jst_ne, jst_ni, jI_i, jcmp_lt, jcmp_gt, w32_id, jcpy_out, Sum.elim_inl, Sum.elim_inr, jt2, jt3, jt4, jt5, jt6, jt7, jt8] at fr1
      have hk0 : k = 0 := by omega
      obtain ⟨w1, w2⟩ := okT_X (T := T) hv (N := a3) ⟨hN1, hN5, fun i x y => by obtain ⟨z1, z2, z3⟩ := hT i x (by omega); rw [z1]; exact ⟨z2, z3⟩⟩ (fun i x y => (hT i x (by omega)).1.symm)
      have ke : keptX a1 h h5 := ⟨fun i _ _ => fr1 _ _ (by omega), fun a s _ y => fr1 a s y⟩
      refine OK_if (fun c3 => ?_) (fun c3 => ?_)
      · skip
        try simp (disch := omega) only [jst_eq, jst_ne, jst_ni, jI_i, jcmp_lt, jcmp_gt, w32_id, jcpy_out, Sum.elim_inl, Sum.elim_inr, jt2, jt3, jt4, jt5, jt6, jt7, jt8] at c3
        refine OK_some ?_
        try dsimp only [Sum.elim_inl, Sum.elim_inr, jt2, jt3, jt4, jt5, jt6, jt7, jt8]
        (subst hk0; exact ⟨Or.inl ⟨rfl, if_neg (fun z => by have z2 := z.2; rw [← w1, v11, decide_eq_true_eq] at z2; omega)⟩, ke⟩) -- o3 e1
      · skip
        try simp (disch := omega) only [jst_eq, jst_ne, jst_ni, jI_i, jcmp_lt, jcmp_gt, w32_id, jcpy_out, Sum.elim_inl, Sum.elim_inr, jt2, jt3, jt4, jt5, jt6, jt7, jt8] at c3
        refine OK_some ?_
        try dsimp only [Sum.elim_inl, Sum.elim_inr, jt2, jt3, jt4, jt5, jt6, jt7, jt8]
        (subst hk0; refine ⟨Or.inr ⟨rfl, T, if_pos ⟨by omega, by rw [← w1, v11]; exact decide_eq_true (by omega)⟩, fun i x y => ?_, fun s x y => ?_⟩, ke⟩; { rw [fr1 _ _ (by omega)]; exact (hT i x (by omega)).1 }; { rw [en1 (by omega) s x y]; exact w2 s }) -- o4 e2
    · skip
      try simp (disch := omega) only [jst_eq, jst_ne, jst_ni, jI_i, jcmp_lt, jcmp_gt, w32_id, jcpy_out, Sum.elim_inl, Sum.elim_inr, jt2, jt3, jt4, jt5, jt6, jt7, jt8] at c2
      refine OK_some ?_
      try dsimp only [Sum.elim_inl, Sum.elim_inr, jt2, jt3, jt4, jt5, jt6, jt7, jt8]
      have hk0 : k = 0 := by omega
      (subst hk0; exact ⟨Or.inl ⟨rfl, if_neg (fun z => c2 z.1)⟩, ⟨fun _ _ _ => rfl, fun _ _ _ _ => rfl⟩⟩) -- o5 e3
  · skip
    try simp (disch := omega) only [jst_eq, jst_ne, jst_ni, jI_i, jcmp_lt, jcmp_gt, w32_id, jcpy_out, Sum.elim_inl, Sum.elim_inr, jt2, jt3, jt4, jt5, jt6, jt7, jt8] at c1
    refine OK_if (fun c4 => ?_) (fun c4 => ?_)
    · skip
      try simp (disch := omega) only [jst_eq, jst_ne, jst_ni, jI_i, jcmp_lt, jcmp_gt, w32_id, jcpy_out, Sum.elim_inl, Sum.elim_inr, jt2, jt3, jt4, jt5, jt6, jt7, jt8] at c4
      refine OK_jb (vX10_tryFrom_l37 (j := k - 1) (sz := sz) (B := B) (g := g) (nw := nw) (T := T) _ _ _ _ (by exact hF (k - 1) (by omega)) (by (rw [show k - 1 + 1 = k by omega]; exact hp')) (by (first | assumption | omega | ((try dsimp only [jt2, jt3, jt4]); first | omega | (simp (disch := omega) only [jst_eq, jst_ne, jst_ni, jst_o, jI_i, jcpy_out, w32_id, jdiv_nn, jshr_k, jand_255] <;> first | done | omega | assumption)) | (intros; simp (disch := omega) only [jst_eq, jst_ne, jst_ni, jst_o, jI_i, jcpy_out, w32_id, jdiv_nn, *] <;> first | done | omega) | (intros; simp (disch := omega) only [jst_eq, jst_ne, jst_ni, jst_o, jI_i, jcpy_out, w32_id, jdiv_nn] at * <;> first | done | omega | assumption) | (intros; first | rfl | (exfalso; omega) | ((repeat' apply And.intro) <;> first | assumption | rfl | omega | trivial)))) (by (first | assumption | omega | ((try dsimp only [jt2, jt3, jt4]); first | omega | (simp (disch := omega) only [jst_eq, jst_ne, jst_ni, jst_o, jI_i, jcpy_out, w32_id, jdiv_nn, jshr_k, jand_255] <;> first | done | omega | assumption)) | (intros; simp (disch := omega) only [jst_eq, jst_ne, jst_ni, jst_o, jI_i, jcpy_out, w32_id, jdiv_nn, *] <;> first | done | omega) | (intros; simp (disch := omega) only [jst_eq, jst_ne, jst_ni, jst_o, jI_i, jcpy_out, w32_id, jdiv_nn] at * <;> first | done | omega | assumption) | (intros; first | rfl | (exfalso; omega) | ((repeat' apply And.intro) <;> first | assumption | rfl | omega | trivial))))) (fun o8 r2 => ?_)
      rcases o8 with o10 | o11
      · skip
        have r3 := r2; clear r2
        dsimp only [Sum.elim_inl, Sum.elim_inr] at r3
        try dsimp only [Sum.elim_inl, Sum.elim_inr, jt2, jt3, jt4, jt5, jt6, jt7, jt8] at r3
        obtain ⟨fo2, ke2⟩ := r3
        try simp (disch := omega) only [jst_eq, jst_ne, jst_ni, jI_i, jcmp_lt, jcmp_gt, w32_id, jcpy_out, Sum.elim_inl, Sum.elim_inr, jt2, jt3, jt4, jt5, jt6, jt7, jt8] at fo2
        try simp (disch := omega) only [jst_eq, jst_ne, jst_ni, jI_i, jcmp_lt, jcmp_gt, w32_id, jcpy_out, Sum.elim_inl, Sum.elim_inr, jt2, jt3, jt4, jt5, jt6, jt7, jt8] at ke2
        refine OK_jml ?_
        refine OK_some ?_
        try dsimp only [Sum.elim_inl, Sum.elim_inr, jt2, jt3, jt4, jt5, jt6, jt7, jt8]
        (rw [show k - 1 + 1 = k by omega] at fo2; exact ⟨Or.inr ⟨rfl, fo2⟩, ke2⟩) -- o10 e4
      · skip
        have r4 := r2; clear r2
        dsimp only [Sum.elim_inl, Sum.elim_inr] at r4
        try dsimp only [Sum.elim_inl, Sum.elim_inr, jt2, jt3, jt4, jt5, jt6, jt7, jt8] at r4
        obtain ⟨no3, ke3⟩ := r4
        try simp (disch := omega) only [jst_eq, jst_ne, jst_ni, jI_i, jcmp_lt, jcmp_gt, w32_id, jcpy_out, Sum.elim_inl, Sum.elim_inr, jt2, jt3, jt4, jt5, jt6, jt7, jt8] at no3
        try simp (disch := omega) only [jst_eq, jst_ne, jst_ni, jI_i, jcmp_lt, jcmp_gt, w32_id, jcpy_out, Sum.elim_inl, Sum.elim_inr, jt2, jt3, jt4, jt5, jt6, jt7, jt8] at ke3
        refine OK_jmr ?_
        refine OK_some ?_
        try dsimp only [Sum.elim_inl, Sum.elim_inr, jt2, jt3, jt4, jt5, jt6, jt7, jt8]
        (rw [show k - 1 + 1 = k by omega] at no3; exact ⟨Or.inl ⟨rfl, no3⟩, ke3⟩) -- o11 e5
    · skip
      try simp (disch := omega) only [jst_eq, jst_ne, jst_ni, jI_i, jcmp_lt, jcmp_gt, w32_id, jcpy_out, Sum.elim_inl, Sum.elim_inr, jt2, jt3, jt4, jt5, jt6, jt7, jt8] at c4
      refine OK_some ?_
      try dsimp only [Sum.elim_inl, Sum.elim_inr, jt2, jt3, jt4, jt5, jt6, jt7, jt8]
      obtain ⟨k', hk'⟩ : ∃ k', k = k' + 1 := ⟨k - 1, by omega⟩
      (subst hk'; exact ⟨Or.inl ⟨rfl, if_neg (by omega)⟩, ⟨fun _ _ _ => rfl, fun _ _ _ _ => rfl⟩⟩) -- o12 e6
theorem CX_D (N : Int) (sz : Int → Int) (B : Int → Int → Int) (g : Int → Int) (nw : Int) : ∀ (d k : Nat), k < d → CX (gX10_tryFromD d) N sz B g nw k
  | 0, k, h => by omega
  | d + 1, k, h => fun p met hh T hp => OK_mono (vX10_tryFrom_ p met N (k := k) (fun j hj => CX_D N sz B g nw d j (by omega)) hp) (fun r z => z)
theorem vX10_tryFrom (N : Int) (sz : Int → Int) (B : Int → Int → Int) (g : Int → Int) (nw : Int) {k : Nat} (hk : k < 40) : CX gX10_tryFrom N sz B g nw k := CX_D N sz B g nw 40 k hk

