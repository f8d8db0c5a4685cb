/-! m: the places of a term; a term with a node replaced -/
def lf5 (h : AH) (d j : Int) (_ : NI) : Prop := h 465 d = j
def pl7 (d c z : Int) (h h' : AH) : Prop := h' 454 73 = c + z ∧ (∀ k, 0 ≤ k → k < z → h' 796 (c + k) = d + k) ∧ ∀ a s, ¬ (a = 454 ∧ s = 73) → ¬ (a = 796 ∧ c ≤ s ∧ s < c + z) → h' a s = h a s
theorem pl7_t {d c z w : Int} {h h1 h2 : AH} (x : pl7 d c z h h1) (y : pl7 (d + z) (c + z) w h1 h2) (z0 : 0 ≤ z) (w0 : 0 ≤ w) : pl7 d c (z + w) h h2 := by
  refine ⟨by rw [y.1]; omega, fun k k0 k1 => ?_, fun a s y1 y2 => (y.2.2 a s y1 (by omega)).trans (x.2.2 a s y1 (by omega))⟩
  by_cases q : k < z
  · rw [y.2.2 _ _ (by omega) (by omega)]; exact x.2.1 k k0 q
  · have e := y.2.1 (k - z) (by omega) (by omega)
    rw [show c + z + (k - z) = c + k by omega] at e
    rw [e]; omega
def PLF (F : Int → AH → Option AH) (k : Int) : Prop := ∀ (d : Int) (h : AH) (R : TR), cG lf5 h R d 0 (d + 1) → (0 ≤ d ∧ d + sz R ≤ 8800) → (0 ≤ h 454 73 ∧ h 454 73 + sz R ≤ 400) → dpT R + 1 ≤ k → OK (F d h) (fun h' => pl7 d (h 454 73) (sz R) h h')
theorem vX14_places_l22 {F : Int → AH → Option (AH)} (i1 : Int) (a20 : Int) {h0 : AH} {k c0 : Int} {R : TR} {hb : AH} (hF : PLF F k) (c : cG lf5 hb R i1 0 (i1 + 1)) (d : 0 ≤ i1 ∧ i1 + sz R ≤ 8800) (cc : 0 ≤ c0 ∧ c0 + sz R ≤ 400) (dk : dpT R + 1 ≤ k + 1) (n3 : nk R ≤ 3) (p0 : pl7 i1 c0 1 hb h0) (z : a20 = 0) : OK (gX14_places_l22 F i1 a20 h0) (fun h' => pl7 i1 c0 (sz R) hb h') := by
  unfold gX14_places_l22
  refine OK_jit (I := (fun (s : Int × AH) => jt2 s fun a2 h => (0 ≤ a2 ∧ a2 ≤ nk R) ∧ (pl7 i1 c0 (1 + kss sz R a2.toNat) hb h))) (m := (fun (s : Int × AH) => jt2 s fun a2 h => (nk R - a2).toNat)) ?_ ?_
  · intro s hs
    obtain ⟨a2, h⟩ := s
    dsimp only [Sum.elim_inl, Sum.elim_inr, jt2, jt3, jt4, jt5, jt6, jt7, jt8] at hs
    obtain ⟨q0, q1⟩ := hs
    unfold gX14_places_b22
    refine OK_jt2 ?_
    have Q1 := q1
    have Q2 := q1.2.2
    have k0 := kss_0 (g := sz) sz_0 R a2.toNat
    have sp := sz_pos R
    have n465 : h 465 i1 = nk R := by { rw [Q2 _ _ (by omega) (by omega)]; have q := cG_nd c; rw [Int.zero_add] at q; exact q }
    refine OK_jg (by (first | assumption | omega | ((try dsimp only [jt2, jt3, jt4]); first | omega | (simp (disch := omega) only [jst_eq, jst_ne, jst_ni, jst_o, jI_i, jcpy_out, w32_id, jdiv_nn, jshr_k, jand_255] <;> first | done | omega | assumption)) | (intros; simp (disch := omega) only [jst_eq, jst_ne, jst_ni, jst_o, jI_i, jcpy_out, w32_id, jdiv_nn, *] <;> first | done | omega) | (intros; simp (disch := omega) only [jst_eq, jst_ne, jst_ni, jst_o, jI_i, jcpy_out, w32_id, jdiv_nn] at * <;> first | done | omega | assumption) | (intros; first | rfl | (exfalso; omega) | ((repeat' apply And.intro) <;> first | assumption | rfl | omega | trivial)))) ?_ -- o1
    refine OK_if (fun c1 => ?_) (fun c1 => ?_)
    · skip
      try simp (disch := omega) only [jst_eq, jst_ne, jst_ni, jI_i, jcmp_lt, jcmp_gt, w32_id, jcpy_out, Sum.elim_inl, Sum.elim_inr, jt2, jt3, jt4, jt5, jt6, jt7, jt8] at c1
      refine OK_ir ?_
      (have e3 := kss_sz R a2.toNat (by omega); rw [e3]; exact Q1) -- o2 e1
    · skip
      try simp (disch := omega) only [jst_eq, jst_ne, jst_ni, jI_i, jcmp_lt, jcmp_gt, w32_id, jcpy_out, Sum.elim_inl, Sum.elim_inr, jt2, jt3, jt4, jt5, jt6, jt7, jt8] at c1
      have ea : ((a2.toNat : Nat) : Int) = a2 := by omega
      have kt := cG_kd a2.toNat c (by omega)
      have kd := dpT_kd R a2.toNat (by omega)
      rw [ea, Int.zero_add] at kt
      have sk := szK_le (R := R) (k := a2.toNat) (by omega) n3
      have ks := kss_s (g := sz) (R := R) (k := a2.toNat) (by omega)
      have spk := sz_pos (kdA R a2.toNat)
      have iw : w32 (w32 (3 * i1) + a2) = 3 * i1 + a2 := by { rw [w32_id (x := 3 * i1) (by omega) (by omega), w32_id (by omega) (by omega)] }
      have e464 : h 464 (3 * i1 + a2) = i1 + 1 + kss sz R a2.toNat := by { rw [Q2 _ _ (by omega) (by omega)]; exact kt.1 }
      have N73 : h 454 73 = c0 + (1 + kss sz R a2.toNat) := q1.1
      refine OK_jg (by (first | assumption | omega | ((try dsimp only [jt2, jt3, jt4]); first | omega | (simp (disch := omega) only [jst_eq, jst_ne, jst_ni, jst_o, jI_i, jcpy_out, w32_id, jdiv_nn, jshr_k, jand_255] <;> first | done | omega | assumption)) | (intros; simp (disch := omega) only [jst_eq, jst_ne, jst_ni, jst_o, jI_i, jcpy_out, w32_id, jdiv_nn, *] <;> first | done | omega) | (intros; simp (disch := omega) only [jst_eq, jst_ne, jst_ni, jst_o, jI_i, jcpy_out, w32_id, jdiv_nn] at * <;> first | done | omega | assumption) | (intros; first | rfl | (exfalso; omega) | ((repeat' apply And.intro) <;> first | assumption | rfl | omega | trivial)))) ?_ -- o3
      refine OK_jb (hF _ _ (kdA R a2.toNat) (by (rw [iw, e464]; exact cG_fr (h := hb) (lo := i1 + 1 + kss sz R a2.toNat) (hi := i1 + 1 + kss sz R a2.toNat + sz (kdA R a2.toNat)) (fun dd j i d0 d1 l => by show h 465 dd = j; rw [Q2 465 dd (by omega) (by omega)]; exact l) (fun s _ _ => Q2 _ _ (by omega) (by omega)) (Int.le_refl _) (by omega) (by omega) (by omega) kt.2)) (by (rw [iw, e464]; omega)) (by (rw [N73]; omega)) (by omega)) (fun h7 r1 => ?_)
      try dsimp only [Sum.elim_inl, Sum.elim_inr, jt2, jt3, jt4, jt5, jt6, jt7, jt8] at r1
      have pl1 := r1
      clear r1
      try simp (disch := omega) only [jst_eq, jst_ne, jst_ni, jI_i, jcmp_lt, jcmp_gt, w32_id, jcpy_out, Sum.elim_inl, Sum.elim_inr, jt2, jt3, jt4, jt5, jt6, jt7, jt8] at pl1
      have PL : pl7 i1 c0 (1 + kss sz R (a2.toNat + 1)) hb h7 := by { (try rw [iw] at pl1); rw [e464, N73] at pl1; rw [ks, show 1 + (kss sz R a2.toNat + sz (kdA R a2.toNat)) = 1 + kss sz R a2.toNat + sz (kdA R a2.toNat) by omega]; exact pl7_t Q1 (by rw [show i1 + (1 + kss sz R a2.toNat) = i1 + 1 + kss sz R a2.toNat by omega]; exact pl1) (by omega) (by omega) }
      refine OK_jlx (fun x8 ex8 => ?_)
      try simp (disch := omega) only [jst_eq, jst_ne, jst_ni, jI_i, jcmp_lt, jcmp_gt, w32_id, jcpy_out, Sum.elim_inl, Sum.elim_inr, jt2, jt3, jt4, jt5, jt6, jt7, jt8] at ex8
      refine OK_il ?_ ?_
      · try dsimp only [Sum.elim_inl, Sum.elim_inr, jt2, jt3, jt4, jt5, jt6, jt7, jt8]
        refine ⟨?_, ?_⟩
        · (first | assumption | omega | ((try dsimp only [jt2, jt3, jt4]); first | omega | (simp (disch := omega) only [jst_eq, jst_ne, jst_ni, jst_o, jI_i, jcpy_out, w32_id, jdiv_nn, jshr_k, jand_255] <;> first | done | omega | assumption)) | (intros; simp (disch := omega) only [jst_eq, jst_ne, jst_ni, jst_o, jI_i, jcpy_out, w32_id, jdiv_nn, *] <;> first | done | omega) | (intros; simp (disch := omega) only [jst_eq, jst_ne, jst_ni, jst_o, jI_i, jcpy_out, w32_id, jdiv_nn] at * <;> first | done | omega | assumption) | (intros; first | rfl | (exfalso; omega) | ((repeat' apply And.intro) <;> first | assumption | rfl | omega | trivial))) -- o8 e2i.1
        · (rw [ex8]; (try rw [w32_id (by omega) (by omega)]); rw [show (a2 + 1).toNat = a2.toNat + 1 by omega]; exact PL) -- o9 e2i.2
      · (first | assumption | omega | ((try dsimp only [jt2, jt3, jt4]); first | omega | (simp (disch := omega) only [jst_eq, jst_ne, jst_ni, jst_o, jI_i, jcpy_out, w32_id, jdiv_nn, jshr_k, jand_255] <;> first | done | omega | assumption)) | (intros; simp (disch := omega) only [jst_eq, jst_ne, jst_ni, jst_o, jI_i, jcpy_out, w32_id, jdiv_nn, *] <;> first | done | omega) | (intros; simp (disch := omega) only [jst_eq, jst_ne, jst_ni, jst_o, jI_i, jcpy_out, w32_id, jdiv_nn] at * <;> first | done | omega | assumption) | (intros; first | rfl | (exfalso; omega) | ((repeat' apply And.intro) <;> first | assumption | rfl | omega | trivial))) -- o10 e2m
  · try dsimp only [Sum.elim_inl, Sum.elim_inr, jt2, jt3, jt4, jt5, jt6, jt7, jt8]
    refine ⟨?_, ?_⟩
    · (have := nk_0 R; omega) -- o11 init.1
    · (rw [z]; exact p0) -- o12 init.2
theorem vX14_places_ {F : Int → AH → Option (AH)} (a1 : Int) {h : AH} {k : Int} {R : TR} (hF : PLF F k) (c : cG lf5 h R a1 0 (a1 + 1)) (d : 0 ≤ a1 ∧ a1 + sz R ≤ 8800) (cc : 0 ≤ h 454 73 ∧ h 454 73 + sz R ≤ 400) (dk : dpT R + 1 ≤ k + 1) : OK (gX14_places_ F a1 h) (fun h' => pl7 a1 (h 454 73) (sz R) h h') := by
  have sp := sz_pos R
  have n3 := cG_n3 c (by decide)
  rw [Int.zero_add] at n3
  unfold gX14_places_
  refine OK_jg (by (first | assumption | omega | ((try dsimp only [jt2, jt3, jt4]); first | omega | (simp (disch := omega) only [jst_eq, jst_ne, jst_ni, jst_o, jI_i, jcpy_out, w32_id, jdiv_nn, jshr_k, jand_255] <;> first | done | omega | assumption)) | (intros; simp (disch := omega) only [jst_eq, jst_ne, jst_ni, jst_o, jI_i, jcpy_out, w32_id, jdiv_nn, *] <;> first | done | omega) | (intros; simp (disch := omega) only [jst_eq, jst_ne, jst_ni, jst_o, jI_i, jcpy_out, w32_id, jdiv_nn] at * <;> first | done | omega | assumption) | (intros; first | rfl | (exfalso; omega) | ((repeat' apply And.intro) <;> first | assumption | rfl | omega | trivial)))) ?_ -- o1
  refine OK_jl ?_
  refine OK_jl ?_
  refine OK_jb (vX14_places_l22 (k := k) (c0 := h 454 73) (R := R) (hb := h) _ _ (by (first | assumption | omega | ((try dsimp only [jt2, jt3, jt4]); first | omega | (simp (disch := omega) only [jst_eq, jst_ne, jst_ni, jst_o, jI_i, jcpy_out, w32_id, jdiv_nn, jshr_k, jand_255] <;> first | done | omega | assumption)) | (intros; simp (disch := omega) only [jst_eq, jst_ne, jst_ni, jst_o, jI_i, jcpy_out, w32_id, jdiv_nn, *] <;> first | done | omega) | (intros; simp (disch := omega) only [jst_eq, jst_ne, jst_ni, jst_o, jI_i, jcpy_out, w32_id, jdiv_nn] at * <;> first | done | omega | assumption) | (intros; first | rfl | (exfalso; omega) | ((repeat' apply And.intro) <;> first | assumption | rfl | omega | trivial)))) (by exact c) (by (first | assumption | omega | ((try dsimp only [jt2, jt3, jt4]); first | omega | (simp (disch := omega) only [jst_eq, jst_ne, jst_ni, jst_o, jI_i, jcpy_out, w32_id, jdiv_nn, jshr_k, jand_255] <;> first | done | omega | assumption)) | (intros; simp (disch := omega) only [jst_eq, jst_ne, jst_ni, jst_o, jI_i, jcpy_out, w32_id, jdiv_nn, *] <;> first | done | omega) | (intros; simp (disch := omega) only [jst_eq, jst_ne, jst_ni, jst_o, jI_i, jcpy_out, w32_id, jdiv_nn] at * <;> first | done | omega | assumption) | (intros; first | rfl | (exfalso; omega) | ((repeat' apply And.intro) <;> first | assumption | rfl | omega | trivial)))) (by (first | assumption | omega | ((try dsimp only [jt2, jt3, jt4]); first | omega | (simp (disch := omega) only [jst_eq, jst_ne, jst_ni, jst_o, jI_i, jcpy_out, w32_id, jdiv_nn, jshr_k, jand_255] <;> first | done | omega | assumption)) | (intros; simp (disch := omega) only [jst_eq, jst_ne, jst_ni, jst_o, jI_i, jcpy_out, w32_id, jdiv_nn, *] <;> first | done | omega) | (intros; simp (disch := omega) only [jst_eq, jst_ne, jst_ni, jst_o, jI_i, jcpy_out, w32_id, jdiv_nn] at * <;> first | done | omega | assumption) | (intros; first | rfl | (exfalso; omega) | ((repeat' apply And.intro) <;> first | assumption | rfl | omega | trivial)))) (by (first | assumption | omega | ((try dsimp only [jt2, jt3, jt4]); first | omega | (simp (disch := omega) only [jst_eq, jst_ne, jst_ni, jst_o, jI_i, jcpy_out, w32_id, jdiv_nn, jshr_k, jand_255] <;> first | done | omega | assumption)) | (intros; simp (disch := omega) only [jst_eq, jst_ne, jst_ni, jst_o, jI_i, jcpy_out, w32_id, jdiv_nn, *] <;> first | done | omega) | (intros; simp (disch := omega) only [jst_eq, jst_ne, jst_ni, jst_o, jI_i, jcpy_out, w32_id, jdiv_nn] at * <;> first | done | omega | assumption) | (intros; first | rfl | (exfalso; omega) | ((repeat' apply And.intro) <;> first | assumption | rfl | omega | trivial)))) (by (first | assumption | omega | ((try dsimp only [jt2, jt3, jt4]); first | omega | (simp (disch := omega) only [jst_eq, jst_ne, jst_ni, jst_o, jI_i, jcpy_out, w32_id, jdiv_nn, jshr_k, jand_255] <;> first | done | omega | assumption)) | (intros; simp (disch := omega) only [jst_eq, jst_ne, jst_ni, jst_o, jI_i, jcpy_out, w32_id, jdiv_nn, *] <;> first | done | omega) | (intros; simp (disch := omega) only [jst_eq, jst_ne, jst_ni, jst_o, jI_i, jcpy_out, w32_id, jdiv_nn] at * <;> first | done | omega | assumption) | (intros; first | rfl | (exfalso; omega) | ((repeat' apply And.intro) <;> first | assumption | rfl | omega | trivial)))) (by (refine ⟨?_, fun k k0 k1 => ?_, fun a s y1 y2 => ?_⟩; { rw [jst_eq, jst_o (by omega)]; exact w32_id (by omega) (by omega) }; { rw [jst_o (by omega), show k = 0 by omega, Int.add_zero, Int.add_zero]; exact jst_eq }; { rw [jst_o y1, jst_o (by omega)] })) (by (first | assumption | omega | ((try dsimp only [jt2, jt3, jt4]); first | omega | (simp (disch := omega) only [jst_eq, jst_ne, jst_ni, jst_o, jI_i, jcpy_out, w32_id, jdiv_nn, jshr_k, jand_255] <;> first | done | omega | assumption)) | (intros; simp (disch := omega) only [jst_eq, jst_ne, jst_ni, jst_o, jI_i, jcpy_out, w32_id, jdiv_nn, *] <;> first | done | omega) | (intros; simp (disch := omega) only [jst_eq, jst_ne, jst_ni, jst_o, jI_i, jcpy_out, w32_id, jdiv_nn] at * <;> first | done | omega | assumption) | (intros; first | rfl | (exfalso; omega) | ((repeat' apply And.intro) <;> first | assumption | rfl | omega | trivial))))) (fun o3 r1 => ?_)
  try dsimp only [Sum.elim_inl, Sum.elim_inr, jt2, jt3, jt4, jt5, jt6, jt7, jt8] at r1
  have pl1 := r1
  clear r1
  try simp (disch := omega) only [jst_eq, jst_ne, jst_ni, jI_i, jcmp_lt, jcmp_gt, w32_id, jcpy_out, Sum.elim_inl, Sum.elim_inr, jt2, jt3, jt4, jt5, jt6, jt7, jt8] at pl1
  refine OK_some ?_
  try dsimp only [Sum.elim_inl, Sum.elim_inr, jt2, jt3, jt4, jt5, jt6, jt7, jt8]
  (first | assumption | omega | ((try dsimp only [jt2, jt3, jt4]); first | omega | (simp (disch := omega) only [jst_eq, jst_ne, jst_ni, jst_o, jI_i, jcpy_out, w32_id, jdiv_nn, jshr_k, jand_255] <;> first | done | omega | assumption)) | (intros; simp (disch := omega) only [jst_eq, jst_ne, jst_ni, jst_o, jI_i, jcpy_out, w32_id, jdiv_nn, *] <;> first | done | omega) | (intros; simp (disch := omega) only [jst_eq, jst_ne, jst_ni, jst_o, jI_i, jcpy_out, w32_id, jdiv_nn] at * <;> first | done | omega | assumption) | (intros; first | rfl | (exfalso; omega) | ((repeat' apply And.intro) <;> first | assumption | rfl | omega | trivial))) -- o10 e1
theorem PLF_D : ∀ D : Nat, PLF (gX14_placesD D) D
  | 0 => fun d h R _ _ _ dk => by have := dpT_0 R; omega
  | D + 1 => fun d h R c d0 cc dk => vX14_places_ d (PLF_D D) c d0 cc (by omega)
theorem vX14_places (a1 : Int) {h : AH} {R : TR} (c : cG lf5 h R a1 0 (a1 + 1)) (d : 0 ≤ a1 ∧ a1 + sz R ≤ 8800) (cc : 0 ≤ h 454 73 ∧ h 454 73 + sz R ≤ 400) (dk : dpT R ≤ 39) : OK (gX14_places a1 h) (fun h' => pl7 a1 (h 454 73) (sz R) h h') := PLF_D 40 a1 h R c d cc (by omega)
theorem lfM_5 {h : AH} {R : TR} {d j p : Int} (c : cG lfM h R d j p) : cG lf5 h R d j p := cG_imp (fun _ _ _ l => l.2.2.1) c
theorem rwM_ins {h : AH} {Q : Int → Prop} {w ins : Int} (w0 : 0 ≤ w) : ∀ {S : TR}, resQ h Q S ins 0 → rwM h Q w ins S w 0
  | .leaf _, r => Or.inl ⟨rfl, w0, rfl, r⟩
  | .branch _ _ _, r => Or.inl ⟨rfl, w0, rfl, r⟩
/-- a term that lies one node behind the other, none of them the one replaced -/
theorem cG_qn {h : AH} {Q : Int → Prop} {w ins : Int} : ∀ {R : TR} {d j p : Int}, cG lfM h R d j p → Q d → (∀ x, p ≤ x → x < p + (sz R - 1) → Q x) → d ≠ w → ¬ (p ≤ w ∧ w < p + (sz R - 1)) → rwM h Q w ins R d j
  | .leaf i, d, j, p, c, q, _, dw, _ => Or.inr ⟨dw, q, c⟩
  | .branch b s r, d, j, p, c, q, qq, dw, pw => by
    obtain ⟨c1, c2, c3, c4, c5⟩ := c
    have z1 := sz_pos s
    have z2 := sz_pos r
    have e : sz (.branch b s r) = sz s + sz r := rfl
    rw [e] at pw qq
    refine Or.inr ⟨dw, c1, c2, ?_, cG_qn c5 q (fun x x0 x1 => qq x (by omega) (by omega)) dw (by omega)⟩
    rw [c3]
    exact cG_qn c4 (qq p (by omega) (by omega)) (fun x x0 x1 => qq x (by omega) (by omega)) (by omega) (by omega)
theorem cG_rwK {h : AH} {Q : Int → Prop} {ins : Int} {S : TR} (rs : resQ h Q S ins 0) : ∀ {R : TR} {d j p m : Int}, cG lfM h R d j p → Q d → (∀ x, p ≤ x → x < p + (sz R - 1) → Q x) → 0 ≤ m → m < sz R - 1 → d < p → 0 ≤ p → rwM h Q (p + m) ins (rpK R m S) d j
  | .leaf i, d, j, p, m, c, _, _, m0, m1, _, _ => by have e : sz (.leaf i) = 1 := rfl; omega
  | .branch b s r, d, j, p, m, c, q, qq, m0, m1, dp, p0 => by
    obtain ⟨c1, c2, c3, c4, c5⟩ := c
    have z1 := sz_pos s
    have z2 := sz_pos r
    have e : sz (.branch b s r) = sz s + sz r := rfl
    rw [e] at m1 qq
    unfold rpK
    by_cases y : m < sz s
    · rw [if_pos y]
      refine Or.inr ⟨by omega, c1, c2, ?_, cG_qn c5 q (fun x x0 x1 => qq x (by omega) (by omega)) (by omega) (by omega)⟩
      rw [c3]
      by_cases z : m = 0
      · rw [if_pos z, z, Int.add_zero]
        exact rwM_ins p0 rs
      · rw [if_neg z]
        have k := cG_rwK rs (m := m - 1) c4 (qq p (by omega) (by omega)) (fun x x0 x1 => qq x (by omega) (by omega)) (by omega) (by omega) (by omega) (by omega)
        rw [show p + 1 + (m - 1) = p + m by omega] at k
        exact k
    · rw [if_neg y]
      refine Or.inr ⟨by omega, c1, c2, ?_, ?_⟩
      · rw [c3]; exact cG_qn c4 (qq p (by omega) (by omega)) (fun x x0 x1 => qq x (by omega) (by omega)) (by omega) (by omega)
      · have k := cG_rwK rs (m := m - sz s) c5 q (fun x x0 x1 => qq x (by omega) (by omega)) (by omega) (by omega) (by omega) (by omega)
        rw [show p + sz s + (m - sz s) = p + m by omega] at k
        exact k
theorem cG_rw {h : AH} {Q : Int → Prop} {ins : Int} {R S : TR} {d m : Int} (rs : resQ h Q S ins 0) (c : cG lfM h R d 0 (d + 1)) (qq : ∀ x, d ≤ x → x < d + sz R → Q x) (m0 : 0 ≤ m) (m1 : m < sz R) (d0 : 0 ≤ d) : rwM h Q (d + m) ins (rpT R m S) d 0 := by
  have sp := sz_pos R
  unfold rpT
  by_cases y : m = 0
  · rw [if_pos y, y, Int.add_zero]
    exact rwM_ins d0 rs
  · rw [if_neg y]
    have k := cG_rwK rs (m := m - 1) c (qq d (by omega) (by omega)) (fun x x0 x1 => qq x (by omega) (by omega)) (by omega) (by omega) (by omega) (by omega)
    rw [show d + 1 + (m - 1) = d + m by omega] at k
    exact k
theorem resQ_fl {h : AH} {Q : Int → Prop} {hl : Int → Int} : ∀ {R : TR} {d j : Int}, nhT R → resQ h Q R d j → resQ h Q (flT hl R) d j
  | .leaf i, d, j, n, r => by
    refine ⟨r.1, ?_⟩
    have e : flI hl i = (i.1, i.2.1, i.2.2.1, 0) := if_neg n
    rw [e]; exact r.2
  | .branch b s t, d, j, n, r => ⟨r.1, r.2.1, resQ_fl n.1 r.2.2.1, resQ_fl n.2 r.2.2.2⟩
theorem kch_e {x k : Int} (b : 0 ≤ k ∧ k ≤ 2) (e : kch x = kch k) : x = k := by
  unfold kch at e
  by_cases a0 : x = 0
  · rw [if_pos a0] at e; repeat' split at e
    all_goals omega
  rw [if_neg a0] at e
  by_cases a1 : x = 1
  · rw [if_pos a1] at e; repeat' split at e
    all_goals omega
  rw [if_neg a1] at e
  by_cases a2 : x = 2
  · rw [if_pos a2] at e; repeat' split at e
    all_goals omega
  rw [if_neg a2] at e
  repeat' split at e
  all_goals omega
/-- m: answers, with a function's answers in the place of a node -/
theorem vFR (a1 a2 a3 : Int) {h : AH} {E : EV} {Rf : Int → TR} {W : Int → Int → Int → VW} {K : AK} {tp : Int} {p : Nat} {T : TB} {R : TR} {m f : Int} (ak : akM h E Rf W K tp) (mt : MT h E W K tp p T) (c : cG lfM h R 4400 0 4401) (s : sz R ≤ 1000) (ty : tyT E (kA K).1 (kA K).2.1 R 0) (nh : nhT R) (dk : dpE E.1.2.2.2.1 R ≤ 40) (m0 : 0 ≤ m ∧ m < sz R) (f0 : 0 ≤ f ∧ f < (LV E W (kP K) (kA K) p).1) (k : (LV E W (kP K) (kA K) p).2.1 f = (inf (sbT R m)).2.2.1) (k2 : 0 ≤ (LV E W (kP K) (kA K) p).2.1 f ∧ (LV E W (kP K) (kA K) p).2.1 f ≤ 2) (e1 : a1 = 4400) (e2 : a2 = 4400 + m) (e3 : a3 = h 454 38 + 17 + f) : OK (gX14_function a1 a2 a3 h) (fun h' => (∀ q, 0 ≤ q → q < kP K → h' 754 q = mdV E W K p R m f q) ∧ fr754 (kP K) h h' ∧ akM h' E Rf W K tp) := by
  subst e1 e2 e3
  have C := akM_0 ak
  obtain ⟨x16, ⟨o1, o2, o3, o4, o5⟩, wk, l0⟩ := C.1
  have l : E.2.2.1 ≠ 1 := by rw [l0]; decide
  have x : h 454 38 = 476 ∨ h 454 38 = 615 := x16
  have n120 := mt.2.2.2.2.1
  have p256 := C.2.1.1.2.2.2.2.2.2.1
  have TV := mt.2.2.2.2.2.1
  have RW := C.2.2.2.2.2.1 f f0.1 (by omega)
  have TY : ∀ q, 0 ≤ q → q < kP K → tyT E (kA K).1 (kA K).2.1 (rpT R m (.leaf (1, QP E W K p f q, (LV E W (kP K) (kA K) p).2.1 f, 0))) 0 := fun q q0 q1 => (md_ty ty m0.1 m0.2 k2 (TV f q f0.1 f0.2 q0 q1) k).1
  refine OK_mono (vX14_function 4400 (4400 + m) (h 454 38 + 17 + f) (E := E) (Rf := Rf) (W := W) (f := fun _ _ _ => 0) (n := (kA K).1) (pts := kP K) (kf := (kA K).2.1) (hl := fun _ => 0) (rw := fun q => QP E W K p f q) (pv := (kA K).2.2.1) (Rk := fun q => rpT R m (.leaf (1, QP E W K p f q, (LV E W (kP K) (kA K) p).2.1 f, 0))) C.2.1.1 (enuM_of o1 o2 wk (fun z => absurd z l) o3 o4 o5.2.1 (by omega)) (fun z => absurd z (by omega)) (fun _ => ⟨by omega, by omega, RW.1, by rw [RW.2]; exact p256, fun q q0 q1 => MT_v mt f0 ⟨q0, q1⟩⟩) (fun q q0 q1 => ⟨cG_vr c nh m0.1 m0.2 (by decide) (by omega), TY q q0 q1, tyT_ns l (TY q q0 q1), ?_⟩) (fun c c0 c1 => by decide) ak.2.2) (fun h' z => ⟨fun q q0 q1 => z.1 q q0 q1, z.2.1, akM_n ak (fun a s y => by unfold mA at y; exact z.2.1 a s (by omega) (by omega)) ⟨z.2.2.1, z.2.2.2⟩⟩)
  have := md_dE (wA := E.1.2.2.2.1) o5.2.1 (R := R) (m := m) (v := QP E W K p f q) (k := (LV E W (kP K) (kA K) p).2.1 f)
  omega
/-- m: what mending stands on -/
def mnM (h : AH) (E : EV) (Rf : Int → TR) (W : Int → Int → Int → VW) (K : AK) (tp : Int) (p : Nat) (T : TB) (R : TR) : Prop := akM h E Rf W K tp ∧ MT h E W K tp p T ∧ (cG lfM h R 4400 0 4401 ∧ sz R ≤ 121) ∧ tyT E (kA K).1 (kA K).2.1 R 0 ∧ nhT R ∧ dpE E.1.2.2.2.1 R ≤ 40 ∧ (inf R).2.2.1 = kR K ∧ kdL E W K p ∧ (∀ k, 0 ≤ k → k < sz R → h 796 k = 4400 + k) ∧ h 454 73 = sz R ∧ (h 754 (-2) = 101 ∧ h 754 (-1) = 256)
def fMv (h h' : AH) : Prop := ∀ a s, ¬ (a = 454 ∧ (s = 20 ∨ s = 21 ∨ s = 22)) → ¬ (a = 754 ∧ 0 ≤ s) → h' a s = h a s
theorem fMv_r (h : AH) : fMv h h := fun _ _ _ _ => rfl
theorem fMv_t {h h1 h2 : AH} (x : fMv h h1) (y : fMv h1 h2) : fMv h h2 := fun a s z1 z2 => (y a s z1 z2).trans (x a s z1 z2)
theorem mnM_w {h h' : AH} {E : EV} {Rf : Int → TR} {W : Int → Int → Int → VW} {K : AK} {tp : Int} {p : Nat} {T : TB} {R : TR} (m : mnM h E Rf W K tp p T R) (f : fMv h h') (a : akM h' E Rf W K tp) : mnM h' E Rf W K tp p T R := by
  obtain ⟨m1, m2, m3, m4, m5, m6, m7, m8, m9, m10, m11⟩ := m
  have sp := sz_pos R
  exact ⟨a, MT_g m2 (akM_0 m1).2.2.1.2 (fun a s y => by unfold tA at y; exact f a s (by omega) (by omega)), ⟨cG_fr (lo := 4400) (hi := 5500) (fun dd j i d0 d1 l => by unfold lfM at *; rw [f 465 dd (by omega) (by omega), f 466 dd (by omega) (by omega), f 461 dd (by omega) (by omega), f 460 dd (by omega) (by omega), f 462 dd (by omega) (by omega), f 463 dd (by omega) (by omega)]; exact l) (fun s _ _ => f _ _ (by omega) (by omega)) (by decide) (by decide) (by decide) (by omega) m3.1, m3.2⟩, m4, m5, m6, m7, m8, fun k k0 k1 => by rw [f _ _ (by omega) (by omega)]; exact m9 k k0 k1, by rw [f _ _ (by omega) (by omega)]; exact m10, by rw [f _ _ (by omega) (by omega), f _ _ (by omega) (by omega)]; exact m11⟩
/-- the first function of weight q below n with which it meets at place m -/
def hitM (E : EV) (W : Int → Int → Int → VW) (K : AK) (p : Nat) (R : TR) (m q n b : Int) : Prop := (b = -1 ∧ ∀ f, 0 ≤ f → f < n → (LV E W (kP K) (kA K) p).2.2.1 f = q → ¬ mdQ E W K p R m f) ∨ (0 ≤ b ∧ b < n ∧ (LV E W (kP K) (kA K) p).2.2.1 b = q ∧ mdQ E W K p R m b ∧ ∀ f, 0 ≤ f → f < b → (LV E W (kP K) (kA K) p).2.2.1 f = q → ¬ mdQ E W K p R m f)
theorem hitM_k {E : EV} {W : Int → Int → Int → VW} {K : AK} {p : Nat} {R : TR} {m q n b : Int} (x : hitM E W K p R m q n b) (y : ¬ ((LV E W (kP K) (kA K) p).2.2.1 n = q ∧ mdQ E W K p R m n) ∨ 0 ≤ b) : hitM E W K p R m q (n + 1) b := by
  rcases x with ⟨x1, x2⟩ | ⟨x1, x2, x3⟩
  · refine .inl ⟨x1, fun f f0 f1 w u => ?_⟩
    by_cases z : f = n
    · subst z; exact (y.resolve_right (by omega)) ⟨w, u⟩
    · exact x2 f f0 (by omega) w u
  · exact .inr ⟨x1, by omega, x3⟩
theorem hitM_t {E : EV} {W : Int → Int → Int → VW} {K : AK} {p : Nat} {R : TR} {m q n b : Int} (x : hitM E W K p R m q n b) (b0 : b < 0) (n0 : 0 ≤ n) (w : (LV E W (kP K) (kA K) p).2.2.1 n = q) (y : mdQ E W K p R m n) : hitM E W K p R m q (n + 1) n := by
  rcases x with ⟨x1, x2⟩ | ⟨x1, x2⟩
  · exact .inr ⟨n0, by omega, w, y, x2⟩
  · omega

