/-! m: terms one node behind the other; holes made soft -/
def cG (P : AH → Int → Int → NI → Prop) (h : AH) : TR → Int → Int → Int → Prop
  | .leaf i, d, j, _ => P h d j i
  | .branch _ s r, d, j, p => 0 ≤ j ∧ j < 3 ∧ h 464 (3 * d + j) = p ∧ cG P h s p 0 (p + 1) ∧ cG P h r d (j + 1) (p + sz s)
variable {P P' : AH → Int → Int → NI → Prop} {h h' : AH}
theorem cG_nd : ∀ {R : TR} {d j p : Int}, cG P h R d j p → P h d (j + nk R) (inf R)
  | .leaf i, d, j, p, c => by rw [show j + nk (.leaf i) = j from Int.add_zero j]; exact c
  | .branch b s r, d, j, p, c => by
    have q := cG_nd (R := r) c.2.2.2.2
    rw [show j + nk (.branch b s r) = j + 1 + nk r by show j + (nk r + 1) = _; omega]
    exact q
theorem cG_n3 : ∀ {R : TR} {d j p : Int}, cG P h R d j p → j ≤ 3 → j + nk R ≤ 3
  | .leaf i, d, j, p, c, l => by show j + 0 ≤ 3; omega
  | .branch b s r, d, j, p, c, l => by
    have q := cG_n3 (R := r) c.2.2.2.2 (by have := c.2.1; omega)
    show j + (nk r + 1) ≤ 3
    omega
theorem cG_kd : ∀ {R : TR} {d j p : Int} (k : Nat), cG P h R d j p → (k : Int) < nk R → h 464 (3 * d + (j + k)) = p + kss sz R k ∧ cG P h (kdA R k) (p + kss sz R k) 0 (p + kss sz R k + 1)
  | .leaf i, d, j, p, k, _, l => by have e : nk (.leaf i) = 0 := rfl; omega
  | .branch b s r, d, j, p, 0, c, _ => by
    have e0 : kss sz (.branch b s r) 0 = 0 := rfl
    rw [e0, show j + ((0 : Nat) : Int) = j from Int.add_zero j, Int.add_zero]
    exact ⟨c.2.2.1, c.2.2.2.1⟩
  | .branch b s r, d, j, p, k + 1, c, l => by
    have e : nk (.branch b s r) = nk r + 1 := rfl
    have q := cG_kd (R := r) k c.2.2.2.2 (by omega)
    rw [kss_br, show j + ((k + 1 : Nat) : Int) = j + 1 + (k : Int) by omega, show p + (sz s + kss sz r k) = p + sz s + kss sz r k by omega]
    exact q
theorem cG_of : ∀ {R : TR} {d j p : Int}, (∀ m : Nat, (m : Int) < nk R → h 464 (3 * d + (j + m)) = p + kss sz R m ∧ cG P h (kdA R m) (p + kss sz R m) 0 (p + kss sz R m + 1)) → P h d (j + nk R) (inf R) → 0 ≤ j → j + nk R ≤ 3 → cG P h R d j p
  | .leaf i, d, j, p, _, c, j0, _ => by rw [show j + nk (.leaf i) = j from Int.add_zero j] at c; exact c
  | .branch b s r, d, j, p, K, c, j0, j3 => by
    have e : nk (.branch b s r) = nk r + 1 := rfl
    have n0 := nk_0 r
    have k0 := K 0 (by omega)
    have e0 : kss sz (.branch b s r) 0 = 0 := rfl
    rw [e0, show j + ((0 : Nat) : Int) = j from Int.add_zero j, Int.add_zero] at k0
    rw [show j + nk (.branch b s r) = j + 1 + nk r by omega] at c
    refine ⟨j0, by omega, k0.1, k0.2, cG_of (fun m ml => ?_) c (by omega) (by omega)⟩
    have km := K (m + 1) (by omega)
    rw [kss_br, show j + ((m + 1 : Nat) : Int) = j + 1 + (m : Int) by omega, show p + (sz s + kss sz r m) = p + sz s + kss sz r m by omega] at km
    exact km
theorem cG_fr {lo hi : Int} (f : ∀ d j i, lo ≤ d → d < hi → P h d j i → P' h' d j i) (g : ∀ s, 3 * lo ≤ s → s < 3 * hi → h' 464 s = h 464 s) : ∀ {R : TR} {d j p : Int}, lo ≤ d → d < hi → lo ≤ p → p + (sz R - 1) ≤ hi → cG P h R d j p → cG P' h' R d j p
  | .leaf i, d, j, p, d0, d1, _, _, c => f d j i d0 d1 c
  | .branch b s r, d, j, p, d0, d1, p0, p1, c => by
    obtain ⟨c1, c2, c3, c4, c5⟩ := c
    have z1 := sz_pos s
    have z2 := sz_pos r
    have e : sz (.branch b s r) = sz s + sz r := rfl
    rw [e] at p1
    exact ⟨c1, c2, by rw [g _ (by omega) (by omega)]; exact c3, cG_fr f g p0 (by omega) (by omega) (by omega) c4, cG_fr f g d0 d1 (by omega) (by omega) c5⟩
theorem cG_Q {lo n : Int} : ∀ {R : TR} {d j p : Int}, lo ≤ d → d < lo + n → lo ≤ p → p + (sz R - 1) ≤ lo + n → cG lfM h R d j p → resQ h (rgN lo n) R d j
  | .leaf i, d, j, p, d0, d1, _, _, c => ⟨⟨d0, d1⟩, c⟩
  | .branch b s r, d, j, p, d0, d1, p0, p1, c => by
    obtain ⟨c1, c2, c3, c4, c5⟩ := c
    have z1 := sz_pos s
    have z2 := sz_pos r
    have e : sz (.branch b s r) = sz s + sz r := rfl
    rw [e] at p1
    exact ⟨c1, c2, by rw [c3]; exact cG_Q p0 (by omega) (by omega) (by omega) c4, cG_Q d0 d1 (by omega) (by omega) c5⟩
theorem cG_fl {hl : Int → Int} : ∀ {R : TR} {d j p : Int}, cG (fun h d j i => lfM h d j (flI hl i)) h R d j p → cG lfM h (flT hl R) d j p
  | .leaf i, d, j, p, c => c
  | .branch b s r, d, j, p, c => by
    obtain ⟨c1, c2, c3, c4, c5⟩ := c
    refine ⟨c1, c2, c3, cG_fl c4, ?_⟩
    rw [fl_sz]
    exact cG_fl c5
theorem rawS_cG {E : EV} : ∀ {t : TR} {d j p pv hc : Int}, 0 ≤ j → rawS h t d j p pv → resM h (rsE E t hc) d j → cG lfM h (rsE E t hc) d j p
  | .leaf i, d, j, p, pv, hc, j0, s, r => r
  | .branch b s t, d, j, p, pv, hc, j0, q, r => by
    obtain ⟨q1, q2, q3, q4⟩ := q
    obtain ⟨r1, r2, r3⟩ := r
    have c1 := q1 r1
    have e : sz (rsE E s hc) = sz s := sz_rs _ _ _ _ _ _ s hc
    rw [c1] at r2
    refine ⟨j0, r1, c1, rawS_cG (Int.le_refl _) q2 r2, ?_⟩
    show cG lfM h (rsE E t (hc + hlT s)) d (j + 1) (p + sz (rsE E s hc))
    rw [e]
    exact rawS_cG (by omega) q4 r3
/-- a node whose hole is soft -/
def lfS (h : AH) (d n : Int) (i : NI) : Prop := 0 ≤ d ∧ d < 8800 ∧ h 465 d = n ∧ h 466 d = -1 ∧ h 461 d = kch i.2.2.1 ∧ (i.1 = 0 → h 460 d = 1 ∧ h 462 d = i.2.1) ∧ (i.1 = 1 → h 460 d = 0 ∧ h 462 d = i.2.1) ∧ (i.1 = 2 → h 460 d = 2 ∧ h 463 d = i.2.1) ∧ (i.1 = 4 → h 460 d = 2 ∧ h 463 d = -1) ∧ (i.1 = 3 → h 460 d = 0 ∧ h 467 d = -2) ∧ (i.1 ≠ 3 → h 467 d ≠ -2) ∧ 0 ≤ i.1 ∧ i.1 ≤ 4
def frSo (d z : Int) (h h' : AH) : Prop := ∀ a s, ¬ ((a = 460 ∨ a = 467) ∧ d ≤ s ∧ s < d + z) → h' a s = h a s
def CSF (F : Int → AH → Option AH) (k : Int) : Prop := ∀ (d : Int) (h : AH) (R : TR), cG lfM h R d 0 (d + 1) → (∀ x, d ≤ x → x < d + sz R → h 467 x ≠ -2) → (0 ≤ d ∧ d + sz R ≤ 8800) → dpT R + 1 ≤ k → OK (F d h) (fun h' => cG lfS h' R d 0 (d + 1) ∧ frSo d (sz R) h h')
theorem vX14_soften_l27 {F : Int → AH → Option (AH)} (i1 : Int) (a20 : Int) {h0 : AH} {k : Int} {R : TR} {hb : AH} (hF : CSF F k) (c : cG lfM hb R i1 0 (i1 + 1)) (mk : ∀ x, i1 ≤ x → x < i1 + sz R → hb 467 x ≠ -2) (d : 0 ≤ i1 ∧ i1 + sz R ≤ 8800) (dk : dpT R + 1 ≤ k + 1) (n3 : nk R ≤ 3) (fr : ∀ a s, ¬ ((a = 460 ∨ a = 467) ∧ s = i1) → h0 a s = hb a s) (nd : lfS h0 i1 (nk R) (inf R)) (z : a20 = 0) : OK (gX14_soften_l27 F i1 a20 h0) (fun h' => (cG lfS h' R i1 0 (i1 + 1)) ∧ (frSo i1 (sz R) hb h')) := by
  unfold gX14_soften_l27
  refine OK_jit (I := (fun (s : Int × AH) => jt2 s fun a2 h => (0 ≤ a2 ∧ a2 ≤ nk R) ∧ (∀ m : Nat, (m : Int) < a2 → cG lfS h (kdA R m) (i1 + 1 + kss sz R m) 0 (i1 + 1 + kss sz R m + 1)) ∧ (∀ a s, ¬ ((a = 460 ∨ a = 467) ∧ i1 + 1 ≤ s ∧ s < i1 + 1 + kss sz R a2.toNat) → h a s = h0 a s))) (m := (fun (s : Int × AH) => jt2 s fun a2 h => (nk R - a2).toNat)) ?_ ?_
  · intro s hs
    obtain ⟨a2, h⟩ := s
    dsimp only [Sum.elim_inl, Sum.elim_inr, jt2, jt3, jt4, jt5, jt6, jt7, jt8] at hs
    obtain ⟨q0, q1, q2⟩ := hs
    unfold gX14_soften_b27
    refine OK_jt2 ?_
    have Q2 := q2
    have k0 := kss_0 (g := sz) sz_0 R a2.toNat
    have sp := sz_pos R
    have k3 := kss_sz R 3 (by omega)
    have kl0 := kss_le (g := sz) sz_0 R (k := a2.toNat) 3 (by omega)
    have n465 : h 465 i1 = nk R := by { rw [q2 _ _ (by omega)]; exact nd.2.2.1 }
    refine OK_jg (by (first | assumption | omega | ((try dsimp only [jt2, jt3, jt4]); first | omega | (simp (disch := omega) only [jst_eq, jst_ne, jst_ni, jst_o, jI_i, jcpy_out, w32_id, jdiv_nn, jshr_k, jand_255] <;> first | done | omega | assumption)) | (intros; simp (disch := omega) only [jst_eq, jst_ne, jst_ni, jst_o, jI_i, jcpy_out, w32_id, jdiv_nn, *] <;> first | done | omega) | (intros; simp (disch := omega) only [jst_eq, jst_ne, jst_ni, jst_o, jI_i, jcpy_out, w32_id, jdiv_nn] at * <;> first | done | omega | assumption) | (intros; first | rfl | (exfalso; omega) | ((repeat' apply And.intro) <;> first | assumption | rfl | omega | trivial)))) ?_ -- o1
    refine OK_if (fun c1 => ?_) (fun c1 => ?_)
    · skip
      try simp (disch := omega) only [jst_eq, jst_ne, jst_ni, jI_i, jcmp_lt, jcmp_gt, w32_id, jcpy_out, Sum.elim_inl, Sum.elim_inr, jt2, jt3, jt4, jt5, jt6, jt7, jt8] at c1
      refine OK_ir ?_
      try dsimp only [Sum.elim_inl, Sum.elim_inr, jt2, jt3, jt4, jt5, jt6, jt7, jt8]
      refine ⟨?_, ?_⟩
      · (have e3 := kss_sz R a2.toNat (by omega); refine cG_of (fun m ml => ⟨?_, q1 m (by omega)⟩) ?_ (Int.le_refl _) (by omega); { rw [Q2 _ _ (by omega), fr _ _ (by omega), Int.zero_add]; have q := (cG_kd m c ml).1; rw [Int.zero_add] at q; exact q }; { rw [Int.zero_add]; unfold lfS at *; rw [Q2 465 i1 (by omega), Q2 466 i1 (by omega), Q2 461 i1 (by omega), Q2 460 i1 (by omega), Q2 462 i1 (by omega), Q2 463 i1 (by omega), Q2 467 i1 (by omega)]; exact nd }) -- o2 e1.1
      · (have e3 := kss_sz R a2.toNat (by omega); intro a s y; rw [Q2 a s (by omega)]; exact fr a s (by omega)) -- o3 e1.2
    · skip
      try simp (disch := omega) only [jst_eq, jst_ne, jst_ni, jI_i, jcmp_lt, jcmp_gt, w32_id, jcpy_out, Sum.elim_inl, Sum.elim_inr, jt2, jt3, jt4, jt5, jt6, jt7, jt8] at c1
      have ea : ((a2.toNat : Nat) : Int) = a2 := by omega
      have kt := cG_kd a2.toNat c (by omega)
      have kd := dpT_kd R a2.toNat (by omega)
      rw [ea, Int.zero_add] at kt
      have sk := szK_le (R := R) (k := a2.toNat) (by omega) n3
      have ks := kss_s (g := sz) (R := R) (k := a2.toNat) (by omega)
      have iw : w32 (w32 (3 * i1) + a2) = 3 * i1 + a2 := by { rw [w32_id (x := 3 * i1) (by omega) (by omega), w32_id (by omega) (by omega)] }
      have e464 : h 464 (3 * i1 + a2) = i1 + 1 + kss sz R a2.toNat := by { rw [q2 _ _ (by omega), fr _ _ (by omega)]; exact kt.1 }
      have spk := sz_pos (kdA R a2.toNat)
      refine OK_jg (by (first | assumption | omega | ((try dsimp only [jt2, jt3, jt4]); first | omega | (simp (disch := omega) only [jst_eq, jst_ne, jst_ni, jst_o, jI_i, jcpy_out, w32_id, jdiv_nn, jshr_k, jand_255] <;> first | done | omega | assumption)) | (intros; simp (disch := omega) only [jst_eq, jst_ne, jst_ni, jst_o, jI_i, jcpy_out, w32_id, jdiv_nn, *] <;> first | done | omega) | (intros; simp (disch := omega) only [jst_eq, jst_ne, jst_ni, jst_o, jI_i, jcpy_out, w32_id, jdiv_nn] at * <;> first | done | omega | assumption) | (intros; first | rfl | (exfalso; omega) | ((repeat' apply And.intro) <;> first | assumption | rfl | omega | trivial)))) ?_ -- o4
      refine OK_jb (hF _ _ (kdA R a2.toNat) (by (rw [iw, e464]; exact cG_fr (h := hb) (lo := i1 + 1 + kss sz R a2.toNat) (hi := i1 + 1 + kss sz R a2.toNat + sz (kdA R a2.toNat)) (fun dd j i d0 d1 l => by unfold lfM at *; rw [Q2 465 dd (by omega), Q2 466 dd (by omega), Q2 461 dd (by omega), Q2 460 dd (by omega), Q2 462 dd (by omega), Q2 463 dd (by omega), fr 465 dd (by omega), fr 466 dd (by omega), fr 461 dd (by omega), fr 460 dd (by omega), fr 462 dd (by omega), fr 463 dd (by omega)]; exact l) (fun s _ _ => by rw [Q2 _ _ (by omega)]; exact fr _ _ (by omega)) (Int.le_refl _) (by omega) (by omega) (by omega) kt.2)) (by (rw [iw, e464]; exact fun x x0 x1 => by rw [Q2 _ _ (by omega), fr _ _ (by omega)]; exact mk x (by omega) (by omega))) (by (rw [iw, e464]; omega)) (by omega)) (fun h8 r1 => ?_)
      try dsimp only [Sum.elim_inl, Sum.elim_inr, jt2, jt3, jt4, jt5, jt6, jt7, jt8] at r1
      obtain ⟨cs1, fr1⟩ := r1
      try simp (disch := omega) only [jst_eq, jst_ne, jst_ni, jI_i, jcmp_lt, jcmp_gt, w32_id, jcpy_out, Sum.elim_inl, Sum.elim_inr, jt2, jt3, jt4, jt5, jt6, jt7, jt8] at cs1
      try simp (disch := omega) only [jst_eq, jst_ne, jst_ni, jI_i, jcmp_lt, jcmp_gt, w32_id, jcpy_out, Sum.elim_inl, Sum.elim_inr, jt2, jt3, jt4, jt5, jt6, jt7, jt8] at fr1
      (try rw [iw] at cs1 fr1); rw [e464] at cs1 fr1
      refine OK_jlx (fun x9 ex9 => ?_)
      try simp (disch := omega) only [jst_eq, jst_ne, jst_ni, jI_i, jcmp_lt, jcmp_gt, w32_id, jcpy_out, Sum.elim_inl, Sum.elim_inr, jt2, jt3, jt4, jt5, jt6, jt7, jt8] at ex9
      refine OK_il ?_ ?_
      · try dsimp only [Sum.elim_inl, Sum.elim_inr, jt2, jt3, jt4, jt5, jt6, jt7, jt8]
        refine ⟨?_, ?_, ?_⟩
        · (first | assumption | omega | ((try dsimp only [jt2, jt3, jt4]); first | omega | (simp (disch := omega) only [jst_eq, jst_ne, jst_ni, jst_o, jI_i, jcpy_out, w32_id, jdiv_nn, jshr_k, jand_255] <;> first | done | omega | assumption)) | (intros; simp (disch := omega) only [jst_eq, jst_ne, jst_ni, jst_o, jI_i, jcpy_out, w32_id, jdiv_nn, *] <;> first | done | omega) | (intros; simp (disch := omega) only [jst_eq, jst_ne, jst_ni, jst_o, jI_i, jcpy_out, w32_id, jdiv_nn] at * <;> first | done | omega | assumption) | (intros; first | rfl | (exfalso; omega) | ((repeat' apply And.intro) <;> first | assumption | rfl | omega | trivial))) -- o9 e2i.1
        · (intro m ml; rw [ex9] at ml; (try rw [w32_id (by omega) (by omega)] at ml); by_cases y : (m : Int) = a2; { have ym : m = a2.toNat := (by omega); rw [ym]; exact cs1 }; { have kk := kss_le (g := sz) sz_0 R (k := m + 1) a2.toNat (by omega); have km := kss_s (g := sz) (R := R) (k := m) (by omega); have zm := kss_0 (g := sz) sz_0 R m; have szm := sz_pos (kdA R m); exact cG_fr (h := h) (lo := i1 + 1 + kss sz R m) (hi := i1 + 1 + kss sz R m + sz (kdA R m)) (fun dd j i d0 d1 l => by unfold lfS at *; rw [fr1 465 dd (by omega), fr1 466 dd (by omega), fr1 461 dd (by omega), fr1 460 dd (by omega), fr1 462 dd (by omega), fr1 463 dd (by omega), fr1 467 dd (by omega)]; exact l) (fun s _ _ => fr1 _ _ (by omega)) (Int.le_refl _) (by omega) (by omega) (by omega) (q1 m (by omega)) }) -- o10 e2i.2
        · (intro a s y; rw [ex9] at y; (try rw [w32_id (by omega) (by omega)] at y); rw [show (a2 + 1).toNat = a2.toNat + 1 by omega, ks] at y; rw [fr1 a s (by omega)]; exact Q2 a s (by omega)) -- o11 e2i.3
      · (first | assumption | omega | ((try dsimp only [jt2, jt3, jt4]); first | omega | (simp (disch := omega) only [jst_eq, jst_ne, jst_ni, jst_o, jI_i, jcpy_out, w32_id, jdiv_nn, jshr_k, jand_255] <;> first | done | omega | assumption)) | (intros; simp (disch := omega) only [jst_eq, jst_ne, jst_ni, jst_o, jI_i, jcpy_out, w32_id, jdiv_nn, *] <;> first | done | omega) | (intros; simp (disch := omega) only [jst_eq, jst_ne, jst_ni, jst_o, jI_i, jcpy_out, w32_id, jdiv_nn] at * <;> first | done | omega | assumption) | (intros; first | rfl | (exfalso; omega) | ((repeat' apply And.intro) <;> first | assumption | rfl | omega | trivial))) -- o12 e2m
  · try dsimp only [Sum.elim_inl, Sum.elim_inr, jt2, jt3, jt4, jt5, jt6, jt7, jt8]
    refine ⟨?_, ?_, ?_⟩
    · (have := nk_0 R; omega) -- o13 init.1
    · (intro m ml; omega) -- o14 init.2
    · exact fun _ _ _ => rfl -- o15 init.3
theorem vX14_soften_j25 {F : Int → AH → Option (AH)} (a1 : Int) {h : AH} {k : Int} {R : TR} {hb : AH} (hF : CSF F k) (c : cG lfM hb R a1 0 (a1 + 1)) (mk : ∀ x, a1 ≤ x → x < a1 + sz R → hb 467 x ≠ -2) (d : 0 ≤ a1 ∧ a1 + sz R ≤ 8800) (dk : dpT R + 1 ≤ k + 1) (n3 : nk R ≤ 3) (fr : ∀ a s, ¬ ((a = 460 ∨ a = 467) ∧ s = a1) → h a s = hb a s) (nd : lfS h a1 (nk R) (inf R)) : OK (gX14_soften_j25 F a1 h) (fun h' => (cG lfS h' R a1 0 (a1 + 1)) ∧ (frSo a1 (sz R) hb h')) := by
  unfold gX14_soften_j25
  refine OK_jb (vX14_soften_l27 (k := k) (R := R) (hb := hb) _ _ (by (first | assumption | omega | ((try dsimp only [jt2, jt3, jt4]); first | omega | (simp (disch := omega) only [jst_eq, jst_ne, jst_ni, jst_o, jI_i, jcpy_out, w32_id, jdiv_nn, jshr_k, jand_255] <;> first | done | omega | assumption)) | (intros; simp (disch := omega) only [jst_eq, jst_ne, jst_ni, jst_o, jI_i, jcpy_out, w32_id, jdiv_nn, *] <;> first | done | omega) | (intros; simp (disch := omega) only [jst_eq, jst_ne, jst_ni, jst_o, jI_i, jcpy_out, w32_id, jdiv_nn] at * <;> first | done | omega | assumption) | (intros; first | rfl | (exfalso; omega) | ((repeat' apply And.intro) <;> first | assumption | rfl | omega | trivial)))) (by (first | assumption | omega | ((try dsimp only [jt2, jt3, jt4]); first | omega | (simp (disch := omega) only [jst_eq, jst_ne, jst_ni, jst_o, jI_i, jcpy_out, w32_id, jdiv_nn, jshr_k, jand_255] <;> first | done | omega | assumption)) | (intros; simp (disch := omega) only [jst_eq, jst_ne, jst_ni, jst_o, jI_i, jcpy_out, w32_id, jdiv_nn, *] <;> first | done | omega) | (intros; simp (disch := omega) only [jst_eq, jst_ne, jst_ni, jst_o, jI_i, jcpy_out, w32_id, jdiv_nn] at * <;> first | done | omega | assumption) | (intros; first | rfl | (exfalso; omega) | ((repeat' apply And.intro) <;> first | assumption | rfl | omega | trivial)))) (by (first | assumption | omega | ((try dsimp only [jt2, jt3, jt4]); first | omega | (simp (disch := omega) only [jst_eq, jst_ne, jst_ni, jst_o, jI_i, jcpy_out, w32_id, jdiv_nn, jshr_k, jand_255] <;> first | done | omega | assumption)) | (intros; simp (disch := omega) only [jst_eq, jst_ne, jst_ni, jst_o, jI_i, jcpy_out, w32_id, jdiv_nn, *] <;> first | done | omega) | (intros; simp (disch := omega) only [jst_eq, jst_ne, jst_ni, jst_o, jI_i, jcpy_out, w32_id, jdiv_nn] at * <;> first | done | omega | assumption) | (intros; first | rfl | (exfalso; omega) | ((repeat' apply And.intro) <;> first | assumption | rfl | omega | trivial)))) (by (first | assumption | omega | ((try dsimp only [jt2, jt3, jt4]); first | omega | (simp (disch := omega) only [jst_eq, jst_ne, jst_ni, jst_o, jI_i, jcpy_out, w32_id, jdiv_nn, jshr_k, jand_255] <;> first | done | omega | assumption)) | (intros; simp (disch := omega) only [jst_eq, jst_ne, jst_ni, jst_o, jI_i, jcpy_out, w32_id, jdiv_nn, *] <;> first | done | omega) | (intros; simp (disch := omega) only [jst_eq, jst_ne, jst_ni, jst_o, jI_i, jcpy_out, w32_id, jdiv_nn] at * <;> first | done | omega | assumption) | (intros; first | rfl | (exfalso; omega) | ((repeat' apply And.intro) <;> first | assumption | rfl | omega | trivial)))) (by (first | assumption | omega | ((try dsimp only [jt2, jt3, jt4]); first | omega | (simp (disch := omega) only [jst_eq, jst_ne, jst_ni, jst_o, jI_i, jcpy_out, w32_id, jdiv_nn, jshr_k, jand_255] <;> first | done | omega | assumption)) | (intros; simp (disch := omega) only [jst_eq, jst_ne, jst_ni, jst_o, jI_i, jcpy_out, w32_id, jdiv_nn, *] <;> first | done | omega) | (intros; simp (disch := omega) only [jst_eq, jst_ne, jst_ni, jst_o, jI_i, jcpy_out, w32_id, jdiv_nn] at * <;> first | done | omega | assumption) | (intros; first | rfl | (exfalso; omega) | ((repeat' apply And.intro) <;> first | assumption | rfl | omega | trivial)))) (by (first | assumption | omega | ((try dsimp only [jt2, jt3, jt4]); first | omega | (simp (disch := omega) only [jst_eq, jst_ne, jst_ni, jst_o, jI_i, jcpy_out, w32_id, jdiv_nn, jshr_k, jand_255] <;> first | done | omega | assumption)) | (intros; simp (disch := omega) only [jst_eq, jst_ne, jst_ni, jst_o, jI_i, jcpy_out, w32_id, jdiv_nn, *] <;> first | done | omega) | (intros; simp (disch := omega) only [jst_eq, jst_ne, jst_ni, jst_o, jI_i, jcpy_out, w32_id, jdiv_nn] at * <;> first | done | omega | assumption) | (intros; first | rfl | (exfalso; omega) | ((repeat' apply And.intro) <;> first | assumption | rfl | omega | trivial)))) (by (first | assumption | omega | ((try dsimp only [jt2, jt3, jt4]); first | omega | (simp (disch := omega) only [jst_eq, jst_ne, jst_ni, jst_o, jI_i, jcpy_out, w32_id, jdiv_nn, jshr_k, jand_255] <;> first | done | omega | assumption)) | (intros; simp (disch := omega) only [jst_eq, jst_ne, jst_ni, jst_o, jI_i, jcpy_out, w32_id, jdiv_nn, *] <;> first | done | omega) | (intros; simp (disch := omega) only [jst_eq, jst_ne, jst_ni, jst_o, jI_i, jcpy_out, w32_id, jdiv_nn] at * <;> first | done | omega | assumption) | (intros; first | rfl | (exfalso; omega) | ((repeat' apply And.intro) <;> first | assumption | rfl | omega | trivial)))) (by (first | assumption | omega | ((try dsimp only [jt2, jt3, jt4]); first | omega | (simp (disch := omega) only [jst_eq, jst_ne, jst_ni, jst_o, jI_i, jcpy_out, w32_id, jdiv_nn, jshr_k, jand_255] <;> first | done | omega | assumption)) | (intros; simp (disch := omega) only [jst_eq, jst_ne, jst_ni, jst_o, jI_i, jcpy_out, w32_id, jdiv_nn, *] <;> first | done | omega) | (intros; simp (disch := omega) only [jst_eq, jst_ne, jst_ni, jst_o, jI_i, jcpy_out, w32_id, jdiv_nn] at * <;> first | done | omega | assumption) | (intros; first | rfl | (exfalso; omega) | ((repeat' apply And.intro) <;> first | assumption | rfl | omega | trivial)))) (by (first | assumption | omega | ((try dsimp only [jt2, jt3, jt4]); first | omega | (simp (disch := omega) only [jst_eq, jst_ne, jst_ni, jst_o, jI_i, jcpy_out, w32_id, jdiv_nn, jshr_k, jand_255] <;> first | done | omega | assumption)) | (intros; simp (disch := omega) only [jst_eq, jst_ne, jst_ni, jst_o, jI_i, jcpy_out, w32_id, jdiv_nn, *] <;> first | done | omega) | (intros; simp (disch := omega) only [jst_eq, jst_ne, jst_ni, jst_o, jI_i, jcpy_out, w32_id, jdiv_nn] at * <;> first | done | omega | assumption) | (intros; first | rfl | (exfalso; omega) | ((repeat' apply And.intro) <;> first | assumption | rfl | omega | trivial))))) (fun o4 r1 => ?_)
  try dsimp only [Sum.elim_inl, Sum.elim_inr, jt2, jt3, jt4, jt5, jt6, jt7, jt8] at r1
  obtain ⟨cs1, fr1⟩ := r1
  try simp (disch := omega) only [jst_eq, jst_ne, jst_ni, jI_i, jcmp_lt, jcmp_gt, w32_id, jcpy_out, Sum.elim_inl, Sum.elim_inr, jt2, jt3, jt4, jt5, jt6, jt7, jt8] at cs1
  try simp (disch := omega) only [jst_eq, jst_ne, jst_ni, jI_i, jcmp_lt, jcmp_gt, w32_id, jcpy_out, Sum.elim_inl, Sum.elim_inr, jt2, jt3, jt4, jt5, jt6, jt7, jt8] at fr1
  refine OK_some ?_
  try dsimp only [Sum.elim_inl, Sum.elim_inr, jt2, jt3, jt4, jt5, jt6, jt7, jt8]
  try dsimp only [Sum.elim_inl, Sum.elim_inr, jt2, jt3, jt4, jt5, jt6, jt7, jt8]
  refine ⟨?_, ?_⟩
  · (first | assumption | omega | ((try dsimp only [jt2, jt3, jt4]); first | omega | (simp (disch := omega) only [jst_eq, jst_ne, jst_ni, jst_o, jI_i, jcpy_out, w32_id, jdiv_nn, jshr_k, jand_255] <;> first | done | omega | assumption)) | (intros; simp (disch := omega) only [jst_eq, jst_ne, jst_ni, jst_o, jI_i, jcpy_out, w32_id, jdiv_nn, *] <;> first | done | omega) | (intros; simp (disch := omega) only [jst_eq, jst_ne, jst_ni, jst_o, jI_i, jcpy_out, w32_id, jdiv_nn] at * <;> first | done | omega | assumption) | (intros; first | rfl | (exfalso; omega) | ((repeat' apply And.intro) <;> first | assumption | rfl | omega | trivial))) -- o10 e1.1
  · (first | assumption | omega | ((try dsimp only [jt2, jt3, jt4]); first | omega | (simp (disch := omega) only [jst_eq, jst_ne, jst_ni, jst_o, jI_i, jcpy_out, w32_id, jdiv_nn, jshr_k, jand_255] <;> first | done | omega | assumption)) | (intros; simp (disch := omega) only [jst_eq, jst_ne, jst_ni, jst_o, jI_i, jcpy_out, w32_id, jdiv_nn, *] <;> first | done | omega) | (intros; simp (disch := omega) only [jst_eq, jst_ne, jst_ni, jst_o, jI_i, jcpy_out, w32_id, jdiv_nn] at * <;> first | done | omega | assumption) | (intros; first | rfl | (exfalso; omega) | ((repeat' apply And.intro) <;> first | assumption | rfl | omega | trivial))) -- o11 e1.2
theorem vX14_soften_ {F : Int → AH → Option (AH)} (a1 : Int) {h : AH} {k : Int} {R : TR} (hF : CSF F k) (c : cG lfM h R a1 0 (a1 + 1)) (mk : ∀ x, a1 ≤ x → x < a1 + sz R → h 467 x ≠ -2) (d : 0 ≤ a1 ∧ a1 + sz R ≤ 8800) (dk : dpT R + 1 ≤ k + 1) : OK (gX14_soften_ F a1 h) (fun h' => (cG lfS h' R a1 0 (a1 + 1)) ∧ (frSo a1 (sz R) h h')) := by
  have sp := sz_pos R
  have nd := cG_nd c
  have n3 := cG_n3 c (by decide)
  rw [Int.zero_add] at nd n3
  have mk1 := mk a1 (Int.le_refl _) (by omega)
  obtain ⟨n1, n2, n3', n4, n5, n6, n7, n8, n9, n10, n11, n12⟩ := nd
  unfold gX14_soften_
  refine OK_jg (by (first | assumption | omega | ((try dsimp only [jt2, jt3, jt4]); first | omega | (simp (disch := omega) only [jst_eq, jst_ne, jst_ni, jst_o, jI_i, jcpy_out, w32_id, jdiv_nn, jshr_k, jand_255] <;> first | done | omega | assumption)) | (intros; simp (disch := omega) only [jst_eq, jst_ne, jst_ni, jst_o, jI_i, jcpy_out, w32_id, jdiv_nn, *] <;> first | done | omega) | (intros; simp (disch := omega) only [jst_eq, jst_ne, jst_ni, jst_o, jI_i, jcpy_out, w32_id, jdiv_nn] at * <;> first | done | omega | assumption) | (intros; first | rfl | (exfalso; omega) | ((repeat' apply And.intro) <;> first | assumption | rfl | omega | trivial)))) ?_ -- o1
  refine OK_if (fun c1 => ?_) (fun c1 => ?_)
  · skip
    try simp (disch := omega) only [jst_eq, jst_ne, jst_ni, jI_i, jcmp_lt, jcmp_gt, w32_id, jcpy_out, Sum.elim_inl, Sum.elim_inr, jt2, jt3, jt4, jt5, jt6, jt7, jt8] at c1
    have I3 : (inf R).1 = 3 := by { by_cases a : (inf R).1 = 0; { have := n6 a; omega }; { by_cases b : (inf R).1 = 1; { have := n7 b; omega }; { by_cases e : (inf R).1 = 2; { have := n8 e; omega }; { by_cases g : (inf R).1 = 4; { have := n9 g; omega }; { omega } } } } }
    refine OK_jl ?_
    refine OK_jl ?_
    refine OK_mono (vX14_soften_j25 (k := k) (R := R) (hb := h) _ (by (first | assumption | omega | ((try dsimp only [jt2, jt3, jt4]); first | omega | (simp (disch := omega) only [jst_eq, jst_ne, jst_ni, jst_o, jI_i, jcpy_out, w32_id, jdiv_nn, jshr_k, jand_255] <;> first | done | omega | assumption)) | (intros; simp (disch := omega) only [jst_eq, jst_ne, jst_ni, jst_o, jI_i, jcpy_out, w32_id, jdiv_nn, *] <;> first | done | omega) | (intros; simp (disch := omega) only [jst_eq, jst_ne, jst_ni, jst_o, jI_i, jcpy_out, w32_id, jdiv_nn] at * <;> first | done | omega | assumption) | (intros; first | rfl | (exfalso; omega) | ((repeat' apply And.intro) <;> first | assumption | rfl | omega | trivial)))) (by exact c) (by exact mk) (by (first | assumption | omega | ((try dsimp only [jt2, jt3, jt4]); first | omega | (simp (disch := omega) only [jst_eq, jst_ne, jst_ni, jst_o, jI_i, jcpy_out, w32_id, jdiv_nn, jshr_k, jand_255] <;> first | done | omega | assumption)) | (intros; simp (disch := omega) only [jst_eq, jst_ne, jst_ni, jst_o, jI_i, jcpy_out, w32_id, jdiv_nn, *] <;> first | done | omega) | (intros; simp (disch := omega) only [jst_eq, jst_ne, jst_ni, jst_o, jI_i, jcpy_out, w32_id, jdiv_nn] at * <;> first | done | omega | assumption) | (intros; first | rfl | (exfalso; omega) | ((repeat' apply And.intro) <;> first | assumption | rfl | omega | trivial)))) (by (first | assumption | omega | ((try dsimp only [jt2, jt3, jt4]); first | omega | (simp (disch := omega) only [jst_eq, jst_ne, jst_ni, jst_o, jI_i, jcpy_out, w32_id, jdiv_nn, jshr_k, jand_255] <;> first | done | omega | assumption)) | (intros; simp (disch := omega) only [jst_eq, jst_ne, jst_ni, jst_o, jI_i, jcpy_out, w32_id, jdiv_nn, *] <;> first | done | omega) | (intros; simp (disch := omega) only [jst_eq, jst_ne, jst_ni, jst_o, jI_i, jcpy_out, w32_id, jdiv_nn] at * <;> first | done | omega | assumption) | (intros; first | rfl | (exfalso; omega) | ((repeat' apply And.intro) <;> first | assumption | rfl | omega | trivial)))) (by (first | assumption | omega | ((try dsimp only [jt2, jt3, jt4]); first | omega | (simp (disch := omega) only [jst_eq, jst_ne, jst_ni, jst_o, jI_i, jcpy_out, w32_id, jdiv_nn, jshr_k, jand_255] <;> first | done | omega | assumption)) | (intros; simp (disch := omega) only [jst_eq, jst_ne, jst_ni, jst_o, jI_i, jcpy_out, w32_id, jdiv_nn, *] <;> first | done | omega) | (intros; simp (disch := omega) only [jst_eq, jst_ne, jst_ni, jst_o, jI_i, jcpy_out, w32_id, jdiv_nn] at * <;> first | done | omega | assumption) | (intros; first | rfl | (exfalso; omega) | ((repeat' apply And.intro) <;> first | assumption | rfl | omega | trivial)))) (by (intro a s y; rw [jst_o (by omega), jst_o (by omega)])) (by (refine ⟨n1, n2, ?_, ?_, ?_, fun y => by omega, fun y => by omega, fun y => by omega, fun y => by omega, fun _ => ⟨?_, ?_⟩, fun y => absurd I3 y, n11, n12⟩; { rw [jst_o (by omega), jst_o (by omega)]; exact n3' }; { rw [jst_o (by omega), jst_o (by omega)]; exact n4 }; { rw [jst_o (by omega), jst_o (by omega)]; exact n5 }; { rw [jst_o (by omega), jst_eq] }; { rw [jst_eq] }))) (fun r r1 => ?_)
    try dsimp only [Sum.elim_inl, Sum.elim_inr, jt2, jt3, jt4, jt5, jt6, jt7, jt8] at r1
    obtain ⟨cs1, fr1⟩ := r1
    try simp (disch := omega) only [jst_eq, jst_ne, jst_ni, jI_i, jcmp_lt, jcmp_gt, w32_id, jcpy_out, Sum.elim_inl, Sum.elim_inr, jt2, jt3, jt4, jt5, jt6, jt7, jt8] at cs1
    try simp (disch := omega) only [jst_eq, jst_ne, jst_ni, jI_i, jcmp_lt, jcmp_gt, w32_id, jcpy_out, Sum.elim_inl, Sum.elim_inr, jt2, jt3, jt4, jt5, jt6, jt7, jt8] at fr1
    try dsimp only [Sum.elim_inl, Sum.elim_inr, jt2, jt3, jt4, jt5, jt6, jt7, jt8]
    try dsimp only [Sum.elim_inl, Sum.elim_inr, jt2, jt3, jt4, jt5, jt6, jt7, jt8]
    refine ⟨?_, ?_⟩
    · (first | assumption | omega | ((try dsimp only [jt2, jt3, jt4]); first | omega | (simp (disch := omega) only [jst_eq, jst_ne, jst_ni, jst_o, jI_i, jcpy_out, w32_id, jdiv_nn, jshr_k, jand_255] <;> first | done | omega | assumption)) | (intros; simp (disch := omega) only [jst_eq, jst_ne, jst_ni, jst_o, jI_i, jcpy_out, w32_id, jdiv_nn, *] <;> first | done | omega) | (intros; simp (disch := omega) only [jst_eq, jst_ne, jst_ni, jst_o, jI_i, jcpy_out, w32_id, jdiv_nn] at * <;> first | done | omega | assumption) | (intros; first | rfl | (exfalso; omega) | ((repeat' apply And.intro) <;> first | assumption | rfl | omega | trivial))) -- o10 e1.1
    · (first | assumption | omega | ((try dsimp only [jt2, jt3, jt4]); first | omega | (simp (disch := omega) only [jst_eq, jst_ne, jst_ni, jst_o, jI_i, jcpy_out, w32_id, jdiv_nn, jshr_k, jand_255] <;> first | done | omega | assumption)) | (intros; simp (disch := omega) only [jst_eq, jst_ne, jst_ni, jst_o, jI_i, jcpy_out, w32_id, jdiv_nn, *] <;> first | done | omega) | (intros; simp (disch := omega) only [jst_eq, jst_ne, jst_ni, jst_o, jI_i, jcpy_out, w32_id, jdiv_nn] at * <;> first | done | omega | assumption) | (intros; first | rfl | (exfalso; omega) | ((repeat' apply And.intro) <;> first | assumption | rfl | omega | trivial))) -- o11 e1.2
  · skip
    try simp (disch := omega) only [jst_eq, jst_ne, jst_ni, jI_i, jcmp_lt, jcmp_gt, w32_id, jcpy_out, Sum.elim_inl, Sum.elim_inr, jt2, jt3, jt4, jt5, jt6, jt7, jt8] at c1
    have I3 : (inf R).1 ≠ 3 := fun y => c1 (n10 y)
    refine OK_mono (vX14_soften_j25 (k := k) (R := R) (hb := h) _ (by (first | assumption | omega | ((try dsimp only [jt2, jt3, jt4]); first | omega | (simp (disch := omega) only [jst_eq, jst_ne, jst_ni, jst_o, jI_i, jcpy_out, w32_id, jdiv_nn, jshr_k, jand_255] <;> first | done | omega | assumption)) | (intros; simp (disch := omega) only [jst_eq, jst_ne, jst_ni, jst_o, jI_i, jcpy_out, w32_id, jdiv_nn, *] <;> first | done | omega) | (intros; simp (disch := omega) only [jst_eq, jst_ne, jst_ni, jst_o, jI_i, jcpy_out, w32_id, jdiv_nn] at * <;> first | done | omega | assumption) | (intros; first | rfl | (exfalso; omega) | ((repeat' apply And.intro) <;> first | assumption | rfl | omega | trivial)))) (by exact c) (by exact mk) (by (first | assumption | omega | ((try dsimp only [jt2, jt3, jt4]); first | omega | (simp (disch := omega) only [jst_eq, jst_ne, jst_ni, jst_o, jI_i, jcpy_out, w32_id, jdiv_nn, jshr_k, jand_255] <;> first | done | omega | assumption)) | (intros; simp (disch := omega) only [jst_eq, jst_ne, jst_ni, jst_o, jI_i, jcpy_out, w32_id, jdiv_nn, *] <;> first | done | omega) | (intros; simp (disch := omega) only [jst_eq, jst_ne, jst_ni, jst_o, jI_i, jcpy_out, w32_id, jdiv_nn] at * <;> first | done | omega | assumption) | (intros; first | rfl | (exfalso; omega) | ((repeat' apply And.intro) <;> first | assumption | rfl | omega | trivial)))) (by (first | assumption | omega | ((try dsimp only [jt2, jt3, jt4]); first | omega | (simp (disch := omega) only [jst_eq, jst_ne, jst_ni, jst_o, jI_i, jcpy_out, w32_id, jdiv_nn, jshr_k, jand_255] <;> first | done | omega | assumption)) | (intros; simp (disch := omega) only [jst_eq, jst_ne, jst_ni, jst_o, jI_i, jcpy_out, w32_id, jdiv_nn, *] <;> first | done | omega) | (intros; simp (disch := omega) only [jst_eq, jst_ne, jst_ni, jst_o, jI_i, jcpy_out, w32_id, jdiv_nn] at * <;> first | done | omega | assumption) | (intros; first | rfl | (exfalso; omega) | ((repeat' apply And.intro) <;> first | assumption | rfl | omega | trivial)))) (by (first | assumption | omega | ((try dsimp only [jt2, jt3, jt4]); first | omega | (simp (disch := omega) only [jst_eq, jst_ne, jst_ni, jst_o, jI_i, jcpy_out, w32_id, jdiv_nn, jshr_k, jand_255] <;> first | done | omega | assumption)) | (intros; simp (disch := omega) only [jst_eq, jst_ne, jst_ni, jst_o, jI_i, jcpy_out, w32_id, jdiv_nn, *] <;> first | done | omega) | (intros; simp (disch := omega) only [jst_eq, jst_ne, jst_ni, jst_o, jI_i, jcpy_out, w32_id, jdiv_nn] at * <;> first | done | omega | assumption) | (intros; first | rfl | (exfalso; omega) | ((repeat' apply And.intro) <;> first | assumption | rfl | omega | trivial)))) (by exact fun _ _ _ => rfl) (by exact ⟨n1, n2, n3', n4, n5, n6, n7, n8, n9, fun y => absurd y I3, fun _ => mk1, n11, n12⟩)) (fun r r2 => ?_)
    try dsimp only [Sum.elim_inl, Sum.elim_inr, jt2, jt3, jt4, jt5, jt6, jt7, jt8] at r2
    obtain ⟨cs2, fr2⟩ := r2
    try simp (disch := omega) only [jst_eq, jst_ne, jst_ni, jI_i, jcmp_lt, jcmp_gt, w32_id, jcpy_out, Sum.elim_inl, Sum.elim_inr, jt2, jt3, jt4, jt5, jt6, jt7, jt8] at cs2
    try simp (disch := omega) only [jst_eq, jst_ne, jst_ni, jI_i, jcmp_lt, jcmp_gt, w32_id, jcpy_out, Sum.elim_inl, Sum.elim_inr, jt2, jt3, jt4, jt5, jt6, jt7, jt8] at fr2
    try dsimp only [Sum.elim_inl, Sum.elim_inr, jt2, jt3, jt4, jt5, jt6, jt7, jt8]
    try dsimp only [Sum.elim_inl, Sum.elim_inr, jt2, jt3, jt4, jt5, jt6, jt7, jt8]
    refine ⟨?_, ?_⟩
    · (first | assumption | omega | ((try dsimp only [jt2, jt3, jt4]); first | omega | (simp (disch := omega) only [jst_eq, jst_ne, jst_ni, jst_o, jI_i, jcpy_out, w32_id, jdiv_nn, jshr_k, jand_255] <;> first | done | omega | assumption)) | (intros; simp (disch := omega) only [jst_eq, jst_ne, jst_ni, jst_o, jI_i, jcpy_out, w32_id, jdiv_nn, *] <;> first | done | omega) | (intros; simp (disch := omega) only [jst_eq, jst_ne, jst_ni, jst_o, jI_i, jcpy_out, w32_id, jdiv_nn] at * <;> first | done | omega | assumption) | (intros; first | rfl | (exfalso; omega) | ((repeat' apply And.intro) <;> first | assumption | rfl | omega | trivial))) -- o20 e2.1
    · (first | assumption | omega | ((try dsimp only [jt2, jt3, jt4]); first | omega | (simp (disch := omega) only [jst_eq, jst_ne, jst_ni, jst_o, jI_i, jcpy_out, w32_id, jdiv_nn, jshr_k, jand_255] <;> first | done | omega | assumption)) | (intros; simp (disch := omega) only [jst_eq, jst_ne, jst_ni, jst_o, jI_i, jcpy_out, w32_id, jdiv_nn, *] <;> first | done | omega) | (intros; simp (disch := omega) only [jst_eq, jst_ne, jst_ni, jst_o, jI_i, jcpy_out, w32_id, jdiv_nn] at * <;> first | done | omega | assumption) | (intros; first | rfl | (exfalso; omega) | ((repeat' apply And.intro) <;> first | assumption | rfl | omega | trivial))) -- o21 e2.2
theorem CSF_D : ∀ D : Nat, CSF (gX14_softenD D) D
  | 0 => fun d h R _ _ _ dk => by have := dpT_0 R; omega
  | D + 1 => fun d h R c mk d0 dk => vX14_soften_ d (CSF_D D) c mk d0 (by omega)
theorem vX14_soften (a1 : Int) {h : AH} {R : TR} (c : cG lfM h R a1 0 (a1 + 1)) (mk : ∀ x, a1 ≤ x → x < a1 + sz R → h 467 x ≠ -2) (d : 0 ≤ a1 ∧ a1 + sz R ≤ 8800) (dk : dpT R ≤ 39) : OK (gX14_soften a1 h) (fun h' => cG lfS h' R a1 0 (a1 + 1) ∧ frSo a1 (sz R) h h') := CSF_D 40 a1 h R c mk d (by omega)

