/-! m: soft holes are filled -/
/-- holes are numbered in order from c on; they have no operands -/
def hqT : Int → TR → Prop
  | c, .leaf i => i.1 = 3 → i.2.1 = c
  | c, .branch _ s r => (inf r).1 ≠ 3 ∧ hqT c s ∧ hqT (c + hlT s) r
theorem hqT_kd : ∀ {R : TR} {c : Int} (k : Nat), hqT c R → (k : Int) < nk R → hqT (c + kss hlT R k) (kdA R k)
  | .leaf i, c, k, _, l => by have e : nk (.leaf i) = 0 := rfl; omega
  | .branch b s r, c, 0, q, _ => by
    have e0 : kss hlT (.branch b s r) 0 = 0 := rfl
    rw [e0, Int.add_zero]; exact q.2.1
  | .branch b s r, c, k + 1, q, l => by
    have e : nk (.branch b s r) = nk r + 1 := rfl
    have x := hqT_kd (R := r) k q.2.2 (by omega)
    rw [kss_br, show c + (hlT s + kss hlT r k) = c + hlT s + kss hlT r k by omega]
    exact x
theorem hqT_n : ∀ {R : TR} {c : Int}, hqT c R → (inf R).1 = 3 → nk R = 0
  | .leaf i, c, _, _ => rfl
  | .branch b s r, c, q, y => absurd y q.1
theorem kss_hl : ∀ (R : TR) (k : Nat), nk R ≤ (k : Int) → hlT R = kss hlT R k + (if (inf R).1 = 3 then 1 else 0)
  | .leaf i, 0, _ => by show (if i.1 = 3 then (1 : Int) else 0) = 0 + (if i.1 = 3 then 1 else 0); omega
  | .leaf i, k + 1, _ => by
    have ih := kss_hl (.leaf i) k (by show (0 : Int) ≤ _; omega)
    show hlT (.leaf i) = (kss hlT (.leaf i) k + (if (k : Int) < 0 then _ else 0)) + _
    rw [if_neg (show ¬ (k : Int) < 0 by omega), Int.add_zero]; exact ih
  | .branch b s r, 0, l => by have e : nk (.branch b s r) = nk r + 1 := rfl; have := nk_0 r; omega
  | .branch b s r, k + 1, l => by
    have e : nk (.branch b s r) = nk r + 1 := rfl
    have ih := kss_hl r k (by omega)
    rw [kss_br]
    show hlT s + hlT r = hlT s + kss hlT r k + (if (inf r).1 = 3 then 1 else 0)
    omega
theorem hq_leaf : ∀ {R : TR} {c : Int}, hqT c R → (inf R).1 = 3 → (inf R).2.1 = c
  | .leaf i, c, q, y => q y
  | .branch b s r, c, q, y => absurd y q.1
/-- told terms: their holes are numbered in order -/
theorem rs_hq {P : Int} {nP kP rs oE : Int → Int} {kE : Int → Int → Int} : ∀ {t : TR} {hc : Int}, 0 ≤ hc → hc + hlT t ≤ 3 → gT t → hqT hc (rsT P nP kP rs oE kE t hc) ∧ hlT (rsT P nP kP rs oE kE t hc) = hlT t ∧ ((inf t).1 ≠ 3 → (inf (rsT P nP kP rs oE kE t hc)).1 ≠ 3)
  | .leaf i, hc, h0, h3, g => by
    have g3 := g.2.2.2
    have K : (rsI P nP kP rs oE kE i hc).1 = 3 ↔ i.1 = 3 := by
      unfold rsI
      by_cases a : i.1 = 0
      · rw [if_pos a]; exact ⟨fun y => absurd y (show ¬ (1 : Int) = 3 by decide), fun y => by omega⟩
      · rw [if_neg a]
        by_cases b : i.1 = 1
        · rw [if_pos b]
          by_cases c : mky P nP i.2.2.1 < 0
          · rw [if_pos c]; exact ⟨fun y => absurd y (show ¬ (1 : Int) = 3 by decide), fun y => by omega⟩
          · rw [if_neg c]; exact ⟨fun y => absurd y (show ¬ (0 : Int) = 3 by decide), fun y => by omega⟩
        · rw [if_neg b]
          by_cases c : i.1 = 2
          · rw [if_pos c]
            by_cases d : rs i.2.2.1 = -2
            · rw [if_pos d]; exact ⟨fun y => absurd y (show ¬ (4 : Int) = 3 by decide), fun y => by omega⟩
            · rw [if_neg d]; exact ⟨fun y => absurd y (show ¬ (2 : Int) = 3 by decide), fun y => by omega⟩
          · rw [if_neg c]; exact ⟨fun _ => by omega, fun _ => rfl⟩
    refine ⟨fun y => ?_, ?_, fun y z => y (K.mp z)⟩
    · have i3 := K.mp y
      have l : hlT (.leaf i) = 1 := if_pos i3
      have e : (rsI P nP kP rs oE kE i hc) = (3, min 2 hc, 0, i.2.2.2) := by
        unfold rsI; rw [if_neg (by omega), if_neg (by omega), if_neg (by omega)]
      show (rsI P nP kP rs oE kE i hc).2.1 = hc
      rw [e]
      show min 2 hc = hc
      omega
    · show (if (rsI P nP kP rs oE kE i hc).1 = 3 then (1 : Int) else 0) = if i.1 = 3 then 1 else 0
      by_cases y : i.1 = 3
      · rw [if_pos y, if_pos (K.mpr y)]
      · rw [if_neg y, if_neg (fun z => y (K.mp z))]
  | .branch b s r, hc, h0, h3, g => by
    have e : hlT (.branch b s r) = hlT s + hlT r := rfl
    have s0 := hlT_0 s
    have r0 := hlT_0 r
    have a := rs_hq (P := P) (nP := nP) (kP := kP) (rs := rs) (oE := oE) (kE := kE) h0 (show hc + hlT s ≤ 3 by omega) g.2.1
    have c := rs_hq (P := P) (nP := nP) (kP := kP) (rs := rs) (oE := oE) (kE := kE) (show 0 ≤ hc + hlT s by omega) (show hc + hlT s + hlT r ≤ 3 by omega) g.2.2
    have r2 : (inf r).1 ≠ 3 := by rw [g.1]; decide
    refine ⟨⟨c.2.2 r2, a.1, ?_⟩, ?_, fun _ => c.2.2 r2⟩
    · rw [a.2.1]; exact c.1
    · show hlT (rsT P nP kP rs oE kE s hc) + hlT (rsT P nP kP rs oE kE r (hc + hlT s)) = hlT s + hlT r
      rw [a.2.1, c.2.1]
/-- a node whose hole is soft and filled -/
def lfF (n v : Int) (h : AH) (d k : Int) (i : NI) : Prop := lfS h d k i ∧ (i.1 = 3 → h 462 d = hlS n v i.2.1)
theorem lfF_M {n v : Int} {h : AH} {d k : Int} {i : NI} (f : lfF n v h d k i) : lfM h d k (flI (hlS n v) i) := by
  obtain ⟨⟨f1, f2, f3, f4, f5, f6, f7, f8, f9, f10, f11, f12, f13⟩, f14⟩ := f
  unfold flI
  by_cases y : i.1 = 3
  · rw [if_pos y]
    exact ⟨f1, f2, f3, f4, f5, fun z => absurd z (show ¬ (1 : Int) = 0 by decide), fun _ => ⟨(f10 y).1, f14 y⟩, fun z => absurd z (show ¬ (1 : Int) = 2 by decide), fun z => absurd z (show ¬ (1 : Int) = 4 by decide), fun z => absurd z (show ¬ (1 : Int) = 3 by decide), (show (0 : Int) ≤ 1 by decide), (show (1 : Int) ≤ 4 by decide)⟩
  · rw [if_neg y]
    exact ⟨f1, f2, f3, f4, f5, f6, f7, f8, f9, fun z => absurd z y, f12, f13⟩
theorem cG_imp {P P' : AH → Int → Int → NI → Prop} {h : AH} (f : ∀ d j i, P h d j i → P' h d j i) : ∀ {R : TR} {d j p : Int}, cG P h R d j p → cG P' h R d j p
  | .leaf i, d, j, p, c => f d j i c
  | .branch b s r, d, j, p, c => ⟨c.1, c.2.1, c.2.2.1, cG_imp f c.2.2.2.1, cG_imp f c.2.2.2.2⟩
theorem cGF_M {n v : Int} {h : AH} {R : TR} {d j p : Int} (c : cG (lfF n v) h R d j p) : cG lfM h (flT (hlS n v) R) d j p := cG_fl (cG_imp (fun _ _ _ => lfF_M) c)
def frF (d z : Int) (h h' : AH) : Prop := ∀ a s, ¬ (a = 454 ∧ s = 35) → ¬ (a = 462 ∧ d ≤ s ∧ s < d + z) → h' a s = h a s
def CFF (F : Int → Int → Int → AH → Option AH) (n v k : Int) : Prop := ∀ (d : Int) (h : AH) (R : TR), cG lfS h R d 0 (d + 1) → (hqT (h 454 35) R ∧ 0 ≤ h 454 35 ∧ h 454 35 + hlT R ≤ n) → (0 ≤ d ∧ d + sz R ≤ 8800) → dpT R + 1 ≤ k → OK (F d v n h) (fun h' => cG (lfF n v) h' R d 0 (d + 1) ∧ h' 454 35 = h 454 35 + hlT R ∧ frF d (sz R) h h')
theorem lfS_f {h h' : AH} {d j : Int} {i : NI} (f : ∀ a, 460 ≤ a → a ≤ 467 → a ≠ 462 → a ≠ 464 → h' a d = h a d) (g : i.1 ≠ 3 → h' 462 d = h 462 d) (l : lfS h d j i) : lfS h' d j i := by
  obtain ⟨f1, f2, f3, f4, f5, f6, f7, f8, f9, f10, f11, f12, f13⟩ := l
  unfold lfS
  rw [f 465 (by decide) (by decide) (by decide) (by decide), f 466 (by decide) (by decide) (by decide) (by decide), f 461 (by decide) (by decide) (by decide) (by decide), f 460 (by decide) (by decide) (by decide) (by decide), f 463 (by decide) (by decide) (by decide) (by decide), f 467 (by decide) (by decide) (by decide) (by decide)]
  exact ⟨f1, f2, f3, f4, f5, fun y => by rw [g (by omega)]; exact f6 y, fun y => by rw [g (by omega)]; exact f7 y, f8, f9, f10, f11, f12, f13⟩
theorem lfF_f {h h' : AH} {n v d j : Int} {i : NI} (f : ∀ a, 460 ≤ a → a ≤ 467 → a ≠ 464 → h' a d = h a d) (l : lfF n v h d j i) : lfF n v h' d j i := ⟨lfS_f (fun a a0 a1 _ a3 => f a a0 a1 a3) (fun _ => f 462 (by decide) (by decide) (by decide)) l.1, fun y => by rw [f 462 (by decide) (by decide) (by decide)]; exact l.2 y⟩
theorem vX14_fillMarked_l54 {F : Int → Int → Int → AH → Option (AH)} (i1 : Int) (i2 : Int) (i3 : Int) (a40 : Int) {h0 : AH} {k c0 : Int} {R : TR} {hb : AH} (hF : CFF F i3 i2 k) (c : cG lfS hb R i1 0 (i1 + 1)) (hq : hqT c0 R ∧ 0 ≤ c0 ∧ c0 + hlT R ≤ i3) (d : 0 ≤ i1 ∧ i1 + sz R ≤ 8800) (dk : dpT R + 1 ≤ k + 1) (n3 : nk R ≤ 3) (fr : ∀ a s, ¬ (a = 454 ∧ s = 35) → ¬ (a = 462 ∧ s = i1) → h0 a s = hb a s) (nd : lfF i3 i2 h0 i1 (nk R) (inf R)) (c5 : h0 454 35 = c0 + (if (inf R).1 = 3 then 1 else 0)) (z : a40 = 0) : OK (gX14_fillMarked_l54 F i1 i2 i3 a40 h0) (fun h' => (cG (lfF i3 i2) h' R i1 0 (i1 + 1)) ∧ (h' 454 35 = c0 + hlT R) ∧ (frF i1 (sz R) hb h')) := by
  unfold gX14_fillMarked_l54
  refine OK_jit (I := (fun (s : Int × AH) => jt2 s fun a4 h => (0 ≤ a4 ∧ a4 ≤ nk R) ∧ (∀ m : Nat, (m : Int) < a4 → cG (lfF i3 i2) h (kdA R m) (i1 + 1 + kss sz R m) 0 (i1 + 1 + kss sz R m + 1)) ∧ (∀ a s, ¬ (a = 454 ∧ s = 35) → ¬ (a = 462 ∧ i1 + 1 ≤ s ∧ s < i1 + 1 + kss sz R a4.toNat) → h a s = h0 a s) ∧ (h 454 35 = c0 + kss hlT R a4.toNat + (if (inf R).1 = 3 then 1 else 0)))) (m := (fun (s : Int × AH) => jt2 s fun a4 h => (nk R - a4).toNat)) ?_ ?_
  · intro s hs
    obtain ⟨a4, h⟩ := s
    dsimp only [Sum.elim_inl, Sum.elim_inr, jt2, jt3, jt4, jt5, jt6, jt7, jt8] at hs
    obtain ⟨q0, q1, q2, q3⟩ := hs
    unfold gX14_fillMarked_b54
    refine OK_jt2 ?_
    have Q2 := q2
    have k0 := kss_0 (g := sz) sz_0 R a4.toNat
    have sp := sz_pos R
    have k3 := kss_sz R 3 (by omega)
    have kl0 := kss_le (g := sz) sz_0 R (k := a4.toNat) 3 (by omega)
    have n465 : h 465 i1 = nk R := by { rw [q2 _ _ (by omega) (by omega)]; exact nd.1.2.2.1 }
    refine OK_jg (by (first | assumption | omega | ((try dsimp only [jt2, jt3, jt4]); first | omega | (simp (disch := omega) only [jst_eq, jst_ne, jst_ni, jst_o, jI_i, jcpy_out, w32_id, jdiv_nn, jshr_k, jand_255] <;> first | done | omega | assumption)) | (intros; simp (disch := omega) only [jst_eq, jst_ne, jst_ni, jst_o, jI_i, jcpy_out, w32_id, jdiv_nn, *] <;> first | done | omega) | (intros; simp (disch := omega) only [jst_eq, jst_ne, jst_ni, jst_o, jI_i, jcpy_out, w32_id, jdiv_nn] at * <;> first | done | omega | assumption) | (intros; first | rfl | (exfalso; omega) | ((repeat' apply And.intro) <;> first | assumption | rfl | omega | trivial)))) ?_ -- o1
    refine OK_if (fun c1 => ?_) (fun c1 => ?_)
    · skip
      try simp (disch := omega) only [jst_eq, jst_ne, jst_ni, jI_i, jcmp_lt, jcmp_gt, w32_id, jcpy_out, Sum.elim_inl, Sum.elim_inr, jt2, jt3, jt4, jt5, jt6, jt7, jt8] at c1
      refine OK_ir ?_
      try dsimp only [Sum.elim_inl, Sum.elim_inr, jt2, jt3, jt4, jt5, jt6, jt7, jt8]
      refine ⟨?_, ?_, ?_⟩
      · (have e3 := kss_sz R a4.toNat (by omega); refine cG_of (fun m ml => ⟨?_, q1 m (by omega)⟩) ?_ (Int.le_refl _) (by omega); { rw [Q2 _ _ (by omega) (by omega), fr _ _ (by omega) (by omega), Int.zero_add]; have q := (cG_kd m c ml).1; rw [Int.zero_add] at q; exact q }; { rw [Int.zero_add]; exact lfF_f (fun a a0 a1 a3 => Q2 a i1 (by omega) (by omega)) nd }) -- o2 e1.1
      · (rw [q3, kss_hl R a4.toNat (by omega)]; omega) -- o3 e1.2
      · (have e3 := kss_sz R a4.toNat (by omega); intro a s y1 y2; rw [Q2 a s y1 (by omega)]; exact fr a s y1 (by omega)) -- o4 e1.3
    · skip
      try simp (disch := omega) only [jst_eq, jst_ne, jst_ni, jI_i, jcmp_lt, jcmp_gt, w32_id, jcpy_out, Sum.elim_inl, Sum.elim_inr, jt2, jt3, jt4, jt5, jt6, jt7, jt8] at c1
      have ea : ((a4.toNat : Nat) : Int) = a4 := by omega
      have N3 : (inf R).1 ≠ 3 := fun y => by { have := hqT_n hq.1 y; omega }
      rw [if_neg N3, Int.add_zero] at q3
      have kt := cG_kd a4.toNat c (by omega)
      have kd := dpT_kd R a4.toNat (by omega)
      rw [ea, Int.zero_add] at kt
      have sk := szK_le (R := R) (k := a4.toNat) (by omega) n3
      have ks := kss_s (g := sz) (R := R) (k := a4.toNat) (by omega)
      have kh := kss_s (g := hlT) (R := R) (k := a4.toNat) (by omega)
      have hk := hqT_kd a4.toNat hq.1 (by omega)
      have h0k := kss_0 (g := hlT) hlT_0 R a4.toNat
      have hle := kss_le (g := hlT) hlT_0 R (k := a4.toNat + 1) 3 (by omega)
      have hl3 := kss_hl R 3 (by omega)
      rw [if_neg N3, Int.add_zero] at hl3
      have hkp := hlT_0 (kdA R a4.toNat)
      have iw : w32 (w32 (3 * i1) + a4) = 3 * i1 + a4 := by { rw [w32_id (x := 3 * i1) (by omega) (by omega), w32_id (by omega) (by omega)] }
      have e464 : h 464 (3 * i1 + a4) = i1 + 1 + kss sz R a4.toNat := by { rw [q2 _ _ (by omega) (by omega), fr _ _ (by omega) (by omega)]; exact kt.1 }
      have spk := sz_pos (kdA R a4.toNat)
      refine OK_jg (by (first | assumption | omega | ((try dsimp only [jt2, jt3, jt4]); first | omega | (simp (disch := omega) only [jst_eq, jst_ne, jst_ni, jst_o, jI_i, jcpy_out, w32_id, jdiv_nn, jshr_k, jand_255] <;> first | done | omega | assumption)) | (intros; simp (disch := omega) only [jst_eq, jst_ne, jst_ni, jst_o, jI_i, jcpy_out, w32_id, jdiv_nn, *] <;> first | done | omega) | (intros; simp (disch := omega) only [jst_eq, jst_ne, jst_ni, jst_o, jI_i, jcpy_out, w32_id, jdiv_nn] at * <;> first | done | omega | assumption) | (intros; first | rfl | (exfalso; omega) | ((repeat' apply And.intro) <;> first | assumption | rfl | omega | trivial)))) ?_ -- o5
      refine OK_jb (hF _ _ (kdA R a4.toNat) (by (rw [iw, e464]; exact cG_fr (h := hb) (lo := i1 + 1 + kss sz R a4.toNat) (hi := i1 + 1 + kss sz R a4.toNat + sz (kdA R a4.toNat)) (fun dd j i d0 d1 l => lfS_f (fun a a0 a1 a2 a3 => by rw [Q2 a dd (by omega) (by omega)]; exact fr a dd (by omega) (by omega)) (fun _ => by rw [Q2 462 dd (by omega) (by omega)]; exact fr 462 dd (by omega) (by omega)) l) (fun s _ _ => by rw [Q2 _ _ (by omega) (by omega)]; exact fr _ _ (by omega) (by omega)) (Int.le_refl _) (by omega) (by omega) (by omega) kt.2)) (by (rw [q3]; exact ⟨hk, by omega, by omega⟩)) (by (rw [iw, e464]; omega)) (by omega)) (fun h9 r1 => ?_)
      try dsimp only [Sum.elim_inl, Sum.elim_inr, jt2, jt3, jt4, jt5, jt6, jt7, jt8] at r1
      obtain ⟨cs1, hc1, fr1⟩ := r1
      try simp (disch := omega) only [jst_eq, jst_ne, jst_ni, jI_i, jcmp_lt, jcmp_gt, w32_id, jcpy_out, Sum.elim_inl, Sum.elim_inr, jt2, jt3, jt4, jt5, jt6, jt7, jt8] at cs1
      try simp (disch := omega) only [jst_eq, jst_ne, jst_ni, jI_i, jcmp_lt, jcmp_gt, w32_id, jcpy_out, Sum.elim_inl, Sum.elim_inr, jt2, jt3, jt4, jt5, jt6, jt7, jt8] at hc1
      try simp (disch := omega) only [jst_eq, jst_ne, jst_ni, jI_i, jcmp_lt, jcmp_gt, w32_id, jcpy_out, Sum.elim_inl, Sum.elim_inr, jt2, jt3, jt4, jt5, jt6, jt7, jt8] at fr1
      (try rw [iw] at cs1 fr1); rw [e464] at cs1 fr1
      have nN : (if (inf R).1 = 3 then (1 : Int) else 0) = 0 := if_neg N3
      refine OK_jlx (fun x10 ex10 => ?_)
      try simp (disch := omega) only [jst_eq, jst_ne, jst_ni, jI_i, jcmp_lt, jcmp_gt, w32_id, jcpy_out, Sum.elim_inl, Sum.elim_inr, jt2, jt3, jt4, jt5, jt6, jt7, jt8] at ex10
      refine OK_il ?_ ?_
      · try dsimp only [Sum.elim_inl, Sum.elim_inr, jt2, jt3, jt4, jt5, jt6, jt7, jt8]
        refine ⟨?_, ?_, ?_, ?_⟩
        · (first | assumption | omega | ((try dsimp only [jt2, jt3, jt4]); first | omega | (simp (disch := omega) only [jst_eq, jst_ne, jst_ni, jst_o, jI_i, jcpy_out, w32_id, jdiv_nn, jshr_k, jand_255] <;> first | done | omega | assumption)) | (intros; simp (disch := omega) only [jst_eq, jst_ne, jst_ni, jst_o, jI_i, jcpy_out, w32_id, jdiv_nn, *] <;> first | done | omega) | (intros; simp (disch := omega) only [jst_eq, jst_ne, jst_ni, jst_o, jI_i, jcpy_out, w32_id, jdiv_nn] at * <;> first | done | omega | assumption) | (intros; first | rfl | (exfalso; omega) | ((repeat' apply And.intro) <;> first | assumption | rfl | omega | trivial))) -- o10 e2i.1
        · (intro m ml; rw [ex10] at ml; (try rw [w32_id (by omega) (by omega)] at ml); by_cases y : (m : Int) = a4; { have ym : m = a4.toNat := (by omega); rw [ym]; exact cs1 }; { have kk := kss_le (g := sz) sz_0 R (k := m + 1) a4.toNat (by omega); have km := kss_s (g := sz) (R := R) (k := m) (by omega); have zm := kss_0 (g := sz) sz_0 R m; have szm := sz_pos (kdA R m); exact cG_fr (h := h) (lo := i1 + 1 + kss sz R m) (hi := i1 + 1 + kss sz R m + sz (kdA R m)) (fun dd j i d0 d1 l => lfF_f (fun a a0 a1 a3 => fr1 a dd (by omega) (by omega)) l) (fun s _ _ => fr1 _ _ (by omega) (by omega)) (Int.le_refl _) (by omega) (by omega) (by omega) (q1 m (by omega)) }) -- o11 e2i.2
        · (intro a s y1 y2; rw [ex10] at y2; (try rw [w32_id (by omega) (by omega)] at y2); rw [show (a4 + 1).toNat = a4.toNat + 1 by omega, ks] at y2; rw [fr1 a s y1 (by omega)]; exact Q2 a s y1 (by omega)) -- o12 e2i.3
        · (rw [ex10]; (try rw [w32_id (by omega) (by omega)]); rw [show (a4 + 1).toNat = a4.toNat + 1 by omega, kh, nN, hc1, q3]; omega) -- o13 e2i.4
      · (first | assumption | omega | ((try dsimp only [jt2, jt3, jt4]); first | omega | (simp (disch := omega) only [jst_eq, jst_ne, jst_ni, jst_o, jI_i, jcpy_out, w32_id, jdiv_nn, jshr_k, jand_255] <;> first | done | omega | assumption)) | (intros; simp (disch := omega) only [jst_eq, jst_ne, jst_ni, jst_o, jI_i, jcpy_out, w32_id, jdiv_nn, *] <;> first | done | omega) | (intros; simp (disch := omega) only [jst_eq, jst_ne, jst_ni, jst_o, jI_i, jcpy_out, w32_id, jdiv_nn] at * <;> first | done | omega | assumption) | (intros; first | rfl | (exfalso; omega) | ((repeat' apply And.intro) <;> first | assumption | rfl | omega | trivial))) -- o14 e2m
  · try dsimp only [Sum.elim_inl, Sum.elim_inr, jt2, jt3, jt4, jt5, jt6, jt7, jt8]
    refine ⟨?_, ?_, ?_, ?_⟩
    · (have := nk_0 R; omega) -- o15 init.1
    · (intro m ml; omega) -- o16 init.2
    · exact fun _ _ _ _ => rfl -- o17 init.3
    · (rw [c5, z]; show _ = c0 + 0 + _; omega) -- o18 init.4
theorem vX14_fillMarked_j51 {F : Int → Int → Int → AH → Option (AH)} (a1 : Int) (a2 : Int) (a3 : Int) {h : AH} {k c0 : Int} {R : TR} {hb : AH} (hF : CFF F a3 a2 k) (c : cG lfS hb R a1 0 (a1 + 1)) (hq : hqT c0 R ∧ 0 ≤ c0 ∧ c0 + hlT R ≤ a3) (d : 0 ≤ a1 ∧ a1 + sz R ≤ 8800) (dk : dpT R + 1 ≤ k + 1) (n3 : nk R ≤ 3) (fr : ∀ a s, ¬ (a = 454 ∧ s = 35) → ¬ (a = 462 ∧ s = a1) → h a s = hb a s) (nd : lfF a3 a2 h a1 (nk R) (inf R)) (c5 : h 454 35 = c0 + (if (inf R).1 = 3 then 1 else 0)) : OK (gX14_fillMarked_j51 F a1 a2 a3 h) (fun h' => (cG (lfF a3 a2) h' R a1 0 (a1 + 1)) ∧ (h' 454 35 = c0 + hlT R) ∧ (frF a1 (sz R) hb h')) := by
  unfold gX14_fillMarked_j51
  refine OK_jb (vX14_fillMarked_l54 (k := k) (c0 := c0) (R := R) (hb := hb) _ _ _ _ (by (first | assumption | omega | ((try dsimp only [jt2, jt3, jt4]); first | omega | (simp (disch := omega) only [jst_eq, jst_ne, jst_ni, jst_o, jI_i, jcpy_out, w32_id, jdiv_nn, jshr_k, jand_255] <;> first | done | omega | assumption)) | (intros; simp (disch := omega) only [jst_eq, jst_ne, jst_ni, jst_o, jI_i, jcpy_out, w32_id, jdiv_nn, *] <;> first | done | omega) | (intros; simp (disch := omega) only [jst_eq, jst_ne, jst_ni, jst_o, jI_i, jcpy_out, w32_id, jdiv_nn] at * <;> first | done | omega | assumption) | (intros; first | rfl | (exfalso; omega) | ((repeat' apply And.intro) <;> first | assumption | rfl | omega | trivial)))) (by (first | assumption | omega | ((try dsimp only [jt2, jt3, jt4]); first | omega | (simp (disch := omega) only [jst_eq, jst_ne, jst_ni, jst_o, jI_i, jcpy_out, w32_id, jdiv_nn, jshr_k, jand_255] <;> first | done | omega | assumption)) | (intros; simp (disch := omega) only [jst_eq, jst_ne, jst_ni, jst_o, jI_i, jcpy_out, w32_id, jdiv_nn, *] <;> first | done | omega) | (intros; simp (disch := omega) only [jst_eq, jst_ne, jst_ni, jst_o, jI_i, jcpy_out, w32_id, jdiv_nn] at * <;> first | done | omega | assumption) | (intros; first | rfl | (exfalso; omega) | ((repeat' apply And.intro) <;> first | assumption | rfl | omega | trivial)))) (by (first | assumption | omega | ((try dsimp only [jt2, jt3, jt4]); first | omega | (simp (disch := omega) only [jst_eq, jst_ne, jst_ni, jst_o, jI_i, jcpy_out, w32_id, jdiv_nn, jshr_k, jand_255] <;> first | done | omega | assumption)) | (intros; simp (disch := omega) only [jst_eq, jst_ne, jst_ni, jst_o, jI_i, jcpy_out, w32_id, jdiv_nn, *] <;> first | done | omega) | (intros; simp (disch := omega) only [jst_eq, jst_ne, jst_ni, jst_o, jI_i, jcpy_out, w32_id, jdiv_nn] at * <;> first | done | omega | assumption) | (intros; first | rfl | (exfalso; omega) | ((repeat' apply And.intro) <;> first | assumption | rfl | omega | trivial)))) (by (first | assumption | omega | ((try dsimp only [jt2, jt3, jt4]); first | omega | (simp (disch := omega) only [jst_eq, jst_ne, jst_ni, jst_o, jI_i, jcpy_out, w32_id, jdiv_nn, jshr_k, jand_255] <;> first | done | omega | assumption)) | (intros; simp (disch := omega) only [jst_eq, jst_ne, jst_ni, jst_o, jI_i, jcpy_out, w32_id, jdiv_nn, *] <;> first | done | omega) | (intros; simp (disch := omega) only [jst_eq, jst_ne, jst_ni, jst_o, jI_i, jcpy_out, w32_id, jdiv_nn] at * <;> first | done | omega | assumption) | (intros; first | rfl | (exfalso; omega) | ((repeat' apply And.intro) <;> first | assumption | rfl | omega | trivial)))) (by (first | assumption | omega | ((try dsimp only [jt2, jt3, jt4]); first | omega | (simp (disch := omega) only [jst_eq, jst_ne, jst_ni, jst_o, jI_i, jcpy_out, w32_id, jdiv_nn, jshr_k, jand_255] <;> first | done | omega | assumption)) | (intros; simp (disch := omega) only [jst_eq, jst_ne, jst_ni, jst_o, jI_i, jcpy_out, w32_id, jdiv_nn, *] <;> first | done | omega) | (intros; simp (disch := omega) only [jst_eq, jst_ne, jst_ni, jst_o, jI_i, jcpy_out, w32_id, jdiv_nn] at * <;> first | done | omega | assumption) | (intros; first | rfl | (exfalso; omega) | ((repeat' apply And.intro) <;> first | assumption | rfl | omega | trivial)))) (by (first | assumption | omega | ((try dsimp only [jt2, jt3, jt4]); first | omega | (simp (disch := omega) only [jst_eq, jst_ne, jst_ni, jst_o, jI_i, jcpy_out, w32_id, jdiv_nn, jshr_k, jand_255] <;> first | done | omega | assumption)) | (intros; simp (disch := omega) only [jst_eq, jst_ne, jst_ni, jst_o, jI_i, jcpy_out, w32_id, jdiv_nn, *] <;> first | done | omega) | (intros; simp (disch := omega) only [jst_eq, jst_ne, jst_ni, jst_o, jI_i, jcpy_out, w32_id, jdiv_nn] at * <;> first | done | omega | assumption) | (intros; first | rfl | (exfalso; omega) | ((repeat' apply And.intro) <;> first | assumption | rfl | omega | trivial)))) (by (first | assumption | omega | ((try dsimp only [jt2, jt3, jt4]); first | omega | (simp (disch := omega) only [jst_eq, jst_ne, jst_ni, jst_o, jI_i, jcpy_out, w32_id, jdiv_nn, jshr_k, jand_255] <;> first | done | omega | assumption)) | (intros; simp (disch := omega) only [jst_eq, jst_ne, jst_ni, jst_o, jI_i, jcpy_out, w32_id, jdiv_nn, *] <;> first | done | omega) | (intros; simp (disch := omega) only [jst_eq, jst_ne, jst_ni, jst_o, jI_i, jcpy_out, w32_id, jdiv_nn] at * <;> first | done | omega | assumption) | (intros; first | rfl | (exfalso; omega) | ((repeat' apply And.intro) <;> first | assumption | rfl | omega | trivial)))) (by (first | assumption | omega | ((try dsimp only [jt2, jt3, jt4]); first | omega | (simp (disch := omega) only [jst_eq, jst_ne, jst_ni, jst_o, jI_i, jcpy_out, w32_id, jdiv_nn, jshr_k, jand_255] <;> first | done | omega | assumption)) | (intros; simp (disch := omega) only [jst_eq, jst_ne, jst_ni, jst_o, jI_i, jcpy_out, w32_id, jdiv_nn, *] <;> first | done | omega) | (intros; simp (disch := omega) only [jst_eq, jst_ne, jst_ni, jst_o, jI_i, jcpy_out, w32_id, jdiv_nn] at * <;> first | done | omega | assumption) | (intros; first | rfl | (exfalso; omega) | ((repeat' apply And.intro) <;> first | assumption | rfl | omega | trivial)))) (by (first | assumption | omega | ((try dsimp only [jt2, jt3, jt4]); first | omega | (simp (disch := omega) only [jst_eq, jst_ne, jst_ni, jst_o, jI_i, jcpy_out, w32_id, jdiv_nn, jshr_k, jand_255] <;> first | done | omega | assumption)) | (intros; simp (disch := omega) only [jst_eq, jst_ne, jst_ni, jst_o, jI_i, jcpy_out, w32_id, jdiv_nn, *] <;> first | done | omega) | (intros; simp (disch := omega) only [jst_eq, jst_ne, jst_ni, jst_o, jI_i, jcpy_out, w32_id, jdiv_nn] at * <;> first | done | omega | assumption) | (intros; first | rfl | (exfalso; omega) | ((repeat' apply And.intro) <;> first | assumption | rfl | omega | trivial)))) (by (first | assumption | omega | ((try dsimp only [jt2, jt3, jt4]); first | omega | (simp (disch := omega) only [jst_eq, jst_ne, jst_ni, jst_o, jI_i, jcpy_out, w32_id, jdiv_nn, jshr_k, jand_255] <;> first | done | omega | assumption)) | (intros; simp (disch := omega) only [jst_eq, jst_ne, jst_ni, jst_o, jI_i, jcpy_out, w32_id, jdiv_nn, *] <;> first | done | omega) | (intros; simp (disch := omega) only [jst_eq, jst_ne, jst_ni, jst_o, jI_i, jcpy_out, w32_id, jdiv_nn] at * <;> first | done | omega | assumption) | (intros; first | rfl | (exfalso; omega) | ((repeat' apply And.intro) <;> first | assumption | rfl | omega | trivial))))) (fun o5 r1 => ?_)
  try dsimp only [Sum.elim_inl, Sum.elim_inr, jt2, jt3, jt4, jt5, jt6, jt7, jt8] at r1
  obtain ⟨cs1, hc1, fr1⟩ := r1
  try simp (disch := omega) only [jst_eq, jst_ne, jst_ni, jI_i, jcmp_lt, jcmp_gt, w32_id, jcpy_out, Sum.elim_inl, Sum.elim_inr, jt2, jt3, jt4, jt5, jt6, jt7, jt8] at cs1
  try simp (disch := omega) only [jst_eq, jst_ne, jst_ni, jI_i, jcmp_lt, jcmp_gt, w32_id, jcpy_out, Sum.elim_inl, Sum.elim_inr, jt2, jt3, jt4, jt5, jt6, jt7, jt8] at hc1
  try simp (disch := omega) only [jst_eq, jst_ne, jst_ni, jI_i, jcmp_lt, jcmp_gt, w32_id, jcpy_out, Sum.elim_inl, Sum.elim_inr, jt2, jt3, jt4, jt5, jt6, jt7, jt8] at fr1
  refine OK_some ?_
  try dsimp only [Sum.elim_inl, Sum.elim_inr, jt2, jt3, jt4, jt5, jt6, jt7, jt8]
  try dsimp only [Sum.elim_inl, Sum.elim_inr, jt2, jt3, jt4, jt5, jt6, jt7, jt8]
  refine ⟨?_, ?_, ?_⟩
  · (first | assumption | omega | ((try dsimp only [jt2, jt3, jt4]); first | omega | (simp (disch := omega) only [jst_eq, jst_ne, jst_ni, jst_o, jI_i, jcpy_out, w32_id, jdiv_nn, jshr_k, jand_255] <;> first | done | omega | assumption)) | (intros; simp (disch := omega) only [jst_eq, jst_ne, jst_ni, jst_o, jI_i, jcpy_out, w32_id, jdiv_nn, *] <;> first | done | omega) | (intros; simp (disch := omega) only [jst_eq, jst_ne, jst_ni, jst_o, jI_i, jcpy_out, w32_id, jdiv_nn] at * <;> first | done | omega | assumption) | (intros; first | rfl | (exfalso; omega) | ((repeat' apply And.intro) <;> first | assumption | rfl | omega | trivial))) -- o11 e1.1
  · (first | assumption | omega | ((try dsimp only [jt2, jt3, jt4]); first | omega | (simp (disch := omega) only [jst_eq, jst_ne, jst_ni, jst_o, jI_i, jcpy_out, w32_id, jdiv_nn, jshr_k, jand_255] <;> first | done | omega | assumption)) | (intros; simp (disch := omega) only [jst_eq, jst_ne, jst_ni, jst_o, jI_i, jcpy_out, w32_id, jdiv_nn, *] <;> first | done | omega) | (intros; simp (disch := omega) only [jst_eq, jst_ne, jst_ni, jst_o, jI_i, jcpy_out, w32_id, jdiv_nn] at * <;> first | done | omega | assumption) | (intros; first | rfl | (exfalso; omega) | ((repeat' apply And.intro) <;> first | assumption | rfl | omega | trivial))) -- o12 e1.2
  · (first | assumption | omega | ((try dsimp only [jt2, jt3, jt4]); first | omega | (simp (disch := omega) only [jst_eq, jst_ne, jst_ni, jst_o, jI_i, jcpy_out, w32_id, jdiv_nn, jshr_k, jand_255] <;> first | done | omega | assumption)) | (intros; simp (disch := omega) only [jst_eq, jst_ne, jst_ni, jst_o, jI_i, jcpy_out, w32_id, jdiv_nn, *] <;> first | done | omega) | (intros; simp (disch := omega) only [jst_eq, jst_ne, jst_ni, jst_o, jI_i, jcpy_out, w32_id, jdiv_nn] at * <;> first | done | omega | assumption) | (intros; first | rfl | (exfalso; omega) | ((repeat' apply And.intro) <;> first | assumption | rfl | omega | trivial))) -- o13 e1.3
theorem vX14_fillMarked_ {F : Int → Int → Int → AH → Option (AH)} (a1 : Int) (a2 : Int) (a3 : Int) {h : AH} {k : Int} {R : TR} (hF : CFF F a3 a2 k) (c : cG lfS h R a1 0 (a1 + 1)) (hq : hqT (h 454 35) R ∧ 0 ≤ h 454 35 ∧ h 454 35 + hlT R ≤ a3) (d : 0 ≤ a1 ∧ a1 + sz R ≤ 8800) (dk : dpT R + 1 ≤ k + 1) (b : 0 ≤ a2 ∧ a2 < 4096 ∧ a3 ≤ 3) : OK (gX14_fillMarked_ F a1 a2 a3 h) (fun h' => (cG (lfF a3 a2) h' R a1 0 (a1 + 1)) ∧ (h' 454 35 = h 454 35 + hlT R) ∧ (frF a1 (sz R) h h')) := by
  have sp := sz_pos R
  have nd := cG_nd c
  have n3 := cG_n3 c (by decide)
  rw [Int.zero_add] at nd n3
  have ND := nd
  obtain ⟨n1, n2, n3', n4, n5, n6, n7, n8, n9, n10, n11, n12, n13⟩ := nd
  unfold gX14_fillMarked_
  refine OK_jg (by (first | assumption | omega | ((try dsimp only [jt2, jt3, jt4]); first | omega | (simp (disch := omega) only [jst_eq, jst_ne, jst_ni, jst_o, jI_i, jcpy_out, w32_id, jdiv_nn, jshr_k, jand_255] <;> first | done | omega | assumption)) | (intros; simp (disch := omega) only [jst_eq, jst_ne, jst_ni, jst_o, jI_i, jcpy_out, w32_id, jdiv_nn, *] <;> first | done | omega) | (intros; simp (disch := omega) only [jst_eq, jst_ne, jst_ni, jst_o, jI_i, jcpy_out, w32_id, jdiv_nn] at * <;> first | done | omega | assumption) | (intros; first | rfl | (exfalso; omega) | ((repeat' apply And.intro) <;> first | assumption | rfl | omega | trivial)))) ?_ -- o1
  refine OK_if (fun c1 => ?_) (fun c1 => ?_)
  · skip
    try simp (disch := omega) only [jst_eq, jst_ne, jst_ni, jI_i, jcmp_lt, jcmp_gt, w32_id, jcpy_out, Sum.elim_inl, Sum.elim_inr, jt2, jt3, jt4, jt5, jt6, jt7, jt8] at c1
    refine OK_if (fun c2 => ?_) (fun c2 => ?_)
    · skip
      try simp (disch := omega) only [jst_eq, jst_ne, jst_ni, jI_i, jcmp_lt, jcmp_gt, w32_id, jcpy_out, Sum.elim_inl, Sum.elim_inr, jt2, jt3, jt4, jt5, jt6, jt7, jt8] at c2
      have I3 : (inf R).1 = 3 := Classical.byContradiction fun y => n11 y c2
      have HL : hlT R = 1 := by { have n0 := hqT_n hq.1 I3; have q := kss_hl R 0 (by omega); rw [if_pos I3] at q; have e0 : kss hlT R 0 = 0 := rfl; omega }
      have HC : (inf R).2.1 = h 454 35 := hq_leaf hq.1 I3
      have DW : jand (jshr a2 (w32 (4 * w32 (w32 (a3 - 1) - h 454 35)))) 15 = hlS a3 a2 (h 454 35) := by { rw [w32_id (x := a3 - 1) (by omega) (by omega), w32_id (x := a3 - 1 - h 454 35) (by omega) (by omega), w32_id (by omega) (by omega)]; unfold hlS; rw [if_pos (by omega)]; rfl }
      refine OK_jl ?_
      refine OK_jl ?_
      refine OK_mono (vX14_fillMarked_j51 (k := k) (c0 := h 454 35) (R := R) (hb := h) _ _ _ (by (first | assumption | omega | ((try dsimp only [jt2, jt3, jt4]); first | omega | (simp (disch := omega) only [jst_eq, jst_ne, jst_ni, jst_o, jI_i, jcpy_out, w32_id, jdiv_nn, jshr_k, jand_255] <;> first | done | omega | assumption)) | (intros; simp (disch := omega) only [jst_eq, jst_ne, jst_ni, jst_o, jI_i, jcpy_out, w32_id, jdiv_nn, *] <;> first | done | omega) | (intros; simp (disch := omega) only [jst_eq, jst_ne, jst_ni, jst_o, jI_i, jcpy_out, w32_id, jdiv_nn] at * <;> first | done | omega | assumption) | (intros; first | rfl | (exfalso; omega) | ((repeat' apply And.intro) <;> first | assumption | rfl | omega | trivial)))) (by exact c) (by exact hq) (by (first | assumption | omega | ((try dsimp only [jt2, jt3, jt4]); first | omega | (simp (disch := omega) only [jst_eq, jst_ne, jst_ni, jst_o, jI_i, jcpy_out, w32_id, jdiv_nn, jshr_k, jand_255] <;> first | done | omega | assumption)) | (intros; simp (disch := omega) only [jst_eq, jst_ne, jst_ni, jst_o, jI_i, jcpy_out, w32_id, jdiv_nn, *] <;> first | done | omega) | (intros; simp (disch := omega) only [jst_eq, jst_ne, jst_ni, jst_o, jI_i, jcpy_out, w32_id, jdiv_nn] at * <;> first | done | omega | assumption) | (intros; first | rfl | (exfalso; omega) | ((repeat' apply And.intro) <;> first | assumption | rfl | omega | trivial)))) (by (first | assumption | omega | ((try dsimp only [jt2, jt3, jt4]); first | omega | (simp (disch := omega) only [jst_eq, jst_ne, jst_ni, jst_o, jI_i, jcpy_out, w32_id, jdiv_nn, jshr_k, jand_255] <;> first | done | omega | assumption)) | (intros; simp (disch := omega) only [jst_eq, jst_ne, jst_ni, jst_o, jI_i, jcpy_out, w32_id, jdiv_nn, *] <;> first | done | omega) | (intros; simp (disch := omega) only [jst_eq, jst_ne, jst_ni, jst_o, jI_i, jcpy_out, w32_id, jdiv_nn] at * <;> first | done | omega | assumption) | (intros; first | rfl | (exfalso; omega) | ((repeat' apply And.intro) <;> first | assumption | rfl | omega | trivial)))) (by (first | assumption | omega | ((try dsimp only [jt2, jt3, jt4]); first | omega | (simp (disch := omega) only [jst_eq, jst_ne, jst_ni, jst_o, jI_i, jcpy_out, w32_id, jdiv_nn, jshr_k, jand_255] <;> first | done | omega | assumption)) | (intros; simp (disch := omega) only [jst_eq, jst_ne, jst_ni, jst_o, jI_i, jcpy_out, w32_id, jdiv_nn, *] <;> first | done | omega) | (intros; simp (disch := omega) only [jst_eq, jst_ne, jst_ni, jst_o, jI_i, jcpy_out, w32_id, jdiv_nn] at * <;> first | done | omega | assumption) | (intros; first | rfl | (exfalso; omega) | ((repeat' apply And.intro) <;> first | assumption | rfl | omega | trivial)))) (by (intro a s y1 y2; rw [jst_o (by omega), jst_o (by omega)])) (by (refine ⟨lfS_f (fun a a0 a1 a2 a3 => by rw [jst_o (by omega), jst_o (by omega)]) (fun y => absurd I3 y) ND, fun _ => ?_⟩; rw [jst_o (by omega), jst_eq, DW, HC])) (by (rw [jst_eq, jst_o (by omega), if_pos I3]; exact w32_id (by omega) (by omega)))) (fun r r1 => ?_)
      try dsimp only [Sum.elim_inl, Sum.elim_inr, jt2, jt3, jt4, jt5, jt6, jt7, jt8] at r1
      obtain ⟨cs1, hc1, fr1⟩ := r1
      try simp (disch := omega) only [jst_eq, jst_ne, jst_ni, jI_i, jcmp_lt, jcmp_gt, w32_id, jcpy_out, Sum.elim_inl, Sum.elim_inr, jt2, jt3, jt4, jt5, jt6, jt7, jt8] at cs1
      try simp (disch := omega) only [jst_eq, jst_ne, jst_ni, jI_i, jcmp_lt, jcmp_gt, w32_id, jcpy_out, Sum.elim_inl, Sum.elim_inr, jt2, jt3, jt4, jt5, jt6, jt7, jt8] at hc1
      try simp (disch := omega) only [jst_eq, jst_ne, jst_ni, jI_i, jcmp_lt, jcmp_gt, w32_id, jcpy_out, Sum.elim_inl, Sum.elim_inr, jt2, jt3, jt4, jt5, jt6, jt7, jt8] at fr1
      try dsimp only [Sum.elim_inl, Sum.elim_inr, jt2, jt3, jt4, jt5, jt6, jt7, jt8]
      try dsimp only [Sum.elim_inl, Sum.elim_inr, jt2, jt3, jt4, jt5, jt6, jt7, jt8]
      refine ⟨?_, ?_, ?_⟩
      · (first | assumption | omega | ((try dsimp only [jt2, jt3, jt4]); first | omega | (simp (disch := omega) only [jst_eq, jst_ne, jst_ni, jst_o, jI_i, jcpy_out, w32_id, jdiv_nn, jshr_k, jand_255] <;> first | done | omega | assumption)) | (intros; simp (disch := omega) only [jst_eq, jst_ne, jst_ni, jst_o, jI_i, jcpy_out, w32_id, jdiv_nn, *] <;> first | done | omega) | (intros; simp (disch := omega) only [jst_eq, jst_ne, jst_ni, jst_o, jI_i, jcpy_out, w32_id, jdiv_nn] at * <;> first | done | omega | assumption) | (intros; first | rfl | (exfalso; omega) | ((repeat' apply And.intro) <;> first | assumption | rfl | omega | trivial))) -- o11 e1.1
      · (first | assumption | omega | ((try dsimp only [jt2, jt3, jt4]); first | omega | (simp (disch := omega) only [jst_eq, jst_ne, jst_ni, jst_o, jI_i, jcpy_out, w32_id, jdiv_nn, jshr_k, jand_255] <;> first | done | omega | assumption)) | (intros; simp (disch := omega) only [jst_eq, jst_ne, jst_ni, jst_o, jI_i, jcpy_out, w32_id, jdiv_nn, *] <;> first | done | omega) | (intros; simp (disch := omega) only [jst_eq, jst_ne, jst_ni, jst_o, jI_i, jcpy_out, w32_id, jdiv_nn] at * <;> first | done | omega | assumption) | (intros; first | rfl | (exfalso; omega) | ((repeat' apply And.intro) <;> first | assumption | rfl | omega | trivial))) -- o12 e1.2
      · (first | assumption | omega | ((try dsimp only [jt2, jt3, jt4]); first | omega | (simp (disch := omega) only [jst_eq, jst_ne, jst_ni, jst_o, jI_i, jcpy_out, w32_id, jdiv_nn, jshr_k, jand_255] <;> first | done | omega | assumption)) | (intros; simp (disch := omega) only [jst_eq, jst_ne, jst_ni, jst_o, jI_i, jcpy_out, w32_id, jdiv_nn, *] <;> first | done | omega) | (intros; simp (disch := omega) only [jst_eq, jst_ne, jst_ni, jst_o, jI_i, jcpy_out, w32_id, jdiv_nn] at * <;> first | done | omega | assumption) | (intros; first | rfl | (exfalso; omega) | ((repeat' apply And.intro) <;> first | assumption | rfl | omega | trivial))) -- o13 e1.3
    · skip
      try simp (disch := omega) only [jst_eq, jst_ne, jst_ni, jI_i, jcmp_lt, jcmp_gt, w32_id, jcpy_out, Sum.elim_inl, Sum.elim_inr, jt2, jt3, jt4, jt5, jt6, jt7, jt8] at c2
      have I3 : (inf R).1 ≠ 3 := fun y => c2 (n10 y).2
      refine OK_mono (vX14_fillMarked_j51 (k := k) (c0 := h 454 35) (R := R) (hb := h) _ _ _ (by (first | assumption | omega | ((try dsimp only [jt2, jt3, jt4]); first | omega | (simp (disch := omega) only [jst_eq, jst_ne, jst_ni, jst_o, jI_i, jcpy_out, w32_id, jdiv_nn, jshr_k, jand_255] <;> first | done | omega | assumption)) | (intros; simp (disch := omega) only [jst_eq, jst_ne, jst_ni, jst_o, jI_i, jcpy_out, w32_id, jdiv_nn, *] <;> first | done | omega) | (intros; simp (disch := omega) only [jst_eq, jst_ne, jst_ni, jst_o, jI_i, jcpy_out, w32_id, jdiv_nn] at * <;> first | done | omega | assumption) | (intros; first | rfl | (exfalso; omega) | ((repeat' apply And.intro) <;> first | assumption | rfl | omega | trivial)))) (by exact c) (by exact hq) (by (first | assumption | omega | ((try dsimp only [jt2, jt3, jt4]); first | omega | (simp (disch := omega) only [jst_eq, jst_ne, jst_ni, jst_o, jI_i, jcpy_out, w32_id, jdiv_nn, jshr_k, jand_255] <;> first | done | omega | assumption)) | (intros; simp (disch := omega) only [jst_eq, jst_ne, jst_ni, jst_o, jI_i, jcpy_out, w32_id, jdiv_nn, *] <;> first | done | omega) | (intros; simp (disch := omega) only [jst_eq, jst_ne, jst_ni, jst_o, jI_i, jcpy_out, w32_id, jdiv_nn] at * <;> first | done | omega | assumption) | (intros; first | rfl | (exfalso; omega) | ((repeat' apply And.intro) <;> first | assumption | rfl | omega | trivial)))) (by (first | assumption | omega | ((try dsimp only [jt2, jt3, jt4]); first | omega | (simp (disch := omega) only [jst_eq, jst_ne, jst_ni, jst_o, jI_i, jcpy_out, w32_id, jdiv_nn, jshr_k, jand_255] <;> first | done | omega | assumption)) | (intros; simp (disch := omega) only [jst_eq, jst_ne, jst_ni, jst_o, jI_i, jcpy_out, w32_id, jdiv_nn, *] <;> first | done | omega) | (intros; simp (disch := omega) only [jst_eq, jst_ne, jst_ni, jst_o, jI_i, jcpy_out, w32_id, jdiv_nn] at * <;> first | done | omega | assumption) | (intros; first | rfl | (exfalso; omega) | ((repeat' apply And.intro) <;> first | assumption | rfl | omega | trivial)))) (by (first | assumption | omega | ((try dsimp only [jt2, jt3, jt4]); first | omega | (simp (disch := omega) only [jst_eq, jst_ne, jst_ni, jst_o, jI_i, jcpy_out, w32_id, jdiv_nn, jshr_k, jand_255] <;> first | done | omega | assumption)) | (intros; simp (disch := omega) only [jst_eq, jst_ne, jst_ni, jst_o, jI_i, jcpy_out, w32_id, jdiv_nn, *] <;> first | done | omega) | (intros; simp (disch := omega) only [jst_eq, jst_ne, jst_ni, jst_o, jI_i, jcpy_out, w32_id, jdiv_nn] at * <;> first | done | omega | assumption) | (intros; first | rfl | (exfalso; omega) | ((repeat' apply And.intro) <;> first | assumption | rfl | omega | trivial)))) (by exact fun _ _ _ _ => rfl) (by exact ⟨ND, fun y => absurd y I3⟩) (by (rw [if_neg I3]; omega))) (fun r r2 => ?_)
      try dsimp only [Sum.elim_inl, Sum.elim_inr, jt2, jt3, jt4, jt5, jt6, jt7, jt8] at r2
      obtain ⟨cs2, hc2, fr2⟩ := r2
      try simp (disch := omega) only [jst_eq, jst_ne, jst_ni, jI_i, jcmp_lt, jcmp_gt, w32_id, jcpy_out, Sum.elim_inl, Sum.elim_inr, jt2, jt3, jt4, jt5, jt6, jt7, jt8] at cs2
      try simp (disch := omega) only [jst_eq, jst_ne, jst_ni, jI_i, jcmp_lt, jcmp_gt, w32_id, jcpy_out, Sum.elim_inl, Sum.elim_inr, jt2, jt3, jt4, jt5, jt6, jt7, jt8] at hc2
      try simp (disch := omega) only [jst_eq, jst_ne, jst_ni, jI_i, jcmp_lt, jcmp_gt, w32_id, jcpy_out, Sum.elim_inl, Sum.elim_inr, jt2, jt3, jt4, jt5, jt6, jt7, jt8] at fr2
      try dsimp only [Sum.elim_inl, Sum.elim_inr, jt2, jt3, jt4, jt5, jt6, jt7, jt8]
      try dsimp only [Sum.elim_inl, Sum.elim_inr, jt2, jt3, jt4, jt5, jt6, jt7, jt8]
      refine ⟨?_, ?_, ?_⟩
      · (first | assumption | omega | ((try dsimp only [jt2, jt3, jt4]); first | omega | (simp (disch := omega) only [jst_eq, jst_ne, jst_ni, jst_o, jI_i, jcpy_out, w32_id, jdiv_nn, jshr_k, jand_255] <;> first | done | omega | assumption)) | (intros; simp (disch := omega) only [jst_eq, jst_ne, jst_ni, jst_o, jI_i, jcpy_out, w32_id, jdiv_nn, *] <;> first | done | omega) | (intros; simp (disch := omega) only [jst_eq, jst_ne, jst_ni, jst_o, jI_i, jcpy_out, w32_id, jdiv_nn] at * <;> first | done | omega | assumption) | (intros; first | rfl | (exfalso; omega) | ((repeat' apply And.intro) <;> first | assumption | rfl | omega | trivial))) -- o23 e2.1
      · (first | assumption | omega | ((try dsimp only [jt2, jt3, jt4]); first | omega | (simp (disch := omega) only [jst_eq, jst_ne, jst_ni, jst_o, jI_i, jcpy_out, w32_id, jdiv_nn, jshr_k, jand_255] <;> first | done | omega | assumption)) | (intros; simp (disch := omega) only [jst_eq, jst_ne, jst_ni, jst_o, jI_i, jcpy_out, w32_id, jdiv_nn, *] <;> first | done | omega) | (intros; simp (disch := omega) only [jst_eq, jst_ne, jst_ni, jst_o, jI_i, jcpy_out, w32_id, jdiv_nn] at * <;> first | done | omega | assumption) | (intros; first | rfl | (exfalso; omega) | ((repeat' apply And.intro) <;> first | assumption | rfl | omega | trivial))) -- o24 e2.2
      · (first | assumption | omega | ((try dsimp only [jt2, jt3, jt4]); first | omega | (simp (disch := omega) only [jst_eq, jst_ne, jst_ni, jst_o, jI_i, jcpy_out, w32_id, jdiv_nn, jshr_k, jand_255] <;> first | done | omega | assumption)) | (intros; simp (disch := omega) only [jst_eq, jst_ne, jst_ni, jst_o, jI_i, jcpy_out, w32_id, jdiv_nn, *] <;> first | done | omega) | (intros; simp (disch := omega) only [jst_eq, jst_ne, jst_ni, jst_o, jI_i, jcpy_out, w32_id, jdiv_nn] at * <;> first | done | omega | assumption) | (intros; first | rfl | (exfalso; omega) | ((repeat' apply And.intro) <;> first | assumption | rfl | omega | trivial))) -- o25 e2.3
  · skip
    try simp (disch := omega) only [jst_eq, jst_ne, jst_ni, jI_i, jcmp_lt, jcmp_gt, w32_id, jcpy_out, Sum.elim_inl, Sum.elim_inr, jt2, jt3, jt4, jt5, jt6, jt7, jt8] at c1
    have I3 : (inf R).1 ≠ 3 := fun y => c1 (n10 y).1
    refine OK_mono (vX14_fillMarked_j51 (k := k) (c0 := h 454 35) (R := R) (hb := h) _ _ _ (by (first | assumption | omega | ((try dsimp only [jt2, jt3, jt4]); first | omega | (simp (disch := omega) only [jst_eq, jst_ne, jst_ni, jst_o, jI_i, jcpy_out, w32_id, jdiv_nn, jshr_k, jand_255] <;> first | done | omega | assumption)) | (intros; simp (disch := omega) only [jst_eq, jst_ne, jst_ni, jst_o, jI_i, jcpy_out, w32_id, jdiv_nn, *] <;> first | done | omega) | (intros; simp (disch := omega) only [jst_eq, jst_ne, jst_ni, jst_o, jI_i, jcpy_out, w32_id, jdiv_nn] at * <;> first | done | omega | assumption) | (intros; first | rfl | (exfalso; omega) | ((repeat' apply And.intro) <;> first | assumption | rfl | omega | trivial)))) (by exact c) (by exact hq) (by (first | assumption | omega | ((try dsimp only [jt2, jt3, jt4]); first | omega | (simp (disch := omega) only [jst_eq, jst_ne, jst_ni, jst_o, jI_i, jcpy_out, w32_id, jdiv_nn, jshr_k, jand_255] <;> first | done | omega | assumption)) | (intros; simp (disch := omega) only [jst_eq, jst_ne, jst_ni, jst_o, jI_i, jcpy_out, w32_id, jdiv_nn, *] <;> first | done | omega) | (intros; simp (disch := omega) only [jst_eq, jst_ne, jst_ni, jst_o, jI_i, jcpy_out, w32_id, jdiv_nn] at * <;> first | done | omega | assumption) | (intros; first | rfl | (exfalso; omega) | ((repeat' apply And.intro) <;> first | assumption | rfl | omega | trivial)))) (by (first | assumption | omega | ((try dsimp only [jt2, jt3, jt4]); first | omega | (simp (disch := omega) only [jst_eq, jst_ne, jst_ni, jst_o, jI_i, jcpy_out, w32_id, jdiv_nn, jshr_k, jand_255] <;> first | done | omega | assumption)) | (intros; simp (disch := omega) only [jst_eq, jst_ne, jst_ni, jst_o, jI_i, jcpy_out, w32_id, jdiv_nn, *] <;> first | done | omega) | (intros; simp (disch := omega) only [jst_eq, jst_ne, jst_ni, jst_o, jI_i, jcpy_out, w32_id, jdiv_nn] at * <;> first | done | omega | assumption) | (intros; first | rfl | (exfalso; omega) | ((repeat' apply And.intro) <;> first | assumption | rfl | omega | trivial)))) (by (first | assumption | omega | ((try dsimp only [jt2, jt3, jt4]); first | omega | (simp (disch := omega) only [jst_eq, jst_ne, jst_ni, jst_o, jI_i, jcpy_out, w32_id, jdiv_nn, jshr_k, jand_255] <;> first | done | omega | assumption)) | (intros; simp (disch := omega) only [jst_eq, jst_ne, jst_ni, jst_o, jI_i, jcpy_out, w32_id, jdiv_nn, *] <;> first | done | omega) | (intros; simp (disch := omega) only [jst_eq, jst_ne, jst_ni, jst_o, jI_i, jcpy_out, w32_id, jdiv_nn] at * <;> first | done | omega | assumption) | (intros; first | rfl | (exfalso; omega) | ((repeat' apply And.intro) <;> first | assumption | rfl | omega | trivial)))) (by exact fun _ _ _ _ => rfl) (by exact ⟨ND, fun y => absurd y I3⟩) (by (rw [if_neg I3]; omega))) (fun r r3 => ?_)
    try dsimp only [Sum.elim_inl, Sum.elim_inr, jt2, jt3, jt4, jt5, jt6, jt7, jt8] at r3
    obtain ⟨cs3, hc3, fr3⟩ := r3
    try simp (disch := omega) only [jst_eq, jst_ne, jst_ni, jI_i, jcmp_lt, jcmp_gt, w32_id, jcpy_out, Sum.elim_inl, Sum.elim_inr, jt2, jt3, jt4, jt5, jt6, jt7, jt8] at cs3
    try simp (disch := omega) only [jst_eq, jst_ne, jst_ni, jI_i, jcmp_lt, jcmp_gt, w32_id, jcpy_out, Sum.elim_inl, Sum.elim_inr, jt2, jt3, jt4, jt5, jt6, jt7, jt8] at hc3
    try simp (disch := omega) only [jst_eq, jst_ne, jst_ni, jI_i, jcmp_lt, jcmp_gt, w32_id, jcpy_out, Sum.elim_inl, Sum.elim_inr, jt2, jt3, jt4, jt5, jt6, jt7, jt8] at fr3
    try dsimp only [Sum.elim_inl, Sum.elim_inr, jt2, jt3, jt4, jt5, jt6, jt7, jt8]
    try dsimp only [Sum.elim_inl, Sum.elim_inr, jt2, jt3, jt4, jt5, jt6, jt7, jt8]
    refine ⟨?_, ?_, ?_⟩
    · (first | assumption | omega | ((try dsimp only [jt2, jt3, jt4]); first | omega | (simp (disch := omega) only [jst_eq, jst_ne, jst_ni, jst_o, jI_i, jcpy_out, w32_id, jdiv_nn, jshr_k, jand_255] <;> first | done | omega | assumption)) | (intros; simp (disch := omega) only [jst_eq, jst_ne, jst_ni, jst_o, jI_i, jcpy_out, w32_id, jdiv_nn, *] <;> first | done | omega) | (intros; simp (disch := omega) only [jst_eq, jst_ne, jst_ni, jst_o, jI_i, jcpy_out, w32_id, jdiv_nn] at * <;> first | done | omega | assumption) | (intros; first | rfl | (exfalso; omega) | ((repeat' apply And.intro) <;> first | assumption | rfl | omega | trivial))) -- o35 e3.1
    · (first | assumption | omega | ((try dsimp only [jt2, jt3, jt4]); first | omega | (simp (disch := omega) only [jst_eq, jst_ne, jst_ni, jst_o, jI_i, jcpy_out, w32_id, jdiv_nn, jshr_k, jand_255] <;> first | done | omega | assumption)) | (intros; simp (disch := omega) only [jst_eq, jst_ne, jst_ni, jst_o, jI_i, jcpy_out, w32_id, jdiv_nn, *] <;> first | done | omega) | (intros; simp (disch := omega) only [jst_eq, jst_ne, jst_ni, jst_o, jI_i, jcpy_out, w32_id, jdiv_nn] at * <;> first | done | omega | assumption) | (intros; first | rfl | (exfalso; omega) | ((repeat' apply And.intro) <;> first | assumption | rfl | omega | trivial))) -- o36 e3.2
    · (first | assumption | omega | ((try dsimp only [jt2, jt3, jt4]); first | omega | (simp (disch := omega) only [jst_eq, jst_ne, jst_ni, jst_o, jI_i, jcpy_out, w32_id, jdiv_nn, jshr_k, jand_255] <;> first | done | omega | assumption)) | (intros; simp (disch := omega) only [jst_eq, jst_ne, jst_ni, jst_o, jI_i, jcpy_out, w32_id, jdiv_nn, *] <;> first | done | omega) | (intros; simp (disch := omega) only [jst_eq, jst_ne, jst_ni, jst_o, jI_i, jcpy_out, w32_id, jdiv_nn] at * <;> first | done | omega | assumption) | (intros; first | rfl | (exfalso; omega) | ((repeat' apply And.intro) <;> first | assumption | rfl | omega | trivial))) -- o37 e3.3
theorem CFF_D {n v : Int} (b : 0 ≤ v ∧ v < 4096 ∧ n ≤ 3) : ∀ D : Nat, CFF (gX14_fillMarkedD D) n v D
  | 0 => fun d h R _ _ _ dk => by have := dpT_0 R; omega
  | D + 1 => fun d h R c hq d0 dk => vX14_fillMarked_ d v n (CFF_D b D) c hq d0 (by omega) b
theorem vX14_fillMarked (a1 a2 a3 : Int) {h : AH} {R : TR} (b : 0 ≤ a2 ∧ a2 < 4096 ∧ a3 ≤ 3) (c : cG lfS h R a1 0 (a1 + 1)) (hq : hqT (h 454 35) R ∧ 0 ≤ h 454 35 ∧ h 454 35 + hlT R ≤ a3) (d : 0 ≤ a1 ∧ a1 + sz R ≤ 8800) (dk : dpT R ≤ 39) : OK (gX14_fillMarked a1 a2 a3 h) (fun h' => cG (lfF a3 a2) h' R a1 0 (a1 + 1) ∧ h' 454 35 = h 454 35 + hlT R ∧ frF a1 (sz R) h h') := CFF_D b 40 a1 h R c hq d (by omega)

