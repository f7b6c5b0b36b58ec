/-! undo keeps the relation -/
theorem it_u1 {S : Nat} (hS : 410 ≤ S) : ∀ (n i : Nat) (M : Nat → Nat → Int32), i + n ≤ 6 → (∀ b, i ≤ b → b < i + n → it (fun b M => up2 (up2 M 0 (10 + 5 * b + 2) (M 0 (S + 4 + b))) 0 (10 + 5 * b + 3) (M 0 (S + 10 + b))) n i M 0 (10 + 5 * b + 2) = M 0 (S + 4 + b) ∧ it (fun b M => up2 (up2 M 0 (10 + 5 * b + 2) (M 0 (S + 4 + b))) 0 (10 + 5 * b + 3) (M 0 (S + 10 + b))) n i M 0 (10 + 5 * b + 3) = M 0 (S + 10 + b)) ∧ ∀ j, (∀ b, i ≤ b → b < i + n → j ≠ 10 + 5 * b + 2 ∧ j ≠ 10 + 5 * b + 3) → it (fun b M => up2 (up2 M 0 (10 + 5 * b + 2) (M 0 (S + 4 + b))) 0 (10 + 5 * b + 3) (M 0 (S + 10 + b))) n i M 0 j = M 0 j
  | 0, i, M, _ => ⟨fun b h1 h2 => by omega, fun j _ => by rw [it_0]⟩
  | n + 1, i, M, hm => by
    rw [it_succ]
    obtain ⟨q1, q2⟩ := it_u1 hS n (i + 1) (up2 (up2 M 0 (10 + 5 * i + 2) (M 0 (S + 4 + i))) 0 (10 + 5 * i + 3) (M 0 (S + 10 + i))) (by omega)
    refine ⟨fun b h1 h2 => ?_, fun j h => ?_⟩
    · by_cases e : b = i
      · subst e
        rw [q2 _ (fun b2 g1 g2 => by omega), q2 _ (fun b2 g1 g2 => by omega)]
        exact ⟨(up2_ne (Or.inr (by omega))).trans up2_at, up2_at⟩
      · obtain ⟨g1, g2⟩ := q1 b (by omega) (by omega)
        exact ⟨g1.trans ((up2_ne (Or.inr (by omega))).trans (up2_ne (Or.inr (by omega)))), g2.trans ((up2_ne (Or.inr (by omega))).trans (up2_ne (Or.inr (by omega))))⟩
    · rw [q2 j (fun b g1 g2 => h b (by omega) (by omega))]
      have := h i (Nat.le_refl _) (by omega)
      exact (up2_ne (Or.inr this.2)).trans (up2_ne (Or.inr this.1))
theorem it_u2 : ∀ (n i : Nat) (M : Nat → Nat → Int32), (∀ b, i ≤ b → b < i + n → it (fun b M => up2 M 0 (10 + 5 * b + 3) (nI 0)) n i M 0 (10 + 5 * b + 3) = nI 0) ∧ ∀ j, (∀ b, i ≤ b → b < i + n → j ≠ 10 + 5 * b + 3) → it (fun b M => up2 M 0 (10 + 5 * b + 3) (nI 0)) n i M 0 j = M 0 j
  | 0, i, M => ⟨fun b h1 h2 => by omega, fun j _ => by rw [it_0]⟩
  | n + 1, i, M => by
    rw [it_succ]
    obtain ⟨q1, q2⟩ := it_u2 n (i + 1) (up2 M 0 (10 + 5 * i + 3) (nI 0))
    refine ⟨fun b h1 h2 => ?_, fun j h => ?_⟩
    · by_cases e : b = i
      · subst e
        rw [q2 _ (fun b2 g1 g2 => by omega)]
        exact up2_at
      · exact q1 b (by omega) (by omega)
    · rw [q2 j (fun b g1 g2 => h b (by omega) (by omega))]
      exact up2_ne (Or.inr (h i (Nat.le_refl _) (by omega)))
theorem mUndo_at {M : Nat → Nat → Int32} {k nb nbs : Nat} (hb : nbs ≤ nb) (hb6 : nb ≤ 6) : mUndo M (k + 1) nb nbs 0 6 = nI k ∧ mUndo M (k + 1) nb nbs 0 3 = M 0 (410 + 116 * k) ∧ mUndo M (k + 1) nb nbs 0 2 = M 0 (410 + 116 * k + 1) ∧ mUndo M (k + 1) nb nbs 0 9 = M 0 (410 + 116 * k + 2) ∧ (∀ b, b < nbs → mUndo M (k + 1) nb nbs 0 (10 + 5 * b + 2) = M 0 (410 + 116 * k + 4 + b) ∧ mUndo M (k + 1) nb nbs 0 (10 + 5 * b + 3) = M 0 (410 + 116 * k + 10 + b)) ∧ (∀ b, nbs ≤ b → b < nb → mUndo M (k + 1) nb nbs 0 (10 + 5 * b + 3) = nI 0) ∧ (∀ i, i < 100 → mUndo M (k + 1) nb nbs 0 (150 + i) = M 0 (410 + 116 * k + 16 + i)) ∧ ∀ j, j ≠ 6 → j ≠ 3 → j ≠ 2 → j ≠ 9 → (j < 150 ∨ 250 ≤ j) → (∀ b, b < nb → j ≠ 10 + 5 * b + 3 ∧ (b < nbs → j ≠ 10 + 5 * b + 2)) → mUndo M (k + 1) nb nbs 0 j = M 0 j := by
  unfold mUndo
  rw [show k + 1 - 1 = k by omega]
  generalize hM0 : up2 (up2 (up2 (up2 M 0 6 (nI k)) 0 3 (M 0 (410 + 116 * k))) 0 2 (M 0 (410 + 116 * k + 1))) 0 9 (M 0 (410 + 116 * k + 2)) = M0
  have e6 : M0 0 6 = nI k := by rw [← hM0, up2_ne (Or.inr (by decide)), up2_ne (Or.inr (by decide)), up2_ne (Or.inr (by decide))]; exact up2_at
  have e3 : M0 0 3 = M 0 (410 + 116 * k) := by rw [← hM0, up2_ne (Or.inr (by decide)), up2_ne (Or.inr (by decide))]; exact up2_at
  have e2 : M0 0 2 = M 0 (410 + 116 * k + 1) := by rw [← hM0, up2_ne (Or.inr (by decide))]; exact up2_at
  have e9 : M0 0 9 = M 0 (410 + 116 * k + 2) := by rw [← hM0]; exact up2_at
  have eO : ∀ j, j ≠ 6 → j ≠ 3 → j ≠ 2 → j ≠ 9 → M0 0 j = M 0 j := fun j q1 q2 q3 q4 => by rw [← hM0, up2_ne (Or.inr q4), up2_ne (Or.inr q3), up2_ne (Or.inr q2), up2_ne (Or.inr q1)]
  obtain ⟨A1, A2⟩ := it_u1 (S := 410 + 116 * k) (by omega) (nbs - 0) 0 M0 (by omega)
  generalize it (fun b M => up2 (up2 M 0 (10 + 5 * b + 2) (M 0 (410 + 116 * k + 4 + b))) 0 (10 + 5 * b + 3) (M 0 (410 + 116 * k + 10 + b))) (nbs - 0) 0 M0 = M1 at A1 A2 ⊢
  obtain ⟨B1, B2⟩ := it_u2 (nb - nbs) nbs M1
  generalize it (fun b M => up2 M 0 (10 + 5 * b + 3) (nI 0)) (nb - nbs) nbs M1 = M2 at B1 B2 ⊢
  obtain ⟨C1, C2⟩ := it_cp (B := 150) (g := fun i => 410 + 116 * k + 16 + i) (m := 100) (fun i j h1 h2 => by omega) (100 - 0) 0 M2 (by decide)
  generalize it (fun i M => up2 M 0 (150 + i) (M 0 (410 + 116 * k + 16 + i))) (100 - 0) 0 M2 = M3 at C1 C2 ⊢
  refine ⟨?_, ?_, ?_, ?_, fun b h1 => ⟨?_, ?_⟩, fun b h1 h2 => ?_, fun i hi => ?_, fun j q1 q2 q3 q4 q5 q6 => ?_⟩
  · rw [C2 _ (by omega), B2 _ (fun b _ _ => by omega), A2 _ (fun b _ _ => by omega), e6]
  · rw [C2 _ (by omega), B2 _ (fun b _ _ => by omega), A2 _ (fun b _ _ => by omega), e3]
  · rw [C2 _ (by omega), B2 _ (fun b _ _ => by omega), A2 _ (fun b _ _ => by omega), e2]
  · rw [C2 _ (by omega), B2 _ (fun b _ _ => by omega), A2 _ (fun b _ _ => by omega), e9]
  · rw [C2 _ (by omega), B2 _ (fun b _ _ => by omega), (A1 b (by omega) (by omega)).1, eO _ (by omega) (by omega) (by omega) (by omega)]
  · rw [C2 _ (by omega), B2 _ (fun b _ _ => by omega), (A1 b (by omega) (by omega)).2, eO _ (by omega) (by omega) (by omega) (by omega)]
  · rw [C2 _ (by omega), B1 b (by omega) (by omega)]
  · rw [C1 i (by omega) (by omega), B2 _ (fun b _ _ => by omega), A2 _ (fun b _ _ => by omega), eO _ (by omega) (by omega) (by omega) (by omega)]
  · rw [C2 _ (by omega), B2 _ (fun b g1 g2 => (q6 b (by omega)).1), A2 _ (fun b g1 g2 => ⟨(q6 b (by omega)).2 (by omega), (q6 b (by omega)).1⟩), eO _ q1 q2 q3 q4]
theorem RS_undo {X M : Nat → Nat → Int32} {nb nk nx np h nu k ne nt : Nat} (hR : RS X 51 (M 0) nb nk nx np h nu (k + 1) ne nt) : ∃ nbs np' h' nu', nbs ≤ nb ∧ M 0 (410 + 116 * k + 3) = nI nbs ∧ RS (xUndo X (k + 1)) 51 (mUndo M (k + 1) nb nbs 0) nb nk nx np' h' nu' k ne nt := by
  obtain ⟨hB, ⟨c1, c2, c3⟩, NB, NU, q1, q2⟩ := RS_iff.mp hR
  have hB0 := hB
  obtain ⟨h1, h2, h3, h4, h6, h7, h8, h9, h10, h11, h12, h13, h14, h15, h16, h17, h18, h19, v1, v2, v3, v4, v5⟩ := hB
  have b6 := h1.2.2
  have k6 := h2.2.2
  have u40 := h10.2.2
  have e8 := h6.2.2
  have t20 := h7.2.2
  obtain ⟨t1, t2, t3, t4, t5, t6, ⟨h', t7, t7'⟩, ⟨np', t8, t8', t8''⟩, t9, t10, t11, t12, t13, t14⟩ := q2 k (by omega)
  have hN := q1 k (by omega)
  obtain ⟨u6, u3, u2, u9, ub, uz, up, uo⟩ := mUndo_at (M := M) (k := k) t1 b6
  refine ⟨NB k, np', h', NU k, t1, t2, ?_⟩
  generalize hM2 : mUndo M (k + 1) nb (NB k) = M2 at *
  generalize hX2 : xUndo X (k + 1) = X2
  have xR : ∀ q, q ≠ 52 → q ≠ 53 → X2 q = X q := fun q g1 g2 => by rw [← hX2]; unfold xUndo; rw [upr_ne g2, up2_row g1]
  have x53 : X2 53 = X (93 + k) := by rw [← hX2]; unfold xUndo; rw [upr_at, show k + 1 - 1 = k by omega, up2_row (by omega)]
  have xn : ∀ j, j ≠ 4 → X2 52 j = X 52 j := fun j hj => by rw [← hX2]; unfold xUndo; rw [show upr (up2 X 52 4 (nI (k + 1 - 1))) 53 ((up2 X 52 4 (nI (k + 1 - 1))) (93 + (k + 1 - 1))) 52 = up2 X 52 4 (nI (k + 1 - 1)) 52 from upr_ne (by decide)]; exact up2_ne (Or.inr hj)
  have x4 : X2 52 4 = nI k := by rw [← hX2]; unfold xUndo; rw [show upr (up2 X 52 4 (nI (k + 1 - 1))) 53 ((up2 X 52 4 (nI (k + 1 - 1))) (93 + (k + 1 - 1))) 52 = up2 X 52 4 (nI (k + 1 - 1)) 52 from upr_ne (by decide)]; exact up2_at
  have e53 : X2 (51 + 2) = X (51 + 42 + k) := x53
  have aH : ∀ j, 250 ≤ j → M2 0 j = M 0 j := fun j hj => uo j (by omega) (by omega) (by omega) (by omega) (Or.inr hj) (fun b hb => by omega)
  refine RS_iff.mpr ⟨RB.row xn (fun q g1 g2 => xR _ (by omega) (by omega)) (fun j g1 g2 g3 g4 g5 g6 => uo j g4 g3 g2 g5 (Or.inl g1) (fun b hb => ⟨(g6 b (by omega)).2, fun _ => (g6 b (by omega)).1⟩)) ⟨?_, u2.trans t8', t8⟩ ⟨?_, u3.trans t7', t7⟩ ⟨?_, u9.trans t6, by omega⟩ (fun b hb => ?_) (fun b hb hb6 => ?_) (fun i hi => ?_) (fun i hi => ?_) (fun q hq => ?_) (fun i hi => ?_) (fun q b hq hb => ?_) hB0, ⟨x4, u6, by omega⟩, NB, NU, fun j hj => ⟨hN.2 j (by omega), (q1 j (by omega)).2⟩, fun j hj => ?_⟩
  · rw [e53]; exact t3.trans t8'
  · rw [e53]; exact t4.trans t7'
  · rw [e53]; exact t5.trans t6
  · rw [e53]
    by_cases e : b < NB k
    · rw [(ub b e).1, (ub b e).2]; exact t9 b e
    · refine ⟨?_, (t10 b (by omega) (by omega)).trans (uz b (by omega) hb).symm⟩
      have q3 := t11 b (by omega) hb
      rw [if_pos rfl] at q3
      rw [uo _ (by omega) (by omega) (by omega) (by omega) (Or.inl (by omega)) (fun b2 hb2 => ⟨by omega, fun _ => by omega⟩)]
      exact q3.trans (h12 b hb).1
  · rw [e53]; exact t10 b (by omega) hb6
  · rw [e53, up i hi]; exact t12 i hi
  · rw [e53, aH _ (by omega)]; exact t13 i hi
  · rw [up (10 * q) (by omega)]; exact t8'' q hq
  · rw [aH _ (by omega)]; exact v4 i (by omega)
  · rw [show 150 + 10 * q + 4 + b = 150 + (10 * q + 4 + b) by omega, up _ (by omega), show 410 + 116 * k + 16 + (10 * q + 4 + b) = 410 + 116 * k + 16 + 10 * q + 4 + b by omega]; exact t14 q b hq hb
  · obtain ⟨s1, s2, s3, s4, s5, s6, s7, s8, s9, s10, s11, s12, s13, s14⟩ := q2 j (by omega)
    have er : X2 (51 + 42 + j) = X (51 + 42 + j) := xR _ (by omega) (by omega)
    refine ⟨s1, ?_, ?_, ?_, ?_, ?_, ?_, ?_, fun b hb => ?_, fun b hb h6 => ?_, fun b hb h6 => ?_, fun i hi => ?_, fun i hi => ?_, fun q b hq hb => ?_⟩
    · rw [aH _ (by omega)]; exact s2
    · rw [er, aH _ (by omega)]; exact s3
    · rw [er, aH _ (by omega)]; exact s4
    · rw [er, aH _ (by omega)]; exact s5
    · rw [aH _ (by omega)]; exact s6
    · rw [aH _ (by omega)]; exact s7
    · obtain ⟨np9, g1, g2, g3⟩ := s8
      refine ⟨np9, g1, (aH _ (by omega)).trans g2, fun q hq => ?_⟩
      rw [aH _ (by omega)]
      exact g3 q hq
    · rw [er, aH _ (by omega), aH _ (by omega)]; exact s9 b hb
    · rw [er]; exact s10 b hb h6
    · rw [er, s11 b hb h6, if_neg (by omega)]
      by_cases c : j + 1 = k
      · rw [if_pos c, e53, c]
      · rw [if_neg c, xR _ (by omega) (by omega)]
    · rw [er, aH _ (by omega)]; exact s12 i hi
    · rw [er, aH _ (by omega)]; exact s13 i hi
    · rw [aH _ (by omega)]; exact s14 q b hq hb
