/-! blower keeps the relation -/
theorem it_new {nb : Nat} {z : Int32} : ∀ (n i : Nat) (X : Nat → Nat → Int32), (∀ k, i ≤ k → k < i + n → it (fun k X => up2 X (93 + k) nb z) n i X (93 + k) nb = z) ∧ ∀ q j, (q < 93 + i ∨ 93 + i + n ≤ q ∨ j ≠ nb) → it (fun k X => up2 X (93 + k) nb z) n i X q j = X q j
  | 0, i, X => ⟨fun k h1 h2 => by omega, fun q j _ => by rw [it_0]⟩
  | n + 1, i, X => by
    rw [it_succ]
    obtain ⟨q1, q2⟩ := it_new (nb := nb) (z := z) n (i + 1) (up2 X (93 + i) nb z)
    refine ⟨fun k h1 h2 => ?_, fun q j h => ?_⟩
    · by_cases e : k = i
      · subst e
        rw [q2 _ _ (Or.inl (by omega))]
        exact up2_at
      · exact q1 k (by omega) (by omega)
    · rw [q2 q j (by omega)]
      exact up2_ne (by omega)
theorem RS_blower {X M : Nat → Nat → Int32} {nb nk nx np h nu ns ne nt : Nat} {x y z : Int32} (hR : RS X 51 (M 0) nb nk nx np h nu ns ne nt) (hb5 : nb < 6) (hx : ∃ v, 1 ≤ v ∧ v ≤ 9 ∧ x = nI v) : RS (xBlPut X nb ns x y z) 51 (mBlPut M nb x y z 0) (nb + 1) nk nx np h nu ns ne nt := by
  obtain ⟨hB, ⟨c1, c2, c3⟩, hS⟩ := RS_iff.mp hR
  obtain ⟨h1, h2, h3, h4, h6, h7, h8, h9, h10, h11, h12, h13, h14, h15, h16, h17, h18, h19, v1, v2, v3, v4, v5⟩ := hB
  have b6 := h1.2.2
  have k6 := h2.2.2
  have t20 := h7.2.2
  have e8 := h6.2.2
  have u40 := h10.2.2
  have p10 := h8.2.2
  have c1' : X 52 4 = nI ns := c1
  generalize hX2 : xBlPut X nb ns x y z = X2
  generalize hM2 : mBlPut M nb x y z = M2
  obtain ⟨w1, w2⟩ := it_new (nb := nb) (z := z) (ns - 0) 0 (up2 (upr X (61 + nb) (upd (upd (upd (fun _ => 0) 0 x) 1 y) 2 (nI 0))) 53 nb z)
  have xO : ∀ q j, (q ≠ 52 ∨ j ≠ 0) → q ≠ 61 + nb → (j ≠ nb ∨ (q ≠ 53 ∧ (q < 93 ∨ 93 + ns ≤ q))) → X2 q j = X q j := fun q j q1 q2 q3 => by
    rw [← hX2]; unfold xBlPut
    rw [up2_ne q1, w2 q j (by omega), up2_ne (by omega)]
    exact congrFun (upr_ne q2) j
  have xN : ∀ k, k < ns → X2 (93 + k) nb = z := fun k hk => by
    rw [← hX2]; unfold xBlPut
    rw [up2_ne (Or.inl (by omega))]
    exact w1 k (by omega) (by omega)
  have x53 : X2 53 nb = z := by
    rw [← hX2]; unfold xBlPut
    rw [up2_ne (Or.inl (by omega)), w2 _ _ (Or.inl (by omega))]
    exact up2_at
  have x61 : ∀ j, X2 (61 + nb) j = upd (upd (upd (fun _ => 0) 0 x) 1 y) 2 (nI 0) j := fun j => by
    rw [← hX2]; unfold xBlPut
    rw [up2_ne (Or.inl (by omega)), w2 _ _ (Or.inl (by omega)), up2_ne (Or.inl (by omega))]
    exact congrFun upr_at j
  have x0 : X2 52 0 = nI (nb + 1) := by rw [← hX2]; unfold xBlPut; exact up2_at
  have xn : ∀ j, j ≠ 0 → X2 52 j = X 52 j := fun j hj => xO 52 j (Or.inr hj) (by omega) (Or.inr ⟨by decide, Or.inl (by decide)⟩)
  have xR : ∀ q, q ≠ 52 → q ≠ 53 → q ≠ 61 + nb → q < 93 → X2 q = X q := fun q q1 q2 q3 q4 => funext fun j => xO q j (Or.inl q1) q3 (Or.inr ⟨q2, Or.inl q4⟩)
  have aO : ∀ j, j ≠ 0 → j ≠ 10 + 5 * nb → j ≠ 10 + 5 * nb + 1 → j ≠ 10 + 5 * nb + 2 → j ≠ 10 + 5 * nb + 3 → j ≠ 10 + 5 * nb + 4 → M2 0 j = M 0 j := fun j q1 q2 q3 q4 q5 q6 => by rw [← hM2]; unfold mBlPut; rw [up2_ne (Or.inr q1), up2_ne (Or.inr q6), up2_ne (Or.inr q5), up2_ne (Or.inr q4), up2_ne (Or.inr q3), up2_ne (Or.inr q2)]
  have a0 : M2 0 0 = nI (nb + 1) := by rw [← hM2]; unfold mBlPut; exact up2_at
  have k0 : M2 0 (10 + 5 * nb) = x := by rw [← hM2]; unfold mBlPut; (repeat rw [up2_ne (Or.inr (by omega))]); exact up2_at
  have k1 : M2 0 (10 + 5 * nb + 1) = y := by rw [← hM2]; unfold mBlPut; (repeat rw [up2_ne (Or.inr (by omega))]); exact up2_at
  have k2 : M2 0 (10 + 5 * nb + 2) = z := by rw [← hM2]; unfold mBlPut; (repeat rw [up2_ne (Or.inr (by omega))]); exact up2_at
  have k3 : M2 0 (10 + 5 * nb + 3) = nI 0 := by rw [← hM2]; unfold mBlPut; (repeat rw [up2_ne (Or.inr (by omega))]); exact up2_at
  have k4 : M2 0 (10 + 5 * nb + 4) = nI 0 := by rw [← hM2]; unfold mBlPut; (repeat rw [up2_ne (Or.inr (by omega))]); exact up2_at
  have r53 : ∀ j, j ≠ nb → X2 53 j = X 53 j := fun j hj => xO 53 j (Or.inl (by decide)) (by omega) (Or.inl hj)
  refine RS_iff.mpr ⟨⟨⟨x0, a0, hb5⟩, ⟨(xn 1 (by decide)).trans h2.1, (aO 1 (by omega) (by omega) (by omega) (by omega) (by omega) (by omega)).trans h2.2.1, k6⟩, ⟨(xn 2 (by decide)).trans h3.1, (aO 4 (by omega) (by omega) (by omega) (by omega) (by omega) (by omega)).trans h3.2.1, h3.2.2⟩, (xn 3 (by decide)).trans (h4.trans (aO 5 (by omega) (by omega) (by omega) (by omega) (by omega) (by omega)).symm), ⟨(xn 5 (by decide)).trans h6.1, (aO 7 (by omega) (by omega) (by omega) (by omega) (by omega) (by omega)).trans h6.2.1, e8⟩, ⟨(xn 6 (by decide)).trans h7.1, (aO 8 (by omega) (by omega) (by omega) (by omega) (by omega) (by omega)).trans h7.2.1, t20⟩, ⟨(r53 112 (by omega)).trans h8.1, (aO 2 (by omega) (by omega) (by omega) (by omega) (by omega) (by omega)).trans h8.2.1, p10⟩, ⟨(r53 113 (by omega)).trans h9.1, (aO 3 (by omega) (by omega) (by omega) (by omega) (by omega) (by omega)).trans h9.2.1, h9.2.2⟩, ⟨(r53 114 (by omega)).trans h10.1, (aO 9 (by omega) (by omega) (by omega) (by omega) (by omega) (by omega)).trans h10.2.1, u40⟩, fun b hb => ?_, fun b hb => ?_, fun b hb hb6 => ?_, fun k hk => ?_, fun k hk => ?_, fun k hk => ?_, fun i hi => ?_, fun i hi => ?_, fun q hq => ?_, fun b hb => ?_, fun k hk => ?_, fun k hk => ?_, fun i hi => ?_, fun q b hq hb => ?_⟩, ⟨(xn 4 (by decide)).trans c1', (aO 6 (by omega) (by omega) (by omega) (by omega) (by omega) (by omega)).trans c2, c3⟩, ?_⟩
  · by_cases e : b = nb
    · subst e; exact ⟨(x61 0).trans k0.symm, (x61 1).trans k1.symm, (x61 2).trans k4.symm⟩
    · rw [xR _ (by omega) (by omega) (by omega) (by omega), aO _ (by omega) (by omega) (by omega) (by omega) (by omega) (by omega), aO _ (by omega) (by omega) (by omega) (by omega) (by omega) (by omega), aO _ (by omega) (by omega) (by omega) (by omega) (by omega) (by omega)]; exact h11 b (by omega)
  · by_cases e : b = nb
    · subst e
      refine ⟨x53.trans k2.symm, (r53 (6 + b) (by omega)).trans ((h13 b (Nat.le_refl _) (by omega)).trans k3.symm)⟩
    · rw [aO _ (by omega) (by omega) (by omega) (by omega) (by omega) (by omega), aO _ (by omega) (by omega) (by omega) (by omega) (by omega) (by omega)]
      exact ⟨(r53 b e).trans (h12 b (by omega)).1, (r53 (6 + b) (by omega)).trans (h12 b (by omega)).2⟩
  · exact (r53 (6 + b) (by omega)).trans (h13 b (by omega) hb6)
  · rw [xR _ (by omega) (by omega) (by omega) (by omega), aO _ (by omega) (by omega) (by omega) (by omega) (by omega) (by omega), aO _ (by omega) (by omega) (by omega) (by omega) (by omega) (by omega), aO _ (by omega) (by omega) (by omega) (by omega) (by omega) (by omega)]; exact h14 k hk
  · rw [xR (51 + 3) (by omega) (by omega) (by omega) (by omega), aO _ (by omega) (by omega) (by omega) (by omega) (by omega) (by omega)]; exact h15 k hk
  · rw [xR _ (by omega) (by omega) (by omega) (by omega), aO _ (by omega) (by omega) (by omega) (by omega) (by omega) (by omega), aO _ (by omega) (by omega) (by omega) (by omega) (by omega) (by omega), aO _ (by omega) (by omega) (by omega) (by omega) (by omega) (by omega), aO _ (by omega) (by omega) (by omega) (by omega) (by omega) (by omega)]; exact h16 k hk
  · rw [aO _ (by omega) (by omega) (by omega) (by omega) (by omega) (by omega)]; exact (r53 (12 + i) (by omega)).trans (h17 i hi)
  · rw [aO _ (by omega) (by omega) (by omega) (by omega) (by omega) (by omega)]; exact (r53 (115 + i) (by omega)).trans (h18 i hi)
  · rw [aO _ (by omega) (by omega) (by omega) (by omega) (by omega) (by omega)]; exact h19 q hq
  · by_cases e : b = nb
    · subst e; rw [k0]; exact hx
    · rw [aO _ (by omega) (by omega) (by omega) (by omega) (by omega) (by omega)]; exact v1 b (by omega)
  · rw [aO _ (by omega) (by omega) (by omega) (by omega) (by omega) (by omega), aO _ (by omega) (by omega) (by omega) (by omega) (by omega) (by omega)]; exact v2 k hk
  · rw [aO _ (by omega) (by omega) (by omega) (by omega) (by omega) (by omega)]; exact v3 k hk
  · rw [aO _ (by omega) (by omega) (by omega) (by omega) (by omega) (by omega)]; exact v4 i hi
  · rw [aO _ (by omega) (by omega) (by omega) (by omega) (by omega) (by omega)]; exact v5 q b hq hb
  · obtain ⟨NB, NU, q1, q2⟩ := hS
    refine ⟨NB, NU, q1, fun k hk => ?_⟩
    obtain ⟨t1, t2, t3, t4, t5, t6, t7, t8, t9, t10, t11, t12, t13, t14⟩ := q2 k hk
    have er : ∀ j, j ≠ nb → X2 (51 + 42 + k) j = X (51 + 42 + k) j := fun j hj => xO _ j (Or.inl (by omega)) (by omega) (Or.inl hj)
    have aH : ∀ j, 250 ≤ j → M2 0 j = M 0 j := fun j hj => aO j (by omega) (by omega) (by omega) (by omega) (by omega) (by omega)
    refine ⟨by omega, ?_, ?_, ?_, ?_, ?_, ?_, ?_, fun b hb => ?_, fun b hb h6 => ?_, fun b hb h6 => ?_, fun i hi => ?_, fun i hi => ?_, fun q b hq hb => ?_⟩
    · rw [aH _ (by omega)]; exact t2
    · rw [er _ (by omega), aH _ (by omega)]; exact t3
    · rw [er _ (by omega), aH _ (by omega)]; exact t4
    · rw [er _ (by omega), aH _ (by omega)]; exact t5
    · rw [aH _ (by omega)]; exact t6
    · rw [aH _ (by omega)]; exact t7
    · obtain ⟨np9, g1, g2, g3⟩ := t8
      refine ⟨np9, g1, (aH _ (by omega)).trans g2, fun q hq => ?_⟩
      rw [aH _ (by omega)]
      exact g3 q hq
    · rw [er _ (by omega), er _ (by omega), aH _ (by omega), aH _ (by omega)]; exact t9 b hb
    · rw [er _ (by omega)]; exact t10 b hb h6
    · by_cases e : b = nb
      · subst e
        have e1 : X2 (51 + 42 + k) b = z := xN k hk
        rw [e1]
        by_cases c : k + 1 = ns
        · rw [if_pos c]; exact x53.symm
        · rw [if_neg c]; exact (xN (k + 1) (by omega)).symm
      · rw [er b e, t11 b hb (by omega)]
        by_cases c : k + 1 = ns
        · rw [if_pos c]; exact (r53 b e).symm
        · rw [if_neg c]; exact (xO _ b (Or.inl (by omega)) (by omega) (Or.inl e)).symm
    · rw [er _ (by omega), aH _ (by omega)]; exact t12 i hi
    · rw [er _ (by omega), aH _ (by omega)]; exact t13 i hi
    · rw [aH _ (by omega)]; exact t14 q b hq hb
