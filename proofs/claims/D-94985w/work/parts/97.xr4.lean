/-! kind, tell, seen keep the relation -/
theorem RSt.same {X X' : Nat → Nat → Int32} {o : Nat} {a a' : Nat → Int32} {nb nk nk' nu ns : Nat} (hns : ns ≤ 30) (hnk : nk ≤ nk') (hr : ∀ k, k < 30 → X' (o + 42 + k) = X (o + 42 + k)) (h2 : X' (o + 2) = X (o + 2)) (ha : ∀ j, 250 ≤ j → a' j = a j) (h0 : RSt X o a nb nk nu ns) : RSt X' o a' nb nk' nu ns := by
  obtain ⟨NB, NU, q1, q2⟩ := h0
  refine ⟨NB, NU, q1, fun k hk => ?_⟩
  obtain ⟨t1, t2, t3, t4, t5, t6, t7, t8, t9, t10, t11, t12, t13, t14⟩ := q2 k hk
  have er := hr k (by omega)
  refine ⟨t1, ?_, ?_, ?_, ?_, ?_, ?_, ?_, fun b hb => ?_, fun b hb h6 => ?_, fun b hb h6 => ?_, fun i hi => ?_, fun i hi => ?_, fun q b hq hb => ?_⟩
  · rw [ha _ (by omega)]; exact t2
  · rw [er, ha _ (by omega)]; exact t3
  · rw [er, ha _ (by omega)]; exact t4
  · rw [er, ha _ (by omega)]; exact t5
  · rw [ha _ (by omega)]; exact t6
  · rw [ha _ (by omega)]; exact t7
  · obtain ⟨np9, g1, g2, g3⟩ := t8
    refine ⟨np9, g1, (ha _ (by omega)).trans g2, fun q hq => ?_⟩
    rw [ha _ (by omega)]
    obtain ⟨kk, w1, w2⟩ := g3 q hq
    exact ⟨kk, by omega, w2⟩
  · rw [er, ha _ (by omega), ha _ (by omega)]; exact t9 b hb
  · rw [er]; exact t10 b hb h6
  · rw [er, t11 b hb h6]
    by_cases c : k + 1 = ns
    · rw [if_pos c, h2]
    · rw [if_neg c, hr (k + 1) (by omega)]
  · rw [er, ha _ (by omega)]; exact t12 i hi
  · rw [er, ha _ (by omega)]; exact t13 i hi
  · rw [ha _ (by omega)]; exact t14 q b hq hb
theorem RS_kind {X M : Nat → Nat → Int32} {nb nk nx np h nu ns ne nt : Nat} {x y z : Int32} (hR : RS X 51 (M 0) nb nk nx np h nu ns ne nt) (hk : nk < 6) (hx : ∃ v, 1 ≤ v ∧ v ≤ 30 ∧ x = nI v) (hz : ∃ v, v ≤ 999 ∧ z = nI v) : RS (xKiPut X nk x y z) 51 (mKiPut M nk x y z 0) nb (nk + 1) nx np h nu ns ne nt := by
  obtain ⟨hB, ⟨c1, c2, c3⟩, hS⟩ := RS_iff.mp hR
  obtain ⟨h1, h2, h3, h4, h6, h7, h8, h9, h10, h11, h12, h13, h14, h15, h16, h17, h18, h19, v1, v2, v3, v4, v5⟩ := hB
  have b6 := h1.2.2
  have t20 := h7.2.2
  have e8 := h6.2.2
  have u40 := h10.2.2
  have p10 := h8.2.2
  generalize hX2 : xKiPut X nk x y z = X2
  generalize hM2 : mKiPut M nk x y z = M2
  have xR : ∀ q, q ≠ 52 → q ≠ 67 + nk → X2 q = X q := fun q q1 q2 => by rw [← hX2]; unfold xKiPut; rw [up2_row q1, upr_ne q2]
  have xn : ∀ j, j ≠ 1 → X2 52 j = X 52 j := fun j hj => by rw [← hX2]; unfold xKiPut; rw [up2_ne (Or.inr hj)]; exact congrFun (upr_ne (by omega)) j
  have x1 : X2 52 1 = nI (nk + 1) := by rw [← hX2]; unfold xKiPut; exact up2_at
  have xk : ∀ j, X2 (67 + nk) j = upd (upd (upd (fun _ => 0) 0 x) 1 y) 2 z j := fun j => by rw [← hX2]; unfold xKiPut; rw [up2_ne (Or.inl (by omega))]; exact congrFun upr_at j
  have aO : ∀ j, j ≠ 1 → j ≠ 40 + 3 * nk → j ≠ 40 + 3 * nk + 1 → j ≠ 40 + 3 * nk + 2 → M2 0 j = M 0 j := fun j q1 q2 q3 q4 => by rw [← hM2]; unfold mKiPut; rw [up2_ne (Or.inr q1), up2_ne (Or.inr q4), up2_ne (Or.inr q3), up2_ne (Or.inr q2)]
  have a1 : M2 0 1 = nI (nk + 1) := by rw [← hM2]; unfold mKiPut; exact up2_at
  have k0 : M2 0 (40 + 3 * nk) = x := by rw [← hM2]; unfold mKiPut; (repeat rw [up2_ne (Or.inr (by omega))]); exact up2_at
  have k1 : M2 0 (40 + 3 * nk + 1) = y := by rw [← hM2]; unfold mKiPut; (repeat rw [up2_ne (Or.inr (by omega))]); exact up2_at
  have k2 : M2 0 (40 + 3 * nk + 2) = z := by rw [← hM2]; unfold mKiPut; (repeat rw [up2_ne (Or.inr (by omega))]); exact up2_at
  refine RS_iff.mpr ⟨⟨⟨(xn 0 (by decide)).trans h1.1, (aO 0 (by decide) (by omega) (by omega) (by omega)).trans h1.2.1, b6⟩, ⟨x1, a1, hk⟩, ⟨(xn 2 (by decide)).trans h3.1, (aO 4 (by decide) (by omega) (by omega) (by omega)).trans h3.2.1, h3.2.2⟩, (xn 3 (by decide)).trans (h4.trans (aO 5 (by decide) (by omega) (by omega) (by omega)).symm), ⟨(xn 5 (by decide)).trans h6.1, (aO 7 (by decide) (by omega) (by omega) (by omega)).trans h6.2.1, e8⟩, ⟨(xn 6 (by decide)).trans h7.1, (aO 8 (by decide) (by omega) (by omega) (by omega)).trans h7.2.1, t20⟩, ⟨(congrFun (xR 53 (by decide) (by omega)) 112).trans h8.1, (aO 2 (by decide) (by omega) (by omega) (by omega)).trans h8.2.1, p10⟩, ⟨(congrFun (xR 53 (by decide) (by omega)) 113).trans h9.1, (aO 3 (by decide) (by omega) (by omega) (by omega)).trans h9.2.1, h9.2.2⟩, ⟨(congrFun (xR 53 (by decide) (by omega)) 114).trans h10.1, (aO 9 (by decide) (by omega) (by omega) (by omega)).trans h10.2.1, u40⟩, fun b hb => ?_, fun b hb => ?_, fun b hb hb6 => ?_, fun k hk => ?_, fun k hk => ?_, fun k hk => ?_, fun i hi => ?_, fun i hi => ?_, fun q hq => ?_, fun b hb => ?_, fun k hk => ?_, fun k hk => ?_, fun i hi => ?_, fun q b hq hb => ?_⟩, ⟨(xn 4 (by decide)).trans c1, (aO 6 (by decide) (by omega) (by omega) (by omega)).trans c2, c3⟩, hS.same c3 (Nat.le_succ _) (fun k hk => xR _ (by omega) (by omega)) (xR 53 (by decide) (by omega)) (fun j hj => aO j (by omega) (by omega) (by omega) (by omega))⟩
  · rw [xR _ (by omega) (by omega), aO _ (by omega) (by omega) (by omega) (by omega), aO _ (by omega) (by omega) (by omega) (by omega), aO _ (by omega) (by omega) (by omega) (by omega)]; exact h11 b hb
  · rw [xR (51 + 2) (by omega) (by omega), aO _ (by omega) (by omega) (by omega) (by omega), aO _ (by omega) (by omega) (by omega) (by omega)]; exact h12 b hb
  · rw [xR (51 + 2) (by omega) (by omega)]; exact h13 b hb hb6
  · by_cases e : k = nk
    · subst e
      exact ⟨(xk 0).trans k0.symm, (xk 1).trans k1.symm, (xk 2).trans k2.symm⟩
    · rw [xR _ (by omega) (by omega), aO _ (by omega) (by omega) (by omega) (by omega), aO _ (by omega) (by omega) (by omega) (by omega), aO _ (by omega) (by omega) (by omega) (by omega)]; exact h14 k (by omega)
  · rw [xR (51 + 3) (by omega) (by omega), aO _ (by omega) (by omega) (by omega) (by omega)]; exact h15 k hk
  · rw [xR _ (by omega) (by omega), aO _ (by omega) (by omega) (by omega) (by omega), aO _ (by omega) (by omega) (by omega) (by omega), aO _ (by omega) (by omega) (by omega) (by omega), aO _ (by omega) (by omega) (by omega) (by omega)]; exact h16 k hk
  · rw [xR (51 + 2) (by omega) (by omega), aO _ (by omega) (by omega) (by omega) (by omega)]; exact h17 i hi
  · rw [xR (51 + 2) (by omega) (by omega), aO _ (by omega) (by omega) (by omega) (by omega)]; exact h18 i hi
  · rw [aO _ (by omega) (by omega) (by omega) (by omega)]
    obtain ⟨kk, w1, w2⟩ := h19 q hq
    exact ⟨kk, by omega, w2⟩
  · rw [aO _ (by omega) (by omega) (by omega) (by omega)]; exact v1 b hb
  · by_cases e : k = nk
    · subst e
      rw [k0, k2]; exact ⟨hx, hz⟩
    · rw [aO _ (by omega) (by omega) (by omega) (by omega), aO _ (by omega) (by omega) (by omega) (by omega)]; exact v2 k (by omega)
  · rw [aO _ (by omega) (by omega) (by omega) (by omega)]; exact v3 k hk
  · rw [aO _ (by omega) (by omega) (by omega) (by omega)]; exact v4 i hi
  · rw [aO _ (by omega) (by omega) (by omega) (by omega)]; exact v5 q b hq hb
