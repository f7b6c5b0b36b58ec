theorem RS_tell {X M : Nat → Nat → Int32} {nb nk nx np h nu ns ne nt : Nat} {x y z v : Int32} (hR : RS X 51 (M 0) nb nk nx np h nu ns ne nt) (ht : nt < 20) (hz : ∃ v, v ≤ 9 ∧ z = nI v) : RS (xTellPut X nt x y z v) 51 ((mTellPut M nt x y z v) 0) nb nk nx np h nu ns ne (nt + 1) := by
  obtain ⟨hB, ⟨c1, c2, c3⟩, hS⟩ := RS_iff.mp hR
  obtain ⟨h1, h2, h3, h4, h6, h7, h8, h9, h10, h11, h12, h13, h14, h15, h16, h17, h18, h19, v1, v2, v3, v4, v5⟩ := hB
  have b6 := h1.2.2
  have k6 := h2.2.2
  have t20 := h7.2.2
  have e8 := h6.2.2
  have u40 := h10.2.2
  have p10 := h8.2.2
  generalize hX2 : (xTellPut X nt x y z v) = X2
  generalize hM2 : (mTellPut M nt x y z v) = M2
  have xR : ∀ q : Nat, (q ≠ 52) → (q ≠ 73 + nt) → X2 q = X q := fun q q1 q2 => by rw [← hX2]; unfold xTellPut; rw [up2_row q1, upr_ne q2]
  have xn : ∀ j : Nat, (j ≠ 6) → X2 52 j = X 52 j := fun j hj => by rw [← hX2]; unfold xTellPut; rw [up2_ne (Or.inr hj)]; exact congrFun (upr_ne (by omega)) j
  have aO : ∀ j : Nat, (j ≠ 8) → (j ≠ 70 + 4 * nt) → (j ≠ 70 + 4 * nt + 1) → (j ≠ 70 + 4 * nt + 2) → (j ≠ 70 + 4 * nt + 3) → M2 0 j = M 0 j := fun j q1 q2 q3 q4 q5 => by rw [← hM2]; unfold mTellPut; rw [up2_ne (Or.inr q1), up2_ne (Or.inr q5), up2_ne (Or.inr q4), up2_ne (Or.inr q3), up2_ne (Or.inr q2)]
  have x1 : X2 52 6 = nI (nt + 1) := by rw [← hX2]; unfold xTellPut; exact up2_at
  have xk : ∀ j, X2 (73 + nt) j = upd (upd (upd (upd (fun _ => 0) 0 y) 1 x) 2 z) 3 v j := fun j => by rw [← hX2]; unfold xTellPut; rw [up2_ne (Or.inl (by omega))]; exact congrFun upr_at j
  have a1 : M2 0 8 = nI (nt + 1) := by rw [← hM2]; unfold mTellPut; exact up2_at
  have k0 : M2 0 (70 + 4 * nt) = x := by rw [← hM2]; unfold mTellPut; (repeat rw [up2_ne (Or.inr (by omega))]); exact up2_at
  have k1 : M2 0 (70 + 4 * nt + 1) = y := by rw [← hM2]; unfold mTellPut; (repeat rw [up2_ne (Or.inr (by omega))]); exact up2_at
  have k2 : M2 0 (70 + 4 * nt + 2) = z := by rw [← hM2]; unfold mTellPut; (repeat rw [up2_ne (Or.inr (by omega))]); exact up2_at
  have k3 : M2 0 (70 + 4 * nt + 3) = v := by rw [← hM2]; unfold mTellPut; (repeat rw [up2_ne (Or.inr (by omega))]); exact up2_at
  refine RS_iff.mpr ⟨⟨⟨(xn 0 (by omega)).trans h1.1, (aO 0 (by omega) (by omega) (by omega) (by omega) (by omega)).trans h1.2.1, b6⟩, ⟨(xn 1 (by omega)).trans h2.1, (aO 1 (by omega) (by omega) (by omega) (by omega) (by omega)).trans h2.2.1, k6⟩, ⟨(xn 2 (by omega)).trans h3.1, (aO 4 (by omega) (by omega) (by omega) (by omega) (by omega)).trans h3.2.1, h3.2.2⟩, (xn 3 (by omega)).trans (h4.trans (aO 5 (by omega) (by omega) (by omega) (by omega) (by omega)).symm), ⟨(xn 5 (by omega)).trans h6.1, (aO 7 (by omega) (by omega) (by omega) (by omega) (by omega)).trans h6.2.1, e8⟩, ⟨x1, a1, ht⟩, ⟨(congrFun (xR 53 (by omega) (by omega)) 112).trans h8.1, (aO 2 (by omega) (by omega) (by omega) (by omega) (by omega)).trans h8.2.1, p10⟩, ⟨(congrFun (xR 53 (by omega) (by omega)) 113).trans h9.1, (aO 3 (by omega) (by omega) (by omega) (by omega) (by omega)).trans h9.2.1, h9.2.2⟩, ⟨(congrFun (xR 53 (by omega) (by omega)) 114).trans h10.1, (aO 9 (by omega) (by omega) (by omega) (by omega) (by omega)).trans h10.2.1, u40⟩, fun b hb => ?_, fun b hb => ?_, fun b hb hb6 => ?_, fun k hk => ?_, fun k hk => ?_, fun k hk => ?_, fun i hi => ?_, fun i hi => ?_, fun q hq => ?_, fun b hb => ?_, fun k hk => ?_, fun k hk => ?_, fun i hi => ?_, fun q b hq hb => ?_⟩, ⟨(xn 4 (by omega)).trans c1, (aO 6 (by omega) (by omega) (by omega) (by omega) (by omega)).trans c2, c3⟩, hS.same c3 (Nat.le_refl _) (fun k hk => xR _ (by omega) (by omega)) (xR 53 (by omega) (by omega)) (fun j hj => aO j (by omega) (by omega) (by omega) (by omega) (by omega))⟩
  · rw [xR _ (by omega) (by omega), aO _ (by omega) (by omega) (by omega) (by omega) (by omega), aO _ (by omega) (by omega) (by omega) (by omega) (by omega), aO _ (by omega) (by omega) (by omega) (by omega) (by omega)]; exact h11 b hb
  · rw [xR (51 + 2) (by omega) (by omega), aO _ (by omega) (by omega) (by omega) (by omega) (by omega), aO _ (by omega) (by omega) (by omega) (by omega) (by omega)]; exact h12 b hb
  · rw [xR (51 + 2) (by omega) (by omega)]; exact h13 b hb hb6
  · rw [xR _ (by omega) (by omega), aO _ (by omega) (by omega) (by omega) (by omega) (by omega), aO _ (by omega) (by omega) (by omega) (by omega) (by omega), aO _ (by omega) (by omega) (by omega) (by omega) (by omega)]; exact h14 k hk
  · rw [xR (51 + 3) (by omega) (by omega), aO _ (by omega) (by omega) (by omega) (by omega) (by omega)]; exact h15 k hk
  · by_cases e : k = nt
    · subst e
      exact ⟨(xk 0).trans k1.symm, (xk 1).trans k0.symm, (xk 2).trans k2.symm, (xk 3).trans k3.symm⟩
    · rw [xR _ (by omega) (by omega), aO _ (by omega) (by omega) (by omega) (by omega) (by omega), aO _ (by omega) (by omega) (by omega) (by omega) (by omega), aO _ (by omega) (by omega) (by omega) (by omega) (by omega), aO _ (by omega) (by omega) (by omega) (by omega) (by omega)]; exact h16 k (by omega)
  · rw [xR (51 + 2) (by omega) (by omega), aO _ (by omega) (by omega) (by omega) (by omega) (by omega)]; exact h17 i hi
  · rw [xR (51 + 2) (by omega) (by omega), aO _ (by omega) (by omega) (by omega) (by omega) (by omega)]; exact h18 i hi
  · rw [aO _ (by omega) (by omega) (by omega) (by omega) (by omega)]; exact h19 q hq
  · rw [aO _ (by omega) (by omega) (by omega) (by omega) (by omega)]; exact v1 b hb
  · rw [aO _ (by omega) (by omega) (by omega) (by omega) (by omega), aO _ (by omega) (by omega) (by omega) (by omega) (by omega)]; exact v2 k hk
  · by_cases e : k = nt
    · subst e
      rw [k2]; exact hz
    · rw [aO _ (by omega) (by omega) (by omega) (by omega) (by omega)]; exact v3 k (by omega)
  · rw [aO _ (by omega) (by omega) (by omega) (by omega) (by omega)]; exact v4 i hi
  · rw [aO _ (by omega) (by omega) (by omega) (by omega) (by omega)]; exact v5 q b hq hb
theorem RS_seen {X M : Nat → Nat → Int32} {nb nk nx np h nu ns ne nt : Nat} {x : Int32} (hR : RS X 51 (M 0) nb nk nx np h nu ns ne nt) (he : ne < 8) : RS (up2 (up2 X 54 ne x) 52 5 (nI (ne + 1))) 51 ((up2 (up2 M 0 (60 + ne) x) 0 7 (nI (ne + 1))) 0) nb nk nx np h nu ns (ne + 1) nt := by
  obtain ⟨hB, ⟨c1, c2, c3⟩, hS⟩ := RS_iff.mp hR
  obtain ⟨h1, h2, h3, h4, h6, h7, h8, h9, h10, h11, h12, h13, h14, h15, h16, h17, h18, h19, v1, v2, v3, v4, v5⟩ := hB
  have b6 := h1.2.2
  have k6 := h2.2.2
  have t20 := h7.2.2
  have e8 := h6.2.2
  have u40 := h10.2.2
  have p10 := h8.2.2
  generalize hX2 : (up2 (up2 X 54 ne x) 52 5 (nI (ne + 1))) = X2
  generalize hM2 : (up2 (up2 M 0 (60 + ne) x) 0 7 (nI (ne + 1))) = M2
  have xR : ∀ q : Nat, (q ≠ 52) → (q ≠ 54) → X2 q = X q := fun q q1 q2 => by rw [← hX2, up2_row q1, up2_row q2]
  have xn : ∀ j : Nat, (j ≠ 5) → X2 52 j = X 52 j := fun j hj => by rw [← hX2, up2_ne (Or.inr hj), up2_ne (Or.inl (by decide))]
  have aO : ∀ j : Nat, (j ≠ 7) → (j ≠ 60 + ne) → M2 0 j = M 0 j := fun j q1 q2 => by rw [← hM2, up2_ne (Or.inr q1), up2_ne (Or.inr q2)]
  have x1 : X2 52 5 = nI (ne + 1) := by rw [← hX2]; exact up2_at
  have a1 : M2 0 7 = nI (ne + 1) := by rw [← hM2]; exact up2_at
  refine RS_iff.mpr ⟨⟨⟨(xn 0 (by omega)).trans h1.1, (aO 0 (by omega) (by omega)).trans h1.2.1, b6⟩, ⟨(xn 1 (by omega)).trans h2.1, (aO 1 (by omega) (by omega)).trans h2.2.1, k6⟩, ⟨(xn 2 (by omega)).trans h3.1, (aO 4 (by omega) (by omega)).trans h3.2.1, h3.2.2⟩, (xn 3 (by omega)).trans (h4.trans (aO 5 (by omega) (by omega)).symm), ⟨x1, a1, he⟩, ⟨(xn 6 (by omega)).trans h7.1, (aO 8 (by omega) (by omega)).trans h7.2.1, t20⟩, ⟨(congrFun (xR 53 (by omega) (by omega)) 112).trans h8.1, (aO 2 (by omega) (by omega)).trans h8.2.1, p10⟩, ⟨(congrFun (xR 53 (by omega) (by omega)) 113).trans h9.1, (aO 3 (by omega) (by omega)).trans h9.2.1, h9.2.2⟩, ⟨(congrFun (xR 53 (by omega) (by omega)) 114).trans h10.1, (aO 9 (by omega) (by omega)).trans h10.2.1, u40⟩, fun b hb => ?_, fun b hb => ?_, fun b hb hb6 => ?_, fun k hk => ?_, fun k hk => ?_, fun k hk => ?_, fun i hi => ?_, fun i hi => ?_, fun q hq => ?_, fun b hb => ?_, fun k hk => ?_, fun k hk => ?_, fun i hi => ?_, fun q b hq hb => ?_⟩, ⟨(xn 4 (by omega)).trans c1, (aO 6 (by omega) (by omega)).trans c2, c3⟩, hS.same c3 (Nat.le_refl _) (fun k hk => xR _ (by omega) (by omega)) (xR 53 (by omega) (by omega)) (fun j hj => aO j (by omega) (by omega))⟩
  · rw [xR _ (by omega) (by omega), aO _ (by omega) (by omega), aO _ (by omega) (by omega), aO _ (by omega) (by omega)]; exact h11 b hb
  · rw [xR (51 + 2) (by omega) (by omega), aO _ (by omega) (by omega), aO _ (by omega) (by omega)]; exact h12 b hb
  · rw [xR (51 + 2) (by omega) (by omega)]; exact h13 b hb hb6
  · rw [xR _ (by omega) (by omega), aO _ (by omega) (by omega), aO _ (by omega) (by omega), aO _ (by omega) (by omega)]; exact h14 k hk
  · by_cases e : k = ne
    · subst e
      have p1 : X2 54 k = x := by rw [← hX2, up2_ne (Or.inl (by decide))]; exact up2_at
      have p2 : M2 0 (60 + k) = x := by rw [← hM2, up2_ne (Or.inr (by omega))]; exact up2_at
      exact p1.trans p2.symm
    · rw [aO _ (by omega) (by omega)]
      show X2 54 k = M 0 (60 + k)
      rw [← hX2, up2_ne (Or.inl (by decide)), up2_ne (Or.inr e)]
      exact h15 k (by omega)
  · rw [xR _ (by omega) (by omega), aO _ (by omega) (by omega), aO _ (by omega) (by omega), aO _ (by omega) (by omega), aO _ (by omega) (by omega)]; exact h16 k hk
  · rw [xR (51 + 2) (by omega) (by omega), aO _ (by omega) (by omega)]; exact h17 i hi
  · rw [xR (51 + 2) (by omega) (by omega), aO _ (by omega) (by omega)]; exact h18 i hi
  · rw [aO _ (by omega) (by omega)]; exact h19 q hq
  · rw [aO _ (by omega) (by omega)]; exact v1 b hb
  · rw [aO _ (by omega) (by omega), aO _ (by omega) (by omega)]; exact v2 k hk
  · rw [aO _ (by omega) (by omega)]; exact v3 k hk
  · rw [aO _ (by omega) (by omega)]; exact v4 i hi
  · rw [aO _ (by omega) (by omega)]; exact v5 q b hq hb
theorem RS_seen0 {X M : Nat → Nat → Int32} {nb nk nx np h nu ns ne nt : Nat}  (hR : RS X 51 (M 0) nb nk nx np h nu ns ne nt)  : RS (up2 X 52 5 (nI 0)) 51 ((up2 M 0 7 (nI 0)) 0) nb nk nx np h nu ns 0 nt := by
  obtain ⟨hB, ⟨c1, c2, c3⟩, hS⟩ := RS_iff.mp hR
  obtain ⟨h1, h2, h3, h4, h6, h7, h8, h9, h10, h11, h12, h13, h14, h15, h16, h17, h18, h19, v1, v2, v3, v4, v5⟩ := hB
  have b6 := h1.2.2
  have k6 := h2.2.2
  have t20 := h7.2.2
  have e8 := h6.2.2
  have u40 := h10.2.2
  have p10 := h8.2.2
  generalize hX2 : (up2 X 52 5 (nI 0)) = X2
  generalize hM2 : (up2 M 0 7 (nI 0)) = M2
  have xR : ∀ q : Nat, (q ≠ 52) → X2 q = X q := fun q q1 => by rw [← hX2, up2_row q1]
  have xn : ∀ j : Nat, (j ≠ 5) → X2 52 j = X 52 j := fun j hj => by rw [← hX2, up2_ne (Or.inr hj)]
  have aO : ∀ j : Nat, (j ≠ 7) → M2 0 j = M 0 j := fun j q1 => by rw [← hM2, up2_ne (Or.inr q1)]
  have x1 : X2 52 5 = nI 0 := by rw [← hX2]; exact up2_at
  have a1 : M2 0 7 = nI 0 := by rw [← hM2]; exact up2_at
  refine RS_iff.mpr ⟨⟨⟨(xn 0 (by omega)).trans h1.1, (aO 0 (by omega)).trans h1.2.1, b6⟩, ⟨(xn 1 (by omega)).trans h2.1, (aO 1 (by omega)).trans h2.2.1, k6⟩, ⟨(xn 2 (by omega)).trans h3.1, (aO 4 (by omega)).trans h3.2.1, h3.2.2⟩, (xn 3 (by omega)).trans (h4.trans (aO 5 (by omega)).symm), ⟨x1, a1, Nat.zero_le _⟩, ⟨(xn 6 (by omega)).trans h7.1, (aO 8 (by omega)).trans h7.2.1, t20⟩, ⟨(congrFun (xR 53 (by omega)) 112).trans h8.1, (aO 2 (by omega)).trans h8.2.1, p10⟩, ⟨(congrFun (xR 53 (by omega)) 113).trans h9.1, (aO 3 (by omega)).trans h9.2.1, h9.2.2⟩, ⟨(congrFun (xR 53 (by omega)) 114).trans h10.1, (aO 9 (by omega)).trans h10.2.1, u40⟩, fun b hb => ?_, fun b hb => ?_, fun b hb hb6 => ?_, fun k hk => ?_, fun k hk => ?_, fun k hk => ?_, fun i hi => ?_, fun i hi => ?_, fun q hq => ?_, fun b hb => ?_, fun k hk => ?_, fun k hk => ?_, fun i hi => ?_, fun q b hq hb => ?_⟩, ⟨(xn 4 (by omega)).trans c1, (aO 6 (by omega)).trans c2, c3⟩, hS.same c3 (Nat.le_refl _) (fun k hk => xR _ (by omega)) (xR 53 (by omega)) (fun j hj => aO j (by omega))⟩
  · rw [xR _ (by omega), aO _ (by omega), aO _ (by omega), aO _ (by omega)]; exact h11 b hb
  · rw [xR (51 + 2) (by omega), aO _ (by omega), aO _ (by omega)]; exact h12 b hb
  · rw [xR (51 + 2) (by omega)]; exact h13 b hb hb6
  · rw [xR _ (by omega), aO _ (by omega), aO _ (by omega), aO _ (by omega)]; exact h14 k hk
  · omega
  · rw [xR _ (by omega), aO _ (by omega), aO _ (by omega), aO _ (by omega), aO _ (by omega)]; exact h16 k hk
  · rw [xR (51 + 2) (by omega), aO _ (by omega)]; exact h17 i hi
  · rw [xR (51 + 2) (by omega), aO _ (by omega)]; exact h18 i hi
  · rw [aO _ (by omega)]; exact h19 q hq
  · rw [aO _ (by omega)]; exact v1 b hb
  · rw [aO _ (by omega), aO _ (by omega)]; exact v2 k hk
  · rw [aO _ (by omega)]; exact v3 k hk
  · rw [aO _ (by omega)]; exact v4 i hi
  · rw [aO _ (by omega)]; exact v5 q b hq hb
theorem RS_quarrel {X M : Nat → Nat → Int32} {nb nk nx np h nu ns ne nt : Nat} {jx jy : Nat} {w : Int32} (hR : RS X 51 (M 0) nb nk nx np h nu ns ne nt) (hx : jx < nb) (hy : jy < nb) (hxy : jx ≠ jy) : RS (up2 (up2 X (61 + jx) 2 (mQ (X (61 + jx) 2) jy w)) (61 + jy) 2 (mQ (X (61 + jy) 2) jx w)) 51 ((up2 (up2 M 0 (10 + 5 * jx + 4) (mQ (M 0 (10 + 5 * jx + 4)) jy w)) 0 (10 + 5 * jy + 4) (mQ (M 0 (10 + 5 * jy + 4)) jx w)) 0) nb nk nx np h nu ns ne nt := by
  obtain ⟨hB, ⟨c1, c2, c3⟩, hS⟩ := RS_iff.mp hR
  obtain ⟨h1, h2, h3, h4, h6, h7, h8, h9, h10, h11, h12, h13, h14, h15, h16, h17, h18, h19, v1, v2, v3, v4, v5⟩ := hB
  have b6 := h1.2.2
  have k6 := h2.2.2
  have t20 := h7.2.2
  have e8 := h6.2.2
  have u40 := h10.2.2
  have p10 := h8.2.2
  generalize hX2 : (up2 (up2 X (61 + jx) 2 (mQ (X (61 + jx) 2) jy w)) (61 + jy) 2 (mQ (X (61 + jy) 2) jx w)) = X2
  generalize hM2 : (up2 (up2 M 0 (10 + 5 * jx + 4) (mQ (M 0 (10 + 5 * jx + 4)) jy w)) 0 (10 + 5 * jy + 4) (mQ (M 0 (10 + 5 * jy + 4)) jx w)) = M2
  have xR : ∀ q : Nat, (q ≠ 61 + jx) → (q ≠ 61 + jy) → X2 q = X q := fun q q1 q2 => by rw [← hX2, up2_row q2, up2_row q1]
  have xn : ∀ j : Nat, (j ≠ 1000) → X2 52 j = X 52 j := fun j _ => by rw [← hX2, up2_ne (Or.inl (by omega)), up2_ne (Or.inl (by omega))]
  have aO : ∀ j : Nat, (j ≠ 10 + 5 * jx + 4) → (j ≠ 10 + 5 * jy + 4) → M2 0 j = M 0 j := fun j q1 q2 => by rw [← hM2, up2_ne (Or.inr q2), up2_ne (Or.inr q1)]
  have x01 : ∀ b j, j ≠ 2 → X2 (61 + b) j = X (61 + b) j := fun b j hj => by rw [← hX2, up2_ne (Or.inr hj), up2_ne (Or.inr hj)]
  have h11' : ∀ b, b < nb → X (61 + b) 0 = M 0 (10 + 5 * b) ∧ X (61 + b) 1 = M 0 (10 + 5 * b + 1) ∧ X (61 + b) 2 = M 0 (10 + 5 * b + 4) := h11
  have xy : X2 (61 + jy) 2 = mQ (X (61 + jy) 2) jx w := by rw [← hX2]; exact up2_at
  have xx : X2 (61 + jx) 2 = mQ (X (61 + jx) 2) jy w := by rw [← hX2, up2_ne (Or.inl (by omega))]; exact up2_at
  have ay : M2 0 (10 + 5 * jy + 4) = mQ (M 0 (10 + 5 * jy + 4)) jx w := by rw [← hM2]; exact up2_at
  have ax : M2 0 (10 + 5 * jx + 4) = mQ (M 0 (10 + 5 * jx + 4)) jy w := by rw [← hM2, up2_ne (Or.inr (by omega))]; exact up2_at
  refine RS_iff.mpr ⟨⟨⟨(xn 0 (by omega)).trans h1.1, (aO 0 (by omega) (by omega)).trans h1.2.1, b6⟩, ⟨(xn 1 (by omega)).trans h2.1, (aO 1 (by omega) (by omega)).trans h2.2.1, k6⟩, ⟨(xn 2 (by omega)).trans h3.1, (aO 4 (by omega) (by omega)).trans h3.2.1, h3.2.2⟩, (xn 3 (by omega)).trans (h4.trans (aO 5 (by omega) (by omega)).symm), ⟨(xn 5 (by omega)).trans h6.1, (aO 7 (by omega) (by omega)).trans h6.2.1, e8⟩, ⟨(xn 6 (by omega)).trans h7.1, (aO 8 (by omega) (by omega)).trans h7.2.1, t20⟩, ⟨(congrFun (xR 53 (by omega) (by omega)) 112).trans h8.1, (aO 2 (by omega) (by omega)).trans h8.2.1, p10⟩, ⟨(congrFun (xR 53 (by omega) (by omega)) 113).trans h9.1, (aO 3 (by omega) (by omega)).trans h9.2.1, h9.2.2⟩, ⟨(congrFun (xR 53 (by omega) (by omega)) 114).trans h10.1, (aO 9 (by omega) (by omega)).trans h10.2.1, u40⟩, fun b hb => ?_, fun b hb => ?_, fun b hb hb6 => ?_, fun k hk => ?_, fun k hk => ?_, fun k hk => ?_, fun i hi => ?_, fun i hi => ?_, fun q hq => ?_, fun b hb => ?_, fun k hk => ?_, fun k hk => ?_, fun i hi => ?_, fun q b hq hb => ?_⟩, ⟨(xn 4 (by omega)).trans c1, (aO 6 (by omega) (by omega)).trans c2, c3⟩, hS.same c3 (Nat.le_refl _) (fun k hk => xR _ (by omega) (by omega)) (xR 53 (by omega) (by omega)) (fun j hj => aO j (by omega) (by omega))⟩
  · show X2 (61 + b) 0 = M2 0 (10 + 5 * b) ∧ X2 (61 + b) 1 = M2 0 (10 + 5 * b + 1) ∧ X2 (61 + b) 2 = M2 0 (10 + 5 * b + 4)
    obtain ⟨p0, p1, p2⟩ := h11' b hb
    refine ⟨(x01 b 0 (by decide)).trans (p0.trans (aO _ (by omega) (by omega)).symm), (x01 b 1 (by decide)).trans (p1.trans (aO _ (by omega) (by omega)).symm), ?_⟩
    by_cases e1 : b = jy
    · subst e1
      rw [xy, ay, p2]
    · by_cases e2 : b = jx
      · subst e2
        rw [xx, ax, p2]
      · rw [xR _ (by omega) (by omega), aO _ (by omega) (by omega)]; exact p2
  · rw [xR (51 + 2) (by omega) (by omega), aO _ (by omega) (by omega), aO _ (by omega) (by omega)]; exact h12 b hb
  · rw [xR (51 + 2) (by omega) (by omega)]; exact h13 b hb hb6
  · rw [xR _ (by omega) (by omega), aO _ (by omega) (by omega), aO _ (by omega) (by omega), aO _ (by omega) (by omega)]; exact h14 k hk
  · rw [xR (51 + 3) (by omega) (by omega), aO _ (by omega) (by omega)]; exact h15 k hk
  · rw [xR _ (by omega) (by omega), aO _ (by omega) (by omega), aO _ (by omega) (by omega), aO _ (by omega) (by omega), aO _ (by omega) (by omega)]; exact h16 k hk
  · rw [xR (51 + 2) (by omega) (by omega), aO _ (by omega) (by omega)]; exact h17 i hi
  · rw [xR (51 + 2) (by omega) (by omega), aO _ (by omega) (by omega)]; exact h18 i hi
  · rw [aO _ (by omega) (by omega)]; exact h19 q hq
  · rw [aO _ (by omega) (by omega)]; exact v1 b hb
  · rw [aO _ (by omega) (by omega), aO _ (by omega) (by omega)]; exact v2 k hk
  · rw [aO _ (by omega) (by omega)]; exact v3 k hk
  · rw [aO _ (by omega) (by omega)]; exact v4 i hi
  · rw [aO _ (by omega) (by omega)]; exact v5 q b hq hb
theorem RS_quarrels {X M : Nat → Nat → Int32} {nb nk nx np h nu ns ne nt : Nat} {x y w : Int32} (hR : RS X 51 (M 0) nb nk nx np h nu ns ne nt) : RS (xQuarrel X nb x y w) 51 (mQuarrel M nb x y w 0) nb nk nx np h nu ns ne nt := by
  have b6 := hR.1.2.2
  unfold xQuarrel mQuarrel
  by_cases c : vp_in x nb ∧ vp_in y nb ∧ ¬ x = y
  · obtain ⟨jx, hjx, rfl⟩ := vp_in_of c.1 (by omega)
    obtain ⟨jy, hjy, rfl⟩ := vp_in_of c.2.1 (by omega)
    rw [pif_t c, pif_t c, show cl (nI jx) = jx from nI_clamp (by omega), show cl (nI jy) = jy from nI_clamp (by omega)]
    exact RS_quarrel hR hjx hjy (fun e => c.2.2 (by rw [e]))
  · rw [pif_f c, pif_f c]
    exact hR
