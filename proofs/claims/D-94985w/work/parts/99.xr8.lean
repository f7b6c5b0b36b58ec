theorem RS_by1 {X M : Nat → Nat → Int32} {nb nk nx np h nu ns ne nt : Nat} {x : Int32} (hR : RS X 51 (M 0) nb nk nx np h nu ns ne nt)  : RS (up2 X 52 3 x) 51 ((up2 M 0 5 x) 0) nb nk nx np h nu ns ne nt := by
  obtain ⟨hB, ⟨c1, c2, c3⟩, hS⟩ := RS_iff.mp hR
  obtain ⟨h1, h2, h3, h4, h6, h7, h8, h9, h10, h11, h12, h13, h14, h15, h16, h17, h18, h19, v1, v2, v3, v4, v5⟩ := hB
  have b6 := h1.2.2
  have k6 := h2.2.2
  have t20 := h7.2.2
  have e8 := h6.2.2
  have u40 := h10.2.2
  have p10 := h8.2.2
  generalize hX2 : (up2 X 52 3 x) = X2
  generalize hM2 : (up2 M 0 5 x) = M2
  have xR : ∀ q : Nat, (q ≠ 52) → X2 q = X q := fun q q1 => by rw [← hX2, up2_row q1]
  have xn : ∀ j : Nat, (j ≠ 3) → X2 52 j = X 52 j := fun j hj => by rw [← hX2, up2_ne (Or.inr hj)]
  have aO : ∀ j : Nat, (j ≠ 5) → M2 0 j = M 0 j := fun j q1 => by rw [← hM2, up2_ne (Or.inr q1)]
  have x1 : X2 52 3 = x := by rw [← hX2]; exact up2_at
  have a1 : M2 0 5 = x := by rw [← hM2]; exact up2_at
  refine RS_iff.mpr ⟨⟨⟨(xn 0 (by omega)).trans h1.1, (aO 0 (by omega)).trans h1.2.1, b6⟩, ⟨(xn 1 (by omega)).trans h2.1, (aO 1 (by omega)).trans h2.2.1, k6⟩, ⟨(xn 2 (by omega)).trans h3.1, (aO 4 (by omega)).trans h3.2.1, h3.2.2⟩, (x1.trans a1.symm), ⟨(xn 5 (by omega)).trans h6.1, (aO 7 (by omega)).trans h6.2.1, e8⟩, ⟨(xn 6 (by omega)).trans h7.1, (aO 8 (by omega)).trans h7.2.1, t20⟩, ⟨(congrFun (xR 53 (by omega)) 112).trans h8.1, (aO 2 (by omega)).trans h8.2.1, p10⟩, ⟨(congrFun (xR 53 (by omega)) 113).trans h9.1, (aO 3 (by omega)).trans h9.2.1, h9.2.2⟩, ⟨(congrFun (xR 53 (by omega)) 114).trans h10.1, (aO 9 (by omega)).trans h10.2.1, u40⟩, fun b hb => ?_, fun b hb => ?_, fun b hb hb6 => ?_, fun k hk => ?_, fun k hk => ?_, fun k hk => ?_, fun i hi => ?_, fun i hi => ?_, fun q hq => ?_, fun b hb => ?_, fun k hk => ?_, fun k hk => ?_, fun i hi => ?_, fun q b hq hb => ?_⟩, ⟨(xn 4 (by omega)).trans c1, (aO 6 (by omega)).trans c2, c3⟩, hS.same c3 (Nat.le_refl _) (fun k hk => xR _ (by omega)) (xR 53 (by omega)) (fun j hj => aO j (by omega))⟩
  · rw [xR _ (by omega), aO _ (by omega), aO _ (by omega), aO _ (by omega)]; exact h11 b hb
  · rw [xR (51 + 2) (by omega), aO _ (by omega), aO _ (by omega)]; exact h12 b hb
  · rw [xR (51 + 2) (by omega)]; exact h13 b hb hb6
  · rw [xR _ (by omega), aO _ (by omega), aO _ (by omega), aO _ (by omega)]; exact h14 k hk
  · rw [xR (51 + 3) (by omega), aO _ (by omega)]; exact h15 k hk
  · rw [xR _ (by omega), aO _ (by omega), aO _ (by omega), aO _ (by omega), aO _ (by omega)]; exact h16 k hk
  · rw [xR (51 + 2) (by omega), aO _ (by omega)]; exact h17 i hi
  · rw [xR (51 + 2) (by omega), aO _ (by omega)]; exact h18 i hi
  · rw [aO _ (by omega)]; exact h19 q hq
  · rw [aO _ (by omega)]; exact v1 b hb
  · rw [aO _ (by omega), aO _ (by omega)]; exact v2 k hk
  · rw [aO _ (by omega)]; exact v3 k hk
  · rw [aO _ (by omega)]; exact v4 i hi
  · rw [aO _ (by omega)]; exact v5 q b hq hb
theorem by_iff {x : Int32} {nx : Nat} (hx4 : nx ≤ 4) : ((-1) ≤ x ∧ x ≤ nI nx - nI 1) ↔ (x = (-1) ∨ vp_in x nx) := by
  constructor
  · rintro ⟨q1, q2⟩
    by_cases e : x = (-1)
    · exact Or.inl e
    · refine Or.inr ((in_vp (by omega)).mp ⟨?_, q2⟩)
      rw [Int32.le_iff_toInt_le] at q1 ⊢
      have e1 : (-1 : Int32).toInt = -1 := by decide
      have e2 : (nI 0).toInt = 0 := by decide
      have e3 : x.toInt ≠ -1 := fun q => e (Int32.toInt_inj.mp (q.trans (by decide)))
      rw [e1] at q1
      first | (rw [e2]; omega) | (show (0 : Int32).toInt ≤ x.toInt; rw [show (0 : Int32).toInt = 0 by decide]; omega)
  · rintro (rfl | q)
    · refine ⟨Int32.le_refl _, ?_⟩
      obtain rfl | rfl | rfl | rfl | rfl : nx = 0 ∨ nx = 1 ∨ nx = 2 ∨ nx = 3 ∨ nx = 4 := by omega
      all_goals decide
    · obtain ⟨g1, g2⟩ := (in_vp (by omega)).mpr q
      refine ⟨?_, g2⟩
      refine Int32.le_trans ?_ g1
      decide
theorem RS_by {X M : Nat → Nat → Int32} {nb nk nx np h nu ns ne nt : Nat} {x : Int32} (hR : RS X 51 (M 0) nb nk nx np h nu ns ne nt) : RS (pif (x = (-1) ∨ vp_in x nx) (up2 X 52 3 x) X) 51 ((pif ((-1) ≤ x ∧ x ≤ M 0 4 - nI 1) (up2 M 0 5 x) M) 0) nb nk nx np h nu ns ne nt := by
  have hx := hR.2.2.1
  rw [hx.2.1]
  by_cases c : x = (-1) ∨ vp_in x nx
  · rw [pif_t c, pif_t ((by_iff hx.2.2).mpr c)]
    exact RS_by1 hR
  · rw [pif_f c, pif_f (fun q => c ((by_iff hx.2.2).mp q))]
    exact hR
