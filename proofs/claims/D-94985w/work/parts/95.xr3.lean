/-! blow keeps the relation, and answers what the twin answers -/
section BL
variable {tx : kT} {X M : Nat → Nat → Int32} {nb nk nx np h nu ns ne nt jx jy k : Nat} {z : Int32}
theorem xVoices_eq {X M : Nat → Nat → Int32} {q nb : Nat} (h1 : ∀ b, b < nb → X 53 (12 + 10 * q + (4 + b)) = M 0 (150 + 10 * q + 4 + b)) (h2 : ∀ b, b < nb → X (61 + b) 1 = M 0 (10 + 5 * b + 1)) (nb' : Nat) : ∀ n, n ≤ nb → xVoices X q n = mVoices M nb' q n
  | 0, _ => rfl
  | n + 1, hn => by
    unfold xVoices mVoices
    rw [xVoices_eq h1 h2 nb' n (by omega), h1 n (by omega), h2 n (by omega)]
theorem RS_blow (hR : RS X 51 (M 0) nb nk nx np h nu ns ne nt) (hx : jx < np) (hy : jy < nb) (hk : k < nk) (ek : M 0 (150 + 10 * jx) = nI k) (hok : mBlowOk tx M np nb nu (nI jx) (nI jy) z) : RS (xBlowM tx M X nb nu ns h jx jy k z) 51 (mBlow2 (mBlow1 tx M nu jx jy z) nb jx k 0) nb nk nx np h (nu + 1) (min ns 29 + 1) ne nt ∧ xState (xBlow1 X ns jx jy z (mCost tx M jy (nI h) * z)) nb jx k = mBlow2 (mBlow1 tx M nu jx jy z) nb jx k 0 (150 + 10 * jx + 1) := by
  obtain ⟨hB, ⟨c1, c2, c3⟩, -⟩ := RS_iff.mp hR
  have hB0 := hB
  obtain ⟨h1, h2, h3, h4, h6, h7, h8, h9, h10, h11, h12, h13, h14, h15, h16, h17, h18, h19, v1, v2, v3, v4, v5⟩ := hB
  have b6 := h1.2.2
  have k6 := h2.2.2
  have u40 := h10.2.2
  have p10 := h8.2.2
  have nu40 : ¬ nu = 40 := hok.2.2.2.2.1
  have st0 : M 0 (150 + 10 * jx + 1) = 0 := by
    have := hok.2.2.2.1
    rwa [show cl (nI jx) = jx from nI_clamp (by omega)] at this
  obtain ⟨m, hm9, rfl⟩ : ∃ m, m ≤ 9 ∧ z = nI m := by
    obtain ⟨z1, z2⟩ := hok.2.2.1
    obtain ⟨m, hm, e⟩ := nI_of (x := z) (fun q => by
      have q2 := Int32.lt_of_le_of_lt z1 q
      exact absurd q2 (by decide))
    subst e
    exact ⟨m, (nI_leI hm (by decide)).mp z2, rfl⟩
  have h9' : X 53 113 = nI h := h9.1
  have h12' : ∀ b, b < nb → X 53 b = M 0 (10 + 5 * b + 2) ∧ X 53 (6 + b) = M 0 (10 + 5 * b + 3) := h12
  have h17' : ∀ i, i < 100 → X 53 (12 + i) = M 0 (150 + i) := h17
  generalize hM1 : mBlow1 tx M nu jx jy (nI m) = M1
  have eO : ∀ j, j < 410 → j ≠ 6 → (j ≠ 9 ∧ j ≠ 250 + 4 * nu + 3 ∧ j ≠ 250 + 4 * nu + 2 ∧ j ≠ 250 + 4 * nu + 1 ∧ j ≠ 250 + 4 * nu ∧ j ≠ 150 + 10 * jx + 4 + jy ∧ j ≠ 150 + 10 * jx + 2 ∧ j ≠ 10 + 5 * jy + 3 ∧ j ≠ 10 + 5 * jy + 2) → M1 0 j = M 0 j := fun j q1 q2 q3 => by rw [← hM1]; exact (mBlow1_e (Or.inr q3)).trans (mKeepC_lo q1 q2)
  have eH : ∀ j, (410 ≤ j ∨ j = 6) → M1 0 j = mKeepC M 0 j := fun j q1 => by rw [← hM1]; exact mBlow1_e (Or.inr (by omega))
  have e9 : M1 0 9 = nI (nu + 1) := by rw [← hM1]; unfold mBlow1; exact up2_at
  have eb3 : M1 0 (250 + 4 * nu + 3) = M 0 3 := by rw [← hM1]; unfold mBlow1; (repeat rw [up2_ne (Or.inr (by omega))]); exact up2_at
  have eb2 : M1 0 (250 + 4 * nu + 2) = nI m := by rw [← hM1]; unfold mBlow1; (repeat rw [up2_ne (Or.inr (by omega))]); exact up2_at
  have eb1 : M1 0 (250 + 4 * nu + 1) = nI jy := by rw [← hM1]; unfold mBlow1; (repeat rw [up2_ne (Or.inr (by omega))]); exact up2_at
  have eb0 : M1 0 (250 + 4 * nu) = nI jx := by rw [← hM1]; unfold mBlow1; (repeat rw [up2_ne (Or.inr (by omega))]); exact up2_at
  have ep4 : M1 0 (150 + 10 * jx + 4 + jy) = M 0 (150 + 10 * jx + 4 + jy) + nI m := by rw [← hM1]; unfold mBlow1; (repeat rw [up2_ne (Or.inr (by omega))]); exact up2_at
  have ep2 : M1 0 (150 + 10 * jx + 2) = M 0 (150 + 10 * jx + 2) + nI m := by rw [← hM1]; unfold mBlow1; (repeat rw [up2_ne (Or.inr (by omega))]); exact up2_at
  have eg3 : M1 0 (10 + 5 * jy + 3) = M 0 (10 + 5 * jy + 3) + nI m := by rw [← hM1]; unfold mBlow1; (repeat rw [up2_ne (Or.inr (by omega))]); exact up2_at
  have eg2 : M1 0 (10 + 5 * jy + 2) = M 0 (10 + 5 * jy + 2) - nI m * mCost tx M jy (M 0 3) := by rw [← hM1]; unfold mBlow1; (repeat rw [up2_ne (Or.inr (by omega))]); exact up2_at
  generalize hX1 : xBlow1 X ns jx jy (nI m) (mCost tx M jy (nI h) * nI m) = X1
  have xR : ∀ q, q ≠ 53 → X1 q = xKeep X ns q := fun q hq => by rw [← hX1]; unfold xBlow1; rw [up2_row hq, up2_row hq, up2_row hq, up2_row hq]
  have x4 : X1 53 (12 + 10 * jx + (4 + jy)) = X 53 (12 + 10 * jx + (4 + jy)) + nI m := by rw [← hX1]; unfold xBlow1; exact up2_at
  have x2 : X1 53 (12 + 10 * jx + 2) = X 53 (12 + 10 * jx + 2) + nI m := by rw [← hX1]; unfold xBlow1; (repeat rw [up2_ne (Or.inr (by omega))]); exact up2_at
  have xg : X1 53 (6 + jy) = X 53 (6 + jy) + nI m := by rw [← hX1]; unfold xBlow1; (repeat rw [up2_ne (Or.inr (by omega))]); exact up2_at
  have xb : X1 53 jy = X 53 jy - mCost tx M jy (nI h) * nI m := by rw [← hX1]; unfold xBlow1; (repeat rw [up2_ne (Or.inr (by omega))]); exact up2_at
  have xO : ∀ j, j ≠ 12 + 10 * jx + (4 + jy) → j ≠ 12 + 10 * jx + 2 → j ≠ 6 + jy → j ≠ jy → X1 53 j = X 53 j := fun j q1 q2 q3 q4 => by
    rw [← hX1]; unfold xBlow1
    rw [up2_ne (Or.inr q1), up2_ne (Or.inr q2), up2_ne (Or.inr q3), up2_ne (Or.inr q4)]
    exact congrFun (xKeep_lo c3 (by decide) (by decide)) j
  -- rows of the two between
  have pE : ∀ i, i < 100 → X1 53 (12 + i) = M1 0 (150 + i) := fun i hi => by
    by_cases e1 : i = 10 * jx + 4 + jy
    · subst e1
      have q1 := h17' (10 * jx + 4 + jy) hi
      rw [show 12 + (10 * jx + 4 + jy) = 12 + 10 * jx + (4 + jy) by omega] at q1 ⊢
      rw [show 150 + (10 * jx + 4 + jy) = 150 + 10 * jx + 4 + jy by omega] at q1 ⊢
      rw [x4, ep4, q1]
    by_cases e2 : i = 10 * jx + 2
    · subst e2
      have q1 := h17' (10 * jx + 2) hi
      rw [show 12 + (10 * jx + 2) = 12 + 10 * jx + 2 by omega] at q1 ⊢
      rw [show 150 + (10 * jx + 2) = 150 + 10 * jx + 2 by omega] at q1 ⊢
      rw [x2, ep2, q1]
    rw [xO _ (by omega) (by omega) (by omega) (by omega), eO _ (by omega) (by omega) (by omega)]
    exact h17' i hi
  have hv : xVoices X1 jx nb = mVoices M1 nb jx nb := xVoices_eq (nb := nb) (fun b hb => by
      have := pE (10 * jx + (4 + b)) (by omega)
      rwa [show 12 + (10 * jx + (4 + b)) = 12 + 10 * jx + (4 + b) by omega, show 150 + (10 * jx + (4 + b)) = 150 + 10 * jx + 4 + b by omega] at this) (fun b hb => by
      rw [xR _ (by omega), xKeep_lo c3 (by omega) (by omega), eO _ (by omega) (by omega) (by omega)]; exact (h11 b hb).2.1) nb nb (Nat.le_refl _)
  have w0 : X1 (67 + k) 0 = M1 0 (40 + 3 * k) := by rw [xR _ (by omega), xKeep_lo c3 (by omega) (by omega), eO _ (by omega) (by omega) (by omega)]; exact (h14 k hk).1
  have w1 : X1 (67 + k) 1 = M1 0 (40 + 3 * k + 1) := by rw [xR _ (by omega), xKeep_lo c3 (by omega) (by omega), eO _ (by omega) (by omega) (by omega)]; exact (h14 k hk).2.1
  have w2 : X1 53 (12 + 10 * jx + 2) = M1 0 (150 + 10 * jx + 2) := by have := pE (10 * jx + 2) (by omega); rwa [show 12 + (10 * jx + 2) = 12 + 10 * jx + 2 by omega, show 150 + (10 * jx + 2) = 150 + 10 * jx + 2 by omega] at this
  have hst : xState X1 nb jx k = mBlow2 M1 nb jx k 0 (150 + 10 * jx + 1) := by
    unfold xState mBlow2
    rw [w0, w1, w2, hv]
    by_cases d1 : M1 0 (150 + 10 * jx + 2) < M1 0 (40 + 3 * k)
    · rw [pif_t d1, pif_t d1, eO _ (by omega) (by omega) (by omega), st0]; rfl
    · rw [pif_f d1, pif_f d1]
      by_cases d2 : M1 0 (150 + 10 * jx + 2) = M1 0 (40 + 3 * k) ∧ (M1 0 (40 + 3 * k + 1) &&& (mVoices M1 nb jx nb ^^^ (-1))) = 0
      · rw [pif_t d2, pif_t d2, up2_at]
      · rw [pif_f d2, pif_f d2, up2_at]
  refine ⟨?_, hst⟩
  have eS : ∀ j, j ≠ 150 + 10 * jx + 1 → mBlow2 M1 nb jx k 0 j = M1 0 j := fun j hj => mBlow2_e (Or.inr hj)
  unfold xBlowM
  rw [hX1, hst]
  generalize hs2 : mBlow2 M1 nb jx k 0 (150 + 10 * jx + 1) = st
  generalize hX2 : xBlow2 X1 nu jx jy (nI m) (nI h) st = X2
  have yR : ∀ q, q ≠ 53 → X2 q = X1 q := fun q hq => by rw [← hX2]; unfold xBlow2; rw [up2_row hq, upr_ne hq, up2_row hq]
  have y114 : X2 53 114 = nI (nu + 1) := by rw [← hX2]; unfold xBlow2; exact up2_at
  have yO : ∀ j, j ≠ 114 → (j < 115 + 4 * nu ∨ 115 + 4 * nu + 4 ≤ j) → j ≠ 12 + 10 * jx + 1 → X2 53 j = X1 53 j := fun j q1 q2 q3 => by
    rw [← hX2]; unfold xBlow2
    rw [up2_ne (Or.inr q1), upr_at, pk_cpy_out q2]
    exact up2_ne (Or.inr q3)
  have yS : X2 53 (12 + 10 * jx + 1) = st := by
    rw [← hX2]; unfold xBlow2
    rw [up2_ne (Or.inr (by omega)), upr_at, pk_cpy_out (Or.inl (by omega))]
    exact up2_at
  have yN : ∀ i, i < 4 → X2 53 (115 + 4 * nu + i) = upd (upd (upd (upd (fun _ => 0) 0 (nI jx)) 1 (nI jy)) 2 (nI m)) 3 (nI h) i := fun i hi => by
    rw [← hX2]; unfold xBlow2
    rw [up2_ne (Or.inr (by omega)), upr_at, pk_cpy_in (by omega) (by omega), show 0 + (115 + 4 * nu + i - (115 + 4 * nu)) = i by omega]
  have aO : ∀ j, j < 410 → j ≠ 6 → j ≠ 150 + 10 * jx + 1 → (j ≠ 9 ∧ j ≠ 250 + 4 * nu + 3 ∧ j ≠ 250 + 4 * nu + 2 ∧ j ≠ 250 + 4 * nu + 1 ∧ j ≠ 250 + 4 * nu ∧ j ≠ 150 + 10 * jx + 4 + jy ∧ j ≠ 150 + 10 * jx + 2 ∧ j ≠ 10 + 5 * jy + 3 ∧ j ≠ 10 + 5 * jy + 2) → mBlow2 M1 nb jx k 0 j = M 0 j := fun j q1 q2 q3 q4 => (eS j q3).trans (eO j q1 q2 q4)
  have hcomm : mCost tx M jy (nI h) * nI m = nI m * mCost tx M jy (M 0 3) := by rw [h9.2.1, Int32.mul_comm]
  refine RS_put hR (fun k _ => (yR _ (by omega)).trans (xR _ (by omega))) (congrFun ((yR 52 (by decide)).trans (xR 52 (by decide))) 4) (fun j hj => (eS j (by omega)).trans (eH j (Or.inl hj))) ((eS 6 (by omega)).trans (eH 6 (Or.inr rfl))) (fun i hi => aO _ (by omega) (by omega) (by omega) (by omega)) (Nat.le_succ _) (RB.row (fun j hj => (congrFun ((yR 52 (by decide)).trans (xR 52 (by decide))) j).trans (xKeep_52 c3 hj)) (fun k q1 q2 => (yR _ (by omega)).trans ((xR _ (by omega)).trans (xKeep_lo c3 (by omega) (by omega)))) (fun j q1 q2 q3 q4 q5 q6 => by
      have q7 := q6 jy (by omega)
      exact aO j (by omega) (by omega) (by omega) (by omega)) ⟨?_, ?_, p10⟩ ⟨?_, ?_, h9.2.2⟩ ⟨y114, (eS 9 (by omega)).trans e9, by omega⟩ (fun b hb => ⟨?_, ?_⟩) (fun b hb hb6 => ?_) (fun i hi => ?_) (fun i hi => ?_) (fun q hq => ?_) (fun i hi => ?_) (fun q b hq hb => ?_) hB0)
  · exact (yO 112 (by decide) (by omega) (by omega)).trans ((xO 112 (by omega) (by omega) (by omega) (by omega)).trans h8.1)
  · exact (aO 2 (by decide) (by decide) (by omega) (by omega)).trans h8.2.1
  · exact (yO 113 (by decide) (by omega) (by omega)).trans ((xO 113 (by omega) (by omega) (by omega) (by omega)).trans h9.1)
  · exact (aO 3 (by decide) (by decide) (by omega) (by omega)).trans h9.2.1
  · refine (yO b (by omega) (by omega) (by omega)).trans ?_
    rw [eS _ (by omega)]
    by_cases e : b = jy
    · subst e; rw [xb, eg2, (h12' b hb).1, hcomm]
    · rw [xO b (by omega) (by omega) (by omega) e, eO _ (by omega) (by omega) (by omega)]; exact (h12' b hb).1
  · refine (yO (6 + b) (by omega) (by omega) (by omega)).trans ?_
    rw [eS _ (by omega)]
    by_cases e : b = jy
    · subst e; rw [xg, eg3, (h12' b hb).2]
    · rw [xO (6 + b) (by omega) (by omega) (by omega) (by omega), eO _ (by omega) (by omega) (by omega)]; exact (h12' b hb).2
  · exact (yO (6 + b) (by omega) (by omega) (by omega)).trans ((xO (6 + b) (by omega) (by omega) (by omega) (by omega)).trans (h13 b hb hb6))
  · by_cases e : i = 10 * jx + 1
    · subst e
      have q1 := yS
      rw [show 12 + 10 * jx + 1 = 12 + (10 * jx + 1) by omega] at q1
      refine q1.trans ?_
      rw [← hs2, show 150 + (10 * jx + 1) = 150 + 10 * jx + 1 by omega]
    · exact (yO (12 + i) (by omega) (by omega) (by omega)).trans ((pE i hi).trans (eS _ (by omega)).symm)
  · by_cases e : i < 4 * nu
    · refine (yO (115 + i) (by omega) (by omega) (by omega)).trans ((xO (115 + i) (by omega) (by omega) (by omega) (by omega)).trans ?_)
      rw [aO _ (by omega) (by omega) (by omega) (by omega)]; exact h18 i e
    · obtain ⟨t, ht, rfl⟩ : ∃ t, t < 4 ∧ i = 4 * nu + t := ⟨i - 4 * nu, by omega, by omega⟩
      have q1 := yN t ht
      rw [show 115 + 4 * nu + t = 115 + (4 * nu + t) by omega] at q1
      refine q1.trans ?_
      rw [eS _ (by omega), show 250 + (4 * nu + t) = 250 + 4 * nu + t by omega]
      obtain rfl | rfl | rfl | rfl : t = 0 ∨ t = 1 ∨ t = 2 ∨ t = 3 := by omega
      · exact eb0.symm
      · exact eb1.symm
      · exact eb2.symm
      · exact (eb3.trans h9.2.1).symm
  · rw [aO _ (by omega) (by omega) (by omega) (by omega)]; exact h19 q hq
  · by_cases e : i = nu
    · subst e; exact ⟨m, hm9, (eS _ (by omega)).trans eb2⟩
    · rw [aO _ (by omega) (by omega) (by omega) (by omega)]; exact v4 i (by omega)
  · by_cases e : q = jx ∧ b = jy
    · obtain ⟨rfl, rfl⟩ := e
      obtain ⟨v, g1, g2⟩ := v5 q b hq hb
      exact ⟨v + m, by omega, by rw [eS _ (by omega), ep4, g2, nI_add]⟩
    · rw [aO _ (by omega) (by omega) (by omega) (by omega)]
      obtain ⟨v, g1, g2⟩ := v5 q b hq hb
      exact ⟨v, by omega, g2⟩
theorem RS_blows (hR : RS X 51 (M 0) nb nk nx np h nu ns ne nt) (x y z : Int32) : xBlowR tx M X np nb nu ns h x y z = mBlowR tx M np nb nu x y z ∧ ∃ nu' ns', RS (xBlow tx M X np nb nu ns h x y z) 51 (mBlow tx M np nb nu x y z 0) nb nk nx np h nu' ns' ne nt := by
  obtain ⟨hB, -, -⟩ := RS_iff.mp hR
  obtain ⟨h1, h2, -, -, -, -, h8, -, h10, -, -, -, -, -, -, -, -, h19, -⟩ := hB
  have b6 := h1.2.2
  have k6 := h2.2.2
  have p10 := h8.2.2
  have u40 := h10.2.2
  by_cases ok : mBlowOk tx M np nb nu x y z
  · obtain ⟨jx, hjx, rfl⟩ := vp_in_of ok.1 (by omega)
    obtain ⟨jy, hjy, rfl⟩ := vp_in_of ok.2.1 (by omega)
    obtain ⟨k, hk, ek⟩ := h19 jx hjx
    obtain ⟨q1, q2⟩ := RS_blow hR hjx hjy hk ek ok
    have ex : cl (nI jx) = jx := nI_clamp (by omega)
    have ey : cl (nI jy) = jy := nI_clamp (by omega)
    have em : mBlow1 tx M nu jx jy z 0 (150 + 10 * jx) = nI k := (mBlow1_e (Or.inr (by omega))).trans ((mKeepC_lo (by omega) (by omega)).trans ek)
    have ecl : cl (nI k) = k := nI_clamp (by omega)
    refine ⟨?_, nu + 1, min ns 29 + 1, ?_⟩
    · unfold xBlowR mBlowR mBlow
      rw [pif_t ok, pif_t ok, pif_t ok, ex, ey, ek, em, ecl]
      exact q2
    · unfold xBlow mBlow
      rw [pif_t ok, pif_t ok, ex, ey, ek, em, ecl]
      exact q1
  · refine ⟨?_, nu, ns, ?_⟩
    · unfold xBlowR mBlowR
      rw [pif_f ok, pif_f ok]
    · unfold xBlow mBlow
      rw [pif_f ok, pif_f ok]
      exact hR
end BL
