theorem mBlow1_e {tx : kT} {M : Nat → Nat → Int32} {nu jx jy k j : Nat} {z : Int32} (h : k ≠ 0 ∨ (j ≠ 9 ∧ j ≠ 250 + 4 * nu + 3 ∧ j ≠ 250 + 4 * nu + 2 ∧ j ≠ 250 + 4 * nu + 1 ∧ j ≠ 250 + 4 * nu ∧ j ≠ 150 + 10 * jx + 4 + jy ∧ j ≠ 150 + 10 * jx + 2 ∧ j ≠ 10 + 5 * jy + 3 ∧ j ≠ 10 + 5 * jy + 2)) : mBlow1 tx M nu jx jy z k j = mKeepC M k j := by
  unfold mBlow1
  rw [up2_ne (by omega), up2_ne (by omega), up2_ne (by omega), up2_ne (by omega), up2_ne (by omega), up2_ne (by omega), up2_ne (by omega), up2_ne (by omega), up2_ne (by omega)]
theorem mBlow2_e {M : Nat → Nat → Int32} {nb q kk k j : Nat} (h : k ≠ 0 ∨ j ≠ 150 + 10 * q + 1) : mBlow2 M nb q kk k j = M k j := by
  unfold mBlow2
  by_cases a : M 0 (150 + 10 * q + 2) < M 0 (40 + 3 * kk)
  · rw [pif_t a]
  · rw [pif_f a]
    by_cases b : M 0 (150 + 10 * q + 2) = M 0 (40 + 3 * kk) ∧ (M 0 (40 + 3 * kk + 1) &&& (mVoices M nb q nb ^^^ (-1))) = 0
    · rw [pif_t b, up2_ne h]
    · rw [pif_f b, up2_ne h]
theorem mSt_blow {tx : kT} {M : Nat → Nat → Int32} {nb nk np h ns nu : Nat} {x y z : Int32} (hS : mSt tx M nb nk np h ns nu) : ∃ ns2 nu2, mSt tx (mBlow tx M np nb nu x y z) nb nk np h ns2 nu2 ∧ (∀ k j, k ≠ 0 → (mBlow tx M np nb nu x y z) k j = M k j) ∧ (mBlow tx M np nb nu x y z) 0 4 = M 0 4 := by
  by_cases ok : mBlowOk tx M np nb nu x y z
  · have hx := ok.1
    have hy := ok.2.1
    have hn40 := ok.2.2.2.2.1
    have hp10 := hS.2.2.1.2
    have hb6 := hS.1.2
    have hu40 := hS.2.2.2.2.2.1.2
    obtain ⟨jx, hjx, rfl⟩ := vp_in_of hx (by omega)
    obtain ⟨jy, hjy, rfl⟩ := vp_in_of hy (by omega)
    unfold mBlow
    rw [pif_t ok, show cl (nI jx) = jx from nI_clamp (by omega), show cl (nI jy) = jy from nI_clamp (by omega)]
    have hK : ∀ k j kk, k ≠ 0 → mBlow2 (mBlow1 tx M nu jx jy z) nb jx kk k j = M k j := fun k j kk hk => (mBlow2_e (Or.inl hk)).trans ((mBlow1_e (Or.inl hk)).trans (mKeepC_k hk))
    have hL : ∀ j kk, j < 410 → j ≠ 6 → j ≠ 150 + 10 * jx + 1 → (j ≠ 9 ∧ j ≠ 250 + 4 * nu + 3 ∧ j ≠ 250 + 4 * nu + 2 ∧ j ≠ 250 + 4 * nu + 1 ∧ j ≠ 250 + 4 * nu ∧ j ≠ 150 + 10 * jx + 4 + jy ∧ j ≠ 150 + 10 * jx + 2 ∧ j ≠ 10 + 5 * jy + 3 ∧ j ≠ 10 + 5 * jy + 2) → mBlow2 (mBlow1 tx M nu jx jy z) nb jx kk 0 j = M 0 j := fun j kk h1 h2 h3 h4 => (mBlow2_e (Or.inr h3)).trans ((mBlow1_e (Or.inr h4)).trans (mKeepC_lo h1 h2))
    have h6 : ∀ kk, mBlow2 (mBlow1 tx M nu jx jy z) nb jx kk 0 6 = nI (min ns 29 + 1) := fun kk => (mBlow2_e (Or.inr (by omega))).trans ((mBlow1_e (Or.inr (by omega))).trans (mKeepC_6 hS.2.2.2.2.1.1 hS.2.2.2.2.1.2))
    have h9 : ∀ kk, mBlow2 (mBlow1 tx M nu jx jy z) nb jx kk 0 9 = nI (nu + 1) := fun kk => (mBlow2_e (Or.inr (by omega))).trans (by unfold mBlow1; exact up2_at)
    refine ⟨min ns 29 + 1, nu + 1, mSt_of hS (hL 0 _ (by decide) (by decide) (by omega) (by omega)) (hL 1 _ (by decide) (by decide) (by omega) (by omega)) ((hL 2 _ (by decide) (by decide) (by omega) (by omega)).trans hS.2.2.1.1) hp10 ((hL 3 _ (by decide) (by decide) (by omega) (by omega)).trans hS.2.2.2.1.1) hS.2.2.2.1.2 (h6 _) (by omega) (h9 _) (by omega) ?_ (hL 5 _ (by decide) (by decide) (by omega) (by omega)) (fun k j hk => hK k j _ hk), fun k j hk => hK k j _ hk, hL 4 _ (by decide) (by decide) (by omega) (by omega)⟩
    intro q hq
    obtain ⟨k, h1, h2⟩ := hS.2.2.2.2.2.2.1 q hq
    exact ⟨k, h1, (hL _ _ (by omega) (by omega) (by omega) (by omega)).trans h2⟩
  · unfold mBlow
    rw [pif_f ok]
    exact ⟨ns, nu, hS, fun _ _ _ => rfl, rfl⟩
theorem mSt_play {tx : kT} {M : Nat → Nat → Int32} {nb nk np h ns nu so : Nat} {x1 x2 : Int32} (hS : mSt tx M nb nk np h ns nu) : ∃ np2 h2 ns2 nu2, mSt tx (mPlayM tx M nb nk np h nu so x1 x2) nb nk np2 h2 ns2 nu2 ∧ (∀ k j, k ≠ 0 → (mPlayM tx M nb nk np h nu so x1 x2) k j = M k j) ∧ (mPlayM tx M nb nk np h nu so x1 x2) 0 4 = M 0 4 := by
  have hk6 := hS.2.1.2
  have hp10 := hS.2.2.1.2
  unfold mPlayM
  by_cases c4 : so = 4
  · rw [if_pos c4]
    by_cases a : vp_in x1 nk ∧ ¬ np = 10
    · obtain ⟨jx, hjx, rfl⟩ := vp_in_of a.1 (by omega)
      rw [pif_t a]
      exact ⟨_, _, _, _, mSt_begin hS hjx (by omega), fun k j hk => mBegin_k hk, (mBegin_e (by decide) (by decide) (by decide) (fun i _ _ => by omega)).trans (if_neg (by omega))⟩
    · rw [pif_f a]
      exact ⟨_, _, _, _, hS, fun _ _ _ => rfl, rfl⟩
  rw [if_neg c4]
  by_cases c5 : so = 5
  · rw [if_pos c5]
    obtain ⟨n2, u2, g1, g2, g3⟩ := mSt_blow (x := x1) (y := x2 / nI 10) (z := x2 - x2 / nI 10 * nI 10) hS
    exact ⟨_, _, _, _, g1, g2, g3⟩
  rw [if_neg c5]
  by_cases c6 : so = 6
  · rw [if_pos c6]
    by_cases a : (nI 1 ≤ x1 ∧ x1 ≤ nI 99) ∧ h + cl x1 ≤ 999
    · rw [pif_t a]
      obtain ⟨n2, g1, g2, g3⟩ := mSt_later hS a.2
      exact ⟨_, _, _, _, g1, g2, g3⟩
    · rw [pif_f a]
      exact ⟨_, _, _, _, hS, fun _ _ _ => rfl, rfl⟩
  rw [if_neg c6]
  exact ⟨_, _, _, _, hS, fun _ _ _ => rfl, rfl⟩
