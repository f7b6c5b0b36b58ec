theorem mSt_of2 {tx : kT} {M M2 : Nat → Nat → Int32} {nb nk np h ns nu nb2 nk2 : Nat} (hS : mSt tx M nb nk np h ns nu) (e0 : M2 0 0 = nI nb2) (hb : nb2 ≤ 6) (e1 : M2 0 1 = nI nk2) (hk2 : nk2 ≤ 6) (hl : ∀ j, j = 2 ∨ j = 3 ∨ j = 5 ∨ j = 6 ∨ j = 9 ∨ (150 ≤ j ∧ j < 250) → M2 0 j = M 0 j) (ek : ∀ j, M2 2 j = M 2 j) : mSt tx M2 nb2 nk2 np h ns nu := by
  have hp := hS.2.2.1.2
  refine ⟨⟨e0, hb⟩, ⟨e1, hk2⟩, ⟨(hl 2 (by omega)).trans hS.2.2.1.1, hp⟩, ⟨(hl 3 (by omega)).trans hS.2.2.2.1.1, hS.2.2.2.1.2⟩, ⟨(hl 6 (by omega)).trans hS.2.2.2.2.1.1, hS.2.2.2.2.1.2⟩, ⟨(hl 9 (by omega)).trans hS.2.2.2.2.2.1.1, hS.2.2.2.2.2.1.2⟩, fun q hq => ?_, mTx_congr (hl 5 (by omega)) (funext ek) hS.2.2.2.2.2.2.2⟩
  obtain ⟨k, h1, h2⟩ := hS.2.2.2.2.2.2.1 q hq
  exact ⟨k, h1, (hl _ (by omega)).trans h2⟩
theorem mSt_blower {tx : kT} {M : Nat → Nat → Int32} {nb nk np h ns nu : Nat} {x y z : Int32} (hS : mSt tx M nb nk np h ns nu) (hb : nb < 6) : mSt tx (mBlPut M nb x y z) (nb + 1) nk np h ns nu ∧ (∀ k j, k ≠ 0 → (mBlPut M nb x y z) k j = M k j) ∧ (mBlPut M nb x y z) 0 4 = M 0 4 := by
  unfold mBlPut
  refine ⟨mSt_of2 hS up2_at (by omega) ?_ hS.2.1.2 (fun j hj => ?_) (fun j => ?_), fun k j hk => ?_, ?_⟩
  · rw [up2_ne (Or.inr (by decide)), up2_ne (Or.inr (by omega)), up2_ne (Or.inr (by omega)), up2_ne (Or.inr (by omega)), up2_ne (Or.inr (by omega)), up2_ne (Or.inr (by omega))]
    exact hS.2.1.1
  · rw [up2_ne (Or.inr (by omega)), up2_ne (Or.inr (by omega)), up2_ne (Or.inr (by omega)), up2_ne (Or.inr (by omega)), up2_ne (Or.inr (by omega)), up2_ne (Or.inr (by omega))]
  · rw [up2_ne (Or.inl (by decide)), up2_ne (Or.inl (by decide)), up2_ne (Or.inl (by decide)), up2_ne (Or.inl (by decide)), up2_ne (Or.inl (by decide)), up2_ne (Or.inl (by decide))]
  · rw [up2_ne (Or.inl hk), up2_ne (Or.inl hk), up2_ne (Or.inl hk), up2_ne (Or.inl hk), up2_ne (Or.inl hk), up2_ne (Or.inl hk)]
  · rw [up2_ne (Or.inr (by decide)), up2_ne (Or.inr (by omega)), up2_ne (Or.inr (by omega)), up2_ne (Or.inr (by omega)), up2_ne (Or.inr (by omega)), up2_ne (Or.inr (by omega))]
theorem mSt_kind {tx : kT} {M : Nat → Nat → Int32} {nb nk np h ns nu : Nat} {x y z : Int32} (hS : mSt tx M nb nk np h ns nu) (hb : nk < 6) : mSt tx (mKiPut M nk x y z) nb (nk + 1) np h ns nu ∧ (∀ k j, k ≠ 0 → (mKiPut M nk x y z) k j = M k j) ∧ (mKiPut M nk x y z) 0 4 = M 0 4 := by
  unfold mKiPut
  refine ⟨mSt_of2 hS ?_ hS.1.2 up2_at (by omega) (fun j hj => ?_) (fun j => ?_), fun k j hk => ?_, ?_⟩
  · rw [up2_ne (Or.inr (by decide)), up2_ne (Or.inr (by omega)), up2_ne (Or.inr (by omega)), up2_ne (Or.inr (by omega))]
    exact hS.1.1
  · rw [up2_ne (Or.inr (by omega)), up2_ne (Or.inr (by omega)), up2_ne (Or.inr (by omega)), up2_ne (Or.inr (by omega))]
  · rw [up2_ne (Or.inl (by decide)), up2_ne (Or.inl (by decide)), up2_ne (Or.inl (by decide)), up2_ne (Or.inl (by decide))]
  · rw [up2_ne (Or.inl hk), up2_ne (Or.inl hk), up2_ne (Or.inl hk), up2_ne (Or.inl hk)]
  · rw [up2_ne (Or.inr (by decide)), up2_ne (Or.inr (by omega)), up2_ne (Or.inr (by omega)), up2_ne (Or.inr (by omega))]
theorem mSt_quarrel {tx : kT} {M : Nat → Nat → Int32} {nb nk np h ns nu : Nat} {x y w : Int32} (hS : mSt tx M nb nk np h ns nu) : mSt tx (mQuarrel M nb x y w) nb nk np h ns nu ∧ (∀ k j, k ≠ 0 → (mQuarrel M nb x y w) k j = M k j) ∧ (mQuarrel M nb x y w) 0 4 = M 0 4 := by
  unfold mQuarrel
  have hb6 := hS.1.2
  by_cases a : vp_in x nb ∧ vp_in y nb ∧ ¬ x = y
  · obtain ⟨jx, hx, rfl⟩ := vp_in_of a.1 (by omega)
    obtain ⟨jy, hy, rfl⟩ := vp_in_of a.2.1 (by omega)
    rw [pif_t a, show cl (nI jx) = jx from nI_clamp (by omega), show cl (nI jy) = jy from nI_clamp (by omega)]
    refine ⟨mSt_of2 hS ?_ hS.1.2 ?_ hS.2.1.2 (fun j hj => ?_) (fun j => ?_), fun k j hk => ?_, ?_⟩
    · rw [up2_ne (Or.inr (by omega)), up2_ne (Or.inr (by omega))]; exact hS.1.1
    · rw [up2_ne (Or.inr (by omega)), up2_ne (Or.inr (by omega))]; exact hS.2.1.1
    · rw [up2_ne (Or.inr (by omega)), up2_ne (Or.inr (by omega))]
    · rw [up2_ne (Or.inl (by decide)), up2_ne (Or.inl (by decide))]
    · rw [up2_ne (Or.inl hk), up2_ne (Or.inl hk)]
    · rw [up2_ne (Or.inr (by omega)), up2_ne (Or.inr (by omega))]
  · rw [pif_f a]
    exact ⟨hS, fun _ _ _ => rfl, rfl⟩
theorem mSt_tell {tx : kT} {M : Nat → Nat → Int32} {nb nk np h ns nu nt : Nat} {x y z w : Int32} (hS : mSt tx M nb nk np h ns nu) (ht : nt < 20) : mSt tx (mTellPut M nt x y z w) nb nk np h ns nu ∧ (∀ k j, k ≠ 0 → (mTellPut M nt x y z w) k j = M k j) ∧ (mTellPut M nt x y z w) 0 4 = M 0 4 := by
  unfold mTellPut
  refine ⟨mSt_of2 hS ?_ hS.1.2 ?_ hS.2.1.2 (fun j hj => ?_) (fun j => ?_), fun k j hk => ?_, ?_⟩
  · rw [up2_ne (Or.inr (by decide)), up2_ne (Or.inr (by omega)), up2_ne (Or.inr (by omega)), up2_ne (Or.inr (by omega)), up2_ne (Or.inr (by omega))]; exact hS.1.1
  · rw [up2_ne (Or.inr (by decide)), up2_ne (Or.inr (by omega)), up2_ne (Or.inr (by omega)), up2_ne (Or.inr (by omega)), up2_ne (Or.inr (by omega))]; exact hS.2.1.1
  · rw [up2_ne (Or.inr (by omega)), up2_ne (Or.inr (by omega)), up2_ne (Or.inr (by omega)), up2_ne (Or.inr (by omega)), up2_ne (Or.inr (by omega))]
  · rw [up2_ne (Or.inl (by decide)), up2_ne (Or.inl (by decide)), up2_ne (Or.inl (by decide)), up2_ne (Or.inl (by decide)), up2_ne (Or.inl (by decide))]
  · rw [up2_ne (Or.inl hk), up2_ne (Or.inl hk), up2_ne (Or.inl hk), up2_ne (Or.inl hk), up2_ne (Or.inl hk)]
  · rw [up2_ne (Or.inr (by decide)), up2_ne (Or.inr (by omega)), up2_ne (Or.inr (by omega)), up2_ne (Or.inr (by omega)), up2_ne (Or.inr (by omega))]
