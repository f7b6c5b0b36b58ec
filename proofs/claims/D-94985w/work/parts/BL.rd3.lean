/-! What a line and a sum leave in the twin's array (hand-written, without the program) -/
theorem soO_l7 {tp : Nat → Nat} {t p s : Nat} (h : soO tp t p = some s) : s < 7 := by
  rcases soO_by tp t p with ⟨i, h1, h2, e⟩ | ⟨_, e⟩
  · rw [h] at e; obtain rfl := Option.some.inj e; exact h1
  · rw [h] at e; cases e
theorem lin_M {tp : Nat → Nat} {t s k p : Nat} {M : Nat → Nat → Int32} (h4 : 4 ≤ s) (h7 : s < 7) (h : (lnc tp t s p).1 = 0) : (lin tp t s k p M).2.1 2 (k + 1) = nI (lnc tp t s p).2.1 ∧ (s = 5 → (lin tp t s k p M).2.1 2 (k + 2) = nI (lnc tp t s p).2.2.1) ∧ ∀ k2 j, (k2 ≠ 2 ∨ (j ≠ k + 1 ∧ j ≠ k + 2)) → (lin tp t s k p M).2.1 k2 j = M k2 j := by
  rw [← (lin_lnc (k := k) (M := M)).1] at h
  unfold lnc
  dsimp only
  unfold lin at h ⊢
  by_cases e4 : s = 4
  · rw [if_pos e4] at h ⊢
    have h : fgO tp t p 0 5 = 0 := h
    dsimp only
    rw [pif_t h]
    exact ⟨up2_at, fun e => absurd e (by omega), fun k2 j hj => up2_ne (by omega)⟩
  · rw [if_neg e4] at h ⊢
    by_cases e6 : s = 6
    · rw [if_pos e6] at h ⊢
      have h : fgO tp t p 1 99 = 0 := h
      dsimp only
      rw [pif_t h]
      exact ⟨up2_at, fun e => absurd e (by omega), fun k2 j hj => up2_ne (by omega)⟩
    · rw [if_neg e6] at h ⊢
      unfold blw at h ⊢
      by_cases h1 : fgO tp t p 0 9 = 0
      · rw [if_pos h1] at h ⊢
        by_cases h2 : lxT tp t (lxQ tp t p) = 2 ∧ lxW tp t (lxQ tp t p) = (25209)
        · rw [if_pos h2] at h ⊢
          by_cases h3 : fgO tp t (lxQ tp t (lxQ tp t p)) 0 5 = 0
          · rw [if_pos h3] at h ⊢
            by_cases h4 : lxT tp t (lxQ tp t (lxQ tp t (lxQ tp t p))) = 2 ∧ lxW tp t (lxQ tp t (lxQ tp t (lxQ tp t p))) = w8 (w8 (w8 (lN 103) 105) 118) 101
            · rw [if_pos h4] at h ⊢
              by_cases h5 : fgO tp t (lxQ tp t (lxQ tp t (lxQ tp t (lxQ tp t p)))) 1 9 = 0
              · rw [if_pos h5]
                dsimp only
                refine ⟨?_, fun e => by rw [if_pos e]; exact up2_at, fun k2 j hj => ?_⟩
                · rw [up2_ne (Or.inr (by omega)), up2_ne (Or.inr (by omega)), up2_ne (Or.inr (by omega))]; exact up2_at
                · rw [up2_ne (by omega), up2_ne (by omega), up2_ne (by omega), up2_ne (by omega)]
              · rw [if_neg h5] at h; exact absurd h h5
            · rw [if_neg h4] at h; exact absurd h Nat.one_ne_zero
          · rw [if_neg h3] at h; exact absurd h h3
        · rw [if_neg h2] at h; exact absurd h Nat.one_ne_zero
      · rw [if_neg h1] at h; exact absurd h h1
/-- what a sum's clause leaves -/
noncomputable def sumM (M : Nat → Nat → Int32) (tx c n s : Nat) (L : Cd) : Nat → Nat → Int32 := up2 (up2 (up2 (putC (up2 M 2 (680 * tx + 1 + 3 * c) (nI s)) (680 * tx + 75) n L) 2 (680 * tx + 1 + 3 * c + 1) (nI n)) 2 (680 * tx + 1 + 3 * c + 2) (nI (n + L.length))) 2 (680 * tx) (nI (c + 1))
theorem sumM_fr {M : Nat → Nat → Int32} {tx c n s : Nat} {L : Cd} (hc : c < 24) {k j : Nat} (h : k ≠ 2 ∨ (j ≠ 680 * tx ∧ (j < 680 * tx + 1 + 3 * c ∨ 680 * tx + 3 + 3 * c < j) ∧ (j < 680 * tx + 75 + 2 * n ∨ 680 * tx + 75 + 2 * (n + L.length) ≤ j))) : sumM M tx c n s L k j = M k j := by
  unfold sumM
  rw [up2_ne (by omega), up2_ne (by omega), up2_ne (by omega)]
  by_cases e : k = 2
  · subst e
    have h : j ≠ 680 * tx ∧ (j < 680 * tx + 1 + 3 * c ∨ 680 * tx + 3 + 3 * c < j) ∧ (j < 680 * tx + 75 + 2 * n ∨ 680 * tx + 75 + 2 * (n + L.length) ≤ j) := by omega
    by_cases g : j < 680 * tx + 75 + 2 * n
    · rw [putC_lo _ _ _ _ _ g, up2_ne (by omega)]
    · rw [putC_hi _ _ _ _ _ (by omega), up2_ne (by omega)]
  · rw [putC_k _ e, up2_ne (by omega)]
theorem sumM_C {M : Nat → Nat → Int32} {tx c n s : Nat} {L : Cd} (hc : c < 24) (hs : s < 4) : kC2 (sumM M tx c n s L) tx (n + L.length) c (s, L, 0, 0) ∧ sumM M tx c n s L 2 (680 * tx) = nI (c + 1) := by
  refine ⟨⟨by dsimp only; omega, ?_, fun _ => ⟨n, ?_, ?_, Nat.le_refl _, ?_⟩, fun h => absurd h (by dsimp only; omega)⟩, up2_at⟩
  · unfold sumM
    rw [up2_ne (by omega), up2_ne (by omega), up2_ne (by omega), putC_lo _ _ _ _ _ (by omega)]
    exact up2_at
  · unfold sumM
    rw [up2_ne (by omega), up2_ne (by omega)]
    exact up2_at
  · unfold sumM
    rw [up2_ne (by omega)]
    exact up2_at
  · refine kAt_fr L n (fun j h1 h2 => ?_) (putC_at (680 * tx + 75) L (up2 M 2 (680 * tx + 1 + 3 * c) (nI s)) n)
    unfold sumM
    rw [up2_ne (by omega), up2_ne (by omega), up2_ne (by omega)]
