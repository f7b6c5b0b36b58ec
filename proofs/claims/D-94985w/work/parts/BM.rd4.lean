/-! The twin's text after a faultless reading (hand-written, without the program) -/
theorem lxQ_g {tp : Nat → Nat} {t p : Nat} (h : lxT tp t p ≠ 0) (hp : p ≤ t) : p < lxQ tp t p ∧ lxQ tp t p ≤ t := ⟨lxQ_gt h, lxQ_le hp⟩
theorem fgO_T {tp : Nat → Nat} {t p lo hi : Nat} (h : fgO tp t p lo hi = 0) : lxT tp t p = 1 := by
  rcases fgO_c tp t p lo hi with ⟨_, h1, _⟩ | h1 | h1
  · exact h1
  · omega
  · omega
theorem lnc_le {tp : Nat → Nat} {t s p : Nat} (hp : p ≤ t) (h : (lnc tp t s p).1 = 0) : p ≤ (lnc tp t s p).2.2.2 ∧ (lnc tp t s p).2.2.2 ≤ t := by
  unfold lnc at h ⊢
  dsimp only at h ⊢
  unfold lin at h ⊢
  by_cases e4 : s = 4
  · rw [if_pos e4] at h ⊢
    have h : fgO tp t p 0 5 = 0 := h
    dsimp only
    rw [if_pos h]
    have := lxQ_g (tp := tp) (t := t) (p := p) (by rw [fgO_T h]; decide) hp
    omega
  · rw [if_neg e4] at h ⊢
    by_cases e6 : s = 6
    · rw [if_pos e6] at h ⊢
      have h : fgO tp t p 1 99 = 0 := h
      dsimp only
      rw [if_pos h]
      have := lxQ_g (tp := tp) (t := t) (p := p) (by rw [fgO_T h]; decide) hp
      omega
    · rw [if_neg e6] at h ⊢
      unfold blw at h ⊢
      by_cases h1 : fgO tp t p 0 9 = 0
      · rw [if_pos h1] at h ⊢
        by_cases h2 : lxT tp t (lxQ tp t p) = 2 ∧ lxW tp t (lxQ tp t p) = (25209)
        · rw [if_pos h2] at h ⊢
          by_cases h3 : fgO tp t (lxQ tp t (lxQ tp t p)) 0 5 = 0
          · rw [if_pos h3] at h ⊢
            by_cases h4 : lxT tp t (lxQ tp t (lxQ tp t (lxQ tp t p))) = 2 ∧ lxW tp t (lxQ tp t (lxQ tp t (lxQ tp t p))) = w8 (w8 (w8 (lN 103) 105) 118) 101
            · rw [if_pos h4] at h ⊢
              by_cases h5 : fgO tp t (lxQ tp t (lxQ tp t (lxQ tp t (lxQ tp t p)))) 1 9 = 0
              · rw [if_pos h5]
                dsimp only
                have a1 := lxQ_g (tp := tp) (t := t) (p := p) (by rw [fgO_T h1]; decide) hp
                have a2 := lxQ_g (tp := tp) (t := t) (p := lxQ tp t p) (by rw [h2.1]; decide) a1.2
                have a3 := lxQ_g (tp := tp) (t := t) (p := lxQ tp t (lxQ tp t p)) (by rw [fgO_T h3]; decide) a2.2
                have a4 := lxQ_g (tp := tp) (t := t) (p := lxQ tp t (lxQ tp t (lxQ tp t p))) (by rw [h4.1]; decide) a3.2
                have a5 := lxQ_g (tp := tp) (t := t) (p := lxQ tp t (lxQ tp t (lxQ tp t (lxQ tp t p)))) (by rw [fgO_T h5]; decide) a4.2
                omega
              · rw [if_neg h5] at h; exact absurd h h5
            · rw [if_neg h4] at h; exact absurd h Nat.one_ne_zero
          · rw [if_neg h3] at h; exact absurd h h3
        · rw [if_neg h2] at h; exact absurd h Nat.one_ne_zero
      · rw [if_neg h1] at h; exact absurd h h1
