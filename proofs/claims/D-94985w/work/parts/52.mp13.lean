theorem putC_e {b k2 j n x0 : Nat} {L : List (Nat × Int32)} {M : Nat → Nat → Int32} (hk : k2 ≠ 2 ∨ j < x0) (hb : x0 ≤ b) : putC M b n L k2 j = M k2 j := by
  by_cases h2 : k2 = 2
  · subst h2
    exact putC_lo b L M n j (by omega)
  · exact putC_k b h2 L M n j
theorem cls_k {tp : Nat → Nat} {t x0 c p n k2 j : Nat} {on : Int32} {M : Nat → Nat → Int32} (hk : k2 ≠ 2 ∨ j < x0) : (cls tp t x0 c p n on M).2.1 k2 j = M k2 j := by
  have hu : ∀ (y : Nat) (v : Int32) (M2 : Nat → Nat → Int32), x0 ≤ y → up2 M2 2 y v k2 j = M2 k2 j := fun y v M2 hy => up2_ne (by omega)
  have h1 : ∀ s q on2 M2, (clr tp t x0 c s q n on2 M2).2.1 k2 j = M2 k2 j := by
    intro s q on2 M2
    have hm : (up2 (up2 (up2 (putC M2 (x0 + 75) n (psd tp t s q).2.1) 2 (x0 + 1 + 3 * c + 1) (nI n)) 2 (x0 + 1 + 3 * c + 2) (nI (n + (psd tp t s q).2.1.length))) 2 x0 (nI (c + 1))) k2 j = M2 k2 j := by
      rw [hu _ _ _ (Nat.le_refl _), hu _ _ _ (by omega), hu _ _ _ (by omega), putC_e hk (by omega)]
    unfold clr
    repeat' split
    all_goals first | exact hm | exact putC_e hk (by omega)
  have h2 : ∀ s q on2 M2, (clt tp t x0 c s q n on2 M2).2.1 k2 j = M2 k2 j := by
    intro s q on2 M2
    have hm0 : (lin tp t s (x0 + 1 + 3 * c) q M2).2.1 k2 j = M2 k2 j := lin_k (by omega) (by omega)
    have hm : up2 (lin tp t s (x0 + 1 + 3 * c) q M2).2.1 2 x0 (nI (c + 1)) k2 j = M2 k2 j := (hu _ _ _ (Nat.le_refl _)).trans hm0
    unfold clt
    repeat' split
    all_goals first | exact hm | exact hm0
  unfold cls
  rcases hso : soO tp t p with _ | s
  · rfl
  · simp only []
    repeat' split
    all_goals first | rfl | exact (h1 _ _ _ _).trans (hu _ _ _ (by omega)) | exact (h2 _ _ _ _).trans (hu _ _ _ (by omega))
theorem rdl_k {tp : Nat → Nat} {t x0 k2 j : Nat} (hk : k2 ≠ 2 ∨ j < x0) : ∀ (f c p n : Nat) (on : Int32) (M : Nat → Nat → Int32), (rdl tp t x0 f c p n on M).2.1 k2 j = M k2 j
  | 0, _, _, _, _, _ => rfl
  | f + 1, c, p, n, on, M => by
    unfold rdl
    by_cases h0 : lxT tp t p = 0
    · rw [if_pos h0]
    · rw [if_neg h0]
      by_cases h1 : (cls tp t x0 c p n on M).1 = 0
      · rw [if_pos h1]; exact (rdl_k hk f _ _ _ _ _).trans (cls_k hk)
      · rw [if_neg h1]; exact cls_k hk
theorem rdt_k {tp : Nat → Nat} {t x0 k2 j : Nat} {M : Nat → Nat → Int32} (hk : k2 ≠ 2 ∨ j < x0) : (rdt tp t x0 M).2.1 k2 j = M k2 j := (rdl_k hk _ _ _ _ _ _).trans (up2_ne (by omega))
theorem rdl_le {tp : Nat → Nat} {t x0 : Nat} : ∀ (f c p n : Nat) (on : Int32) (M : Nat → Nat → Int32), TP tp t M → p ≤ t → n ≤ p → c ≤ 24 → M 2 x0 = nI c → (rdl tp t x0 f c p n on M).1 ≤ 6
  | 0, _, _, _, _, _, _, _, _, _, _ => Nat.zero_le _
  | f + 1, c, p, n, on, M, hT, hp, hn, hc, hx => by
    unfold rdl
    by_cases h0 : lxT tp t p = 0
    · rw [if_pos h0]; exact Nat.zero_le _
    · rw [if_neg h0]
      by_cases h1 : (cls tp t x0 c p n on M).1 = 0
      · rw [if_pos h1]
        obtain ⟨i1, i2, i3, i4, i5, i6⟩ := cls_ok hT hp hn hc hx h1
        exact rdl_le f _ _ _ _ _ i6 i2 i3 (by omega) i5
      · rw [if_neg h1]; exact cls_le hp
theorem rdt_le {tp : Nat → Nat} {t x0 : Nat} {M : Nat → Nat → Int32} (hT : TP tp t M) : (rdt tp t x0 M).1 ≤ 6 := rdl_le _ _ _ _ _ _ (TP_up hT) (Nat.zero_le _) (Nat.le_refl _) (Nat.zero_le _) up2_at
