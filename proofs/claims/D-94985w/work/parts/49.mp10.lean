theorem soO_lt {tp : Nat → Nat} {t p i : Nat} (h : soO tp t p = some i) : i < 7 ∧ lxT tp t p ≠ 0 := by
  unfold soO at h
  by_cases c0 : lxT tp t p = 2 ∧ lxW tp t p = w8 (w8 (w8 (w8 (lN 115) 109) 111) 107) 101
  · rw [if_pos c0] at h; cases h; exact ⟨by decide, by omega⟩
  rw [if_neg c0] at h
  by_cases c1 : lxT tp t p = 2 ∧ lxW tp t p = w8 (w8 (w8 (lN 99) 111) 115) 116
  · rw [if_pos c1] at h; cases h; exact ⟨by decide, by omega⟩
  rw [if_neg c1] at h
  by_cases c2 : lxT tp t p = 2 ∧ lxW tp t p = (w8 (w8 (lN 98) 114) 105) <<< ((nI 32).toInt64 &&& 63) ||| (w8 (w8 (w8 (lN 116) 116) 108) 101)
  · rw [if_pos c2] at h; cases h; exact ⟨by decide, by omega⟩
  rw [if_neg c2] at h
  by_cases c3 : lxT tp t p = 2 ∧ lxW tp t p = w8 (w8 (w8 (w8 (lN 115) 104) 97) 114) 101
  · rw [if_pos c3] at h; cases h; exact ⟨by decide, by omega⟩
  rw [if_neg c3] at h
  by_cases c4 : lxT tp t p = 2 ∧ lxW tp t p = w8 (w8 (w8 (w8 (lN 98) 101) 103) 105) 110
  · rw [if_pos c4] at h; cases h; exact ⟨by decide, by omega⟩
  rw [if_neg c4] at h
  by_cases c5 : lxT tp t p = 2 ∧ lxW tp t p = w8 (w8 (w8 (lN 98) 108) 111) 119
  · rw [if_pos c5] at h; cases h; exact ⟨by decide, by omega⟩
  rw [if_neg c5] at h
  by_cases c6 : lxT tp t p = 2 ∧ lxW tp t p = w8 (w8 (w8 (lN 119) 97) 105) 116
  · rw [if_pos c6] at h; cases h; exact ⟨by decide, by omega⟩
  rw [if_neg c6] at h
  cases h
theorem blw_k {tp : Nat → Nat} {t k p k2 j : Nat} {M : Nat → Nat → Int32} (h1 : k2 ≠ 2 ∨ j ≠ k + 1) (h2 : k2 ≠ 2 ∨ j ≠ k + 2) : (blw tp t k p M).2.1 k2 j = M k2 j := by
  unfold blw
  repeat' split
  all_goals first | rfl | (dsimp only; repeat (first | rw [up2_ne h1] | rw [up2_ne h2]))
theorem lin_k {tp : Nat → Nat} {t s k p k2 j : Nat} {M : Nat → Nat → Int32} (h1 : k2 ≠ 2 ∨ j ≠ k + 1) (h2 : k2 ≠ 2 ∨ j ≠ k + 2) : (lin tp t s k p M).2.1 k2 j = M k2 j := by
  have hp : ∀ (a : Prop) (x : Int32), pif a (up2 M 2 (k + 1) x) M k2 j = M k2 j := by
    intro a x
    by_cases h : a
    · rw [pif_t h, up2_ne h1]
    · rw [pif_f h]
  unfold lin
  by_cases c4 : s = 4
  · rw [if_pos c4]; exact hp _ _
  · rw [if_neg c4]
    by_cases c6 : s = 6
    · rw [if_pos c6]; exact hp _ _
    · rw [if_neg c6]; exact blw_k h1 h2
theorem TP_lin {tp : Nat → Nat} {t s k p : Nat} {M : Nat → Nat → Int32} (h : TP tp t M) : TP tp t (lin tp t s k p M).2.1 :=
  ⟨(lin_k (Or.inl (by decide)) (Or.inl (by decide))).trans h.1, h.2.1, fun j hj => ⟨(lin_k (Or.inl (by decide)) (Or.inl (by decide))).trans (h.2.2 j hj).1, (h.2.2 j hj).2⟩⟩
theorem TP_up {tp : Nat → Nat} {t j : Nat} {x : Int32} {M : Nat → Nat → Int32} (h : TP tp t M) : TP tp t (up2 M 2 j x) :=
  ⟨(up2_ne (Or.inl (by decide))).trans h.1, h.2.1, fun j hj => ⟨(up2_ne (Or.inl (by decide))).trans (h.2.2 j hj).1, (h.2.2 j hj).2⟩⟩
/-- a reckoning's clause behind its word -/
noncomputable def clr (tp : Nat → Nat) (t x0 c s q n : Nat) (on : Int32) (M : Nat → Nat → Int32) : Nat × (Nat → Nat → Int32) × Nat × Nat × Int32 :=
  if (psd tp t s q).1 = 0 then (if lxT tp t (psd tp t s q).2.2.1 = 59 then (0, (up2 (up2 (up2 (putC M (x0 + 75) n (psd tp t s q).2.1) 2 (x0 + 1 + 3 * c + 1) (nI n)) 2 (x0 + 1 + 3 * c + 2) (nI (n + (psd tp t s q).2.1.length))) 2 x0 (nI (c + 1))), lxQ tp t (psd tp t s q).2.2.1, n + (psd tp t s q).2.1.length, on) else (1, (up2 (up2 (up2 (putC M (x0 + 75) n (psd tp t s q).2.1) 2 (x0 + 1 + 3 * c + 1) (nI n)) 2 (x0 + 1 + 3 * c + 2) (nI (n + (psd tp t s q).2.1.length))) 2 x0 (nI (c + 1))), (psd tp t s q).2.2.1, n + (psd tp t s q).2.1.length, on)) else ((psd tp t s q).1, putC M (x0 + 75) n (psd tp t s q).2.1, (psd tp t s q).2.2.1, n + (psd tp t s q).2.1.length, on)
/-- a line behind its word -/
noncomputable def clt (tp : Nat → Nat) (t x0 c s q n : Nat) (on : Int32) (M : Nat → Nat → Int32) : Nat × (Nat → Nat → Int32) × Nat × Nat × Int32 :=
  if (lin tp t s (x0 + 1 + 3 * c) q M).1 = 0 then (if lxT tp t (lin tp t s (x0 + 1 + 3 * c) q M).2.2 = 59 then (0, (up2 (lin tp t s (x0 + 1 + 3 * c) q M).2.1 2 x0 (nI (c + 1))), lxQ tp t (lin tp t s (x0 + 1 + 3 * c) q M).2.2, n, on) else (1, (up2 (lin tp t s (x0 + 1 + 3 * c) q M).2.1 2 x0 (nI (c + 1))), (lin tp t s (x0 + 1 + 3 * c) q M).2.2, n, on)) else ((lin tp t s (x0 + 1 + 3 * c) q M).1, (lin tp t s (x0 + 1 + 3 * c) q M).2.1, (lin tp t s (x0 + 1 + 3 * c) q M).2.2, n, on)
/-- one clause: fault, the object, place, written, which came -/
noncomputable def cls (tp : Nat → Nat) (t x0 c p n : Nat) (on : Int32) (M : Nat → Nat → Int32) : Nat × (Nat → Nat → Int32) × Nat × Nat × Int32 :=
  match soO tp t p with
  | none => (1, M, p, n, on)
  | some s => if s < 4 then (if (on >>> (nI s &&& 31)) &&& nI 1 = nI 1 then (4, M, p, n, on) else if c = 24 then (6, M, p, n, on) else clr tp t x0 c s (lxQ tp t p) n (on ||| (nI 1 <<< (nI s &&& 31))) (up2 M 2 (x0 + 1 + 3 * c) (nI s)))
    else if c = 24 then (6, M, p, n, on) else clt tp t x0 c s (lxQ tp t p) n on (up2 M 2 (x0 + 1 + 3 * c) (nI s))
theorem stl1_nil : ∀ {P : List Nat}, mkI P = -1 → P.length ≤ 160 → (stl 1 P).2 = []
  | [], _, _ => rfl
  | x :: r, h, h9 => by
    have h8 : r.length + 1 ≤ 160 := h9
    unfold mkI at h
    by_cases c : 40 ≤ x
    · rw [if_pos c] at h; exact absurd h (nI_ne_m1 (by omega))
    · rw [if_neg c] at h
      have h4 : 1 ≤ rk x := by unfold rk; rw [if_neg c]; (repeat' split) <;> omega
      rw [show stl 1 (x :: r) = ((x, nI 0) :: (stl 1 r).1, (stl 1 r).2) from if_pos h4]
      exact stl1_nil h (by omega)
/-- where the reading ends well, nothing is left open -/
theorem prs_ok {tp : Nat → Nat} {t so : Nat} : ∀ (f p n c : Nat) (P : List Nat) (w : Bool), t - p < f → p ≤ t → t ≤ 300 → c + P.length ≤ p → P.length + (if w = true then 1 else 0) ≤ c + opn P → opn P ≤ 8 → (prs tp t so f p P w).1 = 0 → mkI (prs tp t so f p P w).2.2.2.1 = -1 ∧ (prs tp t so f p P w).2.2.2.1.length ≤ 160 ∧ p ≤ (prs tp t so f p P w).2.2.1 ∧ (prs tp t so f p P w).2.2.1 ≤ t ∧ c + (prs tp t so f p P w).2.1.length + (prs tp t so f p P w).2.2.2.1.length ≤ (prs tp t so f p P w).2.2.1
  | 0, _, _, _, _, _, h, _, _, _, _, _, _ => absurd h (Nat.not_lt_zero _)
  | f + 1, p, n, c, P, true, hf, hp, ht, h1, h2, h3, h4 => by
    simp only [if_true] at h2
    by_cases cb : (bhO tp t p P).1 = true
    · have e : prs tp t so (f + 1) p P true = _ := pif_t cb
      rw [e] at h4 ⊢
      obtain ⟨i1, i2, i3, i4, i5⟩ := bhO_inv hp cb h3 (by omega)
      obtain ⟨j1, j2, j3, j4, j5⟩ := prs_ok f (bhO tp t p P).2.2.1 n (c + (bhO tp t p P).2.1.length) (bhO tp t p P).2.2.2.1 (bhO tp t p P).2.2.2.2 (by omega) i2 ht (by omega) (by omega) i5 h4
      refine ⟨j1, j2, by dsimp only; omega, j4, ?_⟩
      simp only [List.length_append]
      omega
    · have e : prs tp t so (f + 1) p P true = (if mkI P = -1 then 0 else 1, [], p, P, true) := pif_f cb
      rw [e] at h4 ⊢
      by_cases cm : mkI P = -1
      · exact ⟨cm, by dsimp only; omega, Nat.le_refl _, hp, h1⟩
      · rw [if_neg cm] at h4; cases h4
  | f + 1, p, n, c, P, false, hf, hp, ht, h1, h2, h3, h4 => by
    simp only [Bool.false_eq_true, if_false] at h2
    by_cases cb : (bgO tp t so p P).1 = 0
    · have e : prs tp t so (f + 1) p P false = _ := pif_t cb
      rw [e] at h4 ⊢
      obtain ⟨i1, i2, i3, i4, i5⟩ := bgO_inv hp cb h3
      obtain ⟨j1, j2, j3, j4, j5⟩ := prs_ok f (bgO tp t so p P).2.2.1 n (c + (bgO tp t so p P).2.1.length) (bgO tp t so p P).2.2.2.1 (bgO tp t so p P).2.2.2.2 (by omega) i2 ht (by omega) (by omega) i5 h4
      refine ⟨j1, j2, by dsimp only; omega, j4, ?_⟩
      simp only [List.length_append]
      omega
    · have e : prs tp t so (f + 1) p P false = bgO tp t so p P := pif_f cb
      rw [e] at h4
      exact absurd h4 cb
theorem psd_ok {tp : Nat → Nat} {t so p0 c : Nat} (hp : p0 ≤ t) (ht : t ≤ 300) (hc : c ≤ p0) (h : (psd tp t so p0).1 = 0) : (psd tp t so p0).2.2.2.1 = [] ∧ p0 ≤ (psd tp t so p0).2.2.1 ∧ (psd tp t so p0).2.2.1 ≤ t ∧ c + (psd tp t so p0).2.1.length ≤ (psd tp t so p0).2.2.1 := by
  by_cases c0 : (prs tp t so (t + 1) p0 [] false).1 = 0
  · have e : psd tp t so p0 = (0, (prs tp t so (t + 1) p0 [] false).2.1 ++ (stl 1 (prs tp t so (t + 1) p0 [] false).2.2.2.1).1, (prs tp t so (t + 1) p0 [] false).2.2.1, (stl 1 (prs tp t so (t + 1) p0 [] false).2.2.2.1).2, (prs tp t so (t + 1) p0 [] false).2.2.2.2) := if_pos c0
    obtain ⟨j1, j2, j3, j4, j5⟩ := prs_ok (t + 1) p0 0 c [] false (by omega) hp ht hc (by simp) (by decide) c0
    have j6 := stl_len 1 (prs tp t so (t + 1) p0 [] false).2.2.2.1
    rw [e]
    refine ⟨stl1_nil j1 j2, j3, j4, ?_⟩
    simp only [List.length_append]
    omega
  · have e : psd tp t so p0 = (prs tp t so (t + 1) p0 [] false) := if_neg c0
    rw [e] at h
    exact absurd h c0
