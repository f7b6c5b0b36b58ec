/-! a state laid elsewhere -/
theorem RS.move {X X' : Nat → Nat → Int32} {o o' : Nat} {a a' : Nat → Int32} {nb nk nx np h nu ns ne nt : Nat} (hr : ∀ k, (1 ≤ k ∧ k ≤ 3) ∨ (10 ≤ k ∧ k < 72) → X' (o' + k) = X (o + k)) (ha : ∀ j, a' j = a j) (h0 : RS X o a nb nk nx np h nu ns ne nt) : RS X' o' a' nb nk nx np h nu ns ne nt := by
  obtain rfl : a' = a := funext ha
  obtain ⟨h1, h2, h3, h4, h5, h6, h7, h8, h9, h10, h11, h12, h13, h14, h15, h16, h17, h18, h19, h20, NB, NU, q1, q2⟩ := h0
  have e1 := hr 1 (by omega)
  have e2 := hr 2 (by omega)
  have e3 := hr 3 (by omega)
  have b6 := h1.2.2
  have k6 := h2.2.2
  have s30 := h5.2.2
  have t20 := h7.2.2
  have es : ∀ k, k < 30 → X' (o' + 42 + k) = X (o + 42 + k) := fun k hk => by rw [Nat.add_assoc, hr _ (by omega), ← Nat.add_assoc]
  refine ⟨?_, ?_, ?_, ?_, ?_, ?_, ?_, ?_, ?_, ?_, fun b hb => ?_, fun b hb => ?_, fun b hb hb6 => ?_, fun k hk => ?_, fun k hk => ?_, fun k hk => ?_, fun i hi => ?_, fun i hi => ?_, h19, h20, NB, NU, q1, fun k hk => ?_⟩
  · rw [e1]; exact h1
  · rw [e1]; exact h2
  · rw [e1]; exact h3
  · rw [e1]; exact h4
  · rw [e1]; exact h5
  · rw [e1]; exact h6
  · rw [e1]; exact h7
  · rw [e2]; exact h8
  · rw [e2]; exact h9
  · rw [e2]; exact h10
  · rw [Nat.add_assoc, hr _ (by omega), ← Nat.add_assoc]; exact h11 b hb
  · rw [e2]; exact h12 b hb
  · rw [e2]; exact h13 b hb hb6
  · rw [Nat.add_assoc, hr _ (by omega), ← Nat.add_assoc]; exact h14 k hk
  · rw [e3]; exact h15 k hk
  · rw [Nat.add_assoc, hr _ (by omega), ← Nat.add_assoc]; exact h16 k hk
  · rw [e2]; exact h17 i hi
  · rw [e2]; exact h18 i hi
  · obtain ⟨t1, t2, t3, t4, t5, t6, t7, t8, t9, t10, t11, t12, t13, t14⟩ := q2 k hk
    have er := es k (by omega)
    refine ⟨t1, t2, ?_, ?_, ?_, t6, t7, t8, fun b hb => ?_, fun b hb h6 => ?_, fun b hb h6 => ?_, fun i hi => ?_, fun i hi => ?_, t14⟩
    · rw [er]; exact t3
    · rw [er]; exact t4
    · rw [er]; exact t5
    · rw [er]; exact t9 b hb
    · rw [er]; exact t10 b hb h6
    · rw [er, t11 b hb h6]
      by_cases c : k + 1 = ns
      · rw [if_pos c, if_pos c, e2]
      · rw [if_neg c, if_neg c, es (k + 1) (by omega)]
    · rw [er]; exact t12 i hi
    · rw [er]; exact t13 i hi
theorem RS_be {X : Nat → Nat → Int32} {o d : Nat} {a a' : Nat → Int32} {nb nk nx np h nu ns ne nt : Nat} (hd : o + 72 ≤ d ∨ d + 72 ≤ o) (ha : ∀ j, a' j = a j) (h0 : RS X o a nb nk nx np h nu ns ne nt) : RS (xBe X o d) d a' nb nk nx np h nu ns ne nt ∧ RS (xBe X o d) o a nb nk nx np h nu ns ne nt :=
  ⟨h0.move (fun k hk => xBe_in hd hk) ha, h0.move (fun k hk => by rw [xBe_out (by omega)]) (fun _ => rfl)⟩
