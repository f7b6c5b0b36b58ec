/-! The relation of the two states is kept when a step is kept -/
/-- all but the steps -/
def RB (X : Nat → Nat → Int32) (o : Nat) (a : Nat → Int32) (nb nk nx np h nu ne nt : Nat) : Prop :=
  (X (o + 1) 0 = nI nb ∧ a 0 = nI nb ∧ nb ≤ 6) ∧ (X (o + 1) 1 = nI nk ∧ a 1 = nI nk ∧ nk ≤ 6) ∧ (X (o + 1) 2 = nI nx ∧ a 4 = nI nx ∧ nx ≤ 4) ∧ X (o + 1) 3 = a 5 ∧
  (X (o + 1) 5 = nI ne ∧ a 7 = nI ne ∧ ne ≤ 8) ∧ (X (o + 1) 6 = nI nt ∧ a 8 = nI nt ∧ nt ≤ 20) ∧
  (X (o + 2) 112 = nI np ∧ a 2 = nI np ∧ np ≤ 10) ∧ (X (o + 2) 113 = nI h ∧ a 3 = nI h ∧ h ≤ 999) ∧ (X (o + 2) 114 = nI nu ∧ a 9 = nI nu ∧ nu ≤ 40) ∧
  (∀ b, b < nb → X (o + 10 + b) 0 = a (10 + 5 * b) ∧ X (o + 10 + b) 1 = a (10 + 5 * b + 1) ∧ X (o + 10 + b) 2 = a (10 + 5 * b + 4)) ∧
  (∀ b, b < nb → X (o + 2) b = a (10 + 5 * b + 2) ∧ X (o + 2) (6 + b) = a (10 + 5 * b + 3)) ∧ (∀ b, nb ≤ b → b < 6 → X (o + 2) (6 + b) = nI 0) ∧
  (∀ k, k < nk → X (o + 16 + k) 0 = a (40 + 3 * k) ∧ X (o + 16 + k) 1 = a (40 + 3 * k + 1) ∧ X (o + 16 + k) 2 = a (40 + 3 * k + 2)) ∧
  (∀ k, k < ne → X (o + 3) k = a (60 + k)) ∧
  (∀ k, k < nt → X (o + 22 + k) 0 = a (70 + 4 * k + 1) ∧ X (o + 22 + k) 1 = a (70 + 4 * k) ∧ X (o + 22 + k) 2 = a (70 + 4 * k + 2) ∧ X (o + 22 + k) 3 = a (70 + 4 * k + 3)) ∧
  (∀ i, i < 100 → X (o + 2) (12 + i) = a (150 + i)) ∧ (∀ i, i < 4 * nu → X (o + 2) (115 + i) = a (250 + i)) ∧
  (∀ q, q < np → ∃ k, k < nk ∧ a (150 + 10 * q) = nI k) ∧ RV a nb nk nu nt
/-- the steps -/
def RSt (X : Nat → Nat → Int32) (o : Nat) (a : Nat → Int32) (nb nk nu ns : Nat) : Prop := ∃ NB NU : Nat → Nat, (∀ k, k < ns → NU k ≤ nu ∧ ∀ j, j ≤ k → NU j ≤ NU k) ∧ ∀ k, k < ns → RT X o a nb nk ns NB NU k
theorem RS_iff {X : Nat → Nat → Int32} {o : Nat} {a : Nat → Int32} {nb nk nx np h nu ns ne nt : Nat} : RS X o a nb nk nx np h nu ns ne nt ↔ RB X o a nb nk nx np h nu ne nt ∧ (X (o + 1) 4 = nI ns ∧ a 6 = nI ns ∧ ns ≤ 30) ∧ RSt X o a nb nk nu ns := by
  constructor
  · rintro ⟨h1, h2, h3, h4, h5, h6, h7, h8, h9, h10, h11, h12, h13, h14, h15, h16, h17, h18, h19, h20, h21⟩
    exact ⟨⟨h1, h2, h3, h4, h6, h7, h8, h9, h10, h11, h12, h13, h14, h15, h16, h17, h18, h19, h20⟩, h5, h21⟩
  · rintro ⟨⟨h1, h2, h3, h4, h6, h7, h8, h9, h10, h11, h12, h13, h14, h15, h16, h17, h18, h19, h20⟩, h5, h21⟩
    exact ⟨h1, h2, h3, h4, h5, h6, h7, h8, h9, h10, h11, h12, h13, h14, h15, h16, h17, h18, h19, h20, h21⟩
theorem RV.congr {a a' : Nat → Int32} {nb nk nu nt : Nat} (hb : nb ≤ 6) (hk : nk ≤ 6) (hu : nu ≤ 40) (ht : nt ≤ 20) (h : ∀ j, 10 ≤ j → j < 410 → a' j = a j) (h0 : RV a nb nk nu nt) : RV a' nb nk nu nt := by
  obtain ⟨h1, h2, h3, h4, h5⟩ := h0
  refine ⟨fun b hb => ?_, fun k hk => ?_, fun k hk => ?_, fun i hi => ?_, fun q b hq hb => ?_⟩
  · rw [h _ (by omega) (by omega)]; exact h1 b hb
  · rw [h _ (by omega) (by omega), h _ (by omega) (by omega)]; exact h2 k hk
  · rw [h _ (by omega) (by omega)]; exact h3 k hk
  · rw [h _ (by omega) (by omega)]; exact h4 i hi
  · rw [h _ (by omega) (by omega)]; exact h5 q b hq hb
theorem RB.congr {X X' : Nat → Nat → Int32} {o : Nat} {a a' : Nat → Int32} {nb nk nx np h nu ne nt : Nat} (hn : ∀ j, j ≠ 4 → X' (o + 1) j = X (o + 1) j) (hr : ∀ k, 2 ≤ k → k < 42 → X' (o + k) = X (o + k)) (ha : ∀ j, j < 410 → j ≠ 6 → a' j = a j) (h0 : RB X o a nb nk nx np h nu ne nt) : RB X' o a' nb nk nx np h nu ne nt := by
  obtain ⟨h1, h2, h3, h4, h6, h7, h8, h9, h10, h11, h12, h13, h14, h15, h16, h17, h18, h19, h20⟩ := h0
  have r2 := hr 2 (by omega) (by omega)
  refine ⟨?_, ?_, ?_, ?_, ?_, ?_, ?_, ?_, ?_, fun b hb => ?_, fun b hb => ?_, fun b hb hb6 => ?_, fun k hk => ?_, fun k hk => ?_, fun k hk => ?_, fun i hi => ?_, fun i hi => ?_, fun q hq => ?_, ?_⟩
  · rw [hn 0 (by decide), ha 0 (by decide) (by decide)]; exact h1
  · rw [hn 1 (by decide), ha 1 (by decide) (by decide)]; exact h2
  · rw [hn 2 (by decide), ha 4 (by decide) (by decide)]; exact h3
  · rw [hn 3 (by decide), ha 5 (by decide) (by decide)]; exact h4
  · rw [hn 5 (by decide), ha 7 (by decide) (by decide)]; exact h6
  · rw [hn 6 (by decide), ha 8 (by decide) (by decide)]; exact h7
  · rw [r2, ha 2 (by decide) (by decide)]; exact h8
  · rw [r2, ha 3 (by decide) (by decide)]; exact h9
  · rw [r2, ha 9 (by decide) (by decide)]; exact h10
  · rw [show o + 10 + b = o + (10 + b) by omega, hr (10 + b) (by omega) (by omega), ← show o + 10 + b = o + (10 + b) by omega, ha _ (by omega) (by omega), ha _ (by omega) (by omega), ha _ (by omega) (by omega)]; exact h11 b hb
  · rw [r2, ha _ (by omega) (by omega), ha _ (by omega) (by omega)]; exact h12 b hb
  · rw [r2]; exact h13 b hb hb6
  · rw [show o + 16 + k = o + (16 + k) by omega, hr (16 + k) (by omega) (by omega), ← show o + 16 + k = o + (16 + k) by omega, ha _ (by omega) (by omega), ha _ (by omega) (by omega), ha _ (by omega) (by omega)]; exact h14 k hk
  · rw [hr 3 (by omega) (by omega), ha _ (by omega) (by omega)]; exact h15 k hk
  · rw [show o + 22 + k = o + (22 + k) by omega, hr (22 + k) (by omega) (by omega), ← show o + 22 + k = o + (22 + k) by omega, ha _ (by omega) (by omega), ha _ (by omega) (by omega), ha _ (by omega) (by omega), ha _ (by omega) (by omega)]; exact h16 k hk
  · rw [r2, ha _ (by omega) (by omega)]; exact h17 i hi
  · rw [r2, ha _ (by omega) (by omega)]; exact h18 i hi
  · rw [ha _ (by omega) (by omega)]; exact h19 q hq
  · exact h20.congr h1.2.2 h2.2.2 h10.2.2 h7.2.2 (fun j q1 q2 => ha j q2 (by omega))
/-- the steps, one place down -/
theorem RSt.shift {X X' : Nat → Nat → Int32} {o : Nat} {a a' : Nat → Int32} {nb nk nu : Nat} (hb6 : nb ≤ 6) (hu : nu ≤ 40) (h2 : X' (o + 2) = X (o + 2)) (hr : ∀ k, k < 29 → X' (o + 42 + k) = X (o + 42 + (k + 1))) (ha : ∀ j, 10 ≤ j → j < 410 → a' j = a j) (hs : ∀ j, j < 3364 → a' (410 + j) = a (526 + j)) (h0 : RSt X o a nb nk nu 30) : RSt X' o a' nb nk nu 29 := by
  obtain ⟨NB, NU, q1, q2⟩ := h0
  refine ⟨fun k => NB (k + 1), fun k => NU (k + 1), fun k hk => ⟨(q1 (k + 1) (by omega)).1, fun j hj => (q1 (k + 1) (by omega)).2 (j + 1) (by omega)⟩, fun k hk => ?_⟩
  obtain ⟨t1, t2, t3, t4, t5, t6, t7, t8, t9, t10, t11, t12, t13, t14⟩ := q2 (k + 1) (by omega)
  have hN := (q1 (k + 1) (by omega)).1
  have e : ∀ i, i < 116 → a' (410 + 116 * k + i) = a (410 + 116 * (k + 1) + i) := fun i hi => by
    rw [show 410 + 116 * k + i = 410 + (116 * k + i) by omega, hs _ (by omega)]
    congr 1; omega
  have e0 : a' (410 + 116 * k) = a (410 + 116 * (k + 1)) := e 0 (by decide)
  have er := hr k hk
  have e16 : ∀ i, i < 100 → a' (410 + 116 * k + 16 + i) = a (410 + 116 * (k + 1) + 16 + i) := fun i hi => by
    rw [Nat.add_assoc, e _ (by omega), ← Nat.add_assoc]
  refine ⟨t1, ?_, ?_, ?_, ?_, ?_, ?_, ?_, fun b hb => ?_, fun b hb h6 => ?_, fun b hb h6 => ?_, fun i hi => ?_, fun i hi => ?_, fun q b hq hb => ?_⟩
  · rw [e 3 (by decide)]; exact t2
  · rw [er, e 1 (by decide)]; exact t3
  · rw [er, e0]; exact t4
  · rw [er, e 2 (by decide)]; exact t5
  · rw [e 2 (by decide)]; exact t6
  · rw [e0]; exact t7
  · obtain ⟨np, g1, g2, g3⟩ := t8
    refine ⟨np, g1, (e 1 (by decide)).trans g2, fun q hq => ?_⟩
    rw [e16 (10 * q) (by omega)]
    exact g3 q hq
  · have b6 : b < 6 := Nat.lt_of_lt_of_le hb (Nat.le_trans t1 hb6)
    rw [er, show 410 + 116 * k + 4 + b = 410 + 116 * k + (4 + b) by omega, show 410 + 116 * k + 10 + b = 410 + 116 * k + (10 + b) by omega, e (4 + b) (by omega), e (10 + b) (by omega), show 410 + 116 * (k + 1) + (4 + b) = 410 + 116 * (k + 1) + 4 + b by omega, show 410 + 116 * (k + 1) + (10 + b) = 410 + 116 * (k + 1) + 10 + b by omega]
    exact t9 b hb
  · rw [er]; exact t10 b hb h6
  · rw [er, t11 b hb h6]
    by_cases c : k + 1 = 29
    · rw [if_pos c, if_pos (by omega), h2]
    · rw [if_neg c, if_neg (by omega), hr (k + 1) (by omega)]
  · rw [er, e16 i hi]; exact t12 i hi
  · have hi2 : i < 4 * NU (k + 1) := hi
    rw [er, ha _ (by omega) (by omega)]; exact t13 i hi
  · rw [show 410 + 116 * k + 16 + 10 * q + 4 + b = 410 + 116 * k + 16 + (10 * q + 4 + b) by omega, e16 _ (by omega), show 410 + 116 * (k + 1) + 16 + (10 * q + 4 + b) = 410 + 116 * (k + 1) + 16 + 10 * q + 4 + b by omega]
    exact t14 q b hq hb
/-- the steps, the last of them of all blowers that there are -/
def RStK (X : Nat → Nat → Int32) (o : Nat) (a : Nat → Int32) (nb nk nu ns : Nat) : Prop := ∃ NB NU : Nat → Nat, (∀ k, k < ns → NU k ≤ nu ∧ ∀ j, j ≤ k → NU j ≤ NU k) ∧ (∀ k, k < ns → RT X o a nb nk ns NB NU k) ∧ NB (ns - 1) = nb
theorem RStK.to {X : Nat → Nat → Int32} {o : Nat} {a : Nat → Int32} {nb nk nu ns : Nat} (h : RStK X o a nb nk nu ns) : RSt X o a nb nk nu ns := by
  obtain ⟨NB, NU, h1, h2, -⟩ := h
  exact ⟨NB, NU, h1, h2⟩
theorem RStK.congr {X X' : Nat → Nat → Int32} {o : Nat} {a a' : Nat → Int32} {nb nk nu nu' ns : Nat} (hb6 : nb ≤ 6) (hnu : nu ≤ nu') (hns : ns ≤ 30) (hr : ∀ k, k < 30 → X' (o + 42 + k) = X (o + 42 + k)) (ha : ∀ j, 410 ≤ j → a' j = a j) (hu : ∀ i, i < 4 * nu → a' (250 + i) = a (250 + i)) (h0 : RStK X o a nb nk nu ns) : RSt X' o a' nb nk nu' ns := by
  obtain ⟨NB, NU, q1, q2, q3⟩ := h0
  refine ⟨NB, NU, fun k hk => ⟨Nat.le_trans (q1 k hk).1 hnu, (q1 k hk).2⟩, fun k hk => ?_⟩
  obtain ⟨t1, t2, t3, t4, t5, t6, t7, t8, t9, t10, t11, t12, t13, t14⟩ := q2 k hk
  have hN := (q1 k hk).1
  have er := hr k (by omega)
  refine ⟨t1, ?_, ?_, ?_, ?_, ?_, ?_, ?_, fun b hb => ?_, fun b hb h6 => ?_, fun b hb h6 => ?_, fun i hi => ?_, fun i hi => ?_, fun q b hq hb => ?_⟩
  · rw [ha _ (by omega)]; exact t2
  · rw [er, ha _ (by omega)]; exact t3
  · rw [er, ha _ (by omega)]; exact t4
  · rw [er, ha _ (by omega)]; exact t5
  · rw [ha _ (by omega)]; exact t6
  · rw [ha _ (by omega)]; exact t7
  · obtain ⟨np9, g1, g2, g3⟩ := t8
    refine ⟨np9, g1, (ha _ (by omega)).trans g2, fun q hq => ?_⟩
    rw [ha _ (by omega)]
    exact g3 q hq
  · rw [er, ha _ (by omega), ha _ (by omega)]; exact t9 b hb
  · rw [er]; exact t10 b hb h6
  · by_cases c : k + 1 = ns
    · have : k = ns - 1 := by omega
      rw [this, q3] at hb
      omega
    · rw [er, t11 b hb h6, if_neg c, hr (k + 1) (by omega)]
  · rw [er, ha _ (by omega)]; exact t12 i hi
  · rw [er, hu _ (by omega)]; exact t13 i hi
  · rw [ha _ (by omega)]; exact t14 q b hq hb
/-- a step is kept at n -/
theorem RSt.save {X X' : Nat → Nat → Int32} {o : Nat} {a a' : Nat → Int32} {nb nk nx np h nu ne nt n : Nat} (hn : n < 30) (hB : RB X o a nb nk nx np h nu ne nt) (h2 : X' (o + 2) = X (o + 2)) (hr : ∀ k, k < 30 → k ≠ n → X' (o + 42 + k) = X (o + 42 + k)) (hrn : X' (o + 42 + n) = X (o + 2)) (ha : ∀ j, 10 ≤ j → (j < 410 ∨ (410 ≤ j ∧ (j < 410 + 116 * n ∨ 410 + 116 * n + 116 ≤ j))) → a' j = a j)
    (s0 : a' (410 + 116 * n) = a 3) (s1 : a' (410 + 116 * n + 1) = a 2) (s2 : a' (410 + 116 * n + 2) = a 9) (s3 : a' (410 + 116 * n + 3) = a 0) (s4 : ∀ b, b < 6 → a' (410 + 116 * n + 4 + b) = a (10 + 5 * b + 2) ∧ a' (410 + 116 * n + 10 + b) = a (10 + 5 * b + 3)) (s5 : ∀ i, i < 100 → a' (410 + 116 * n + 16 + i) = a (150 + i)) (h0 : RSt X o a nb nk nu n) : RStK X' o a' nb nk nu (n + 1) := by
  obtain ⟨h1, h2', h3, h4, h6, h7, h8, h9, h10, h11, h12, h13, h14, h15, h16, h17, h18, h19, h20⟩ := hB
  obtain ⟨NB, NU, q1, q2⟩ := h0
  refine ⟨fun k => if k = n then nb else NB k, fun k => if k = n then nu else NU k, fun k hk => ?_, fun k hk => ?_, if_pos (show n + 1 - 1 = n by omega)⟩
  · show (if k = n then nu else NU k) ≤ nu ∧ ∀ j, j ≤ k → (if j = n then nu else NU j) ≤ (if k = n then nu else NU k)
    by_cases e : k = n
    · rw [if_pos e]
      refine ⟨Nat.le_refl _, fun j hj => ?_⟩
      by_cases e2 : j = n
      · rw [if_pos e2]; exact Nat.le_refl _
      · rw [if_neg e2]; exact (q1 j (by omega)).1
    · rw [if_neg e]
      refine ⟨(q1 k (by omega)).1, fun j hj => ?_⟩
      rw [if_neg (by omega)]
      exact (q1 k (by omega)).2 j hj
  · by_cases e : k = n
    · subst e
      have hu := h10.2.2
      refine ⟨?_, ?_, ?_, ?_, ?_, ?_, ?_, ?_, fun b hb => ?_, fun b hb h6 => ?_, fun b hb h6 => ?_, fun i hi => ?_, fun i hi => ?_, fun q b hq hb => ?_⟩
      · show (if k = k then nb else NB k) ≤ nb
        rw [if_pos rfl]; exact Nat.le_refl _
      · show _ = nI (if k = k then nb else NB k)
        rw [if_pos rfl, s3]; exact h1.2.1
      · rw [hrn, s1, h8.1, h8.2.1]
      · rw [hrn, s0, h9.1, h9.2.1]
      · rw [hrn, s2, h10.1, h10.2.1]
      · show _ = nI (if k = k then nu else NU k)
        rw [if_pos rfl, s2]; exact h10.2.1
      · exact ⟨h, h9.2.2, s0.trans h9.2.1⟩
      · refine ⟨np, h8.2.2, s1.trans h8.2.1, fun q hq => ?_⟩
        rw [s5 (10 * q) (by omega)]
        exact h19 q hq
      · have hb2 : b < (if k = k then nb else NB k) := hb
        rw [if_pos rfl] at hb2
        have hb6 := h1.2.2
        rw [hrn, (s4 b (by omega)).1, (s4 b (by omega)).2]
        exact h12 b hb2
      · have hb2 : (if k = k then nb else NB k) ≤ b := hb
        rw [if_pos rfl] at hb2
        rw [hrn]
        exact h13 b hb2 h6
      · have hb2 : (if k = k then nb else NB k) ≤ b := hb
        rw [if_pos rfl] at hb2
        omega
      · rw [hrn, s5 i hi]
        exact h17 i hi
      · have hi2 : i < 4 * (if k = k then nu else NU k) := hi
        rw [if_pos rfl] at hi2
        rw [hrn, ha _ (by omega) (Or.inl (by omega))]
        exact h18 i hi2
      · show ∃ v, v ≤ 9 * (if k = k then nu else NU k) ∧ _
        rw [if_pos rfl, show 410 + 116 * k + 16 + 10 * q + 4 + b = 410 + 116 * k + 16 + (10 * q + 4 + b) by omega, s5 _ (by omega), show 150 + (10 * q + 4 + b) = 150 + 10 * q + 4 + b by omega]
        exact h20.2.2.2.2 q b hq hb
    · obtain ⟨t1, t2, t3, t4, t5, t6, t7, t8, t9, t10, t11, t12, t13, t14⟩ := q2 k (by omega)
      have hN := (q1 k (by omega)).1
      have hu := h10.2.2
      have hb6 := h1.2.2
      have er := hr k (by omega) e
      have eS : ∀ i, i < 116 → a' (410 + 116 * k + i) = a (410 + 116 * k + i) := fun i hi => ha _ (by omega) (Or.inr ⟨by omega, by omega⟩)
      have eN : (fun k => if k = n then nb else NB k) k = NB k := if_neg e
      have eU : (fun k => if k = n then nu else NU k) k = NU k := if_neg e
      unfold RT
      rw [eN, eU]
      have np10 : ∃ np, np ≤ 10 ∧ a (410 + 116 * k + 1) = nI np ∧ ∀ q, q < np → ∃ kk, kk < nk ∧ a (410 + 116 * k + 16 + 10 * q) = nI kk := t8
      refine ⟨t1, ?_, ?_, ?_, ?_, ?_, ?_, ?_, fun b hb => ?_, fun b hb h6 => ?_, fun b hb h6 => ?_, fun i hi => ?_, fun i hi => ?_, fun q b hq hb => ?_⟩
      · rw [eS 3 (by decide)]; exact t2
      · rw [er, eS 1 (by decide)]; exact t3
      · rw [er, show a' (410 + 116 * k) = a (410 + 116 * k) from eS 0 (by decide)]; exact t4
      · rw [er, eS 2 (by decide)]; exact t5
      · rw [eS 2 (by decide)]; exact t6
      · rw [show a' (410 + 116 * k) = a (410 + 116 * k) from eS 0 (by decide)]; exact t7
      · obtain ⟨np9, g1, g2, g3⟩ := np10
        refine ⟨np9, g1, (eS 1 (by decide)).trans g2, fun q hq => ?_⟩
        rw [show 410 + 116 * k + 16 + 10 * q = 410 + 116 * k + (16 + 10 * q) by omega, eS _ (by omega), ← show 410 + 116 * k + 16 + 10 * q = 410 + 116 * k + (16 + 10 * q) by omega]
        exact g3 q hq
      · have b6 : b < 6 := Nat.lt_of_lt_of_le hb (Nat.le_trans t1 hb6)
        rw [er, ha _ (by omega) (Or.inr ⟨by omega, by omega⟩), ha _ (by omega) (Or.inr ⟨by omega, by omega⟩)]
        exact t9 b hb
      · rw [er]; exact t10 b hb h6
      · rw [er, t11 b hb h6]
        by_cases c : k + 1 = n
        · rw [if_pos c, if_neg (by omega), show o + 42 + (k + 1) = o + 42 + n by rw [c], hrn]
        · rw [if_neg c, if_neg (by omega), hr (k + 1) (by omega) c]
      · rw [er, ha _ (by omega) (Or.inr ⟨by omega, by omega⟩)]; exact t12 i hi
      · rw [er, ha _ (by omega) (Or.inl (by omega))]; exact t13 i hi
      · rw [ha _ (by omega) (Or.inr ⟨by omega, by omega⟩)]
        exact t14 q b hq hb
/-- what a loop that copies lays down -/
theorem it_cp {B m : Nat} {g : Nat → Nat} (hg : ∀ i j, i < j → j < m → g j ≠ B + i) : ∀ (n i : Nat) (M : Nat → Nat → Int32), i + n ≤ m → (∀ j, i ≤ j → j < i + n → it (fun i M => up2 M 0 (B + i) (M 0 (g i))) n i M 0 (B + j) = M 0 (g j)) ∧ ∀ j, (j < B + i ∨ B + i + n ≤ j) → it (fun i M => up2 M 0 (B + i) (M 0 (g i))) n i M 0 j = M 0 j
  | 0, i, M, _ => ⟨fun j h1 h2 => by omega, fun j _ => by rw [it_0]⟩
  | n + 1, i, M, hm => by
    rw [it_succ]
    obtain ⟨q1, q2⟩ := it_cp hg n (i + 1) (up2 M 0 (B + i) (M 0 (g i))) (by omega)
    refine ⟨fun j h1 h2 => ?_, fun j h => ?_⟩
    · by_cases e : j = i
      · subst e
        rw [q2 _ (Or.inl (by omega))]
        exact up2_at
      · rw [q1 j (by omega) (by omega)]
        exact up2_ne (Or.inr (hg i j (by omega) (by omega)))
    · rw [q2 j (by omega)]
      exact up2_ne (Or.inr (by omega))
theorem it_cp2 {B C : Nat} {g f : Nat → Nat} {m : Nat} (hBC : B + m ≤ C) (hg : ∀ i j, i < m → j < m → g j ≠ B + i ∧ g j ≠ C + i ∧ f j ≠ B + i ∧ f j ≠ C + i) : ∀ (n i : Nat) (M : Nat → Nat → Int32), i + n ≤ m → (∀ j, i ≤ j → j < i + n → it (fun i M => up2 (up2 M 0 (B + i) (M 0 (g i))) 0 (C + i) (M 0 (f i))) n i M 0 (B + j) = M 0 (g j) ∧ it (fun i M => up2 (up2 M 0 (B + i) (M 0 (g i))) 0 (C + i) (M 0 (f i))) n i M 0 (C + j) = M 0 (f j)) ∧ ∀ j, (j < B + i ∨ (B + m ≤ j ∧ j < C + i) ∨ C + i + n ≤ j) → (j < B + i ∨ B + i + n ≤ j) → it (fun i M => up2 (up2 M 0 (B + i) (M 0 (g i))) 0 (C + i) (M 0 (f i))) n i M 0 j = M 0 j
  | 0, i, M, _ => ⟨fun j h1 h2 => by omega, fun j _ _ => by rw [it_0]⟩
  | n + 1, i, M, hm => by
    rw [it_succ]
    obtain ⟨q1, q2⟩ := it_cp2 hBC hg n (i + 1) (up2 (up2 M 0 (B + i) (M 0 (g i))) 0 (C + i) (M 0 (f i))) (by omega)
    refine ⟨fun j h1 h2 => ?_, fun j h h' => ?_⟩
    · by_cases e : j = i
      · subst e
        rw [q2 _ (by omega) (by omega), q2 _ (by omega) (by omega)]
        exact ⟨(up2_ne (Or.inr (by omega))).trans up2_at, up2_at⟩
      · obtain ⟨g1, g2⟩ := q1 j (by omega) (by omega)
        obtain ⟨k1, k2, k3, k4⟩ := hg i j (by omega) (by omega)
        exact ⟨g1.trans ((up2_ne (Or.inr k2)).trans (up2_ne (Or.inr k1))), g2.trans ((up2_ne (Or.inr k4)).trans (up2_ne (Or.inr k3)))⟩
    · rw [q2 j (by omega) (by omega)]
      exact (up2_ne (Or.inr (by omega))).trans (up2_ne (Or.inr (by omega)))
theorem mShift_at {M : Nat → Nat → Int32} {j : Nat} (h : j < 3364) : mShift M 0 (410 + j) = M 0 (526 + j) := by
  unfold mShift
  rw [up2_ne (Or.inr (by omega))]
  exact (it_cp (B := 410) (m := 3364) (g := fun i => 526 + i) (fun i j h _ => by omega) 3364 0 M (by decide)).1 j (by omega) (by omega)
theorem mSave_at {M : Nat → Nat → Int32} {n : Nat} : mSave M n 0 (410 + 116 * n) = M 0 3 ∧ mSave M n 0 (410 + 116 * n + 1) = M 0 2 ∧ mSave M n 0 (410 + 116 * n + 2) = M 0 9 ∧ mSave M n 0 (410 + 116 * n + 3) = M 0 0 ∧ (∀ b, b < 6 → mSave M n 0 (410 + 116 * n + 4 + b) = M 0 (10 + 5 * b + 2) ∧ mSave M n 0 (410 + 116 * n + 10 + b) = M 0 (10 + 5 * b + 3)) ∧ (∀ i, i < 100 → mSave M n 0 (410 + 116 * n + 16 + i) = M 0 (150 + i)) ∧ ∀ j, 10 ≤ j → (j < 410 + 116 * n ∨ 410 + 116 * n + 116 ≤ j) → mSave M n 0 j = M 0 j := by
  unfold mSave
  have hx : ∀ (M1 : Nat → Nat → Int32) (j : Nat), 10 ≤ j → up2 M1 0 6 (nI (n + 1)) 0 j = M1 0 j := fun M1 j hj => up2_ne (Or.inr (by omega))
  generalize hM0 : up2 (up2 (up2 (up2 M 0 (410 + 116 * n) (M 0 3)) 0 (410 + 116 * n + 1) (M 0 2)) 0 (410 + 116 * n + 2) (M 0 9)) 0 (410 + 116 * n + 3) (M 0 0) = M0
  have e0 : M0 0 (410 + 116 * n) = M 0 3 := by rw [← hM0, up2_ne (Or.inr (by omega)), up2_ne (Or.inr (by omega)), up2_ne (Or.inr (by omega))]; exact up2_at
  have e1 : M0 0 (410 + 116 * n + 1) = M 0 2 := by rw [← hM0, up2_ne (Or.inr (by omega)), up2_ne (Or.inr (by omega))]; exact up2_at
  have e2 : M0 0 (410 + 116 * n + 2) = M 0 9 := by rw [← hM0, up2_ne (Or.inr (by omega))]; exact up2_at
  have e3 : M0 0 (410 + 116 * n + 3) = M 0 0 := by rw [← hM0]; exact up2_at
  have e4 : ∀ j, (j < 410 + 116 * n ∨ 410 + 116 * n + 4 ≤ j) → M0 0 j = M 0 j := fun j hj => by rw [← hM0, up2_ne (Or.inr (by omega)), up2_ne (Or.inr (by omega)), up2_ne (Or.inr (by omega)), up2_ne (Or.inr (by omega))]
  obtain ⟨B1, B2⟩ := it_cp2 (B := 410 + 116 * n + 4) (C := 410 + 116 * n + 10) (g := fun b => 10 + 5 * b + 2) (f := fun b => 10 + 5 * b + 3) (m := 6) (by omega) (fun i j h1 h2 => by omega) 6 0 M0 (by decide)
  generalize hM1 : it (fun b M => up2 (up2 M 0 (410 + 116 * n + 4 + b) (M 0 (10 + 5 * b + 2))) 0 (410 + 116 * n + 10 + b) (M 0 (10 + 5 * b + 3))) 6 0 M0 = M1 at B1 B2 ⊢
  obtain ⟨C1, C2⟩ := it_cp (B := 410 + 116 * n + 16) (g := fun i => 150 + i) (m := 100) (fun i j h1 h2 => by omega) 100 0 M1 (by decide)
  generalize hM2 : it (fun i M => up2 M 0 (410 + 116 * n + 16 + i) (M 0 (150 + i))) 100 0 M1 = M2 at C1 C2 ⊢
  refine ⟨?_, ?_, ?_, ?_, fun b hb => ⟨?_, ?_⟩, fun i hi => ?_, fun j h1 h2 => ?_⟩
  · rw [hx _ _ (by omega), C2 _ (by omega), B2 _ (by omega) (by omega), e0]
  · rw [hx _ _ (by omega), C2 _ (by omega), B2 _ (by omega) (by omega), e1]
  · rw [hx _ _ (by omega), C2 _ (by omega), B2 _ (by omega) (by omega), e2]
  · rw [hx _ _ (by omega), C2 _ (by omega), B2 _ (by omega) (by omega), e3]
  · rw [hx _ _ (by omega), C2 _ (by omega), (B1 b (by omega) (by omega)).1, e4 _ (by omega)]
  · rw [hx _ _ (by omega), C2 _ (by omega), (B1 b (by omega) (by omega)).2, e4 _ (by omega)]
  · rw [hx _ _ (by omega), C1 i (by omega) (by omega), B2 _ (by omega) (by omega), e4 _ (by omega)]
  · rw [hx _ _ (by omega), C2 _ (by omega), B2 _ (by omega) (by omega), e4 _ (by omega)]
theorem xShift_at {X : Nat → Nat → Int32} {k : Nat} (hk : k < 29) : xShift X (93 + k) = X (93 + (k + 1)) := by
  have go : ∀ (n i : Nat) (X : Nat → Nat → Int32), 1 ≤ i → (∀ j, i ≤ j → j < i + n → it (fun i X => upr X (93 + (i - 1)) (X (93 + i))) n i X (93 + (j - 1)) = X (93 + j)) ∧ ∀ q, (q < 93 + (i - 1) ∨ 93 + (i - 1) + n ≤ q) → it (fun i X => upr X (93 + (i - 1)) (X (93 + i))) n i X q = X q := by
    intro n
    induction n with
    | zero => intro i X _; exact ⟨fun j h1 h2 => by omega, fun q _ => by rw [it_0]⟩
    | succ n ih =>
      intro i X h1
      rw [it_succ]
      obtain ⟨q1, q2⟩ := ih (i + 1) (upr X (93 + (i - 1)) (X (93 + i))) (by omega)
      refine ⟨fun j g1 g2 => ?_, fun q hq => ?_⟩
      · by_cases e : j = i
        · subst e
          rw [q2 _ (Or.inl (by omega))]
          exact upr_at
        · rw [q1 j (by omega) (by omega)]
          exact upr_ne (by omega)
      · rw [q2 q (by omega)]
        exact upr_ne (by omega)
  unfold xShift
  rw [up2_row (by omega)]
  have := (go 29 1 X (by decide)).1 (k + 1) (by omega) (by omega)
  rwa [show k + 1 - 1 = k by omega] at this
theorem xShift_out {X : Nat → Nat → Int32} {q : Nat} (hq : q < 93 ∨ 122 ≤ q) (h52 : q ≠ 52) : xShift X q = X q := by
  unfold xShift
  rw [up2_row h52]
  exact it_rng (f := fun i X => upr X (93 + (i - 1)) (X (93 + i))) (fun _ X2 => X2 q = X q) (30 - 1) 1 X (fun i s h1 h2 h3 => (upr_ne (by omega)).trans h3) rfl
theorem xShift_52 {X : Nat → Nat → Int32} {j : Nat} (hj : j ≠ 4) : xShift X 52 j = X 52 j := by
  unfold xShift
  rw [up2_ne (Or.inr hj)]
  exact congrFun (it_rng (f := fun i X => upr X (93 + (i - 1)) (X (93 + i))) (fun _ X2 => X2 52 = X 52) (30 - 1) 1 X (fun i s h1 h2 h3 => (upr_ne (by omega)).trans h3) rfl) j
theorem xSave_row {X : Nat → Nat → Int32} {n q : Nat} (h1 : q ≠ 93 + n) (h2 : q ≠ 52) : xSave X n q = X q := by
  unfold xSave
  rw [up2_row h2]
  exact upr_ne h1
theorem xSave_new {X : Nat → Nat → Int32} {n : Nat} : xSave X n (93 + n) = X 53 := by
  unfold xSave
  rw [up2_row (by omega)]
  exact upr_at
theorem xSave_52 {X : Nat → Nat → Int32} {n j : Nat} (hj : j ≠ 4) : xSave X n 52 j = X 52 j := by
  unfold xSave
  rw [up2_ne (Or.inr hj)]
  exact congrFun (upr_ne (by omega)) j
def RSK (X : Nat → Nat → Int32) (o : Nat) (a : Nat → Int32) (nb nk nx np h nu ns ne nt : Nat) : Prop := RB X o a nb nk nx np h nu ne nt ∧ (X (o + 1) 4 = nI ns ∧ a 6 = nI ns ∧ ns ≤ 30) ∧ RStK X o a nb nk nu ns
theorem RSK.to {X : Nat → Nat → Int32} {o : Nat} {a : Nat → Int32} {nb nk nx np h nu ns ne nt : Nat} (h0 : RSK X o a nb nk nx np h nu ns ne nt) : RS X o a nb nk nx np h nu ns ne nt := RS_iff.mpr ⟨h0.1, h0.2.1, h0.2.2.to⟩
theorem RS_save {X M : Nat → Nat → Int32} {nb nk nx np h nu n ne nt : Nat} (hn : n < 30) (hB : RB X 51 (M 0) nb nk nx np h nu ne nt) (hs : RSt X 51 (M 0) nb nk nu n) : RSK (xSave X n) 51 (mSave M n 0) nb nk nx np h nu (n + 1) ne nt := by
  obtain ⟨g0, g1, g2, g3, g4, g5, g6⟩ := mSave_at (M := M) (n := n)
  refine ⟨hB.congr (fun j hj => xSave_52 hj) (fun k h1 h2 => xSave_row (by omega) (by omega)) (fun j h1 h2 => mSave_lo h1 h2), ⟨?_, ?_, by omega⟩, hs.save hn hB (xSave_row (q := 53) (by omega) (by decide)) (fun k h1 h2 => xSave_row (by omega) (by omega)) xSave_new (fun j h1 h2 => g6 j h1 (by omega)) g0 g1 g2 g3 g4 g5⟩
  · show xSave X n 52 4 = _
    unfold xSave; exact up2_at
  · unfold mSave; exact up2_at
theorem RS_keep {X M : Nat → Nat → Int32} {nb nk nx np h nu ns ne nt : Nat} (hR : RS X 51 (M 0) nb nk nx np h nu ns ne nt) : RSK (xKeep X ns) 51 (mKeepC M 0) nb nk nx np h nu (min ns 29 + 1) ne nt := by
  obtain ⟨hB, ⟨c1, c2, c3⟩, hs⟩ := RS_iff.mp hR
  rw [mKeepC_of c2 (by omega)]
  unfold xKeep mKeep
  by_cases e : ns = 30
  · rw [if_pos e, if_pos e, show min ns 29 = 29 by omega]
    subst e
    refine RS_save (by decide) (hB.congr (fun j hj => xShift_52 hj) (fun k h1 h2 => xShift_out (by omega) (by omega)) (fun j h1 h2 => mShift_lo h1 h2)) (hs.shift hB.1.2.2 hB.2.2.2.2.2.2.2.2.1.2.2 (xShift_out (q := 53) (by decide) (by decide)) (fun k hk => ?_) (fun j h1 h2 => mShift_lo h2 (by omega)) (fun j hj => mShift_at hj))
    exact xShift_at hk
  · rw [if_neg e, if_neg e, show min ns 29 = ns by omega]
    exact RS_save (by omega) hB hs
/-- what is changed behind a kept step -/
theorem RS_put {X M X' : Nat → Nat → Int32} {a' : Nat → Int32} {nb nk nx np h nu ns ne nt np' h' nu' : Nat} (hR : RS X 51 (M 0) nb nk nx np h nu ns ne nt) (hr : ∀ k, k < 30 → X' (93 + k) = xKeep X ns (93 + k)) (h4 : X' 52 4 = xKeep X ns 52 4) (ha : ∀ j, 410 ≤ j → a' j = mKeepC M 0 j) (h6 : a' 6 = mKeepC M 0 6) (hu : ∀ i, i < 4 * nu → a' (250 + i) = M 0 (250 + i)) (hnu : nu ≤ nu') (hB : RB X' 51 a' nb nk nx np' h' nu' ne nt) : RS X' 51 a' nb nk nx np' h' nu' (min ns 29 + 1) ne nt := by
  obtain ⟨kB, ⟨k1, k2, k3⟩, kS⟩ := RS_keep hR
  have hu40 := kB.2.2.2.2.2.2.2.2.1.2.2
  refine RS_iff.mpr ⟨hB, ⟨?_, h6.trans k2, k3⟩, kS.congr hB.1.2.2 hnu k3 (fun k hk => hr k hk) ha (fun i hi => (hu i hi).trans (mKeepC_lo (by omega) (by omega)).symm)⟩
  exact h4.trans k1
/-- the row alone is another -/
theorem RB.row {X X' : Nat → Nat → Int32} {o : Nat} {a a' : Nat → Int32} {nb nk nx np h nu ne nt np' h' nu' : Nat} (hn : ∀ j, j ≠ 4 → X' (o + 1) j = X (o + 1) j) (hr : ∀ k, 3 ≤ k → k < 42 → X' (o + k) = X (o + k))
    (ha : ∀ j, j < 150 → j ≠ 2 → j ≠ 3 → j ≠ 6 → j ≠ 9 → (∀ b, b < 6 → j ≠ 10 + 5 * b + 2 ∧ j ≠ 10 + 5 * b + 3) → a' j = a j)
    (r1 : X' (o + 2) 112 = nI np' ∧ a' 2 = nI np' ∧ np' ≤ 10) (r2 : X' (o + 2) 113 = nI h' ∧ a' 3 = nI h' ∧ h' ≤ 999) (r3 : X' (o + 2) 114 = nI nu' ∧ a' 9 = nI nu' ∧ nu' ≤ 40)
    (r4 : ∀ b, b < nb → X' (o + 2) b = a' (10 + 5 * b + 2) ∧ X' (o + 2) (6 + b) = a' (10 + 5 * b + 3)) (r5 : ∀ b, nb ≤ b → b < 6 → X' (o + 2) (6 + b) = nI 0)
    (r6 : ∀ i, i < 100 → X' (o + 2) (12 + i) = a' (150 + i)) (r7 : ∀ i, i < 4 * nu' → X' (o + 2) (115 + i) = a' (250 + i)) (r8 : ∀ q, q < np' → ∃ k, k < nk ∧ a' (150 + 10 * q) = nI k)
    (r9 : ∀ i, i < nu' → ∃ v, v ≤ 9 ∧ a' (250 + 4 * i + 2) = nI v) (r10 : ∀ q b, q < 10 → b < 6 → ∃ v, v ≤ 9 * nu' ∧ a' (150 + 10 * q + 4 + b) = nI v) (h0 : RB X o a nb nk nx np h nu ne nt) : RB X' o a' nb nk nx np' h' nu' ne nt := by
  obtain ⟨h1, h2, h3, h4, h6, h7, h8, h9, h10, h11, h12, h13, h14, h15, h16, h17, h18, h19, v1, v2, v3, v4, v5⟩ := h0
  have b6 := h1.2.2
  have k6 := h2.2.2
  have t20 := h7.2.2
  have e8 := h6.2.2
  refine ⟨?_, ?_, ?_, ?_, ?_, ?_, r1, r2, r3, fun b hb => ?_, r4, r5, fun k hk => ?_, fun k hk => ?_, fun k hk => ?_, r6, r7, r8, fun b hb => ?_, fun k hk => ?_, fun k hk => ?_, r9, r10⟩
  · rw [hn 0 (by decide), ha 0 (by decide) (by decide) (by decide) (by decide) (by decide) (by omega)]; exact h1
  · rw [hn 1 (by decide), ha 1 (by decide) (by decide) (by decide) (by decide) (by decide) (by omega)]; exact h2
  · rw [hn 2 (by decide), ha 4 (by decide) (by decide) (by decide) (by decide) (by decide) (by omega)]; exact h3
  · rw [hn 3 (by decide), ha 5 (by decide) (by decide) (by decide) (by decide) (by decide) (by omega)]; exact h4
  · rw [hn 5 (by decide), ha 7 (by decide) (by decide) (by decide) (by decide) (by decide) (by omega)]; exact h6
  · rw [hn 6 (by decide), ha 8 (by decide) (by decide) (by decide) (by decide) (by decide) (by omega)]; exact h7
  · rw [show o + 10 + b = o + (10 + b) by omega, hr (10 + b) (by omega) (by omega), ← show o + 10 + b = o + (10 + b) by omega, ha (10 + 5 * b) (by omega) (by omega) (by omega) (by omega) (by omega) (by omega), ha (10 + 5 * b + 1) (by omega) (by omega) (by omega) (by omega) (by omega) (by omega), ha (10 + 5 * b + 4) (by omega) (by omega) (by omega) (by omega) (by omega) (by omega)]; exact h11 b hb
  · rw [show o + 16 + k = o + (16 + k) by omega, hr (16 + k) (by omega) (by omega), ← show o + 16 + k = o + (16 + k) by omega, ha _ (by omega) (by omega) (by omega) (by omega) (by omega) (by omega), ha (40 + 3 * k + 1) (by omega) (by omega) (by omega) (by omega) (by omega) (by omega), ha (40 + 3 * k + 2) (by omega) (by omega) (by omega) (by omega) (by omega) (by omega)]; exact h14 k hk
  · rw [hr 3 (by omega) (by omega), ha _ (by omega) (by omega) (by omega) (by omega) (by omega) (by omega)]; exact h15 k hk
  · rw [show o + 22 + k = o + (22 + k) by omega, hr (22 + k) (by omega) (by omega), ← show o + 22 + k = o + (22 + k) by omega, ha (70 + 4 * k + 1) (by omega) (by omega) (by omega) (by omega) (by omega) (by omega), ha (70 + 4 * k) (by omega) (by omega) (by omega) (by omega) (by omega) (by omega), ha (70 + 4 * k + 2) (by omega) (by omega) (by omega) (by omega) (by omega) (by omega), ha (70 + 4 * k + 3) (by omega) (by omega) (by omega) (by omega) (by omega) (by omega)]; exact h16 k hk
  · rw [ha _ (by omega) (by omega) (by omega) (by omega) (by omega) (by omega)]; exact v1 b hb
  · rw [ha (40 + 3 * k) (by omega) (by omega) (by omega) (by omega) (by omega) (by omega), ha (40 + 3 * k + 2) (by omega) (by omega) (by omega) (by omega) (by omega) (by omega)]; exact v2 k hk
  · rw [ha _ (by omega) (by omega) (by omega) (by omega) (by omega) (by omega)]; exact v3 k hk
