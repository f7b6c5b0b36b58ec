/-! The twin's array holds the clauses that were read (hand-written, without the program) -/
theorem kAt_fr {M M1 : Nat → Nat → Int32} {b : Nat} : ∀ (L : List (Nat × Int32)) (i : Nat), (∀ j, b + 2 * i ≤ j → j < b + 2 * (i + L.length) → M1 2 j = M 2 j) → kAt M b L i → kAt M1 b L i
  | [], _, _, _ => trivial
  | q :: L, i, h, hh => ⟨(h _ (by omega) (by simp only [List.length_cons]; omega)).trans hh.1, (h _ (by omega) (by simp only [List.length_cons]; omega)).trans hh.2.1, kAt_fr L (i + 1) (fun j h1 h2 => h j (by omega) (by simp only [List.length_cons]; omega)) hh.2.2⟩
/-- a clause k as it lies in the text tx, its code below n -/
def kC2 (M : Nat → Nat → Int32) (tx n k : Nat) (c : kC) : Prop := c.1 < 7 ∧ M 2 (680 * tx + 1 + 3 * k) = nI c.1 ∧ (c.1 < 4 → ∃ i : Nat, M 2 (680 * tx + 1 + 3 * k + 1) = nI i ∧ M 2 (680 * tx + 1 + 3 * k + 2) = nI (i + c.2.1.length) ∧ i + c.2.1.length ≤ n ∧ kAt M (680 * tx + 75) c.2.1 i) ∧ (4 ≤ c.1 → M 2 (680 * tx + 1 + 3 * k + 1) = nI c.2.2.1 ∧ (c.1 = 5 → M 2 (680 * tx + 1 + 3 * k + 2) = nI c.2.2.2))
theorem kC2.kept {M M1 : Nat → Nat → Int32} {tx n n1 k : Nat} {c : kC} (h : kC2 M tx n k c) (hn : n ≤ n1) (h1 : ∀ j, 680 * tx + 1 + 3 * k ≤ j → j ≤ 680 * tx + 3 + 3 * k → M1 2 j = M 2 j) (h2 : ∀ j, 680 * tx + 75 ≤ j → j < 680 * tx + 75 + 2 * n → M1 2 j = M 2 j) : kC2 M1 tx n1 k c := by
  obtain ⟨a, b, c4, c5⟩ := h
  refine ⟨a, (h1 _ (by omega) (by omega)).trans b, fun h => ?_, fun h => ⟨(h1 _ (by omega) (by omega)).trans (c5 h).1, fun e => (h1 _ (by omega) (by omega)).trans ((c5 h).2 e)⟩⟩
  obtain ⟨i, e1, e2, e3, e4⟩ := c4 h
  exact ⟨i, (h1 _ (by omega) (by omega)).trans e1, (h1 _ (by omega) (by omega)).trans e2, by omega, kAt_fr _ _ (fun j g1 g2 => h2 j (by omega) (by omega)) e4⟩
theorem kC2.text {M : Nat → Nat → Int32} {tx n : Nat} (hn : n ≤ 302) : ∀ (cs : List kC) (k : Nat), (∀ i c, cs[i]? = some c → kC2 M tx n (k + i) c) → (∀ c ∈ cs, c.1 < 4 → kGood c.2.1 ∧ kNm c.1 c.2.1) → kCl M tx cs k
  | [], _, _, _ => trivial
  | c :: cs, k, h, hg => by
    refine ⟨?_, kC2.text hn cs (k + 1) (fun i c9 e => by have := h (i + 1) c9 e; rwa [show k + (i + 1) = k + 1 + i by omega] at this) (fun c9 h9 => hg c9 (List.mem_cons_of_mem _ h9))⟩
    obtain ⟨a, b, c4, c5⟩ := h 0 c rfl
    refine ⟨a, b, fun h9 => ?_, c5⟩
    obtain ⟨i, e1, e2, e3, e4⟩ := c4 h9
    obtain ⟨g1, g2⟩ := hg c List.mem_cons_self h9
    exact ⟨i, e1, e2, by omega, e4, g1, g2⟩
