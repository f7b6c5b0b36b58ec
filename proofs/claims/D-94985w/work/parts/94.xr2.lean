/-! begin, later, blow keep the relation -/
theorem mBegin_hi {M : Nat → Nat → Int32} {np j : Nat} {x : Int32} (hnp : np < 10) (hj : 410 ≤ j) : mBeginPut M np x 0 j = mKeepC M 0 j := by
  unfold mBeginPut
  rw [up2_ne (Or.inr (by omega))]
  exact it_rng (f := fun i M => up2 M 0 (150 + 10 * np + i) (nI 0)) (fun _ M2 => M2 0 j = mKeepC M 0 j) (10 - 1) 1 (up2 (mKeepC M) 0 (150 + 10 * np) x) (fun i s h1 h2 h3 => (up2_ne (Or.inr (by omega))).trans h3) (up2_ne (Or.inr (by omega)))
theorem mBegin_z {M : Nat → Nat → Int32} {np i : Nat} {x : Int32} (h1 : 1 ≤ i) (h2 : i < 10) : mBeginPut M np x 0 (150 + 10 * np + i) = nI 0 := by
  unfold mBeginPut
  rw [up2_ne (Or.inr (by omega))]
  exact it_rng (f := fun i M => up2 M 0 (150 + 10 * np + i) (nI 0)) (fun k M2 => i < k → M2 0 (150 + 10 * np + i) = nI 0) (10 - 1) 1 (up2 (mKeepC M) 0 (150 + 10 * np) x) (fun k s g1 g2 g3 g4 => by
    by_cases e : i = k
    · subst e; exact up2_at
    · exact (up2_ne (Or.inr (by omega))).trans (g3 (by omega))) (fun g => by omega) h2
theorem xBegin_53 {X : Nat → Nat → Int32} {np ns j : Nat} {x : Int32} (hns : ns ≤ 30) (hnp : np < 10) : xBeginPut X np ns x 53 j = if j = 112 then nI (np + 1) else if j = 12 + 10 * np then x else if 12 + 10 * np ≤ j ∧ j < 12 + 10 * np + 10 then nI 0 else X 53 j := by
  unfold xBeginPut
  by_cases e : j = 112
  · subst e; rw [if_pos rfl]; exact up2_at
  rw [if_neg e, up2_ne (Or.inr e)]
  by_cases e2 : j = 12 + 10 * np
  · subst e2; rw [if_pos rfl]; exact up2_at
  rw [if_neg e2, up2_ne (Or.inr e2)]
  by_cases e3 : 12 + 10 * np ≤ j ∧ j < 12 + 10 * np + 10
  · rw [if_pos e3]; exact xZero_in e3.1 e3.2
  · rw [if_neg e3, xZero_out (by omega)]
    exact congrFun (xKeep_lo hns (by decide) (by decide)) j
theorem xBegin_row {X : Nat → Nat → Int32} {np ns k : Nat} {x : Int32} (hk : k ≠ 53) : xBeginPut X np ns x k = xKeep X ns k := by
  unfold xBeginPut
  rw [up2_row hk, up2_row hk]
  exact xZero_ne hk
theorem RS_begin {X M : Nat → Nat → Int32} {nb nk nx np h nu ns ne nt kk : Nat} (hR : RS X 51 (M 0) nb nk nx np h nu ns ne nt) (hk : kk < nk) (hnp : np < 10) : RS (xBeginPut X np ns (nI kk)) 51 (mBeginPut M np (nI kk) 0) nb nk nx (np + 1) h nu (min ns 29 + 1) ne nt := by
  obtain ⟨hB, ⟨c1, c2, c3⟩, -⟩ := RS_iff.mp hR
  have hE := fun j h1 h2 h3 h4 => mBegin_e (M := M) (np := np) (x := nI kk) (j := j) h1 h2 h3 h4
  have hX := fun j => xBegin_53 (X := X) (np := np) (ns := ns) (x := nI kk) (j := j) c3 hnp
  have hL : ∀ j, j < 150 → j ≠ 6 → j ≠ 2 → mBeginPut M np (nI kk) 0 j = M 0 j := fun j h1 h2 h3 => (hE j (by omega) h2 h3 (fun i _ _ => by omega)).trans (if_neg (by omega))
  have hB0 := hB
  obtain ⟨h1, h2, h3, h4, h6, h7, h8, h9, h10, h11, h12, h13, h14, h15, h16, h17, h18, h19, v1, v2, v3, v4, v5⟩ := hB
  have b6 := h1.2.2
  have u40 := h10.2.2
  -- a piece's place
  have hP : ∀ i, i < 100 → (i < 10 * np ∨ 10 * np + 10 ≤ i) → mBeginPut M np (nI kk) 0 (150 + i) = M 0 (150 + i) := fun i hi h => (hE (150 + i) (by omega) (by omega) (by omega) (fun j _ _ => by omega)).trans (if_neg (by omega))
  have hP0 : mBeginPut M np (nI kk) 0 (150 + 10 * np) = nI kk := (hE (150 + 10 * np) (by omega) (by omega) (by omega) (fun j _ _ => by omega)).trans (if_pos rfl)
  refine RS_put hR (fun k _ => xBegin_row (by omega)) (congrFun (xBegin_row (by decide)) 4) (fun j hj => mBegin_hi hnp hj) ((mBegin_6 c2 c3).trans (mKeepC_6 c2 c3).symm) (fun i hi => (hE (250 + i) (by omega) (by omega) (by omega) (fun j _ _ => by omega)).trans (if_neg (by omega))) (Nat.le_refl _) (RB.row (fun j hj => (congrFun (xBegin_row (k := 52) (by decide)) j).trans (xKeep_52 c3 hj)) (fun k q1 q2 => (xBegin_row (by omega)).trans (xKeep_lo c3 (by omega) (by omega))) (fun j q1 q2 q3 q4 q5 _ => hL j q1 q4 q2) ⟨?_, ?_, by omega⟩ ⟨?_, ?_, h9.2.2⟩ ⟨?_, ?_, u40⟩ (fun b hb => ⟨?_, ?_⟩) (fun b hb hb6 => ?_) (fun i hi => ?_) (fun i hi => ?_) (fun q hq => ?_) (fun i hi => ?_) (fun q b hq hb => ?_) hB0)
  · exact (hX 112).trans (if_pos rfl)
  · unfold mBeginPut; exact up2_at
  · refine (hX 113).trans ?_
    rw [if_neg (by decide), if_neg (by omega), if_neg (by omega)]; exact h9.1
  · exact (hL 3 (by decide) (by decide) (by decide)).trans h9.2.1
  · refine (hX 114).trans ?_
    rw [if_neg (by decide), if_neg (by omega), if_neg (by omega)]; exact h10.1
  · exact (hL 9 (by decide) (by decide) (by decide)).trans h10.2.1
  · refine (hX b).trans ?_
    rw [if_neg (by omega), if_neg (by omega), if_neg (by omega), hL _ (by omega) (by omega) (by omega)]; exact (h12 b hb).1
  · refine (hX (6 + b)).trans ?_
    rw [if_neg (by omega), if_neg (by omega), if_neg (by omega), hL _ (by omega) (by omega) (by omega)]; exact (h12 b hb).2
  · refine (hX (6 + b)).trans ?_
    rw [if_neg (by omega), if_neg (by omega), if_neg (by omega)]; exact h13 b hb hb6
  · refine (hX (12 + i)).trans ?_
    rw [if_neg (by omega)]
    by_cases e : i = 10 * np
    · subst e; rw [if_pos rfl, hP0]
    rw [if_neg (by omega)]
    by_cases e2 : 10 * np ≤ i ∧ i < 10 * np + 10
    · rw [if_pos (by omega), show 150 + i = 150 + 10 * np + (i - 10 * np) by omega, mBegin_z (by omega) (by omega)]
    · rw [if_neg (by omega), hP i hi (by omega)]; exact h17 i hi
  · refine (hX (115 + i)).trans ?_
    rw [if_neg (by omega), if_neg (by omega), if_neg (by omega), (hE (250 + i) (by omega) (by omega) (by omega) (fun j _ _ => by omega)).trans (if_neg (by omega))]; exact h18 i hi
  · by_cases e : q = np
    · subst e; exact ⟨kk, hk, hP0⟩
    · rw [hP (10 * q) (by omega) (by omega)]; exact h19 q (by omega)
  · rw [show 250 + 4 * i + 2 = 250 + (4 * i + 2) by omega, (hE (250 + (4 * i + 2)) (by omega) (by omega) (by omega) (fun j _ _ => by omega)).trans (if_neg (by omega)), ← show 250 + 4 * i + 2 = 250 + (4 * i + 2) by omega]; exact v4 i hi
  · by_cases e : q = np
    · subst e
      exact ⟨0, Nat.zero_le _, by rw [show 150 + 10 * q + 4 + b = 150 + 10 * q + (4 + b) by omega]; exact mBegin_z (by omega) (by omega)⟩
    · rw [show 150 + 10 * q + 4 + b = 150 + (10 * q + 4 + b) by omega, hP _ (by omega) (by omega), ← show 150 + 10 * q + 4 + b = 150 + (10 * q + 4 + b) by omega]; exact v5 q b hq hb
theorem mLater1_g {M : Nat → Nat → Int32} {b : Nat} (hb : b < 6) : mLater1 M 0 (10 + 5 * b + 3) = nI 0 := by
  unfold mLater1
  exact it_rng (f := fun b M => up2 M 0 (10 + 5 * b + 3) (nI 0)) (fun k M2 => b < k → M2 0 (10 + 5 * b + 3) = nI 0) (6 - 0) 0 _ (fun k s g1 g2 g3 g4 => by
    by_cases e : b = k
    · subst e; exact up2_at
    · exact (up2_ne (Or.inr (by omega))).trans (g3 (by omega))) (fun g => by omega) hb
theorem RS_later1 {X M : Nat → Nat → Int32} {nb nk nx np h nu ns ne nt : Nat} (hR : RS X 51 (M 0) nb nk nx np h nu ns ne nt) (hh : h + 1 ≤ 999) : RS (xLater1 X) 51 (mLater1 M 0) nb nk nx np (h + 1) nu (min ns 29 + 1) ne nt := by
  obtain ⟨hB, ⟨c1, c2, c3⟩, -⟩ := RS_iff.mp hR
  have hL : ∀ j, (∀ b, b < 6 → j ≠ 10 + 5 * b + 3) → j < 410 → j ≠ 6 → j ≠ 3 → mLater1 M 0 j = M 0 j := fun j h0 h1 h2 h3 => (mLater1_e (Or.inr h0)).trans ((up2_ne (Or.inr h3)).trans (mKeepC_lo h1 h2))
  have c1' : X 52 4 = nI ns := c1
  have ek : xKeepC X = xKeep X ns := by unfold xKeepC; rw [c1', show cl (nI ns) = ns from nI_clamp (by omega)]
  have hrow : ∀ k, k ≠ 53 → xLater1 X k = xKeep X ns k := fun k hk => by
    unfold xLater1
    rw [xZero_ne hk, up2_row hk, ek]
  have hX : ∀ j, (j < 6 ∨ 12 ≤ j) → j ≠ 113 → xLater1 X 53 j = X 53 j := fun j h1 h2 => by
    unfold xLater1
    rw [xZero_out h1, up2_ne (Or.inr h2), ek]
    exact congrFun (xKeep_lo c3 (by decide) (by decide)) j
  have hB0 := hB
  obtain ⟨h1, h2, h3, h4, h6, h7, h8, h9, h10, h11, h12, h13, h14, h15, h16, h17, h18, h19, v1, v2, v3, v4, v5⟩ := hB
  have b6 := h1.2.2
  have u40 := h10.2.2
  have p10 := h8.2.2
  refine RS_put hR (fun k _ => hrow _ (by omega)) (congrFun (hrow 52 (by decide)) 4) (fun j hj => (mLater1_e (Or.inr (by omega))).trans (up2_ne (Or.inr (by omega)))) ((mLater1_e (Or.inr (by omega))).trans (up2_ne (Or.inr (by decide)))) (fun i hi => hL _ (by omega) (by omega) (by omega) (by omega)) (Nat.le_refl _) (RB.row (fun j hj => (congrFun (hrow 52 (by decide)) j).trans (xKeep_52 c3 hj)) (fun k q1 q2 => (hrow _ (by omega)).trans (xKeep_lo c3 (by omega) (by omega))) (fun j q1 q2 q3 q4 q5 q6 => hL j (fun b hb => (q6 b hb).2) (by omega) q4 q3) ⟨(hX 112 (by decide) (by decide)).trans h8.1, (hL 2 (by omega) (by decide) (by decide) (by decide)).trans h8.2.1, p10⟩ ⟨?_, ?_, hh⟩ ⟨(hX 114 (by decide) (by decide)).trans h10.1, (hL 9 (by omega) (by decide) (by decide) (by decide)).trans h10.2.1, u40⟩ (fun b hb => ⟨?_, ?_⟩) (fun b hb hb6 => ?_) (fun i hi => ?_) (fun i hi => ?_) (fun q hq => ?_) (fun i hi => ?_) (fun q b hq hb => ?_) hB0)
  · have h9' : X 53 113 = nI h := h9.1
    show xLater1 X 53 113 = _
    unfold xLater1
    rw [xZero_out (by decide), h9', nI_add]
    exact up2_at
  · rw [mLater1_e (Or.inr (by omega)), up2_at, h9.2.1, nI_add]
  · refine (hX b (by omega) (by omega)).trans ?_
    rw [hL _ (by omega) (by omega) (by omega) (by omega)]; exact (h12 b hb).1
  · rw [mLater1_g (by omega)]
    show xLater1 X 53 (6 + b) = _
    unfold xLater1
    exact xZero_in (by omega) (by omega)
  · show xLater1 X 53 (6 + b) = _
    unfold xLater1
    exact xZero_in (by omega) (by omega)
  · refine (hX (12 + i) (by omega) (by omega)).trans ?_
    rw [hL _ (by omega) (by omega) (by omega) (by omega)]; exact h17 i hi
  · refine (hX (115 + i) (by omega) (by omega)).trans ?_
    rw [hL _ (by omega) (by omega) (by omega) (by omega)]; exact h18 i hi
  · rw [hL _ (by omega) (by omega) (by omega) (by omega)]; exact h19 q hq
  · rw [hL _ (by omega) (by omega) (by omega) (by omega)]; exact v4 i hi
  · rw [hL _ (by omega) (by omega) (by omega) (by omega)]; exact v5 q b hq hb
theorem RS_later {nb nk nx np nu ne nt : Nat} : ∀ (n i h ns : Nat) (X M : Nat → Nat → Int32), RS X 51 (M 0) nb nk nx np h nu ns ne nt → h + n ≤ 999 → ∃ ns', RS (it (fun _ X => xLater1 X) n i X) 51 (it (fun _ M => mLater1 M) n i M 0) nb nk nx np (h + n) nu ns' ne nt
  | 0, i, h, ns, X, M, hR, _ => ⟨ns, by rw [it_0, it_0]; exact hR⟩
  | n + 1, i, h, ns, X, M, hR, hh => by
    rw [it_succ, it_succ]
    obtain ⟨ns', q⟩ := RS_later n (i + 1) (h + 1) _ _ _ (RS_later1 hR (by omega)) (by omega)
    exact ⟨ns', by rw [show h + (n + 1) = h + 1 + n by omega]; exact q⟩
