theorem it_rng {σ : Type} {f : Nat → σ → σ} (P : Nat → σ → Prop) : ∀ (n i : Nat) (s : σ), (∀ j s, i ≤ j → j < i + n → P j s → P (j + 1) (f j s)) → P i s → P (i + n) (it f n i s)
  | 0, i, s, _, h => by rw [it_0]; exact h
  | n + 1, i, s, hf, h => by
    rw [it_succ, show i + (n + 1) = (i + 1) + n by omega]
    exact it_rng P n (i + 1) (f i s) (fun j s h1 h2 => hf j s (by omega) (by omega)) (hf i s (Nat.le_refl _) (by omega) h)
def mSt (tx : kT) (M : Nat → Nat → Int32) (nb nk np h ns nu : Nat) : Prop := (M 0 0 = nI nb ∧ nb ≤ 6) ∧ (M 0 1 = nI nk ∧ nk ≤ 6) ∧ (M 0 2 = nI np ∧ np ≤ 10) ∧ (M 0 3 = nI h ∧ h ≤ 999) ∧ (M 0 6 = nI ns ∧ ns ≤ 30) ∧ (M 0 9 = nI nu ∧ nu ≤ 40) ∧ (∀ q, q < np → ∃ k, k < 6 ∧ M 0 (150 + 10 * q) = nI k) ∧ mTx M tx
/-- a state in which all but a few places is as it was -/
theorem mSt_of {tx : kT} {M M2 : Nat → Nat → Int32} {nb nk np h ns nu np2 h2 ns2 nu2 : Nat} (hS : mSt tx M nb nk np h ns nu) (e0 : M2 0 0 = M 0 0) (e1 : M2 0 1 = M 0 1) (e2 : M2 0 2 = nI np2) (hp : np2 ≤ 10) (e3 : M2 0 3 = nI h2) (hh : h2 ≤ 999) (e6 : M2 0 6 = nI ns2) (hs : ns2 ≤ 30) (e9 : M2 0 9 = nI nu2) (hu : nu2 ≤ 40) (hk : ∀ q, q < np2 → ∃ k, k < 6 ∧ M2 0 (150 + 10 * q) = nI k) (e5 : M2 0 5 = M 0 5) (ek : ∀ k j, k ≠ 0 → M2 k j = M k j) : mSt tx M2 nb nk np2 h2 ns2 nu2 :=
  ⟨⟨e0.trans hS.1.1, hS.1.2⟩, ⟨e1.trans hS.2.1.1, hS.2.1.2⟩, ⟨e2, hp⟩, ⟨e3, hh⟩, ⟨e6, hs⟩, ⟨e9, hu⟩, hk, mTx_congr e5 (funext fun j => ek 2 j (by decide)) hS.2.2.2.2.2.2.2⟩
theorem mBegin_e {M : Nat → Nat → Int32} {np j : Nat} {x : Int32} (h : j < 410) (h6 : j ≠ 6) (h2 : j ≠ 2) (hr : ∀ i, 1 ≤ i → i < 10 → j ≠ 150 + 10 * np + i) : mBeginPut M np x 0 j = if j = 150 + 10 * np then x else M 0 j := by
  unfold mBeginPut
  rw [up2_ne (Or.inr h2)]
  have := it_rng (f := fun i M => up2 M 0 (150 + 10 * np + i) (nI 0)) (fun _ M2 => M2 0 j = if j = 150 + 10 * np then x else M 0 j) (10 - 1) 1 (up2 (mKeepC M) 0 (150 + 10 * np) x) (fun i s h1 h2 h3 => (up2_ne (Or.inr (hr i h1 (by omega)))).trans h3) (by
    by_cases e : j = 150 + 10 * np
    · subst e; rw [if_pos rfl]; exact up2_at
    · rw [if_neg e, up2_ne (Or.inr e)]; exact mKeepC_lo h h6)
  exact this
theorem mBegin_6 {M : Nat → Nat → Int32} {np n : Nat} {x : Int32} (h : M 0 6 = nI n) (hn : n ≤ 30) : mBeginPut M np x 0 6 = nI (min n 29 + 1) := by
  unfold mBeginPut
  rw [up2_ne (Or.inr (by decide))]
  exact it_rng (f := fun i M => up2 M 0 (150 + 10 * np + i) (nI 0)) (fun _ M2 => M2 0 6 = nI (min n 29 + 1)) (10 - 1) 1 (up2 (mKeepC M) 0 (150 + 10 * np) x) (fun i s h1 h2 h3 => (up2_ne (Or.inr (by omega))).trans h3) ((up2_ne (Or.inr (by omega))).trans (mKeepC_6 h hn))
theorem mBegin_k {M : Nat → Nat → Int32} {np k j : Nat} {x : Int32} (hk : k ≠ 0) : mBeginPut M np x k j = M k j := by
  unfold mBeginPut
  rw [up2_ne (Or.inl hk)]
  exact it_rng (f := fun i M => up2 M 0 (150 + 10 * np + i) (nI 0)) (fun _ M2 => M2 k j = M k j) (10 - 1) 1 (up2 (mKeepC M) 0 (150 + 10 * np) x) (fun i s h1 h2 h3 => (up2_ne (Or.inl hk)).trans h3) ((up2_ne (Or.inl hk)).trans (mKeepC_k hk))
theorem mSt_begin {tx : kT} {M : Nat → Nat → Int32} {nb nk np h ns nu jx : Nat} (hS : mSt tx M nb nk np h ns nu) (hj : jx < nk) (hnp : np < 10) : mSt tx (mBeginPut M np (nI jx)) nb nk (np + 1) h (min ns 29 + 1) nu := by
  have hE := fun j h1 h2 h3 h4 => mBegin_e (M := M) (np := np) (x := nI jx) (j := j) h1 h2 h3 h4
  have hL : ∀ j, j < 150 → j ≠ 6 → j ≠ 2 → mBeginPut M np (nI jx) 0 j = M 0 j := fun j h1 h2 h3 => (hE j (by omega) h2 h3 (fun i _ _ => by omega)).trans (if_neg (by omega))
  have hk6 := hS.2.1.2
  refine mSt_of hS (hL 0 (by decide) (by decide) (by decide)) (hL 1 (by decide) (by decide) (by decide)) (by unfold mBeginPut; exact up2_at) (by omega) ((hL 3 (by decide) (by decide) (by decide)).trans hS.2.2.2.1.1) hS.2.2.2.1.2 (mBegin_6 hS.2.2.2.2.1.1 hS.2.2.2.2.1.2) (by omega) ((hL 9 (by decide) (by decide) (by decide)).trans hS.2.2.2.2.2.1.1) hS.2.2.2.2.2.1.2 ?_ (hL 5 (by decide) (by decide) (by decide)) (fun k j hk => mBegin_k hk)
  intro q hq
  have e := hE (150 + 10 * q) (by omega) (by omega) (by omega) (fun i _ _ => by omega)
  by_cases c : q = np
  · exact ⟨jx, by omega, e.trans (if_pos (by omega))⟩
  · obtain ⟨k, h1, h2⟩ := hS.2.2.2.2.2.2.1 q (by omega)
    exact ⟨k, h1, (e.trans (if_neg (by omega))).trans h2⟩
theorem mLater1_e {M : Nat → Nat → Int32} {k j : Nat} (hr : k ≠ 0 ∨ ∀ b, b < 6 → j ≠ 10 + 5 * b + 3) : mLater1 M k j = up2 (mKeepC M) 0 3 (M 0 3 + nI 1) k j := by
  unfold mLater1
  exact it_rng (f := fun b M => up2 M 0 (10 + 5 * b + 3) (nI 0)) (fun _ M2 => M2 k j = up2 (mKeepC M) 0 3 (M 0 3 + nI 1) k j) (6 - 0) 0 _ (fun i s h1 h2 h3 => (up2_ne (hr.elim Or.inl (fun h => Or.inr (h i (by omega))))).trans h3) rfl
theorem mSt_later1 {tx : kT} {M : Nat → Nat → Int32} {nb nk np h ns nu : Nat} (hS : mSt tx M nb nk np h ns nu) (hh : h + 1 ≤ 999) : mSt tx (mLater1 M) nb nk np (h + 1) (min ns 29 + 1) nu := by
  have hL : ∀ j, (∀ b, b < 6 → j ≠ 10 + 5 * b + 3) → j < 410 → j ≠ 6 → j ≠ 3 → mLater1 M 0 j = M 0 j := fun j h0 h1 h2 h3 => (mLater1_e (Or.inr h0)).trans ((up2_ne (Or.inr h3)).trans (mKeepC_lo h1 h2))
  refine mSt_of hS (hL 0 (by omega) (by decide) (by decide) (by decide)) (hL 1 (by omega) (by decide) (by decide) (by decide)) ((hL 2 (by omega) (by decide) (by decide) (by decide)).trans hS.2.2.1.1) hS.2.2.1.2 ((mLater1_e (Or.inr (by omega))).trans (up2_at.trans (by rw [hS.2.2.2.1.1, nI_add]))) hh ((mLater1_e (Or.inr (by omega))).trans ((up2_ne (Or.inr (by decide))).trans (mKeepC_6 hS.2.2.2.2.1.1 hS.2.2.2.2.1.2))) (by omega) ((hL 9 (by omega) (by decide) (by decide) (by decide)).trans hS.2.2.2.2.2.1.1) hS.2.2.2.2.2.1.2 ?_ (hL 5 (by omega) (by decide) (by decide) (by decide)) (fun k j hk => (mLater1_e (Or.inl hk)).trans ((up2_ne (Or.inl hk)).trans (mKeepC_k hk)))
  intro q hq
  have hp := hS.2.2.1.2
  obtain ⟨k, h1, h2⟩ := hS.2.2.2.2.2.2.1 q hq
  exact ⟨k, h1, (hL _ (by omega) (by omega) (by omega) (by omega)).trans h2⟩
theorem mSt_later {tx : kT} {M : Nat → Nat → Int32} {nb nk np h ns nu n : Nat} (hS : mSt tx M nb nk np h ns nu) (hh : h + n ≤ 999) : ∃ ns2, mSt tx (mLater M n) nb nk np (h + n) ns2 nu ∧ (∀ k j, k ≠ 0 → (mLater M n) k j = M k j) ∧ (mLater M n) 0 4 = M 0 4 := by
  unfold mLater
  have := it_rng (f := fun _ M => mLater1 M) (fun i M2 => ∃ ns2, mSt tx M2 nb nk np (h + i) ns2 nu ∧ (∀ k j, k ≠ 0 → M2 k j = M k j) ∧ M2 0 4 = M 0 4) n 0 M (fun i s h1 h2 h3 => by
    obtain ⟨n2, g1, g2, g3⟩ := h3
    exact ⟨_, mSt_later1 g1 (Nat.le_trans (show h + i + 1 ≤ h + n by omega) hh), fun k j hk => ((mLater1_e (Or.inl hk)).trans ((up2_ne (Or.inl hk)).trans (mKeepC_k hk))).trans (g2 k j hk), ((mLater1_e (Or.inr (by omega))).trans ((up2_ne (Or.inr (by decide))).trans (mKeepC_lo (by decide) (by decide)))).trans g3⟩) ⟨ns, hS, fun _ _ _ => rfl, rfl⟩
  rw [Nat.zero_add] at this
  exact this
