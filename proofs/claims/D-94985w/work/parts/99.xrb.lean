/-! plan: what a row of the component's tables says of the twin's reckoning -/
theorem tab_done {tx : kT} {M Z : Nat → Nat → Int32} {nb nk nu nt h e1 i tm t : Nat} {kw : Nat → Nat} (hb : nb ≤ 6) (hv : RV (M 0) nb nk nu nt) (hk : kw i < nk) (htm : xTeam nb tm) (ht : t < e1) (he : e1 ≤ 24) (hT : xTab tx M h e1 kw Z i tm t) :
    ((mDone M (skC tx h) (ckC tx M h) (kw i) tm t e1 0).1 ↔ ¬ Z (435 + 60 * i + tm) t = (-1)) ∧ ((mDone M (skC tx h) (ckC tx M h) (kw i) tm t e1 0).1 → ∃ e, t ≤ e ∧ e < e1 ∧ Z (435 + 60 * i + tm) t = nI e ∧ (mDone M (skC tx h) (ckC tx M h) (kw i) tm t e1 0).2.2 = nI (e + 1) ∧ Z (195 + 60 * i + tm) t = (mDone M (skC tx h) (ckC tx M h) (kw i) tm t e1 0).2.1) := by
  obtain ⟨d1, d2⟩ := lay_mDone (h := h) (f := t) (e1 := e1) (be := 0) hb hv hk htm
  obtain ⟨t1, t2⟩ := hT
  cases hr : xLayR tx M h (kw i) tm t e1 with
  | none =>
    rw [hr] at t1
    have h1 : Z (435 + 60 * i + tm) t = (-1) := t1
    exact ⟨⟨fun q => absurd q (d1 hr), fun q => absurd h1 q⟩, fun q => absurd q (d1 hr)⟩
  | some q =>
    have hl := xLay_lt _ _ _ _ _ _ hr
    rw [d2 q hr]
    rw [hr] at t1
    have h1 : Z (435 + 60 * i + tm) t = pif (M 0 (40 + 3 * kw i + 1) &&& (q.2.1 ^^^ (-1)) = 0) (nI q.1) (-1) := t1
    by_cases c : M 0 (40 + 3 * kw i + 1) &&& (q.2.1 ^^^ (-1)) = 0
    · rw [pif_t c] at h1
      refine ⟨⟨fun _ => by rw [h1]; exact nI_ne_m1 (by omega), fun _ => c⟩, fun _ => ⟨q.1, hl.1, by omega, h1, rfl, t2 q hr⟩⟩
    · rw [pif_f c] at h1
      exact ⟨⟨fun g => absurd g c, fun g => absurd h1 g⟩, fun g => absurd g c⟩
