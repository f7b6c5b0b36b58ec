/-! plan: a work's row of the component's tables and the twin's reckoning -/
theorem sumT_nat {tx : kT} {nm : Nat → Int32} {so top wo : Nat} (ht : top < 2 ^ 31) (hw : wo ≤ top) : ∃ v, v ≤ top ∧ mSumT tx nm so (nI top) (nI wo) = nI v := by
  cases tx with
  | none => exact ⟨wo, hw, rfl⟩
  | some q =>
    show ∃ v, v ≤ top ∧ mSum nm so (nI top) (nI wo) q.2 = nI v
    rw [mSum_fnd]
    cases fnd so q.2 with
    | none => exact ⟨wo, hw, rfl⟩
    | some L => exact mHeld_nat _ ht
theorem smoke_n (tx : kT) (x : Int32) : ∃ v, v ≤ 40 ∧ mSmoke tx x = nI v := sumT_nat (by decide) (by decide)
theorem cost_n (tx : kT) (M : Nat → Nat → Int32) (b : Nat) (x : Int32) : ∃ v, v ≤ 99 ∧ mCost tx M b x = nI v := sumT_nat (by decide) (by decide)
/-- a work: the component's reckoning and the twin's, with the twin's smoke and costs -/
theorem lay_mDone {tx : kT} {M : Nat → Nat → Int32} {nb nk nu nt h k tm f e1 : Nat} {be : Int32} (hb : nb ≤ 6) (hv : RV (M 0) nb nk nu nt) (hk : k < nk) (htm : xTeam nb tm) :
    (xLayR tx M h k tm f e1 = none → ¬ (mDone M (skC tx h) (ckC tx M h) k tm f e1 be).1) ∧ ∀ q, xLayR tx M h k tm f e1 = some q → mDone M (skC tx h) (ckC tx M h) k tm f e1 be = ((M 0 (40 + 3 * k + 1) &&& (q.2.1 ^^^ (-1))) = 0, M 0 (40 + 3 * k + 2) - q.2.2, nI (q.1 + 1)) := by
  obtain ⟨t1, t2⟩ := htm
  obtain ⟨la, -, a2, ea⟩ := hv.1 (tm / 10) (by omega)
  obtain ⟨lb, -, b2, eb⟩ := hv.1 (tm % 10) t2
  obtain ⟨⟨w, -, w2, ew⟩, -⟩ := hv.2.1 k hk
  have hs : ∀ j, ∃ v, v ≤ 40 ∧ mSmoke tx (nI (h + j)) = nI v := fun j => smoke_n tx _
  have := lay_done (tx := tx) (M := M) (sk := skC tx h) (ck := ckC tx M h) (h := h) (a := tm / 10) (b := tm % 10) (k := k) (la := la) (lb := lb) (sn := fun j => (hs j).choose) (worth := M 0 (40 + 3 * k + 2)) (by omega) (by omega) (fun j => by have := (hs j).choose_spec.1; show (hs j).choose < 100; omega) ea eb (e1 - f) f w (nI 0) (nI 0) be (by omega) (fun j _ _ => ⟨(hs j).choose_spec.2, (hs j).choose_spec.2, ckC_at tx M h (by omega), ckC_at tx M h (by omega)⟩)
  unfold xLayR mDone
  rw [ew]
  rw [show M 0 (40 + 3 * k + 2) - nI 0 = M 0 (40 + 3 * k + 2) from Int32.sub_zero _] at this
  exact this
