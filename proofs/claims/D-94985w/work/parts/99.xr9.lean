/-! an hour of a work: the component's reckoning and the twin's -/
theorem nmle {a b : Nat} (ha : a < 2 ^ 31) (hb : b < 2 ^ 31) : pif (nI a ≤ nI b) (nI a) (nI b) = nI (min a b) := by
  by_cases c : a ≤ b
  · rw [pif_t ((nI_leI ha hb).mpr c), show min a b = a by omega]
  · rw [pif_f (fun h => c ((nI_leI ha hb).mp h)), show min a b = b by omega]
theorem lay_step {tx : kT} {M : Nat → Nat → Int32} {sk : Nat → Int32} {h a b t la lb s w : Nat} (h1 : la < 100) (h2 : lb < 100) (h3 : s < 100) (h4 : w < 100) (ea : M 0 (10 + 5 * a) = nI la) (eb : M 0 (10 + 5 * b) = nI lb) (es : mSmoke tx (nI (h + t)) = nI s) (ek : sk t = nI s) :
    xFi M a (xFr tx h t (nI w)) = mF1 M sk a b t (nI w) ∧ xSe M a b (xFr tx h t (nI w)) = mC2 M sk a b t (nI w) - mF1 M sk a b t (nI w) ∧ ∃ c f, f ≤ c ∧ c ≤ w ∧ mC2 M sk a b t (nI w) = nI c ∧ mF1 M sk a b t (nI w) = nI f ∧ c - f = (if a = b then 0 else min (min w s - f) lb) := by
  have e0 : mC0 M a b = nI (la + if a = b then 0 else lb) := by
    unfold mC0
    by_cases c : a = b
    · rw [pif_t c.symm, if_pos c, ea, nI_add]
    · rw [pif_f (fun q => c q.symm), if_neg c, ea, eb, nI_add]
  generalize hB : (if a = b then 0 else lb) = lb' at e0
  have hb' : lb' < 100 := by rw [← hB]; split <;> omega
  have e1 : mC1 M sk a b t = nI (min (la + lb') s) := by
    unfold mC1
    rw [e0, ek, nmle (by omega) (by omega)]
  have e2 : mC2 M sk a b t (nI w) = nI (min (min (la + lb') s) w) := by
    unfold mC2
    rw [e1, nmle (by omega) (by omega)]
  have e3 : mF1 M sk a b t (nI w) = nI (min (min (min (la + lb') s) w) la) := by
    unfold mF1
    rw [e2, ea, nmle (by omega) (by omega)]
  have f1 : xFr tx h t (nI w) = nI (min w s) := by
    unfold xFr
    rw [es, nmin (by omega) (by omega)]
  have f2 : xFi M a (nI (min w s)) = nI (min (min w s) la) := by
    unfold xFi
    rw [ea, nmin (by omega) (by omega)]
  have f3 : xSe M a b (nI (min w s)) = nI (if a = b then 0 else min (min w s - min (min w s) la) lb) := by
    unfold xSe
    by_cases c : a = b
    · rw [pif_t c, if_pos c]
    · rw [pif_f c, if_neg c, f2, eb, pk_sub (by omega), nmin (by omega) (by omega)]
  rw [f1, f2, f3, e2, e3]
  have m1 : min (min w s) la = min (min (min (la + lb') s) w) la := by omega
  have m2 : (if a = b then 0 else min (min w s - min (min w s) la) lb) = min (min (la + lb') s) w - min (min (min (la + lb') s) w) la := by
    by_cases c : a = b
    · rw [if_pos c] at hB ⊢
      omega
    · rw [if_neg c] at hB ⊢
      omega
  refine ⟨by rw [m1], by rw [m2, pk_sub (by omega)], _, _, ?_, ?_, rfl, rfl, ?_⟩
  · omega
  · omega
  · rw [← m2, m1]
theorem sub_add3 (a b c : Int32) : a - (b + c) = a - b - c := by
  rw [Int32.sub_eq_add_neg, Int32.neg_add, Int32.sub_eq_add_neg, Int32.sub_eq_add_neg, Int32.sub_eq_add_neg, Int32.add_assoc]
theorem le0_iff {m : Nat} (hm : m < 2 ^ 31) : nI m ≤ 0 ↔ m = 0 := by
  have h : nI m ≤ nI 0 ↔ m ≤ 0 := nI_leI hm (by decide)
  constructor
  · intro q
    have := h.mp q
    omega
  · intro q
    exact h.mpr (by omega)
theorem lay_done {tx : kT} {M : Nat → Nat → Int32} {sk ck : Nat → Int32} {h a b k la lb : Nat} {sn : Nat → Nat} {worth : Int32} (h1 : la < 100) (h2 : lb < 100) (h3 : ∀ t, sn t < 100) (ea : M 0 (10 + 5 * a) = nI la) (eb : M 0 (10 + 5 * b) = nI lb) : ∀ (n t w : Nat) (vo co be : Int32), w < 100 → (∀ j, t ≤ j → j < t + n → mSmoke tx (nI (h + j)) = nI (sn j) ∧ sk j = nI (sn j) ∧ ck (6 * j + a) = mCost tx M a (nI (h + j)) ∧ ck (6 * j + b) = mCost tx M b (nI (h + j))) →
    (xLay tx M h a b n t (nI w) vo co = none → ¬ (mDoneL M sk ck k a b n t (nI w) vo (worth - co) be).1) ∧ ∀ q, xLay tx M h a b n t (nI w) vo co = some q → mDoneL M sk ck k a b n t (nI w) vo (worth - co) be = ((M 0 (40 + 3 * k + 1) &&& (q.2.1 ^^^ (-1))) = 0, worth - q.2.2, nI (q.1 + 1))
  | 0, t, w, vo, co, be, hw, _ => ⟨fun _ => fun q => q, fun q hq => by cases hq⟩
  | n + 1, t, w, vo, co, be, hw, hj => by
    obtain ⟨g1, g2, g3, g4⟩ := hj t (Nat.le_refl _) (by omega)
    obtain ⟨p1, p2, c, f, hfc, hcw, p3, p4, -⟩ := lay_step (a := a) (b := b) (la := la) (lb := lb) (s := sn t) (w := w) h1 h2 (h3 t) hw ea eb g1 g2
    have r1 : xR1 tx M h a b t (nI w) = nI (w - c) := by
      unfold xR1
      rw [p1, p2, p3, p4, pk_sub hfc, nI_add, show f + (c - f) = c by omega, pk_sub hcw]
    have r2 : nI w - mC2 M sk a b t (nI w) = nI (w - c) := by rw [p3, pk_sub hcw]
    have v1 : xV1 tx M h a b t (nI w) vo = (vo ||| mVa M sk a b t (nI w)) ||| mVb M sk a b t (nI w) := by
      unfold xV1 mVa mVb xVo
      rw [p1, p2, p3, p4, pk_sub hfc, Int32.or_assoc]
      congr 2
      by_cases d : c ≤ f
      · rw [pif_t ((nI_leI (by omega) (by omega)).mpr d), pif_t ((le0_iff (by omega)).mpr (by omega))]
      · rw [pif_f (fun q => d ((nI_leI (by omega) (by omega)).mp q)), pif_f (fun q => by have := (le0_iff (by omega)).mp q; omega)]
    have k1 : worth - xK1 tx M h a b t (nI w) co = mG1 M sk ck a b t (nI w) (worth - co) := by
      unfold xK1 mG1
      rw [p1, p2, g3, g4, sub_add3]
    unfold xLay mDoneL
    rw [r1, r2, v1]
    by_cases d : w - c = 0
    · rw [d, pif_t (show nI 0 ≤ 0 from Int32.le_refl _), pif_t (show nI 0 = 0 from rfl)]
      refine ⟨(fun q => by cases q), fun q hq => ?_⟩
      cases hq
      show _ = ((M 0 (40 + 3 * k + 1) &&& _) = 0, worth - xK1 tx M h a b t (nI w) co, nI (t + 1))
      rw [k1]
    · have d1 : ¬ nI (w - c) ≤ 0 := fun q => by have := (le0_iff (by omega)).mp q; omega
      have d2 : ¬ nI (w - c) = 0 := fun q => d1 (by rw [q]; exact Int32.le_refl _)
      rw [pif_f d1, pif_f d2, ← k1]
      exact lay_done h1 h2 h3 ea eb n (t + 1) (w - c) _ _ _ (by omega) (fun j q1 q2 => hj j (by omega) (by omega))
