theorem kRun_app {nm : Nat → Int32} : ∀ (L1 L2 : List (Nat × Int32)) (S : List Int64 × List Bool), kRun nm (L1 ++ L2) S = (kRun nm L1 S).bind (fun S' => kRun nm L2 S')
  | [], L2, S => rfl
  | q :: L1, L2, S => by
    show (kStep nm q.1 q.2 S).bind (fun S' => kRun nm (L1 ++ L2) S') = ((kStep nm q.1 q.2 S).bind (fun S' => kRun nm L1 S')).bind (fun S' => kRun nm L2 S')
    cases kStep nm q.1 q.2 S with
    | none => rfl
    | some S' => exact kRun_app L1 L2 S'
/-- the code of a sum is worth v -/
def ev (nm : Nat → Int32) (L : List (Nat × Int32)) (v : Int64) : Prop := ∀ vs bs, kRun nm L (vs, bs) = some (v :: vs, bs)
/-- the code of what is asked is worth b -/
def eb (nm : Nat → Int32) (L : List (Nat × Int32)) (b : Bool) : Prop := ∀ vs bs, kRun nm L (vs, bs) = some (vs, b :: bs)
theorem ev_uni {nm : Nat → Int32} {L : List (Nat × Int32)} {v w : Int64} (h : ev nm L v) (h2 : ev nm L w) : v = w := by
  have e := (h [] []).symm.trans (h2 [] [])
  simp only [Option.some.injEq, Prod.mk.injEq, List.cons.injEq, and_true] at e
  exact e
theorem eb_uni {nm : Nat → Int32} {L : List (Nat × Int32)} {v w : Bool} (h : eb nm L v) (h2 : eb nm L w) : v = w := by
  have e := (h [] []).symm.trans (h2 [] [])
  simp only [Option.some.injEq, Prod.mk.injEq, List.cons.injEq, true_and, and_true] at e
  exact e
theorem ev_plain {nm : Nat → Int32} {v : Int32} : ev nm [(0, v)] v.toInt64 := fun _ _ => rfl
theorem ev_name {nm : Nat → Int32} {w : Nat} (h : w < 11) : ev nm [(1, nI w)] (nm w).toInt64 := fun vs bs => by
  show (kStep nm 1 (nI w) (vs, bs)).bind (fun S' => kRun nm [] S') = _
  have e : kStep nm 1 (nI w) (vs, bs) = some ((nm w).toInt64 :: vs, bs) := by
    show pif (vp_in (nI w) 11) (some ((nm (cl (nI w))).toInt64 :: vs, bs)) none = _
    rw [pif_t (vp_in_nI h (by decide)), show cl (nI w) = w from nI_clamp (by omega)]
  rw [e]
  rfl
theorem ev_minus {nm : Nat → Int32} {L : List (Nat × Int32)} {v : Int64} (h : ev nm L v) : ev nm (L ++ [(2, nI 0)]) (-v) := fun vs bs => by rw [kRun_app, h]; rfl
theorem ev_two {nm : Nat → Int32} {L1 L2 : List (Nat × Int32)} {a b : Int64} {o : Nat} (ho : 3 ≤ o ∧ o ≤ 6) (h1 : ev nm L1 a) (h2 : ev nm L2 b) : ev nm (L1 ++ (L2 ++ [(o, nI 0)])) (mTwo o a b) := fun vs bs => by
  rw [kRun_app, h1, Option.bind_some, kRun_app, h2, Option.bind_some]
  obtain rfl | rfl | rfl | rfl : o = 3 ∨ o = 4 ∨ o = 5 ∨ o = 6 := by omega
  all_goals rfl
theorem eb_ask {nm : Nat → Int32} {L1 L2 : List (Nat × Int32)} {a b : Int64} {o : Nat} (ho : 10 ≤ o ∧ o ≤ 15) (h1 : ev nm L1 a) (h2 : ev nm L2 b) : eb nm (L1 ++ (L2 ++ [(o, nI 0)])) (bD (mAsk o a b)) := fun vs bs => by
  rw [kRun_app, h1, Option.bind_some, kRun_app, h2, Option.bind_some]
  obtain rfl | rfl | rfl | rfl | rfl | rfl : o = 10 ∨ o = 11 ∨ o = 12 ∨ o = 13 ∨ o = 14 ∨ o = 15 := by omega
  all_goals rfl
theorem eb_not {nm : Nat → Int32} {L : List (Nat × Int32)} {b : Bool} (h : eb nm L b) : eb nm (L ++ [(20, nI 0)]) (!b) := fun vs bs => by rw [kRun_app, h]; rfl
theorem eb_and {nm : Nat → Int32} {L1 L2 : List (Nat × Int32)} {a b : Bool} (h1 : eb nm L1 a) (h2 : eb nm L2 b) : eb nm (L1 ++ (L2 ++ [(21, nI 0)])) (a && b) := fun vs bs => by
  rw [kRun_app, h1, Option.bind_some, kRun_app, h2, Option.bind_some]; rfl
theorem eb_or {nm : Nat → Int32} {L1 L2 : List (Nat × Int32)} {a b : Bool} (h1 : eb nm L1 a) (h2 : eb nm L2 b) : eb nm (L1 ++ (L2 ++ [(22, nI 0)])) (a || b) := fun vs bs => by
  rw [kRun_app, h1, Option.bind_some, kRun_app, h2, Option.bind_some]; rfl
theorem ev_if {nm : Nat → Int32} {L0 L1 L2 : List (Nat × Int32)} {c : Bool} {a b : Int64} (h0 : eb nm L0 c) (h1 : ev nm L1 a) (h2 : ev nm L2 b) : ev nm (L0 ++ (L1 ++ (L2 ++ [(23, nI 0)]))) (if c then a else b) := fun vs bs => by
  rw [kRun_app, h0, Option.bind_some, kRun_app, h1, Option.bind_some, kRun_app, h2, Option.bind_some]; rfl
theorem kGood_of {L : List (Nat × Int32)} (h : ∀ nm, ∃ v, ev nm L v) : kGood L := fun nm => by
  obtain ⟨v, hv⟩ := h nm
  exact ⟨v, hv [] []⟩
theorem mVal_ev {nm : Nat → Int32} {L : List (Nat × Int32)} {v : Int64} (h : ev nm L v) : mVal nm L = v := mVal_of (h [] [])
/-- what a code of what is asked is worth -/
noncomputable def bVal (nm : Nat → Int32) (L : List (Nat × Int32)) : Bool := match kRun nm L ([], []) with
  | some (_, b :: _) => b
  | _ => false
theorem bVal_eb {nm : Nat → Int32} {L : List (Nat × Int32)} {b : Bool} (h : eb nm L b) : bVal nm L = b := by
  unfold bVal
  rw [h [] []]
/-- numbers that stay small -/
def vb (v : Int64) : Prop := -2147483648 ≤ v.toInt ∧ v.toInt ≤ 2147483648
theorem vb_i (v : Int32) : vb v.toInt64 := by
  have h1 := Int32.le_toInt v
  have h2 := Int32.toInt_lt v
  unfold vb
  rw [Int32.toInt_toInt64]
  omega
theorem vb_neg {v : Int64} (h : vb v) : vb (-v) := by
  unfold vb at *
  rw [Int64.toInt_neg]
  have : (-v.toInt).bmod (2 ^ 64) = -v.toInt := by
    rw [Int.bmod_def]
    split <;> omega
  rw [this]
  omega
theorem vb_clip (v : Int64) : vb (mClip v) := by
  unfold mClip
  by_cases a : 1000000 < v
  · rw [pif_t a]; unfold vb; decide
  · rw [pif_f a]
    by_cases b : v < -1000000
    · rw [pif_t b]; unfold vb; decide
    · rw [pif_f b]
      have h1 := Int64.not_lt.mp a
      have h2 := Int64.not_lt.mp b
      rw [Int64.le_iff_toInt_le] at h1 h2
      have e1 : (1000000 : Int64).toInt = 1000000 := by decide
      have e2 : (-1000000 : Int64).toInt = -1000000 := by decide
      rw [e1] at h1
      rw [e2] at h2
      unfold vb
      omega
theorem vb_two {o : Nat} {a b : Int64} : vb (mTwo o a b) := by
  unfold mTwo
  by_cases c1 : o = 3
  · rw [pif_t c1]; exact vb_clip _
  rw [pif_f c1]
  by_cases c2 : o = 4
  · rw [pif_t c2]; exact vb_clip _
  rw [pif_f c2]
  by_cases c3 : o = 5
  · rw [pif_t c3]; exact vb_clip _
  rw [pif_f c3]
  by_cases c4 : b = 0
  · rw [pif_t c4]; unfold vb; decide
  · rw [pif_f c4]; exact vb_clip _
theorem vb_sub {a b : Int64} (ha : vb a) (hb : vb b) : (a - b).toInt = a.toInt - b.toInt := by
  unfold vb at *
  rw [Int64.toInt_sub, Int.bmod_def]
  split <;> omega
theorem vb_lt {a b : Int64} (ha : vb a) (hb : vb b) : (a - b < 0 ↔ a < b) ∧ (0 < a - b ↔ b < a) ∧ (a - b = 0 ↔ a = b) := by
  have h := vb_sub ha hb
  have z : (0 : Int64).toInt = 0 := by decide
  refine ⟨?_, ?_, ?_⟩
  · rw [Int64.lt_iff_toInt_lt, Int64.lt_iff_toInt_lt, h, z]; omega
  · rw [Int64.lt_iff_toInt_lt, Int64.lt_iff_toInt_lt, h, z]; omega
  · rw [← Int64.toInt_inj, ← Int64.toInt_inj, h, z]; omega
/-- the component's way to clip -/
theorem clip_mm (x : Int64) : pif (pif (x < 1000000) x 1000000 < (-1000000)) (-1000000) (pif (x < 1000000) x 1000000) = mClip x := by
  unfold mClip
  by_cases a : x < 1000000
  · rw [pif_t a, pif_f (Int64.lt_asymm a)]
  · rw [pif_f a, pif_f (by decide)]
    by_cases b : 1000000 < x
    · rw [pif_t b]
    · have e : x = 1000000 := by
        have h1 := Int64.not_lt.mp a
        have h2 := Int64.not_lt.mp b
        exact Int64.le_antisymm h2 h1
      subst e
      rw [pif_f b, pif_f (by decide)]
/-- a chain behind its first -/
def tlS (Ls : Nat → List (Nat × Int32)) (os : Nat → Nat) : Nat → List (Nat × Int32)
  | 0 => []
  | k + 1 => tlS Ls os k ++ (Ls k ++ [(os k, nI 0)])
/-- all or any -/
def tlB (Ls : Nat → List (Nat × Int32)) (o : Nat) : Nat → List (Nat × Int32)
  | 0 => []
  | 1 => Ls 0
  | k + 2 => tlB Ls o (k + 1) ++ (Ls (k + 1) ++ [(o, nI 0)])
theorem ev_tl {nm : Nat → Int32} {L0 : List (Nat × Int32)} {Ls : Nat → List (Nat × Int32)} {os : Nat → Nat} {k : Nat} {a b : Int64} (h : ev nm (L0 ++ tlS Ls os k) a) (h2 : ev nm (Ls k) b) (ho : 3 ≤ os k ∧ os k ≤ 6) : ev nm (L0 ++ tlS Ls os (k + 1)) (mTwo (os k) a b) := by
  have := ev_two ho h h2
  unfold tlS
  rwa [← List.append_assoc]
/-- how many hold among the first -/
def cntB (bs : Nat → Bool) : Nat → Nat
  | 0 => 0
  | k + 1 => cntB bs k + (if bs k then 1 else 0)
theorem cntB_le (bs : Nat → Bool) : ∀ k, cntB bs k ≤ k
  | 0 => Nat.le_refl _
  | k + 1 => by
    have := cntB_le bs k
    unfold cntB
    split <;> omega
theorem eb_tlA {nm : Nat → Int32} {Ls : Nat → List (Nat × Int32)} {bs : Nat → Bool} : ∀ (k : Nat), (∀ i, i < k + 1 → eb nm (Ls i) (bs i)) → eb nm (tlB Ls 21 (k + 1)) (decide (cntB bs (k + 1) = k + 1))
  | 0, h => by
    have h0 := h 0 (by omega)
    have e : decide (cntB bs 1 = 1) = bs 0 := by
      unfold cntB cntB
      cases bs 0 <;> rfl
    rw [e]
    exact h0
  | k + 1, h => by
    have h1 := eb_tlA k (fun i hi => h i (by omega))
    have h2 := eb_and h1 (h (k + 1) (by omega))
    have hle := cntB_le bs (k + 1)
    have e : decide (cntB bs (k + 1 + 1) = k + 1 + 1) = (decide (cntB bs (k + 1) = k + 1) && bs (k + 1)) := by
      rw [show cntB bs (k + 1 + 1) = cntB bs (k + 1) + (if bs (k + 1) then 1 else 0) from rfl]
      cases hb : bs (k + 1)
      · simp
        omega
      · simp
    rw [e]
    exact h2
theorem eb_tlO {nm : Nat → Int32} {Ls : Nat → List (Nat × Int32)} {bs : Nat → Bool} : ∀ (k : Nat), (∀ i, i < k + 1 → eb nm (Ls i) (bs i)) → eb nm (tlB Ls 22 (k + 1)) (decide (0 < cntB bs (k + 1)))
  | 0, h => by
    have h0 := h 0 (by omega)
    have e : decide (0 < cntB bs 1) = bs 0 := by
      unfold cntB cntB
      cases bs 0 <;> rfl
    rw [e]
    exact h0
  | k + 1, h => by
    have h1 := eb_tlO k (fun i hi => h i (by omega))
    have h2 := eb_or h1 (h (k + 1) (by omega))
    have e : decide (0 < cntB bs (k + 1 + 1)) = (decide (0 < cntB bs (k + 1)) || bs (k + 1)) := by
      rw [show cntB bs (k + 1 + 1) = cntB bs (k + 1) + (if bs (k + 1) then 1 else 0) from rfl]
      cases hb : bs (k + 1)
      · simp
      · simp
    rw [e]
    exact h2
