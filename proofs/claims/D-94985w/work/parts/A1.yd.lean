/-! THE YARD (the twin's reader of sums) on its own: from a state on, what comes out; and what a recursive reader promises of its results -/
theorem bhO_q {tp : Nat → Nat} {t p : Nat} {P : List Nat} (h : (bhO tp t p P).1 = true) : (bhO tp t p P).2.2.1 = lxQ tp t p ∧ lxT tp t p ≠ 0 := by
  rcases hbt : btO tp t p P with _ | b
  · by_cases c1 : (lxT tp t p = 41 ∧ kOp P = 40 ∧ ¬ mkI P = -1) ∨ ((lxT tp t p = 2 ∧ lxW tp t p = w8 (w8 (lN 101) 110) 100) ∧ kOp P = 43)
    · have e : bhO tp t p P = (true, (stl 1 P).1 ++ (if kOp P = 43 then (23, nI 0) :: (stl 7 (stl 1 P).2.tail).1 else (stl 7 (stl 1 P).2.tail).1), lxQ tp t p, (stl 7 (stl 1 P).2.tail).2, true) := by
        unfold bhO; rw [hbt]; exact if_pos c1
      rw [e]
      exact ⟨rfl, by rcases c1 with ⟨h1, _⟩ | ⟨⟨h1, _⟩, _⟩ <;> omega⟩
    · by_cases c2 : (lxT tp t p = 63 ∧ kOp P = 41 ∧ cmpd P = true) ∨ (lxT tp t p = 58 ∧ kOp P = 42)
      · have e : bhO tp t p P = (true, (stl 1 P).1, lxQ tp t p, (kOp P + 1) :: (stl 1 P).2.tail, false) := by
          unfold bhO; rw [hbt]; simp only []; rw [if_neg c1, if_pos c2]
        rw [e]
        exact ⟨rfl, by rcases c2 with ⟨h1, _⟩ | ⟨h1, _⟩ <;> omega⟩
      · have e : bhO tp t p P = (false, [], p, P, true) := by unfold bhO; rw [hbt]; simp only []; rw [if_neg c1, if_neg c2]
        rw [e] at h; cases h
  · have e : bhO tp t p P = (true, (stl (rk b) P).1, lxQ tp t p, b :: (stl (rk b) P).2, false) := by unfold bhO; rw [hbt]
    rw [e]
    exact ⟨rfl, fun h9 => by rw [btO_0 h9] at hbt; cases hbt⟩
theorem lxT_pt {tp : Nat → Nat} {t p : Nat} (h : lxT tp t p ≠ 0) : p < t := by
  unfold lxT at h
  dsimp only at h
  by_cases hs : lxS tp t p < t
  · exact Nat.lt_of_le_of_lt (lxS_ge tp t p) hs
  · rw [if_neg hs] at h; exact absurd rfl h
theorem prs_fuel {tp : Nat → Nat} {t so : Nat} : ∀ (f g p : Nat) (P : List Nat) (w : Bool), t - p < f → t - p < g → prs tp t so f p P w = prs tp t so g p P w
  | 0, _, _, _, _, h, _ => absurd h (Nat.not_lt_zero _)
  | _ + 1, 0, _, _, _, _, h => absurd h (Nat.not_lt_zero _)
  | f + 1, g + 1, p, P, true, hf, hg => by
    by_cases cb : (bhO tp t p P).1 = true
    · have e1 : prs tp t so (f + 1) p P true = _ := pif_t cb
      have e2 : prs tp t so (g + 1) p P true = _ := pif_t cb
      obtain ⟨q1, q2⟩ := bhO_q cb
      have q3 := lxQ_gt q2
      have q4 := lxT_pt q2
      rw [e1, e2, prs_fuel f g (bhO tp t p P).2.2.1 (bhO tp t p P).2.2.2.1 (bhO tp t p P).2.2.2.2 (by rw [q1]; omega) (by rw [q1]; omega)]
    · have e1 : prs tp t so (f + 1) p P true = _ := pif_f cb
      have e2 : prs tp t so (g + 1) p P true = _ := pif_f cb
      rw [e1, e2]
  | f + 1, g + 1, p, P, false, hf, hg => by
    by_cases cb : (bgO tp t so p P).1 = 0
    · have e1 : prs tp t so (f + 1) p P false = _ := pif_t cb
      have e2 : prs tp t so (g + 1) p P false = _ := pif_t cb
      obtain ⟨q2, q1⟩ : lxT tp t p ≠ 0 ∧ (bgO tp t so p P).2.2.1 = lxQ tp t p := by
        rcases bgO_e (tp := tp) (t := t) (so := so) (p := p) (P := P) with ⟨h1, _⟩ | ⟨h1, _, h3, _⟩
        · exact absurd cb h1
        · exact ⟨h1, h3⟩
      have q3 := lxQ_gt q2
      have q4 := lxT_pt q2
      rw [e1, e2, prs_fuel f g (bgO tp t so p P).2.2.1 (bgO tp t so p P).2.2.2.1 (bgO tp t so p P).2.2.2.2 (by rw [q1]; omega) (by rw [q1]; omega)]
    · have e1 : prs tp t so (f + 1) p P false = _ := pif_f cb
      have e2 : prs tp t so (g + 1) p P false = _ := pif_f cb
      rw [e1, e2]
/-- the yard from a state on: fault, code (behind C), place -/
noncomputable def yd (tp : Nat → Nat) (t so p : Nat) (P : List Nat) (w : Bool) (C : Cd) : Nat × Cd × Nat :=
  if (prs tp t so (t - p + 1) p P w).1 = 0 then (0, C ++ ((prs tp t so (t - p + 1) p P w).2.1 ++ (stl 1 (prs tp t so (t - p + 1) p P w).2.2.2.1).1), (prs tp t so (t - p + 1) p P w).2.2.1) else ((prs tp t so (t - p + 1) p P w).1, [], (prs tp t so (t - p + 1) p P w).2.2.1)
theorem yd_bh {tp : Nat → Nat} {t so p : Nat} {P : List Nat} {C : Cd} (cb : (bhO tp t p P).1 = true) : yd tp t so p P true C = yd tp t so (bhO tp t p P).2.2.1 (bhO tp t p P).2.2.2.1 (bhO tp t p P).2.2.2.2 (C ++ (bhO tp t p P).2.1) := by
  have e1 : prs tp t so (t - p + 1) p P true = _ := pif_t cb
  obtain ⟨q1, q2⟩ := bhO_q cb
  have q3 := lxQ_gt q2
  have q4 := lxT_pt q2
  rw [prs_fuel (tp := tp) (so := so) (t - p) (t - (bhO tp t p P).2.2.1 + 1) (bhO tp t p P).2.2.1 (bhO tp t p P).2.2.2.1 (bhO tp t p P).2.2.2.2 (by rw [q1]; omega) (by omega)] at e1
  unfold yd
  rw [e1]
  dsimp only
  generalize prs tp t so (t - (bhO tp t p P).2.2.1 + 1) (bhO tp t p P).2.2.1 (bhO tp t p P).2.2.2.1 (bhO tp t p P).2.2.2.2 = r
  by_cases h : r.1 = 0
  · rw [if_pos h, if_pos h]; simp only [List.append_assoc]
  · rw [if_neg h, if_neg h]
theorem yd_bg {tp : Nat → Nat} {t so p : Nat} {P : List Nat} {C : Cd} (cb : (bgO tp t so p P).1 = 0) : yd tp t so p P false C = yd tp t so (bgO tp t so p P).2.2.1 (bgO tp t so p P).2.2.2.1 (bgO tp t so p P).2.2.2.2 (C ++ (bgO tp t so p P).2.1) := by
  have e1 : prs tp t so (t - p + 1) p P false = _ := pif_t cb
  obtain ⟨q2, q1⟩ : lxT tp t p ≠ 0 ∧ (bgO tp t so p P).2.2.1 = lxQ tp t p := by
    rcases bgO_e (tp := tp) (t := t) (so := so) (p := p) (P := P) with ⟨h1, _⟩ | ⟨h1, _, h3, _⟩
    · exact absurd cb h1
    · exact ⟨h1, h3⟩
  have q3 := lxQ_gt q2
  have q4 := lxT_pt q2
  rw [prs_fuel (tp := tp) (so := so) (t - p) (t - (bgO tp t so p P).2.2.1 + 1) (bgO tp t so p P).2.2.1 (bgO tp t so p P).2.2.2.1 (bgO tp t so p P).2.2.2.2 (by rw [q1]; omega) (by omega)] at e1
  unfold yd
  rw [e1]
  dsimp only
  generalize prs tp t so (t - (bgO tp t so p P).2.2.1 + 1) (bgO tp t so p P).2.2.1 (bgO tp t so p P).2.2.2.1 (bgO tp t so p P).2.2.2.2 = r
  by_cases h : r.1 = 0
  · rw [if_pos h, if_pos h]; simp only [List.append_assoc]
  · rw [if_neg h, if_neg h]
theorem yd_no {tp : Nat → Nat} {t so p : Nat} {P : List Nat} {C : Cd} (cb : ¬ (bhO tp t p P).1 = true) : yd tp t so p P true C = if mkI P = -1 then (0, C ++ (stl 1 P).1, p) else (1, [], p) := by
  have e1 : prs tp t so (t - p + 1) p P true = (if mkI P = -1 then 0 else 1, [], p, P, true) := pif_f cb
  unfold yd
  rw [e1]
  dsimp only
  by_cases h : mkI P = -1
  · simp only [if_pos h, if_true, List.nil_append]
  · rw [if_neg h, if_neg h, if_neg Nat.one_ne_zero]
theorem yd_er {tp : Nat → Nat} {t so p : Nat} {P : List Nat} {C : Cd} {k : Nat} (hk : k ≠ 0) (e : bgO tp t so p P = (k, [], p, P, false)) : yd tp t so p P false C = (k, [], p) := by
  have e1 : prs tp t so (t - p + 1) p P false = bgO tp t so p P := pif_f (by rw [e]; exact hk)
  unfold yd
  rw [e1, e]
  dsimp only
  rw [if_neg hk]
/-- the whole reading of one reckoning -/
theorem psd_yd {tp : Nat → Nat} {t so p0 : Nat} : (psd tp t so p0).1 = (yd tp t so p0 [] false []).1 ∧ (psd tp t so p0).2.2.1 = (yd tp t so p0 [] false []).2.2 ∧ ((psd tp t so p0).1 = 0 → (psd tp t so p0).2.1 = (yd tp t so p0 [] false []).2.1) := by
  have e := prs_fuel (tp := tp) (t := t) (so := so) (t + 1) (t - p0 + 1) p0 [] false (by omega) (by omega)
  unfold psd yd
  rw [e]
  generalize prs tp t so (t - p0 + 1) p0 [] false = r
  by_cases h : r.1 = 0
  · rw [if_pos h, if_pos h]; exact ⟨rfl, rfl, fun _ => rfl⟩
  · rw [if_neg h, if_neg h]; exact ⟨rfl, rfl, fun h9 => absurd h9 h⟩
-- ===== what waits =====
theorem stl_c {a x : Nat} {r : List Nat} (h : a ≤ rk x) : stl a (x :: r) = ((x, nI 0) :: (stl a r).1, (stl a r).2) := if_pos h
theorem stl_n {a x : Nat} {r : List Nat} (h : ¬ a ≤ rk x) : stl a (x :: r) = ([], x :: r) := if_neg h
theorem stl_hd {a x : Nat} {r : List Nat} (h : stl a (x :: r) = ([], x :: r)) : ¬ a ≤ rk x := fun c => by
  rw [stl_c c] at h
  exact absurd (congrArg Prod.fst h) (by simp)
theorem stl_up {a b : Nat} (h : a ≤ b) : ∀ {P : List Nat}, stl a P = ([], P) → stl b P = ([], P)
  | [], _ => rfl
  | x :: r, e => stl_n (by have := stl_hd e; omega)
/-- what waits, as code -/
def emi (D : List Nat) : Cd := D.map fun x => (x, nI 0)
theorem emi_app (D E : List Nat) : emi (D ++ E) = emi D ++ emi E := List.map_append
theorem stl_D {a : Nat} {R : List Nat} (hR : stl a R = ([], R)) : ∀ {D : List Nat}, (∀ x ∈ D, a ≤ rk x) → stl a (D ++ R) = (emi D, R)
  | [], _ => hR
  | x :: D, h => by
    show stl a (x :: (D ++ R)) = _
    rw [stl_c (h x List.mem_cons_self), stl_D hR (fun y hy => h y (List.mem_cons_of_mem _ hy))]
    rfl
theorem kOp_c {x : Nat} {r : List Nat} (h : x < 40) : kOp (x :: r) = kOp r := if_neg (by omega)
theorem kOp_m {x : Nat} {r : List Nat} (h : 40 ≤ x) : kOp (x :: r) = x := if_pos h
theorem mkI_c {x : Nat} {r : List Nat} (h : x < 40) : mkI (x :: r) = mkI r := if_neg (by omega)
theorem mkI_m {x : Nat} {r : List Nat} (h : 40 ≤ x) : mkI (x :: r) = nI r.length := if_pos h
theorem kOp_D {R : List Nat} : ∀ {D : List Nat}, (∀ x ∈ D, x < 40) → kOp (D ++ R) = kOp R
  | [], _ => rfl
  | x :: D, h => (kOp_c (h x List.mem_cons_self)).trans (kOp_D fun y hy => h y (List.mem_cons_of_mem _ hy))
theorem mkI_D {R : List Nat} : ∀ {D : List Nat}, (∀ x ∈ D, x < 40) → mkI (D ++ R) = mkI R
  | [], _ => rfl
  | x :: D, h => (mkI_c (h x List.mem_cons_self)).trans (mkI_D fun y hy => h y (List.mem_cons_of_mem _ hy))
theorem mkI_41 {R : List Nat} (h : kOp R ≠ 40) (hl : R.length ≤ 1000) : mkI R ≠ -1 := by
  rcases mkI_split R with ⟨_, h2⟩ | ⟨j, hj, h2, _⟩
  · exact absurd h2 h
  · rw [h2]; exact nI_ne_m1 (by omega)
theorem cmpd_c {x : Nat} {r : List Nat} (h : 4 < rk x) : cmpd (x :: r) = cmpd r := if_pos h
theorem cmpd_n {x : Nat} {r : List Nat} (h : ¬ 4 < rk x) : cmpd (x :: r) = decide (rk x = 4) := if_neg h
theorem rk_m {x : Nat} (h : 40 ≤ x) : rk x = 0 := if_pos h
theorem rk_lt {x : Nat} (h : 1 ≤ rk x) : x < 40 := by
  apply Nat.lt_of_not_le
  intro c
  rw [rk_m c] at h
  omega
theorem btO_c {tp : Nat → Nat} {t q o : Nat} {P : List Nat} (h : 4 < rk o) : btO tp t q (o :: P) = btO tp t q P := by
  unfold btO
  rw [kOp_c (rk_lt (by omega)), cmpd_c h]
/-- what waits and binds closely may be settled at once -/
theorem yd_settle {tp : Nat → Nat} {t so q o : Nat} {P : List Nat} {C : Cd} (h4 : 4 < rk o) (hb : ∀ b, btO tp t q P = some b → rk b ≤ rk o) : yd tp t so q (o :: P) true C = yd tp t so q P true (C ++ [(o, nI 0)]) := by
  have ho := rk_lt (x := o) (by omega)
  have hbt := btO_c (tp := tp) (t := t) (q := q) (P := P) h4
  have hk := kOp_c (r := P) ho
  have hm := mkI_c (r := P) ho
  have hc := cmpd_c (r := P) h4
  have h1 := stl_c (a := 1) (r := P) (show 1 ≤ rk o by omega)
  rcases hbo : btO tp t q P with _ | b
  · by_cases c1 : (lxT tp t q = 41 ∧ kOp P = 40 ∧ ¬ mkI P = -1) ∨ ((lxT tp t q = 2 ∧ lxW tp t q = w8 (w8 (lN 101) 110) 100) ∧ kOp P = 43)
    · have e1 : bhO tp t q (o :: P) = (true, (stl 1 (o :: P)).1 ++ (if kOp (o :: P) = 43 then (23, nI 0) :: (stl 7 (stl 1 (o :: P)).2.tail).1 else (stl 7 (stl 1 (o :: P)).2.tail).1), lxQ tp t q, (stl 7 (stl 1 (o :: P)).2.tail).2, true) := by
        unfold bhO; rw [hbt, hbo]; exact if_pos (by rw [hk, hm]; exact c1)
      have e2 : bhO tp t q P = (true, (stl 1 P).1 ++ (if kOp P = 43 then (23, nI 0) :: (stl 7 (stl 1 P).2.tail).1 else (stl 7 (stl 1 P).2.tail).1), lxQ tp t q, (stl 7 (stl 1 P).2.tail).2, true) := by
        unfold bhO; rw [hbo]; exact if_pos c1
      rw [yd_bh (by rw [e1]), yd_bh (by rw [e2]), e1, e2, h1, hk]
      simp only [List.append_assoc, List.cons_append, List.nil_append]
    · by_cases c2 : (lxT tp t q = 63 ∧ kOp P = 41 ∧ cmpd P = true) ∨ (lxT tp t q = 58 ∧ kOp P = 42)
      · have e1 : bhO tp t q (o :: P) = (true, (stl 1 (o :: P)).1, lxQ tp t q, (kOp (o :: P) + 1) :: (stl 1 (o :: P)).2.tail, false) := by
          unfold bhO; rw [hbt, hbo]; simp only []; rw [hk, hm, hc, if_neg c1, if_pos c2]
        have e2 : bhO tp t q P = (true, (stl 1 P).1, lxQ tp t q, (kOp P + 1) :: (stl 1 P).2.tail, false) := by
          unfold bhO; rw [hbo]; simp only []; rw [if_neg c1, if_pos c2]
        rw [yd_bh (by rw [e1]), yd_bh (by rw [e2]), e1, e2, h1, hk]
        simp only [List.append_assoc, List.cons_append, List.nil_append]
      · have e1 : bhO tp t q (o :: P) = (false, [], q, o :: P, true) := by unfold bhO; rw [hbt, hbo]; simp only []; rw [hk, hm, hc, if_neg c1, if_neg c2]
        have e2 : bhO tp t q P = (false, [], q, P, true) := by unfold bhO; rw [hbo]; simp only []; rw [if_neg c1, if_neg c2]
        rw [yd_no (by rw [e1]; exact Bool.false_ne_true), yd_no (by rw [e2]; exact Bool.false_ne_true), hm, h1]
        simp only [List.append_assoc, List.cons_append, List.nil_append]
  · have e1 : bhO tp t q (o :: P) = (true, (stl (rk b) (o :: P)).1, lxQ tp t q, b :: (stl (rk b) (o :: P)).2, false) := by unfold bhO; rw [hbt, hbo]
    have e2 : bhO tp t q P = (true, (stl (rk b) P).1, lxQ tp t q, b :: (stl (rk b) P).2, false) := by unfold bhO; rw [hbo]
    rw [yd_bh (by rw [e1]), yd_bh (by rw [e2]), e1, e2, stl_c (hb b hbo)]
    simp only [List.append_assoc, List.cons_append, List.nil_append]
-- ===== the promises =====
/-- the token at p is this word -/
def tW (tp : Nat → Nat) (t p : Nat) (w : Int64) : Prop := lxT tp t p = 2 ∧ lxW tp t p = w
def wNot : Int64 := w8 (w8 (lN 110) 111) 116
def wEnd : Int64 := w8 (w8 (lN 101) 110) 100
def wAnd : Int64 := w8 (w8 (lN 97) 110) 100
def wOr : Int64 := 28530
def wIf : Int64 := 26982
/-- no sign of a sum (of a product: k = 6) stands there -/
def nop (tp : Nat → Nat) (t k q : Nat) : Prop := lxT tp t q ≠ 42 ∧ lxT tp t q ≠ 47 ∧ (k = 5 → lxT tp t q ≠ 43 ∧ lxT tp t q ≠ 45)
/-- a reader of one: result r (fault, code, place) from p on, o open -/
def yOne (tp : Nat → Nat) (t so o p : Nat) (r : Nat × Cd × Nat) : Prop :=
  (∀ (P : List Nat) (C : Cd), opn P = o → P.length ≤ p → (askA P → ¬ tW tp t p wNot) → yd tp t so p P false C = if r.1 = 0 then yd tp t so r.2.2 (stl 7 P).2 true (C ++ (r.2.1 ++ (stl 7 P).1)) else (r.1, [], r.2.2)) ∧ p ≤ r.2.2 ∧ r.2.2 ≤ t ∧ (r.1 = 0 → p < r.2.2 ∧ kNm so r.2.1)
/-- of a product (k = 6), a sum (k = 5) -/
def ySm (tp : Nat → Nat) (t so k o p : Nat) (r : Nat × Cd × Nat) : Prop :=
  (∀ (P : List Nat) (C : Cd), stl k P = ([], P) → opn P = o → P.length ≤ p → (askA P → ¬ tW tp t p wNot) → yd tp t so p P false C = if r.1 = 0 then yd tp t so r.2.2 P true (C ++ r.2.1) else (r.1, [], r.2.2)) ∧ p ≤ r.2.2 ∧ r.2.2 ≤ t ∧ (r.1 = 0 → p < r.2.2 ∧ kNm so r.2.1)
/-- of what is asked: a what may wait below, b what waits then -/
def yBl (tp : Nat → Nat) (t so a b o p : Nat) (r : Nat × Cd × Nat) : Prop :=
  (∀ (P : List Nat) (C : Cd), stl a P = ([], P) → kOp P = 41 → opn P = o → P.length ≤ p →
    (r.1 = 0 → ∃ (D : List Nat) (C' : Cd), (∀ x ∈ D, x < 40 ∧ b ≤ rk x) ∧ cmpd (D ++ P) = true ∧ C' ++ emi D = C ++ r.2.1 ∧ yd tp t so p P false C = yd tp t so r.2.2 (D ++ P) true C') ∧
    (r.1 ≠ 0 → yd tp t so p P false C = (r.1, [], r.2.2))) ∧ p ≤ r.2.2 ∧ r.2.2 ≤ t ∧ (r.1 = 0 → p < r.2.2 ∧ kNm so r.2.1 ∧ nop tp t 5 r.2.2)
theorem kNm_app {so : Nat} {L1 L2 : Cd} (h1 : kNm so L1) (h2 : kNm so L2) : kNm so (L1 ++ L2) := fun q hq h => (List.mem_append.mp hq).elim (fun h9 => h1 q h9 h) (fun h9 => h2 q h9 h)
theorem kNm_op {so o : Nat} (h : o ≠ 1) : kNm so [(o, nI 0)] := fun q hq h1 => by
  rw [List.mem_singleton.mp hq] at h1
  exact absurd h1 h
theorem yOne_er {tp : Nat → Nat} {t so o p k : Nat} (hp : p ≤ t) (hk : k ≠ 0) (h : ∀ P : List Nat, opn P = o → (askA P → ¬ tW tp t p wNot) → bgO tp t so p P = (k, [], p, P, false)) : yOne tp t so o p (k, [], p) := by
  refine ⟨fun P C ho hl hn => ?_, Nat.le_refl _, hp, fun e => absurd e hk⟩
  rw [yd_er hk (h P ho hn)]
  exact (if_neg hk).symm
theorem yOne_num {tp : Nat → Nat} {t so o p : Nat} (hp : p ≤ t) (h1 : lxT tp t p = 1) (h2 : lxN tp t p ≤ 9999) : yOne tp t so o p (0, [(0, nI (lxN tp t p))], lxQ tp t p) := by
  have g := lxQ_gt (tp := tp) (t := t) (p0 := p) (by omega)
  refine ⟨fun P C ho hl hn => ?_, Nat.le_of_lt g, lxQ_le hp, fun _ => ⟨g, fun q hq h => ?_⟩⟩
  · have e : bgO tp t so p P = (0, (0, nI (lxN tp t p)) :: (stl 7 P).1, lxQ tp t p, (stl 7 P).2, true) := by unfold bgO; rw [if_pos h1, if_neg (by omega)]
    rw [yd_bg (by rw [e]), e]
    exact (if_pos rfl).symm
  · rw [List.mem_singleton.mp hq] at h; exact absurd h Nat.zero_ne_one
theorem yOne_num2 {tp : Nat → Nat} {t so o p : Nat} (hp : p ≤ t) (h1 : lxT tp t p = 1) (h2 : 9999 < lxN tp t p) : yOne tp t so o p (2, [], p) :=
  yOne_er hp (by decide) fun P _ _ => by unfold bgO; rw [if_pos h1, if_pos h2]
theorem yOne_nm {tp : Nat → Nat} {t so o p i : Nat} (hp : p ≤ t) (h1 : nmO tp t p = some i) (hi : i ≤ 10) (h2 : isO so i) : yOne tp t so o p (0, [(1, nI i)], lxQ tp t p) := by
  have h2t := nmO_2 h1
  have g := lxQ_gt (tp := tp) (t := t) (p0 := p) (by omega)
  refine ⟨fun P C ho hl hn => ?_, Nat.le_of_lt g, lxQ_le hp, fun _ => ⟨g, fun q hq _ => ?_⟩⟩
  · have e : bgO tp t so p P = (0, (1, nI i) :: (stl 7 P).1, lxQ tp t p, (stl 7 P).2, true) := by unfold bgO; rw [if_neg (by omega), h1]; exact if_pos h2
    rw [yd_bg (by rw [e]), e]
    exact (if_pos rfl).symm
  · rw [List.mem_singleton.mp hq]
    show nmOk so (nI i).toNatClampNeg
    rw [nI_clamp (by omega)]
    unfold nmOk
    unfold isO at h2
    omega
theorem yOne_nm5 {tp : Nat → Nat} {t so o p i : Nat} (hp : p ≤ t) (h1 : nmO tp t p = some i) (h2 : ¬ isO so i) : yOne tp t so o p (5, [], p) :=
  yOne_er hp (by decide) fun P _ _ => by
    have h2t := nmO_2 h1
    unfold bgO; rw [if_neg (by omega), h1]; exact if_neg h2
/-- one opens: the sign x goes on the pile -/
theorem bgO_op {tp : Nat → Nat} {t so p x : Nat} {P : List Nat} (h : (lxT tp t p = 40 ∧ x = 40) ∨ (lxT tp t p = 45 ∧ x = 2) ∨ (tW tp t p wIf ∧ nmO tp t p = none ∧ x = 41)) : bgO tp t so p P = opX tp t p P x := by
  rcases h with ⟨h, rfl⟩ | ⟨h, rfl⟩ | ⟨h, hn, rfl⟩
  · have hn : nmO tp t p = none := by
      rcases hq : nmO tp t p with _ | i
      · rfl
      · have := nmO_2 hq; omega
    unfold bgO; rw [if_neg (by omega), hn]; exact if_pos h
  · have hn : nmO tp t p = none := by
      rcases hq : nmO tp t p with _ | i
      · rfl
      · have := nmO_2 hq; omega
    unfold bgO; rw [if_neg (by omega), hn]; simp only []; rw [if_neg (by omega), if_pos h]
  · have h2 : lxT tp t p = 2 := h.1
    unfold bgO; rw [if_neg (by omega), hn]; simp only []; rw [if_neg (by omega), if_neg (by omega)]; exact if_pos h
theorem opX_8 {tp : Nat → Nat} {t p x : Nat} {P : List Nat} (h : opn P = 8) : opX tp t p P x = (3, [], p, P, false) := by
  unfold opX; rw [if_pos h, if_pos h, if_pos h]
theorem opX_n {tp : Nat → Nat} {t p x : Nat} {P : List Nat} (h : opn P ≠ 8) : opX tp t p P x = (0, [], lxQ tp t p, x :: P, false) := by
  unfold opX; rw [if_neg h, if_neg h, if_neg h]
theorem yOne_deep {tp : Nat → Nat} {t so p x : Nat} (hp : p ≤ t) (h : (lxT tp t p = 40 ∧ x = 40) ∨ (lxT tp t p = 45 ∧ x = 2) ∨ (tW tp t p wIf ∧ nmO tp t p = none ∧ x = 41)) : yOne tp t so 8 p (3, [], p) :=
  yOne_er hp (by decide) fun P ho _ => (bgO_op h).trans (opX_8 ho)
theorem yOne_else {tp : Nat → Nat} {t so o p : Nat} (hp : p ≤ t) (h1 : lxT tp t p ≠ 1) (hn : nmO tp t p = none) (h2 : lxT tp t p ≠ 40) (h3 : lxT tp t p ≠ 45) (h4 : ¬ tW tp t p wIf) : yOne tp t so o p (1, [], p) :=
  yOne_er hp (by decide) fun P _ ha => by
    unfold bgO; rw [if_neg h1, hn]; simp only []; rw [if_neg h2, if_neg h3]; exact (if_neg h4).trans (pif_f (fun h9 => ha h9.2 h9.1))
/-- behind an opening sign the pile is one higher -/
theorem yd_open {tp : Nat → Nat} {t so p x : Nat} {P : List Nat} {C : Cd} (h : (lxT tp t p = 40 ∧ x = 40) ∨ (lxT tp t p = 45 ∧ x = 2) ∨ (tW tp t p wIf ∧ nmO tp t p = none ∧ x = 41)) (ho : opn P ≠ 8) : yd tp t so p P false C = yd tp t so (lxQ tp t p) (x :: P) false C := by
  have e : bgO tp t so p P = (0, [], lxQ tp t p, x :: P, false) := (bgO_op h).trans (opX_n ho)
  rw [yd_bg (by rw [e]), e]
  dsimp only
  rw [List.append_nil]
theorem op_tok {tp : Nat → Nat} {t p x : Nat} (h : (lxT tp t p = 40 ∧ x = 40) ∨ (lxT tp t p = 45 ∧ x = 2) ∨ (tW tp t p wIf ∧ nmO tp t p = none ∧ x = 41)) : lxT tp t p ≠ 0 ∧ (x = 2 ∨ 40 ≤ x) := by
  rcases h with ⟨h, rfl⟩ | ⟨h, rfl⟩ | ⟨h, hn, rfl⟩
  · exact ⟨by omega, Or.inr (by omega)⟩
  · exact ⟨by omega, Or.inl rfl⟩
  · have := h.1; exact ⟨by omega, Or.inr (by omega)⟩
/-- minus of one -/
theorem yOne_minus {tp : Nat → Nat} {t so o p : Nat} {r : Nat × Cd × Nat} (h : lxT tp t p = 45) (ho : o ≠ 8) (hr : yOne tp t so (o + 1) (lxQ tp t p) r) : yOne tp t so o p (r.1, if r.1 = 0 then r.2.1 ++ [(2, nI 0)] else [], r.2.2) := by
  have hs : (lxT tp t p = 40 ∧ 2 = 40) ∨ (lxT tp t p = 45 ∧ 2 = 2) ∨ (tW tp t p wIf ∧ nmO tp t p = none ∧ 2 = 41) := Or.inr (Or.inl ⟨h, rfl⟩)
  have g := lxQ_gt (tp := tp) (t := t) (p0 := p) (by omega)
  obtain ⟨h1, h2, h3, h4⟩ := hr
  refine ⟨fun P C hP hl hn => ?_, by dsimp only; omega, h3, fun e => ⟨by dsimp only; omega, ?_⟩⟩
  · rw [yd_open hs (by omega), h1 (2 :: P) C (by rw [opn_c, if_pos (Or.inl rfl), hP]) (by simp only [List.length_cons]; omega) (fun h9 => absurd (askA_c.mp h9).2 (by decide))]
    dsimp only
    by_cases e : r.1 = 0
    · rw [if_pos e, if_pos e, if_pos e, stl_c (show 7 ≤ rk 2 by decide)]
      simp only [List.append_assoc, List.cons_append, List.nil_append]
    · rw [if_neg e, if_neg e]
  · dsimp only at e ⊢
    rw [if_pos e]
    exact kNm_app (h4 e).2 (kNm_op (by decide))
/-- a whole piece, and nothing that goes on with it -/
theorem bhO_none {tp : Nat → Nat} {t q : Nat} {P : List Nat} (h1 : btO tp t q P = none) (h2 : ¬ ((lxT tp t q = 41 ∧ kOp P = 40 ∧ ¬ mkI P = -1) ∨ (tW tp t q wEnd ∧ kOp P = 43))) (h3 : ¬ ((lxT tp t q = 63 ∧ kOp P = 41 ∧ cmpd P = true) ∨ (lxT tp t q = 58 ∧ kOp P = 42))) : ¬ (bhO tp t q P).1 = true := by
  have e : bhO tp t q P = (false, [], q, P, true) := by unfold bhO; rw [h1]; simp only []; exact (if_neg h2).trans (if_neg h3)
  rw [e]
  exact Bool.false_ne_true
theorem btO_none {tp : Nat → Nat} {t q : Nat} {P : List Nat} (h : nop tp t 5 q) (hk : kOp P ≠ 41) : btO tp t q P = none := by
  obtain ⟨h1, h2, h3⟩ := h
  obtain ⟨h3, h4⟩ := h3 rfl
  unfold btO
  rw [if_neg h3, if_neg h4, if_neg h1, if_neg h2, if_neg hk]
theorem yd_stray {tp : Nat → Nat} {t so q : Nat} {P : List Nat} {C : Cd} (h : ¬ (bhO tp t q P).1 = true) (hm : mkI P ≠ -1) : yd tp t so q P true C = (1, [], q) := by
  rw [yd_no h, if_neg hm]
/-- a sum within signs -/
theorem yOne_par {tp : Nat → Nat} {t so o p : Nat} {r : Nat × Cd × Nat} (h : lxT tp t p = 40) (ho : o ≠ 8) (ht : t ≤ 300) (hr : ySm tp t so 5 (o + 1) (lxQ tp t p) r) (hn5 : r.1 = 0 → nop tp t 5 r.2.2) : yOne tp t so o p (if r.1 = 0 then (if lxT tp t r.2.2 = 41 then (0, r.2.1, lxQ tp t r.2.2) else (1, [], r.2.2)) else (r.1, [], r.2.2)) := by
  have hs : (lxT tp t p = 40 ∧ 40 = 40) ∨ (lxT tp t p = 45 ∧ 40 = 2) ∨ (tW tp t p wIf ∧ nmO tp t p = none ∧ 40 = 41) := Or.inl ⟨h, rfl⟩
  have g := lxQ_gt (tp := tp) (t := t) (p0 := p) (by omega)
  obtain ⟨h1, h2, h3, h4⟩ := hr
  have hst : ∀ P : List Nat, stl 5 (40 :: P) = ([], 40 :: P) := fun P => stl_n (by decide)
  have key : ∀ (P : List Nat) (C : Cd), opn P = o → P.length ≤ p → yd tp t so p P false C = if r.1 = 0 then yd tp t so r.2.2 (40 :: P) true (C ++ r.2.1) else (r.1, [], r.2.2) := fun P C hP hl => by
    rw [yd_open hs (by omega)]
    exact h1 (40 :: P) C (hst P) (by rw [opn_c, if_pos (by omega), hP]) (by simp only [List.length_cons]; omega) (fun h9 => absurd (askA_c.mp h9).1 (by rw [kOp_m (by decide)]; decide))
  by_cases e : r.1 = 0
  · rw [if_pos e]
    obtain ⟨e1, e2⟩ := h4 e
    by_cases c : lxT tp t r.2.2 = 41
    · rw [if_pos c]
      have g2 := lxQ_gt (tp := tp) (t := t) (p0 := r.2.2) (by omega)
      refine ⟨fun P C hP hl hn => ?_, by dsimp only; omega, lxQ_le h3, fun _ => ⟨by dsimp only; omega, e2⟩⟩
      have hm : mkI (40 :: P) ≠ -1 := by rw [mkI_m (by decide)]; exact nI_ne_m1 (by omega)
      have hb : bhO tp t r.2.2 (40 :: P) = (true, (stl 7 P).1, lxQ tp t r.2.2, (stl 7 P).2, true) := by
        unfold bhO
        rw [btO_none (hn5 e) (by rw [kOp_m (by decide)]; decide)]
        simp only []
        rw [if_pos (Or.inl ⟨c, kOp_m (by decide), hm⟩), stl_n (show ¬ 1 ≤ rk 40 by decide), kOp_m (show 40 ≤ 40 by decide), if_neg (show ¬ 40 = 43 by decide)]
        rfl
      rw [key P C hP hl, if_pos e, yd_bh (by rw [hb]), hb]
      dsimp only
      rw [if_pos rfl, List.append_assoc]
    · rw [if_neg c]
      refine ⟨fun P C hP hl hn => ?_, by dsimp only; omega, h3, fun h9 => absurd h9 (show ¬ (1:Nat) = 0 by decide)⟩
      have hm : mkI (40 :: P) ≠ -1 := by rw [mkI_m (by decide)]; exact nI_ne_m1 (by omega)
      rw [key P C hP hl, if_pos e, yd_stray (bhO_none (btO_none (hn5 e) (by rw [kOp_m (by decide)]; decide)) (by rw [kOp_m (by decide)]; rintro (⟨h9, _⟩ | ⟨_, h9⟩) <;> omega) (by rw [kOp_m (by decide)]; rintro (⟨_, h9, _⟩ | ⟨_, h9⟩) <;> omega)) hm]
      exact (if_neg (show ¬ (1:Nat) = 0 by decide)).symm
  · rw [if_neg e]
    refine ⟨fun P C hP hl hn => ?_, by dsimp only; omega, h3, fun h9 => absurd h9 e⟩
    rw [key P C hP hl, if_neg e]
    exact (if_neg e).symm
