/-! products, sums, what is asked, the choice -/
theorem ySm_one {tp : Nat → Nat} {t so o p : Nat} {r : Nat × Cd × Nat} (h : yOne tp t so o p r) : ySm tp t so 6 o p r := by
  obtain ⟨h1, h2, h3, h4⟩ := h
  refine ⟨fun P C hs hP hl hn => ?_, h2, h3, h4⟩
  rw [h1 P C hP hl hn, stl_up (show 6 ≤ 7 by decide) hs]
  dsimp only
  rw [List.append_nil]
theorem ySm_prod {tp : Nat → Nat} {t so o p : Nat} {r : Nat × Cd × Nat} (h : ySm tp t so 6 o p r) : ySm tp t so 5 o p r :=
  ⟨fun P C hs hP hl hn => h.1 P C (stl_up (by decide) hs) hP hl hn, h.2⟩
theorem rk_6 {b : Nat} (h : b ≠ 2) : rk b ≤ 6 := by
  unfold rk
  repeat' split
  all_goals omega
theorem cpO_rk {k b : Nat} (h : cpO k = some b) : rk b = 4 ∧ 10 ≤ b ∧ b ≤ 15 := by
  unfold cpO at h
  by_cases c0 : k = 60
  · rw [if_pos c0] at h; cases h; decide
  rw [if_neg c0] at h
  by_cases c1 : k = 4
  · rw [if_pos c1] at h; cases h; decide
  rw [if_neg c1] at h
  by_cases c2 : k = 62
  · rw [if_pos c2] at h; cases h; decide
  rw [if_neg c2] at h
  by_cases c3 : k = 5
  · rw [if_pos c3] at h; cases h; decide
  rw [if_neg c3] at h
  by_cases c4 : k = 61
  · rw [if_pos c4] at h; cases h; decide
  rw [if_neg c4] at h
  by_cases c5 : k = 35
  · rw [if_pos c5] at h; cases h; decide
  rw [if_neg c5] at h
  cases h
theorem btO_6 {tp : Nat → Nat} {t q b : Nat} {P : List Nat} (h : btO tp t q P = some b) (h1 : lxT tp t q ≠ 42) (h2 : lxT tp t q ≠ 47) : rk b ≤ 5 := by
  unfold btO at h
  by_cases c0 : lxT tp t q = 43
  · rw [if_pos c0] at h; cases h; decide
  rw [if_neg c0] at h
  by_cases c1 : lxT tp t q = 45
  · rw [if_pos c1] at h; cases h; decide
  rw [if_neg c1, if_neg h1, if_neg h2] at h
  by_cases d0 : kOp P = 41
  · rw [if_pos d0] at h
    by_cases d1 : cmpd P = true
    · rw [if_pos d1] at h
      by_cases d2 : lxT tp t q = 2 ∧ lxW tp t q = w8 (w8 (lN 97) 110) 100
      · rw [if_pos d2] at h; cases h; decide
      rw [if_neg d2] at h
      by_cases d3 : lxT tp t q = 2 ∧ lxW tp t q = (28530)
      · rw [if_pos d3] at h; cases h; decide
      rw [if_neg d3] at h
      cases h
    · rw [if_neg d1] at h
      have := (cpO_rk h).1
      omega
  · rw [if_neg d0] at h; cases h
theorem bhO_some {tp : Nat → Nat} {t q b : Nat} {P : List Nat} (h : btO tp t q P = some b) : bhO tp t q P = (true, (stl (rk b) P).1, lxQ tp t q, b :: (stl (rk b) P).2, false) := by unfold bhO; rw [h]
theorem askA_n {x : Nat} {r : List Nat} (h1 : x ≠ 41) (h2 : 4 ≤ rk x) : ¬ askA (x :: r) := fun h => by
  rcases (askA_c.mp h).2 with h9 | ⟨_, h9⟩ <;> omega
theorem opn_n {x : Nat} {r : List Nat} (h1 : x ≠ 2) (h2 : x ≠ 20) (h3 : x < 40) : opn (x :: r) = opn r := by
  rw [opn_c, if_neg (by omega)]; rfl
/-- a step behind a sign of a sum -/
theorem ySm_core {tp : Nat → Nat} {t so k o p x : Nat} {r r2 : Nat × Cd × Nat} (hr : ySm tp t so k o p r) (e : r.1 = 0) (hk : rk x = k) (hbt : ∀ P, btO tp t r.2.2 P = some x) (hx : kNm so [(x, nI 0)])
    (h2 : ∀ (P : List Nat) (C : Cd), stl k P = ([], P) → opn P = o → P.length ≤ p → yd tp t so (lxQ tp t r.2.2) (x :: P) false C = if r2.1 = 0 then yd tp t so r2.2.2 P true (C ++ (r2.2.1 ++ [(x, nI 0)])) else (r2.1, [], r2.2.2))
    (g1 : lxQ tp t r.2.2 ≤ r2.2.2) (g2 : r2.2.2 ≤ t) (g3 : r2.1 = 0 → kNm so r2.2.1) : ySm tp t so k o p (r2.1, if r2.1 = 0 then r.2.1 ++ (r2.2.1 ++ [(x, nI 0)]) else [], r2.2.2) := by
  obtain ⟨h1, h3, h4, h5⟩ := hr
  obtain ⟨h5, h6⟩ := h5 e
  have g0 := lxQ_gt (tp := tp) (t := t) (p0 := r.2.2) (fun h9 => by have := hbt []; rw [btO_0 h9] at this; cases this)
  refine ⟨fun P C hs hP hl hn => ?_, by dsimp only; omega, g2, fun e2 => ⟨by dsimp only; omega, ?_⟩⟩
  · rw [h1 P C hs hP hl hn, if_pos e, yd_bh (by rw [bhO_some (hbt P)]), bhO_some (hbt P), hk, hs]
    dsimp only
    rw [List.append_nil, h2 P _ hs hP hl]
    by_cases e2 : r2.1 = 0
    · rw [if_pos e2, if_pos e2, if_pos e2]
      simp only [List.append_assoc]
    · rw [if_neg e2, if_neg e2]
  · dsimp only at e2 ⊢
    rw [if_pos e2]
    exact kNm_app h6 (kNm_app (g3 e2) hx)
theorem ySm_times {tp : Nat → Nat} {t so o p x : Nat} {r r2 : Nat × Cd × Nat} (hr : ySm tp t so 6 o p r) (e : r.1 = 0) (hx : (lxT tp t r.2.2 = 42 ∧ x = 5) ∨ (lxT tp t r.2.2 = 47 ∧ x = 6)) (h2 : yOne tp t so o (lxQ tp t r.2.2) r2) : ySm tp t so 6 o p (r2.1, if r2.1 = 0 then r.2.1 ++ (r2.2.1 ++ [(x, nI 0)]) else [], r2.2.2) := by
  have hp := (hr.2.2.2 e).1
  have g0 := lxQ_gt (tp := tp) (t := t) (p0 := r.2.2) (by omega)
  have hk : rk x = 6 := by rcases hx with ⟨_, rfl⟩ | ⟨_, rfl⟩ <;> decide
  have hx9 : x = 5 ∨ x = 6 := by omega
  refine ySm_core hr e hk (fun P => ?_) (kNm_op (by omega)) (fun P C hs hP hl => ?_) h2.2.1 h2.2.2.1 (fun e2 => (h2.2.2.2 e2).2)
  · unfold btO
    rcases hx with ⟨h, rfl⟩ | ⟨h, rfl⟩
    · rw [if_neg (by omega), if_neg (by omega), if_pos h]
    · rw [if_neg (by omega), if_neg (by omega), if_neg (by omega), if_pos h]
  · rw [h2.1 (x :: P) C ((opn_n (by omega) (by omega) (by omega)).trans hP) (by simp only [List.length_cons]; omega) (fun h9 => absurd h9 (askA_n (by omega) (by omega))), stl_n (show ¬ 7 ≤ rk x by omega)]
    dsimp only
    by_cases e2 : r2.1 = 0
    · rw [if_pos e2, if_pos e2, List.append_nil, yd_settle (by omega) (fun b hb => by rw [hk]; exact rk_6 (btO_in hb).2.1), List.append_assoc]
    · rw [if_neg e2, if_neg e2]
theorem ySm_plus {tp : Nat → Nat} {t so o p x : Nat} {r r2 : Nat × Cd × Nat} (hr : ySm tp t so 5 o p r) (e : r.1 = 0) (hx : (lxT tp t r.2.2 = 43 ∧ x = 3) ∨ (lxT tp t r.2.2 = 45 ∧ x = 4)) (h2 : ySm tp t so 6 o (lxQ tp t r.2.2) r2) (hn : r2.1 = 0 → nop tp t 6 r2.2.2) : ySm tp t so 5 o p (r2.1, if r2.1 = 0 then r.2.1 ++ (r2.2.1 ++ [(x, nI 0)]) else [], r2.2.2) := by
  have hp := (hr.2.2.2 e).1
  have g0 := lxQ_gt (tp := tp) (t := t) (p0 := r.2.2) (by omega)
  have hk : rk x = 5 := by rcases hx with ⟨_, rfl⟩ | ⟨_, rfl⟩ <;> decide
  have hx9 : x = 3 ∨ x = 4 := by omega
  refine ySm_core hr e hk (fun P => ?_) (kNm_op (by omega)) (fun P C hs hP hl => ?_) h2.2.1 h2.2.2.1 (fun e2 => (h2.2.2.2 e2).2)
  · unfold btO
    rcases hx with ⟨h, rfl⟩ | ⟨h, rfl⟩
    · rw [if_pos h]
    · rw [if_neg (by omega), if_pos h]
  · rw [h2.1 (x :: P) C (stl_n (by omega)) ((opn_n (by omega) (by omega) (by omega)).trans hP) (by simp only [List.length_cons]; omega) (fun h9 => absurd h9 (askA_n (by omega) (by omega)))]
    by_cases e2 : r2.1 = 0
    · rw [if_pos e2, if_pos e2, yd_settle (by omega) (fun b hb => by rw [hk]; exact btO_6 hb (hn e2).1 (hn e2).2.1), List.append_assoc]
    · rw [if_neg e2, if_neg e2]
-- ===== what is asked =====
theorem cmpd_lo {P : List Nat} (h : stl 4 P = ([], P)) : ¬ cmpd P = true := by
  cases P with
  | nil => exact Bool.false_ne_true
  | cons x r =>
    have := stl_hd h
    rw [cmpd_n (by omega), decide_eq_true_iff]
    omega
theorem askA_of {P : List Nat} (h : stl 4 P = ([], P)) (hk : kOp P = 41) : askA P := by
  cases P with
  | nil => exact absurd hk (by decide)
  | cons x r =>
    have h4 := stl_hd h
    refine askA_c.mpr ⟨hk, ?_⟩
    by_cases c : 40 ≤ x
    · exact Or.inl ((kOp_m c).symm.trans hk)
    · refine Or.inr ⟨?_, by omega⟩
      unfold rk
      rw [if_neg c]
      repeat' split
      all_goals omega
/-- a sum fails within what is asked -/
theorem yBl_se {tp : Nat → Nat} {t so o p : Nat} {r : Nat × Cd × Nat} (hnt : ¬ tW tp t p wNot) (hr : ySm tp t so 5 o p r) (e : r.1 ≠ 0) : yBl tp t so 4 3 o p (r.1, [], r.2.2) :=
  ⟨fun P C hs hk hP hl => ⟨fun h9 => absurd h9 e, fun _ => by rw [hr.1 P C (stl_up (by decide) hs) hP hl (fun _ => hnt), if_neg e]⟩, hr.2.1, hr.2.2.1, fun h9 => absurd h9 e⟩
theorem btO_cp {tp : Nat → Nat} {t q : Nat} {P : List Nat} (hn : nop tp t 5 q) (hk : kOp P = 41) (hc : ¬ cmpd P = true) : btO tp t q P = cpO (lxT tp t q) := by
  obtain ⟨h1, h2, h3⟩ := hn
  obtain ⟨h3, h4⟩ := h3 rfl
  unfold btO
  rw [if_neg h3, if_neg h4, if_neg h1, if_neg h2, if_pos hk, if_neg hc]
theorem btO_an {tp : Nat → Nat} {t q : Nat} {P : List Nat} (hn : nop tp t 5 q) (hk : kOp P = 41) (hc : cmpd P = true) : btO tp t q P = (if lxT tp t q = 2 ∧ lxW tp t q = w8 (w8 (lN 97) 110) 100 then some 21 else if lxT tp t q = 2 ∧ lxW tp t q = (28530) then some 22 else none) := by
  obtain ⟨h1, h2, h3⟩ := hn
  obtain ⟨h3, h4⟩ := h3 rfl
  unfold btO
  rw [if_neg h3, if_neg h4, if_neg h1, if_neg h2, if_pos hk, if_pos hc]
theorem yBl_cn {tp : Nat → Nat} {t so o p : Nat} {r : Nat × Cd × Nat} (ht : t ≤ 300) (hnt : ¬ tW tp t p wNot) (hr : ySm tp t so 5 o p r) (e : r.1 = 0) (hn5 : nop tp t 5 r.2.2) (hx : cpO (lxT tp t r.2.2) = none) : yBl tp t so 4 3 o p (1, [], r.2.2) := by
  refine ⟨fun P C hs hk hP hl => ⟨fun h9 => absurd h9 (show ¬ (1:Nat) = 0 by decide), fun _ => ?_⟩, hr.2.1, hr.2.2.1, fun h9 => absurd h9 (show ¬ (1:Nat) = 0 by decide)⟩
  have h2 := hr.2.1
  have h3 := hr.2.2.1
  rw [hr.1 P C (stl_up (by decide) hs) hP hl (fun _ => hnt), if_pos e]
  exact yd_stray (bhO_none ((btO_cp hn5 hk (cmpd_lo hs)).trans hx) (by rw [hk]; rintro (⟨_, h9, _⟩ | ⟨_, h9⟩) <;> omega) (by rw [hk]; rintro (⟨_, _, h9⟩ | ⟨_, h9⟩); exact cmpd_lo hs h9; omega)) (mkI_41 (by omega) (by omega))
theorem yBl_cmp {tp : Nat → Nat} {t so o p x : Nat} {r r2 : Nat × Cd × Nat} (hnt : ¬ tW tp t p wNot) (hr : ySm tp t so 5 o p r) (e : r.1 = 0) (hn5 : nop tp t 5 r.2.2) (hx : cpO (lxT tp t r.2.2) = some x) (h2 : ySm tp t so 5 o (lxQ tp t r.2.2) r2) (hn2 : r2.1 = 0 → nop tp t 5 r2.2.2) : yBl tp t so 4 3 o p (r2.1, if r2.1 = 0 then r.2.1 ++ (r2.2.1 ++ [(x, nI 0)]) else [], r2.2.2) := by
  obtain ⟨x4, x5, x6⟩ := cpO_rk hx
  have g0 := lxQ_gt (tp := tp) (t := t) (p0 := r.2.2) (fun h9 => by rw [h9] at hx; cases hx)
  obtain ⟨hp, hN⟩ := hr.2.2.2 e
  have g1 := h2.2.1
  have key : ∀ (P : List Nat) (C : Cd), stl 4 P = ([], P) → kOp P = 41 → opn P = o → P.length ≤ p → yd tp t so p P false C = if r2.1 = 0 then yd tp t so r2.2.2 (x :: P) true (C ++ r.2.1 ++ r2.2.1) else (r2.1, [], r2.2.2) := by
    intro P C hs hk hP hl
    have hb := (btO_cp hn5 hk (cmpd_lo hs)).trans hx
    rw [hr.1 P C (stl_up (by decide) hs) hP hl (fun _ => hnt), if_pos e, yd_bh (by rw [bhO_some hb]), bhO_some hb, x4, hs]
    dsimp only
    rw [List.append_nil]
    exact h2.1 (x :: P) _ (stl_n (by omega)) ((opn_n (by omega) (by omega) (by omega)).trans hP) (by simp only [List.length_cons]; omega) (fun h9 => absurd h9 (askA_n (by omega) (by omega)))
  refine ⟨fun P C hs hk hP hl => ⟨fun e2 => ?_, fun e2 => ?_⟩, by dsimp only; omega, h2.2.2.1, fun e2 => ⟨by dsimp only; omega, ?_, hn2 e2⟩⟩
  · dsimp only at e2 ⊢
    refine ⟨[x], C ++ r.2.1 ++ r2.2.1, fun y hy => ?_, ?_, ?_, ?_⟩
    · rw [List.mem_singleton.mp hy]; omega
    · show cmpd (x :: P) = true
      rw [cmpd_n (by omega), x4]; rfl
    · rw [if_pos e2]
      show _ ++ [(x, nI 0)] = _
      simp only [List.append_assoc]
    · rw [key P C hs hk hP hl, if_pos e2]; rfl
  · dsimp only at e2 ⊢
    rw [key P C hs hk hP hl, if_neg e2]
  · dsimp only at e2 ⊢
    rw [if_pos e2]
    exact kNm_app hN (kNm_app (h2.2.2.2 e2).2 (kNm_op (by omega)))
theorem bgO_not {tp : Nat → Nat} {t so p : Nat} {P : List Nat} (h : tW tp t p wNot) (hn : nmO tp t p = none) (ha : askA P) : bgO tp t so p P = opX tp t p P 20 := by
  have h2 : lxT tp t p = 2 := h.1
  have h3 : ¬ (lxT tp t p = 2 ∧ lxW tp t p = (26982)) := fun h9 => absurd (h.2.symm.trans h9.2) (by unfold wNot; decide +kernel)
  unfold bgO; rw [if_neg (by omega), hn]; simp only []; rw [if_neg (by omega), if_neg (by omega), if_neg h3]; exact pif_t ⟨h, ha⟩
theorem yBl_deep {tp : Nat → Nat} {t so p : Nat} (hp : p ≤ t) (h : tW tp t p wNot) (hn : nmO tp t p = none) : yBl tp t so 4 3 8 p (3, [], p) :=
  ⟨fun P C hs hk hP hl => ⟨fun h9 => absurd h9 (show ¬ (3:Nat) = 0 by decide), fun _ => yd_er (show ¬ (3:Nat) = 0 by decide) ((bgO_not h hn (askA_of hs hk)).trans (opX_8 hP))⟩, Nat.le_refl _, hp, fun h9 => absurd h9 (show ¬ (3:Nat) = 0 by decide)⟩
theorem yBl_not {tp : Nat → Nat} {t so o p : Nat} {r : Nat × Cd × Nat} (h : tW tp t p wNot) (hn : nmO tp t p = none) (ho : o ≠ 8) (hr : yBl tp t so 4 3 (o + 1) (lxQ tp t p) r) : yBl tp t so 4 3 o p (r.1, if r.1 = 0 then r.2.1 ++ [(20, nI 0)] else [], r.2.2) := by
  have h2 : lxT tp t p = 2 := h.1
  have g := lxQ_gt (tp := tp) (t := t) (p0 := p) (by omega)
  have g1 := hr.2.1
  have key : ∀ (P : List Nat) (C : Cd), stl 4 P = ([], P) → kOp P = 41 → opn P = o → yd tp t so p P false C = yd tp t so (lxQ tp t p) (20 :: P) false C := by
    intro P C hs hk hP
    have e : bgO tp t so p P = (0, [], lxQ tp t p, 20 :: P, false) := (bgO_not h hn (askA_of hs hk)).trans (opX_n (by omega))
    rw [yd_bg (by rw [e]), e]
    dsimp only
    rw [List.append_nil]
  have inner : ∀ (P : List Nat) (C : Cd), stl 4 P = ([], P) → kOp P = 41 → opn P = o → P.length ≤ p → _ := fun P C hs hk hP hl => hr.1 (20 :: P) C (stl_n (by decide)) ((kOp_c (by decide)).trans hk) (by rw [opn_c, if_pos (by omega), hP]) (by simp only [List.length_cons]; omega)
  refine ⟨fun P C hs hk hP hl => ⟨fun e2 => ?_, fun e2 => ?_⟩, by dsimp only; omega, hr.2.2.1, fun e2 => ⟨by dsimp only; omega, ?_, (hr.2.2.2 e2).2.2⟩⟩
  · dsimp only at e2 ⊢
    obtain ⟨D, C', d1, d2, d3, d4⟩ := (inner P C hs hk hP hl).1 e2
    have hD : ∀ R : List Nat, D ++ [20] ++ R = D ++ 20 :: R := fun R => by rw [List.append_assoc]; rfl
    refine ⟨D ++ [20], C', fun y hy => ?_, by rw [hD]; exact d2, ?_, by rw [hD, key P C hs hk hP, d4]⟩
    · rcases List.mem_append.mp hy with h9 | h9
      · exact d1 y h9
      · rw [List.mem_singleton.mp h9]; exact ⟨by decide, by decide⟩
    · rw [if_pos e2, emi_app, ← List.append_assoc, d3, List.append_assoc]; rfl
  · dsimp only at e2 ⊢
    rw [key P C hs hk hP]
    exact (inner P C hs hk hP hl).2 e2
  · dsimp only at e2 ⊢
    rw [if_pos e2]
    exact kNm_app (hr.2.2.2 e2).2.1 (kNm_op (by decide))
theorem yBl_up {tp : Nat → Nat} {t so a b a2 b2 o p : Nat} {r : Nat × Cd × Nat} (h : yBl tp t so a b o p r) (ha : a2 ≤ a) (hb : b2 ≤ b) : yBl tp t so a2 b2 o p r :=
  ⟨fun P C hs hk hP hl => ⟨fun e => by
    obtain ⟨D, C', d1, d2⟩ := (h.1 P C (stl_up ha hs) hk hP hl).1 e
    exact ⟨D, C', fun x hx => ⟨(d1 x hx).1, Nat.le_trans hb (d1 x hx).2⟩, d2⟩, (h.1 P C (stl_up ha hs) hk hP hl).2⟩, h.2⟩
/-- one more behind 'and' (x = 21, k = 2) or 'or' (x = 22, k = 1) -/
theorem yBl_more {tp : Nat → Nat} {t so k a b o p x : Nat} {r r2 : Nat × Cd × Nat} (hr : yBl tp t so k k o p r) (e : r.1 = 0) (hx : rk x = k ∧ x < 40 ∧ x ≠ 2 ∧ x ≠ 20 ∧ x ≠ 1 ∧ k < a ∧ k ≤ b ∧ k ≤ 2) (hbt : ∀ P, kOp P = 41 → cmpd P = true → btO tp t r.2.2 P = some x) (h2 : yBl tp t so a b o (lxQ tp t r.2.2) r2) : yBl tp t so k k o p (r2.1, if r2.1 = 0 then r.2.1 ++ (r2.2.1 ++ [(x, nI 0)]) else [], r2.2.2) := by
  obtain ⟨x1, x2, x3, x4, x5, x6, x7, x8⟩ := hx
  obtain ⟨hp, hN, hn5⟩ := hr.2.2.2 e
  have g0 := lxQ_gt (tp := tp) (t := t) (p0 := r.2.2) (fun h9 => by have := hbt [10, 41] rfl rfl; rw [btO_0 h9] at this; cases this)
  have g1 := h2.2.1
  have key : ∀ (P : List Nat) (C : Cd), stl k P = ([], P) → kOp P = 41 → opn P = o → P.length ≤ p → yd tp t so p P false C = yd tp t so (lxQ tp t r.2.2) (x :: P) false (C ++ r.2.1) := by
    intro P C hs hk hP hl
    obtain ⟨D, C', d1, d2, d3, d4⟩ := (hr.1 P C hs hk hP hl).1 e
    have hb := hbt (D ++ P) ((kOp_D fun y hy => (d1 y hy).1).trans hk) d2
    rw [d4, yd_bh (by rw [bhO_some hb]), bhO_some hb, x1, stl_D hs (fun y hy => (d1 y hy).2)]
    dsimp only
    rw [d3]
  have inner : ∀ (P : List Nat) (C : Cd), stl k P = ([], P) → kOp P = 41 → opn P = o → P.length ≤ p → _ := fun P C hs hk hP hl => h2.1 (x :: P) (C ++ r.2.1) (stl_n (by omega)) ((kOp_c x2).trans hk) ((opn_n x3 x4 x2).trans hP) (by simp only [List.length_cons]; omega)
  refine ⟨fun P C hs hk hP hl => ⟨fun e2 => ?_, fun e2 => ?_⟩, by dsimp only; omega, h2.2.2.1, fun e2 => ⟨by dsimp only; omega, ?_, (h2.2.2.2 e2).2.2⟩⟩
  · dsimp only at e2 ⊢
    obtain ⟨D, C', d1, d2, d3, d4⟩ := (inner P C hs hk hP hl).1 e2
    have hD : ∀ R : List Nat, D ++ [x] ++ R = D ++ x :: R := fun R => by rw [List.append_assoc]; rfl
    refine ⟨D ++ [x], C', fun y hy => ?_, by rw [hD]; exact d2, ?_, by rw [hD, key P C hs hk hP hl, d4]⟩
    · rcases List.mem_append.mp hy with h9 | h9
      · exact ⟨(d1 y h9).1, Nat.le_trans x7 (d1 y h9).2⟩
      · rw [List.mem_singleton.mp h9]; exact ⟨x2, by omega⟩
    · rw [if_pos e2, emi_app, ← List.append_assoc, d3]
      show _ ++ [(x, nI 0)] = _
      simp only [List.append_assoc]
  · dsimp only at e2 ⊢
    rw [key P C hs hk hP hl]
    exact (inner P C hs hk hP hl).2 e2
  · dsimp only at e2 ⊢
    rw [if_pos e2]
    exact kNm_app hN (kNm_app (h2.2.2.2 e2).2.1 (kNm_op x5))
theorem yBl_and {tp : Nat → Nat} {t so o p : Nat} {r r2 : Nat × Cd × Nat} (hr : yBl tp t so 2 2 o p r) (e : r.1 = 0) (hw : tW tp t r.2.2 wAnd) (h2 : yBl tp t so 4 3 o (lxQ tp t r.2.2) r2) : yBl tp t so 2 2 o p (r2.1, if r2.1 = 0 then r.2.1 ++ (r2.2.1 ++ [(21, nI 0)]) else [], r2.2.2) :=
  yBl_more hr e (by decide) (fun P hk hc => (btO_an (hr.2.2.2 e).2.2 hk hc).trans (if_pos hw)) h2
theorem yBl_or {tp : Nat → Nat} {t so o p : Nat} {r r2 : Nat × Cd × Nat} (hr : yBl tp t so 1 1 o p r) (e : r.1 = 0) (hw : tW tp t r.2.2 wOr) (h2 : yBl tp t so 2 2 o (lxQ tp t r.2.2) r2) : yBl tp t so 1 1 o p (r2.1, if r2.1 = 0 then r.2.1 ++ (r2.2.1 ++ [(22, nI 0)]) else [], r2.2.2) :=
  yBl_more hr e (by decide) (fun P hk hc => (btO_an (hr.2.2.2 e).2.2 hk hc).trans ((if_neg (fun h9 => absurd (hw.2.symm.trans h9.2) (by unfold wOr; decide +kernel))).trans (if_pos hw))) h2
-- ===== the choice =====
/-- from p on an 'if' has been read up to q; x is open -/
def yIf (tp : Nat → Nat) (t so x o p q : Nat) (L : Cd) : Prop := (∀ (P : List Nat) (C : Cd), opn P = o → P.length ≤ p → yd tp t so p P false C = yd tp t so q (x :: P) false (C ++ L)) ∧ p < q ∧ q ≤ t ∧ kNm so L
theorem yIf_op {tp : Nat → Nat} {t so o p : Nat} {P : List Nat} {C : Cd} (h : tW tp t p wIf) (hn : nmO tp t p = none) (ho : opn P = o) (h8 : o ≠ 8) : yd tp t so p P false C = yd tp t so (lxQ tp t p) (41 :: P) false C := yd_open (Or.inr (Or.inr ⟨h, hn, rfl⟩)) (by omega)
theorem opn_41 {x : Nat} {P : List Nat} (h : 40 ≤ x) : opn (x :: P) = opn P + 1 := by rw [opn_c, if_pos (Or.inr (Or.inr h))]
theorem yIf_e0 {tp : Nat → Nat} {t so o p : Nat} {r : Nat × Cd × Nat} (h : tW tp t p wIf) (hn : nmO tp t p = none) (h8 : o ≠ 8) (hr : yBl tp t so 1 1 (o + 1) (lxQ tp t p) r) (e : r.1 ≠ 0) : yOne tp t so o p (r.1, [], r.2.2) := by
  have h2 : lxT tp t p = 2 := h.1
  have g := lxQ_gt (tp := tp) (t := t) (p0 := p) (by omega)
  have g1 := hr.2.1
  refine ⟨fun P C hP hl _ => ?_, by dsimp only; omega, hr.2.2.1, fun h9 => absurd h9 e⟩
  rw [yIf_op h hn hP h8]
  exact ((hr.1 (41 :: P) C (stl_n (by decide)) (kOp_m (by decide)) (by rw [opn_41 (by decide), hP]) (by simp only [List.length_cons]; omega)).2 e).trans (if_neg e).symm
theorem yIf_e1 {tp : Nat → Nat} {t so o p : Nat} {r : Nat × Cd × Nat} (ht : t ≤ 300) (h : tW tp t p wIf) (hn : nmO tp t p = none) (h8 : o ≠ 8) (hr : yBl tp t so 1 1 (o + 1) (lxQ tp t p) r) (e : r.1 = 0) (hq : lxT tp t r.2.2 ≠ 63) (ha : ¬ tW tp t r.2.2 wAnd) (ho : ¬ tW tp t r.2.2 wOr) : yOne tp t so o p (1, [], r.2.2) := by
  have h2 : lxT tp t p = 2 := h.1
  have g := lxQ_gt (tp := tp) (t := t) (p0 := p) (by omega)
  have g1 := hr.2.1
  have g2 := hr.2.2.1
  obtain ⟨_, _, hn5⟩ := hr.2.2.2 e
  refine ⟨fun P C hP hl _ => ?_, by dsimp only; omega, hr.2.2.1, fun h9 => absurd h9 (show ¬ (1:Nat) = 0 by decide)⟩
  obtain ⟨D, C', d1, d2, d3, d4⟩ := (hr.1 (41 :: P) C (stl_n (by decide)) (kOp_m (by decide)) (by rw [opn_41 (by decide), hP]) (by simp only [List.length_cons]; omega)).1 e
  have hk : kOp (D ++ 41 :: P) = 41 := (kOp_D fun y hy => (d1 y hy).1).trans (kOp_m (by decide))
  have hm : mkI (D ++ 41 :: P) ≠ -1 := by rw [mkI_D fun y hy => (d1 y hy).1, mkI_m (by decide)]; exact nI_ne_m1 (by omega)
  rw [yIf_op h hn hP h8, d4, yd_stray (bhO_none ((btO_an hn5 hk d2).trans ((if_neg ha).trans (if_neg ho))) (by rw [hk]; rintro (⟨_, h9, _⟩ | ⟨_, h9⟩) <;> omega) (by rw [hk]; rintro (⟨h9, _⟩ | ⟨_, h9⟩) <;> omega)) hm]
  exact (if_neg (show ¬ (1:Nat) = 0 by decide)).symm
theorem yIf_1 {tp : Nat → Nat} {t so o p : Nat} {r : Nat × Cd × Nat} (h : tW tp t p wIf) (hn : nmO tp t p = none) (h8 : o ≠ 8) (hr : yBl tp t so 1 1 (o + 1) (lxQ tp t p) r) (e : r.1 = 0) (hq : lxT tp t r.2.2 = 63) : yIf tp t so 42 o p (lxQ tp t r.2.2) r.2.1 := by
  have h2 : lxT tp t p = 2 := h.1
  have g := lxQ_gt (tp := tp) (t := t) (p0 := p) (by omega)
  have g1 := hr.2.1
  have g2 := hr.2.2.1
  have g3 := lxQ_gt (tp := tp) (t := t) (p0 := r.2.2) (by omega)
  obtain ⟨_, hN, hn5⟩ := hr.2.2.2 e
  refine ⟨fun P C hP hl => ?_, by omega, lxQ_le g2, hN⟩
  obtain ⟨D, C', d1, d2, d3, d4⟩ := (hr.1 (41 :: P) C (stl_n (by decide)) (kOp_m (by decide)) (by rw [opn_41 (by decide), hP]) (by simp only [List.length_cons]; omega)).1 e
  have hk : kOp (D ++ 41 :: P) = 41 := (kOp_D fun y hy => (d1 y hy).1).trans (kOp_m (by decide))
  have hbt : btO tp t r.2.2 (D ++ 41 :: P) = none := (btO_an hn5 hk d2).trans ((if_neg (by omega)).trans (if_neg (by omega)))
  have hb : bhO tp t r.2.2 (D ++ 41 :: P) = (true, emi D, lxQ tp t r.2.2, 42 :: P, false) := by
    unfold bhO
    rw [hbt]
    simp only []
    rw [hk, if_neg (by rintro (⟨_, h9, _⟩ | ⟨_, h9⟩) <;> omega), if_pos (Or.inl ⟨hq, rfl, d2⟩), stl_D (stl_n (show ¬ 1 ≤ rk 41 by decide)) (fun y hy => (d1 y hy).2)]
    rfl
  rw [yIf_op h hn hP h8, d4, yd_bh (by rw [hb]), hb]
  dsimp only
  rw [d3]
theorem ySm_m {tp : Nat → Nat} {t so x o p q : Nat} {L : Cd} {r : Nat × Cd × Nat} (hi : yIf tp t so x o p q L) (hx : x = 42 ∨ x = 43) (hr : ySm tp t so 5 (o + 1) q r) : ∀ (P : List Nat) (C : Cd), opn P = o → P.length ≤ p → yd tp t so p P false C = if r.1 = 0 then yd tp t so r.2.2 (x :: P) true (C ++ L ++ r.2.1) else (r.1, [], r.2.2) := by
  intro P C hP hl
  have h2 := hi.2.1
  rw [hi.1 P C hP hl]
  exact hr.1 (x :: P) _ (stl_n (by rw [rk_m (by omega)]; decide)) (by rw [opn_41 (by omega), hP]) (by simp only [List.length_cons]; omega) (fun h9 => absurd (askA_c.mp h9).1 (by rw [kOp_m (by omega)]; omega))
theorem yIf_se {tp : Nat → Nat} {t so x o p q : Nat} {L : Cd} {r : Nat × Cd × Nat} (hi : yIf tp t so x o p q L) (hx : x = 42 ∨ x = 43) (hr : ySm tp t so 5 (o + 1) q r) (e : r.1 ≠ 0) : yOne tp t so o p (r.1, [], r.2.2) := by
  have g1 := hr.2.1
  have g2 := hi.2.1
  refine ⟨fun P C hP hl _ => ?_, by dsimp only; omega, hr.2.2.1, fun h9 => absurd h9 e⟩
  rw [ySm_m hi hx hr P C hP hl, if_neg e]
  exact (if_neg e).symm
theorem yIf_st {tp : Nat → Nat} {t so x o p q : Nat} {L : Cd} {r : Nat × Cd × Nat} (ht : t ≤ 300) (hi : yIf tp t so x o p q L) (hx : x = 42 ∨ x = 43) (hr : ySm tp t so 5 (o + 1) q r) (e : r.1 = 0) (hn5 : nop tp t 5 r.2.2) (h1 : x = 42 → lxT tp t r.2.2 ≠ 58) (h2 : x = 43 → ¬ tW tp t r.2.2 wEnd) : yOne tp t so o p (1, [], r.2.2) := by
  have g1 := hr.2.1
  have g2 := hi.2.1
  have g3 := hr.2.2.1
  refine ⟨fun P C hP hl _ => ?_, by dsimp only; omega, hr.2.2.1, fun h9 => absurd h9 (show ¬ (1:Nat) = 0 by decide)⟩
  have hk : kOp (x :: P) = x := kOp_m (by omega)
  have hm : mkI (x :: P) ≠ -1 := by rw [mkI_m (by omega)]; exact nI_ne_m1 (by omega)
  rw [ySm_m hi hx hr P C hP hl, if_pos e, yd_stray (bhO_none (btO_none hn5 (by omega)) (by rw [hk]; rintro (⟨_, h9, _⟩ | ⟨h8, h9⟩); omega; exact h2 h9 h8) (by rw [hk]; rintro (⟨_, h9, _⟩ | ⟨h8, h9⟩); omega; exact h1 h9 h8)) hm]
  exact (if_neg (show ¬ (1:Nat) = 0 by decide)).symm
theorem yIf_2 {tp : Nat → Nat} {t so o p q : Nat} {L : Cd} {r : Nat × Cd × Nat} (hi : yIf tp t so 42 o p q L) (hr : ySm tp t so 5 (o + 1) q r) (e : r.1 = 0) (hn5 : nop tp t 5 r.2.2) (hq : lxT tp t r.2.2 = 58) : yIf tp t so 43 o p (lxQ tp t r.2.2) (L ++ r.2.1) := by
  have g1 := hr.2.1
  have g2 := hi.2.1
  have g3 := hr.2.2.1
  have g4 := lxQ_gt (tp := tp) (t := t) (p0 := r.2.2) (by omega)
  refine ⟨fun P C hP hl => ?_, by omega, lxQ_le g3, kNm_app hi.2.2.2 (hr.2.2.2 e).2⟩
  have hk : kOp (42 :: P) = 42 := kOp_m (by decide)
  have hb : bhO tp t r.2.2 (42 :: P) = (true, [], lxQ tp t r.2.2, 43 :: P, false) := by
    unfold bhO
    rw [btO_none hn5 (by rw [hk]; decide)]
    simp only []
    rw [hk, if_neg (by rintro (⟨_, h9, _⟩ | ⟨_, h9⟩) <;> omega), if_pos (Or.inr ⟨hq, rfl⟩), stl_n (show ¬ 1 ≤ rk 42 by decide)]
    rfl
  rw [ySm_m hi (Or.inl rfl) hr P C hP hl, if_pos e, yd_bh (by rw [hb]), hb]
  dsimp only
  simp only [List.append_nil, List.append_assoc]
theorem yIf_3 {tp : Nat → Nat} {t so o p q : Nat} {L : Cd} {r : Nat × Cd × Nat} (hi : yIf tp t so 43 o p q L) (hr : ySm tp t so 5 (o + 1) q r) (e : r.1 = 0) (hn5 : nop tp t 5 r.2.2) (hw : tW tp t r.2.2 wEnd) : yOne tp t so o p (0, L ++ (r.2.1 ++ [(23, nI 0)]), lxQ tp t r.2.2) := by
  have g1 := hr.2.1
  have g2 := hi.2.1
  have g3 := hr.2.2.1
  have hw2 : lxT tp t r.2.2 = 2 := hw.1
  have g4 := lxQ_gt (tp := tp) (t := t) (p0 := r.2.2) (by omega)
  refine ⟨fun P C hP hl _ => ?_, by dsimp only; omega, lxQ_le g3, fun _ => ⟨by dsimp only; omega, kNm_app hi.2.2.2 (kNm_app (hr.2.2.2 e).2 (kNm_op (by decide)))⟩⟩
  have hk : kOp (43 :: P) = 43 := kOp_m (by decide)
  have hb : bhO tp t r.2.2 (43 :: P) = (true, (23, nI 0) :: (stl 7 P).1, lxQ tp t r.2.2, (stl 7 P).2, true) := by
    unfold bhO
    rw [btO_none hn5 (by rw [hk]; decide)]
    simp only []
    rw [hk, if_pos (Or.inr ⟨hw, rfl⟩), stl_n (show ¬ 1 ≤ rk 43 by decide), if_pos rfl]
    rfl
  rw [ySm_m hi (Or.inr rfl) hr P C hP hl, if_pos e, yd_bh (by rw [hb]), hb]
  dsimp only
  rw [if_pos rfl]
  simp only [List.append_assoc, List.cons_append, List.nil_append]
/-- the whole clause's sum -/
theorem ySm_psd {tp : Nat → Nat} {t so p : Nat} {r : Nat × Cd × Nat} (hr : ySm tp t so 5 0 p r) (hn5 : r.1 = 0 → nop tp t 5 r.2.2) : (psd tp t so p).1 = r.1 ∧ (psd tp t so p).2.2.1 = r.2.2 ∧ (r.1 = 0 → (psd tp t so p).2.1 = r.2.1) := by
  obtain ⟨h1, h2, h3⟩ := psd_yd (tp := tp) (t := t) (so := so) (p0 := p)
  have key := hr.1 [] [] rfl rfl (Nat.zero_le _) (fun h9 => absurd h9.1 (by decide))
  rw [h1, h2]
  by_cases e : r.1 = 0
  · have hb : ¬ (bhO tp t r.2.2 []).1 = true := bhO_none (btO_none (hn5 e) (by decide)) (by rintro (⟨_, _, h9⟩ | ⟨_, h9⟩); exact h9 rfl; exact absurd h9 (by decide)) (by rintro (⟨_, h9, _⟩ | ⟨_, h9⟩) <;> exact absurd h9 (by decide))
    have e9 : yd tp t so p [] false [] = (0, r.2.1, r.2.2) := by
      rw [key, if_pos e, yd_no hb, if_pos (show mkI [] = -1 from rfl)]
      show (0, r.2.1 ++ [], r.2.2) = _
      rw [List.append_nil]
    rw [e9] at h3 h1 ⊢
    exact ⟨e.symm, rfl, fun _ => h3 h1⟩
  · have e9 : yd tp t so p [] false [] = (r.1, [], r.2.2) := by rw [key, if_neg e]
    rw [e9]
    exact ⟨rfl, rfl, fun h9 => absurd h9 e⟩
