theorem stl_opn (a : Nat) : ∀ P : List Nat, opn P ≤ (stl a P).1.length + opn (stl a P).2 ∧ opn (stl a P).2 ≤ opn P
  | [] => ⟨Nat.le_refl _, Nat.le_refl _⟩
  | x :: r => by
    have h := stl_opn a r
    have h0 := opn_c x r
    by_cases c : a ≤ rk x
    · rw [show stl a (x :: r) = ((x, nI 0) :: (stl a r).1, (stl a r).2) from if_pos c]
      simp only [List.length_cons]
      split at h0 <;> omega
    · rw [show stl a (x :: r) = ([], x :: r) from if_neg c]
      exact ⟨by simp, Nat.le_refl _⟩
theorem bgO_e {tp : Nat → Nat} {t so p : Nat} {P : List Nat} : ((bgO tp t so p P).1 ≠ 0 ∧ (bgO tp t so p P).1 ≤ 5) ∨ (lxT tp t p ≠ 0 ∧ (bgO tp t so p P).1 = 0 ∧ (bgO tp t so p P).2.2.1 = lxQ tp t p ∧ ((∃ q, (bgO tp t so p P).2.1 = q :: (stl 7 P).1 ∧ (bgO tp t so p P).2.2.2 = ((stl 7 P).2, true)) ∨ (∃ x, (x = 2 ∨ x = 20 ∨ 40 ≤ x) ∧ opn P ≠ 8 ∧ (bgO tp t so p P).2.1 = [] ∧ (bgO tp t so p P).2.2.2 = (x :: P, false)))) := by
  have hX : ∀ x, (x = 2 ∨ x = 20 ∨ 40 ≤ x) → lxT tp t p ≠ 0 → bgO tp t so p P = opX tp t p P x → ((bgO tp t so p P).1 ≠ 0 ∧ (bgO tp t so p P).1 ≤ 5) ∨ (lxT tp t p ≠ 0 ∧ (bgO tp t so p P).1 = 0 ∧ (bgO tp t so p P).2.2.1 = lxQ tp t p ∧ ((∃ q, (bgO tp t so p P).2.1 = q :: (stl 7 P).1 ∧ (bgO tp t so p P).2.2.2 = ((stl 7 P).2, true)) ∨ (∃ x, (x = 2 ∨ x = 20 ∨ 40 ≤ x) ∧ opn P ≠ 8 ∧ (bgO tp t so p P).2.1 = [] ∧ (bgO tp t so p P).2.2.2 = (x :: P, false)))) := by
    intro x hx ht e
    rw [e]
    unfold opX
    by_cases c : opn P = 8
    · exact Or.inl ⟨by simp [c], by simp [c]⟩
    · exact Or.inr ⟨ht, by simp [c], by simp [c], Or.inr ⟨x, hx, c, rfl, by simp [c]⟩⟩
  have hE : ∀ k, k ≠ 0 → k ≤ 5 → bgO tp t so p P = (k, [], p, P, false) → (bgO tp t so p P).1 ≠ 0 ∧ (bgO tp t so p P).1 ≤ 5 := by
    intro k h1 h2 e
    rw [e]
    exact ⟨h1, h2⟩
  by_cases c1 : lxT tp t p = 1
  · by_cases c2 : 9999 < lxN tp t p
    · exact Or.inl (hE 2 (by decide) (by decide) (by unfold bgO; rw [if_pos c1, if_pos c2]))
    · refine Or.inr ⟨by omega, ?_⟩
      have e : bgO tp t so p P = (0, (0, nI (lxN tp t p)) :: (stl 7 P).1, lxQ tp t p, (stl 7 P).2, true) := by unfold bgO; rw [if_pos c1, if_neg c2]
      rw [e]
      exact ⟨rfl, rfl, Or.inl ⟨_, rfl, rfl⟩⟩
  · rcases hn : nmO tp t p with _ | i
    · by_cases d1 : lxT tp t p = 40
      · exact hX 40 (by omega) (by omega) (by unfold bgO; rw [if_neg c1, hn]; exact if_pos d1)
      by_cases d2 : lxT tp t p = 45
      · exact hX 2 (by omega) (by omega) (by unfold bgO; rw [if_neg c1, hn]; simp only []; rw [if_neg d1, if_pos d2])
      by_cases d3 : lxT tp t p = 2 ∧ lxW tp t p = (26982)
      · exact hX 41 (by omega) (by omega) (by unfold bgO; rw [if_neg c1, hn]; simp only []; rw [if_neg d1, if_neg d2, if_pos d3])
      by_cases d4 : (lxT tp t p = 2 ∧ lxW tp t p = w8 (w8 (lN 110) 111) 116) ∧ askA P
      · exact hX 20 (by omega) (by omega) (by unfold bgO; rw [if_neg c1, hn]; simp only []; rw [if_neg d1, if_neg d2, if_neg d3, pif_t d4])
      exact Or.inl (hE 1 (by decide) (by decide) (by unfold bgO; rw [if_neg c1, hn]; simp only []; rw [if_neg d1, if_neg d2, if_neg d3, pif_f d4]))
    · by_cases d1 : isO so i
      · have h2 := nmO_2 hn
        refine Or.inr ⟨by omega, ?_⟩
        have e : bgO tp t so p P = (0, (1, nI i) :: (stl 7 P).1, lxQ tp t p, (stl 7 P).2, true) := by unfold bgO; rw [if_neg c1, hn]; exact if_pos d1
        rw [e]
        exact ⟨rfl, rfl, Or.inl ⟨_, rfl, rfl⟩⟩
      · exact Or.inl (hE 5 (by decide) (by decide) (by unfold bgO; rw [if_neg c1, hn]; exact if_neg d1))
theorem bgO_inv {tp : Nat → Nat} {t so p : Nat} {P : List Nat} (hp : p ≤ t) (h : (bgO tp t so p P).1 = 0) (ho : opn P ≤ 8) : p < (bgO tp t so p P).2.2.1 ∧ (bgO tp t so p P).2.2.1 ≤ t ∧ (bgO tp t so p P).2.1.length + (bgO tp t so p P).2.2.2.1.length ≤ P.length + 1 ∧ (bgO tp t so p P).2.2.2.1.length + (if (bgO tp t so p P).2.2.2.2 = true then 1 else 0) + opn P ≤ P.length + (bgO tp t so p P).2.1.length + opn (bgO tp t so p P).2.2.2.1 ∧ opn (bgO tp t so p P).2.2.2.1 ≤ 8 := by
  rcases bgO_e (tp := tp) (t := t) (so := so) (p := p) (P := P) with ⟨h1, _⟩ | ⟨h1, _, h3, h4⟩
  · exact absurd h h1
  have g1 := lxQ_gt h1
  have g2 := lxQ_le (tp := tp) hp
  have g3 := stl_len 7 P
  have g4 := stl_opn 7 P
  rcases h4 with ⟨q, h5, h6⟩ | ⟨x, h5, h6, h7, h8⟩
  · rw [h3, h5, h6]
    simp only [List.length_cons, if_true]
    omega
  · have g5 : opn (x :: P) = opn P + 1 := by rw [opn_c, if_pos h5]
    rw [h3, h7, h8]
    refine ⟨g1, g2, by simp, ?_, by show opn (x :: P) ≤ 8; omega⟩
    simp only [List.length_cons, List.length_nil]
    rw [g5]
    simp
    omega
theorem bhO_no {tp : Nat → Nat} {t p : Nat} {P : List Nat} (h : ¬ (bhO tp t p P).1 = true) : bhO tp t p P = (false, [], p, P, true) := by
  unfold bhO at h ⊢
  rcases hbt : btO tp t p P with _ | b
  · rw [hbt] at h
    simp only [] at h ⊢
    by_cases c1 : (lxT tp t p = 41 ∧ kOp P = 40 ∧ ¬ mkI P = -1) ∨ ((lxT tp t p = 2 ∧ lxW tp t p = w8 (w8 (lN 101) 110) 100) ∧ kOp P = 43)
    · rw [if_pos c1] at h; exact absurd rfl h
    by_cases c2 : (lxT tp t p = 63 ∧ kOp P = 41 ∧ cmpd P = true) ∨ (lxT tp t p = 58 ∧ kOp P = 42)
    · rw [if_neg c1, if_pos c2] at h; exact absurd rfl h
    rw [if_neg c1, if_neg c2]
  · rw [hbt] at h
    exact absurd rfl h
theorem btO_0 {tp : Nat → Nat} {t p : Nat} {P : List Nat} (h : lxT tp t p = 0) : btO tp t p P = none := by
  unfold btO
  rw [h]
  simp [cpO]
theorem bhO_inv {tp : Nat → Nat} {t p : Nat} {P : List Nat} (hp : p ≤ t) (h : (bhO tp t p P).1 = true) (ho : opn P ≤ 8) (hl : P.length ≤ 160) : p < (bhO tp t p P).2.2.1 ∧ (bhO tp t p P).2.2.1 ≤ t ∧ (bhO tp t p P).2.1.length + (bhO tp t p P).2.2.2.1.length ≤ P.length + 1 ∧ (bhO tp t p P).2.2.2.1.length + (if (bhO tp t p P).2.2.2.2 = true then 1 else 0) + opn P ≤ P.length + 1 + (bhO tp t p P).2.1.length + opn (bhO tp t p P).2.2.2.1 ∧ opn (bhO tp t p P).2.2.2.1 ≤ 8 := by
  have g2 := lxQ_le (tp := tp) hp
  have s1 := stl_len 1 P
  have s2 := stl_opn 1 P
  have hmk : mkI P = -1 → kOp P = 40 := by
    intro e
    rcases mkI_split P with ⟨_, h2⟩ | ⟨j, h1, h2, _⟩
    · exact h2
    · rw [h2] at e; exact absurd e (nI_ne_m1 (by omega))
  have hr : ¬ mkI P = -1 → ∃ r, (stl 1 P).2 = kOp P :: r ∧ opn (kOp P :: r) = opn r + 1 ∧ 40 ≤ kOp P := by
    intro e
    rcases mkI_split P with ⟨h1, _⟩ | ⟨j, h1, h2, h3, _⟩
    · exact absurd h1 e
    · obtain ⟨r, h4, _, _⟩ := stl1_top h1 h2 hl
      exact ⟨r, h4, by rw [opn_c, if_pos (by omega)], h3⟩
  rcases hbt : btO tp t p P with _ | b
  · by_cases c1 : (lxT tp t p = 41 ∧ kOp P = 40 ∧ ¬ mkI P = -1) ∨ ((lxT tp t p = 2 ∧ lxW tp t p = w8 (w8 (lN 101) 110) 100) ∧ kOp P = 43)
    · have e : bhO tp t p P = (true, (stl 1 P).1 ++ (if kOp P = 43 then (23, nI 0) :: (stl 7 (stl 1 P).2.tail).1 else (stl 7 (stl 1 P).2.tail).1), lxQ tp t p, (stl 7 (stl 1 P).2.tail).2, true) := by
        unfold bhO; rw [hbt]; exact if_pos c1
      have hm : ¬ mkI P = -1 := by
        rcases c1 with ⟨_, _, h3⟩ | ⟨_, h2⟩
        · exact h3
        · intro h9; have := hmk h9; omega
      obtain ⟨r, h4, h5, h6⟩ := hr hm
      have g1 : p < lxQ tp t p := lxQ_gt (by rcases c1 with ⟨h1, _⟩ | ⟨⟨h1, _⟩, _⟩ <;> omega)
      rw [h4] at s1 s2
      have s3 := stl_len 7 r
      have s4 := stl_opn 7 r
      rw [e, h4]
      simp only [List.length_cons, List.length_append, List.tail_cons, if_true] at s1 ⊢
      by_cases c9 : kOp P = 43
      · rw [if_pos c9]
        simp only [List.length_cons]
        omega
      · rw [if_neg c9]
        omega
    · by_cases c2 : (lxT tp t p = 63 ∧ kOp P = 41 ∧ cmpd P = true) ∨ (lxT tp t p = 58 ∧ kOp P = 42)
      · have e : bhO tp t p P = (true, (stl 1 P).1, lxQ tp t p, (kOp P + 1) :: (stl 1 P).2.tail, false) := by
          unfold bhO; rw [hbt]; simp only []; rw [if_neg c1, if_pos c2]
        have hm : ¬ mkI P = -1 := by
          intro h9; have := hmk h9; rcases c2 with ⟨_, h2, _⟩ | ⟨_, h2⟩ <;> omega
        obtain ⟨r, h4, h5, h6⟩ := hr hm
        have g1 : p < lxQ tp t p := lxQ_gt (by rcases c2 with ⟨h1, _⟩ | ⟨h1, _⟩ <;> omega)
        have h7 : opn ((kOp P + 1) :: r) = opn r + 1 := by rw [opn_c, if_pos (by omega)]
        rw [h4] at s1 s2
        rw [e, h4]
        simp only [List.length_cons, List.tail_cons] at s1 ⊢
        rw [h7]
        simp
        omega
      · have e : bhO tp t p P = (false, [], p, P, true) := by unfold bhO; rw [hbt]; simp only []; rw [if_neg c1, if_neg c2]
        rw [e] at h
        cases h
  · have e : bhO tp t p P = (true, (stl (rk b) P).1, lxQ tp t p, b :: (stl (rk b) P).2, false) := by unfold bhO; rw [hbt]
    have g1 : p < lxQ tp t p := lxQ_gt (fun h9 => by rw [btO_0 h9] at hbt; cases hbt)
    have hb := btO_in hbt
    have s3 := stl_len (rk b) P
    have s4 := stl_opn (rk b) P
    have h7 : opn (b :: (stl (rk b) P).2) = opn (stl (rk b) P).2 := by rw [opn_c, if_neg (by omega)]; rfl
    rw [e]
    simp only [List.length_cons]
    rw [h7]
    simp
    omega
/-- the reading of one reckoning: fault, code, place, what waits, whole -/
noncomputable def prs (tp : Nat → Nat) (t so : Nat) : Nat → Nat → List Nat → Bool → Nat × List (Nat × Int32) × Nat × List Nat × Bool
  | 0, p, P, w => (0, [], p, P, w)
  | f + 1, p, P, true => pif ((bhO tp t p P).1 = true) ((prs tp t so f (bhO tp t p P).2.2.1 (bhO tp t p P).2.2.2.1 (bhO tp t p P).2.2.2.2).1, (bhO tp t p P).2.1 ++ (prs tp t so f (bhO tp t p P).2.2.1 (bhO tp t p P).2.2.2.1 (bhO tp t p P).2.2.2.2).2.1, (prs tp t so f (bhO tp t p P).2.2.1 (bhO tp t p P).2.2.2.1 (bhO tp t p P).2.2.2.2).2.2) (if mkI P = -1 then 0 else 1, [], p, P, true)
  | f + 1, p, P, false => pif ((bgO tp t so p P).1 = 0) ((prs tp t so f (bgO tp t so p P).2.2.1 (bgO tp t so p P).2.2.2.1 (bgO tp t so p P).2.2.2.2).1, (bgO tp t so p P).2.1 ++ (prs tp t so f (bgO tp t so p P).2.2.1 (bgO tp t so p P).2.2.2.1 (bgO tp t so p P).2.2.2.2).2.1, (prs tp t so f (bgO tp t so p P).2.2.1 (bgO tp t so p P).2.2.2.1 (bgO tp t so p P).2.2.2.2).2.2) (bgO tp t so p P)
noncomputable def psd (tp : Nat → Nat) (t so p0 : Nat) : Nat × List (Nat × Int32) × Nat × List Nat × Bool :=
  if (prs tp t so (t + 1) p0 [] false).1 = 0 then (0, (prs tp t so (t + 1) p0 [] false).2.1 ++ (stl 1 (prs tp t so (t + 1) p0 [] false).2.2.2.1).1, (prs tp t so (t + 1) p0 [] false).2.2.1, (stl 1 (prs tp t so (t + 1) p0 [] false).2.2.2.1).2, (prs tp t so (t + 1) p0 [] false).2.2.2.2) else (prs tp t so (t + 1) p0 [] false)
set_option maxHeartbeats 4000000 in
set_option maxRecDepth 100000 in
theorem met_X2_parsed (l : Launch) (G : gG) (ad : Nat → Nat) (M Z : Nat → Nat → Int32) (V : Nat → Nat → Int64) (tp : Nat → Nat) (t x0 n so p0 : Nat) (on w0 : Int32) (hT : TP tp t M) (hZ : ZC tp t x0 n so on w0 p0 Z V) (hx0 : x0 ≤ 2040) (hp0 : p0 ≤ t) (hnp : n ≤ p0) (hso : so < 8) : Met l yX2_parsed (ws_ yX2_parsed cX2_parsed 4 (some .int)) ({ frames := 5, cells := 0, slots := 0, locals := 113 } : Room) (cP G [.ref (ad 0), .int (nI 0)] (mH G ad M Z V)) (cQ (some (.int (nI (psd tp t so p0).1))) (fun H => ∃ Z9 V9, ZB tp t x0 (n + (psd tp t so p0).2.1.length) so on (if (psd tp t so p0).2.2.2.2 = true then nI 1 else nI 0) ((psd tp t so p0).2.2.1) ((psd tp t so p0).2.2.2.1) Z9 V9 ∧ mH G ad (putC M (x0 + 75) n (psd tp t so p0).2.1) Z9 V9 H) (mA ad)) 0 0 (mA ad) := by
  refine c_start (by decide) (Nat.le_of_ble_eq_true rfl) ?_
  intro p e s m below meth c hx hb hr hlocks hml hown hts hB hK ls hl
  have hw := MS.of hB
  have hl : lv_has ls 4 [(0, .ref (ad 0)), (1, .int (nI 0))] := hl
  have ht3 := hT.2.1
  refine lv_aload_n hx hb dX2_parsed_0 rfl (lv_at hl 0 rfl) ?_
  refine lv_iconst (v := nI 0) hx hb dX2_parsed_1 (by decide) ?_
  refine m_p_piled hx hb hts hown hK hw dX2_parsed_2 (fun H locs hw => ?_)
  refine lv_aload_n hx hb dX2_parsed_5 rfl (lv_at hl 0 rfl) ?_
  refine lv_iconst (v := nI 0) hx hb dX2_parsed_6 (by decide) ?_
  refine m_p_isWhole hx hb hts hown hK hw rfl rfl dX2_parsed_7 (fun H locs hw => ?_)
  refine lv_iconst (v := nI 1) hx hb dX2_parsed_10 (by decide) ?_
  refine lv_istore_n (lv' := [(2, .int (nI 1)), (0, .ref (ad 0)), (1, .int (nI 0))]) hx hb dX2_parsed_11 rfl hl (by decide) rfl (fun ls hl => ?_)
  have L_12 : ∀ (fuel : Nat) (F1 : Nat) (p1 : Nat) (P1 : List Nat) (w1 : Bool) (n1 : Nat) (M1 : Nat → Nat → Int32) (Za : Nat → Nat → Int32) (Va : Nat → Nat → Int64), F1 < fuel → (t - p1 < F1) → (p1 ≤ t) → (putC M1 (x0 + 75) n1 (prs tp t so F1 p1 P1 w1).2.1 = putC M (x0 + 75) n (prs tp t so (t + 1) p0 [] false).2.1) → (n1 + (prs tp t so F1 p1 P1 w1).2.1.length = n + (prs tp t so (t + 1) p0 [] false).2.1.length) → ((prs tp t so F1 p1 P1 w1).1 = (prs tp t so (t + 1) p0 [] false).1) → ((prs tp t so F1 p1 P1 w1).2.2 = (prs tp t so (t + 1) p0 [] false).2.2) → (ZB tp t x0 n1 so on (if w1 = true then nI 1 else nI 0) p1 P1 Za Va) → (n1 + P1.length ≤ p1) → (P1.length + n + (if w1 = true then 1 else 0) ≤ n1 + opn P1) → (opn P1 ≤ 8) → (TP tp t M1) → ∀ (H : Heap) (locs : List Loc), MS G ad s.heap M1 Za Va H locs → ∀ (ls : Array Slot), lv_has ls 4 [(0, .ref (ad 0)), (1, .int (nI 0)), (2, .int (nI 1))] → W p l e ({ frames := 5, cells := 0, slots := 0, locals := 113 } : Room) s m ([.ref (ad 0), .int (nI 0)] : List Value).toArray below meth c H locs 0 0 (MQ below (cQ (some (.int (nI (psd tp t so p0).1))) (fun H => ∃ Z9 V9, ZB tp t x0 (n + (psd tp t so p0).2.1.length) so on (if (psd tp t so p0).2.2.2.2 = true then nI 1 else nI 0) ((psd tp t so p0).2.2.1) ((psd tp t so p0).2.2.2.1) Z9 V9 ∧ mH G ad (putC M (x0 + 75) n (psd tp t so p0).2.1) Z9 V9 H) (mA ad)) ([.ref (ad 0), .int (nI 0)] : List Value).toArray s 0 0 (mA ad)) (F0 m 12 ls []) := by
    intro fuel
    induction fuel with
    | zero => intro F1 p1 P1 w1 n1 M1 Za Va hf; exact absurd hf (Nat.not_lt_zero _)
    | succ fuel ih =>
      intro F1 p1 P1 w1 n1 M1 Za Va hf hF hp1 hM1 hn1 hq1 hq2 hZ1 hb1 hc1 ho1 hT1 H locs hw ls hl
      have ih12 := ih
      obtain ⟨f, rfl⟩ : ∃ f, F1 = f + 1 := ⟨F1 - 1, by omega⟩
      have hP1l : P1.length ≤ 154 := by omega
      refine lv_iload_n hx hb dX2_parsed_12 rfl (lv_at hl 2 rfl) ?_
      refine n_if_eq (tgt := 47) hx hb dX2_parsed_13 (by decide) (by decide) (fun h9 => absurd h9 (by decide)) (fun _ => ?_)
      refine lv_aload_n hx hb dX2_parsed_16 rfl (lv_at hl 0 rfl) ?_
      refine m_g_isWhole hx hb hts hown hK hw dX2_parsed_17 ?_
      rw [show Za 19 0 = (if w1 = true then nI 1 else nI 0) from hZ1.2.2.2.2.2.2.1]
      cases w1 with
      | true =>
        rw [show (if true = true then nI 1 else nI 0) = nI 1 from rfl]
        refine n_if_eq (tgt := 32) hx hb dX2_parsed_20 (by decide) (by decide) (fun h9 => absurd h9 (by decide)) (fun _ => ?_)
        refine lv_aload_n hx hb dX2_parsed_23 rfl (lv_at hl 0 rfl) ?_
        refine lv_iload_n hx hb dX2_parsed_24 rfl (lv_at hl 1 rfl) ?_
        refine c_call (va_runV (As := [.int (nI 0)]) (rest := []) ⟨hx, hb, hml, hown, hts⟩ (met_X2_behindOne l G ad M1 Za Va tp t x0 n1 so p1 on (nI 1) P1 hT1 ⟨hZ1.1, hZ1.2.1, hZ1.2.2.1, hZ1.2.2.2.1, hZ1.2.2.2.2.1, hZ1.2.2.2.2.2.1, hZ1.2.2.2.2.2.2.1, hZ1.2.2.2.2.2.2.2.1, hZ1.2.2.2.2.2.2.2.2⟩ hx0 (by omega) (by omega) (by omega) rfl (by omega)) (cv_X2_X2_behindOne hts ⟨Nat.le_of_ble_eq_true rfl, Nat.le_of_ble_eq_true rfl⟩) (cP.preV hK hw.1 (hw.1.recv hK)) rfl rfl hl.1 rfl (lv_room (Nat.le_of_ble_eq_true rfl)) dX2_parsed_25 ⟨by first | exact Nat.zero_le _ | omega | decide, by first | exact Nat.zero_le _ | omega | decide⟩) hw.2 (fun q _ h => h) (fun q h => h) (fun H locs hw _ _ hS => ?_)
        obtain ⟨Z1, V1, hzb1, hw⟩ := hw
        replace hw := MS.mk hw hS
        by_cases hbh : (bhO tp t p1 P1).1 = true
        · rw [bI_t hbh, show (1 : Int32) = nI 1 from rfl]
          have ee : prs tp t so (f + 1) p1 P1 true = _ := pif_t hbh
          refine lv_istore_n (lv' := [(2, .int (nI 1)), (0, .ref (ad 0)), (1, .int (nI 0))]) hx hb dX2_parsed_28 rfl hl (by decide) rfl (fun ls hl => ?_)
          refine lv_goto (tgt := 12) hx hb dX2_parsed_29 (by decide) ?_
          obtain ⟨i1, i2, i3, i4, i5⟩ := bhO_inv hp1 hbh ho1 (by omega)
          exact ih12 f ((bhO tp t p1 P1).2.2.1) ((bhO tp t p1 P1).2.2.2.1) ((bhO tp t p1 P1).2.2.2.2) (n1 + (bhO tp t p1 P1).2.1.length) (putC M1 (x0 + 75) n1 (bhO tp t p1 P1).2.1) Z1 V1 (by omega) (by omega) i2 (by rw [ee, putC_app] at hM1; exact hM1) (by rw [ee] at hn1; simp only [List.length_append] at hn1; omega) (by rw [ee] at hq1; exact hq1) (by rw [ee] at hq2; exact hq2) hzb1 (by omega) (by simp only [Bool.false_eq_true, if_false, if_true] at hc1; omega) i5 (TP_putC hT1) _ _ hw ls (lv_sub hl [1, 2, 0] rfl)
        rw [bI_f hbh, show (0 : Int32) = nI 0 from rfl]
        have ebn := bhO_no hbh
        have hM9 : (putC M1 (x0 + 75) n1 (bhO tp t p1 P1).2.1) = M1 := by rw [ebn]; rfl
        rw [hM9] at hw
        have hzc : ZB tp t x0 n1 so on (nI 1) p1 P1 Z1 V1 := by
          have h9 := hzb1
          rw [ebn] at h9
          exact h9
        have ee : prs tp t so (f + 1) p1 P1 true = (if mkI P1 = -1 then 0 else 1, [], p1, P1, true) := pif_f hbh
        refine lv_istore_n (lv' := [(2, .int (nI 0)), (0, .ref (ad 0)), (1, .int (nI 0))]) hx hb dX2_parsed_28 rfl hl (by decide) rfl (fun ls hl => ?_)
        refine lv_goto (tgt := 12) hx hb dX2_parsed_29 (by decide) ?_
        refine lv_iload_n hx hb dX2_parsed_12 rfl (lv_at hl 0 rfl) ?_
        refine n_if_eq (tgt := 47) hx hb dX2_parsed_13 (by decide) (by decide) (fun _ => ?_) (fun h9 => absurd h9 (by decide))
        refine lv_aload_n hx hb dX2_parsed_47 rfl (lv_at hl 1 rfl) ?_
        refine c_read (va_runV (As := []) (rest := []) ⟨hx, hb, hml, hown, hts⟩ (met_X2_marker l G ad M1 Z1 V1 P1 hzc.2.2.2.1 hzc.2.2.2.2.1 (by omega)) (cv_X2_X2_marker hts ⟨Nat.le_of_ble_eq_true rfl, Nat.le_of_ble_eq_true rfl⟩) (cP.preV hK hw.1 (hw.1.recv hK)) rfl rfl hl.1 rfl (lv_room (Nat.le_of_ble_eq_true rfl)) dX2_parsed_48 ⟨by first | exact Nat.zero_le _ | omega | decide, by first | exact Nat.zero_le _ | omega | decide⟩) ?_
        rcases mkI_split P1 with ⟨hm1, hm2⟩ | ⟨j, hj, hm1, hm2, hm3⟩
        · rw [hm1]
          rw [if_pos hm1] at ee
          refine lv_if_ge (tgt := 65) hx hb dX2_parsed_51 (by decide) (fun h9 => absurd h9 (by decide)) (fun _ => ?_)
          refine lv_iload_n hx hb dX2_parsed_54 rfl (lv_at hl 2 rfl) ?_
          refine n_if_eq (tgt := 67) hx hb dX2_parsed_55 (by decide) (by decide) (fun _ => ?_) (fun h9 => absurd h9 (by decide))
          refine lv_aload_n hx hb dX2_parsed_67 rfl (lv_at hl 1 rfl) ?_
          refine lv_iconst (v := nI 1) hx hb dX2_parsed_68 (by decide) ?_
          refine c_call (va_runV (As := [.int (nI 1)]) (rest := []) ⟨hx, hb, hml, hown, hts⟩ (met_X2_settle l G ad M1 Z1 V1 tp t x0 n1 so p1 on (nI 1) P1 hT1 ⟨hzc.1, hzc.2.1, hzc.2.2.1, hzc.2.2.2.1, hzc.2.2.2.2.1, hzc.2.2.2.2.2.1, hzc.2.2.2.2.2.2.1, hzc.2.2.2.2.2.2.2.1, hzc.2.2.2.2.2.2.2.2⟩ hx0 (by omega) (by omega) (by omega) 1 (by omega)) (cv_X2_X2_settle hts ⟨Nat.le_of_ble_eq_true rfl, Nat.le_of_ble_eq_true rfl⟩) (cP.preV hK hw.1 (hw.1.recv hK)) rfl rfl hl.1 rfl (lv_room (Nat.le_of_ble_eq_true rfl)) dX2_parsed_69 ⟨by first | exact Nat.zero_le _ | omega | decide, by first | exact Nat.zero_le _ | omega | decide⟩) hw.2 (fun q _ h => h) (fun q h => h) (fun H locs hw _ _ hS => ?_)
          obtain ⟨Z2, V2, hzb2, hw⟩ := hw
          replace hw := MS.mk hw hS
          have hsl2 := stl_len 1 P1
          refine lv_iconst (v := nI 0) hx hb dX2_parsed_72 (by decide) ?_
          rw [ee] at hM1 hn1 hq1 hq2
          have hM2 : M1 = putC M (x0 + 75) n (prs tp t so (t + 1) p0 [] false).2.1 := hM1
          have hn2 : n1 = n + (prs tp t so (t + 1) p0 [] false).2.1.length := hn1
          have eps : psd tp t so p0 = (0, (prs tp t so (t + 1) p0 [] false).2.1 ++ (stl 1 (prs tp t so (t + 1) p0 [] false).2.2.2.1).1, (prs tp t so (t + 1) p0 [] false).2.2.1, (stl 1 (prs tp t so (t + 1) p0 [] false).2.2.2.1).2, (prs tp t so (t + 1) p0 [] false).2.2.2.2) := if_pos hq1.symm
          rw [← hq2] at eps
          exact c_iret (v := nI 0) (by rw [eps]) hx hb hr rfl hlocks ⟨_, _, (by rw [eps]; exact ZB_n (by simp only [List.length_append]; omega) hzb2), mH.to (by rw [eps]; show _ = putC M (x0 + 75) n (_ ++ _); rw [putC_app, ← hM2, ← hn2]) rfl rfl hw.1⟩ hw.2 dX2_parsed_73
        rw [hm1]
        rw [if_neg (fun h9 => nI_ne_m1 (by omega) (hm1.symm.trans h9))] at ee
        refine n_if_ge (tgt := 65) hx hb dX2_parsed_51 (by decide) (by omega) ?_
        refine lv_iconst (v := nI 1) hx hb dX2_parsed_65 (by decide) ?_
        rw [ee] at hM1 hn1 hq1 hq2
        have eps : psd tp t so p0 = (prs tp t so (t + 1) p0 [] false) := if_neg (by rw [← hq1]; exact Nat.one_ne_zero)
        exact c_iret (v := nI 1) (by rw [eps, ← hq1]) hx hb hr rfl hlocks ⟨_, _, (by rw [eps, ← hn1, ← hq2]; exact hzc), mH.to (by rw [eps]; exact hM1) rfl rfl hw.1⟩ hw.2 dX2_parsed_66
      | false =>
        rw [show (if false = true then nI 1 else nI 0) = nI 0 from rfl]
        have hbg5 : (bgO tp t so p1 P1).1 ≤ 5 := by rcases bgO_e (tp := tp) (t := t) (so := so) (p := p1) (P := P1) with h9 | h9 <;> omega
        refine n_if_eq (tgt := 32) hx hb dX2_parsed_20 (by decide) (by decide) (fun _ => ?_) (fun h9 => absurd h9 (by decide))
        refine lv_aload_n hx hb dX2_parsed_32 rfl (lv_at hl 0 rfl) ?_
        refine lv_iload_n hx hb dX2_parsed_33 rfl (lv_at hl 1 rfl) ?_
        refine c_call (va_runV (As := [.int (nI 0)]) (rest := []) ⟨hx, hb, hml, hown, hts⟩ (met_X2_beginOne l G ad M1 Za Va tp t x0 n1 so p1 on (nI 0) P1 hT1 ⟨hZ1.1, hZ1.2.1, hZ1.2.2.1, hZ1.2.2.2.1, hZ1.2.2.2.2.1, hZ1.2.2.2.2.2.1, hZ1.2.2.2.2.2.2.1, hZ1.2.2.2.2.2.2.2.1, hZ1.2.2.2.2.2.2.2.2⟩ hx0 (by omega) (by omega) (by omega) (by omega) (by omega)) (cv_X2_X2_beginOne hts ⟨Nat.le_of_ble_eq_true rfl, Nat.le_of_ble_eq_true rfl⟩) (cP.preV hK hw.1 (hw.1.recv hK)) rfl rfl hl.1 rfl (lv_room (Nat.le_of_ble_eq_true rfl)) dX2_parsed_34 ⟨by first | exact Nat.zero_le _ | omega | decide, by first | exact Nat.zero_le _ | omega | decide⟩) hw.2 (fun q _ h => h) (fun q h => h) (fun H locs hw _ _ hS => ?_)
        obtain ⟨Z3, V3, hzb3, hw⟩ := hw
        replace hw := MS.mk hw hS
        refine lv_istore_n (lv' := [(3, .int (nI ((bgO tp t so p1 P1).1))), (0, .ref (ad 0)), (1, .int (nI 0)), (2, .int (nI 1))]) hx hb dX2_parsed_37 rfl hl (by decide) rfl (fun ls hl => ?_)
        refine lv_iload_n hx hb dX2_parsed_38 rfl (lv_at hl 0 rfl) ?_
        refine n_if_eq (tgt := 44) hx hb dX2_parsed_39 (by decide) (by omega) (fun c_2 => ?_) (fun c_2 => ?_)
        · have ee : prs tp t so (f + 1) p1 P1 false = _ := pif_t c_2
          refine lv_goto (tgt := 12) hx hb dX2_parsed_44 (by decide) ?_
          obtain ⟨i1, i2, i3, i4, i5⟩ := bgO_inv hp1 c_2 ho1
          exact ih12 f ((bgO tp t so p1 P1).2.2.1) ((bgO tp t so p1 P1).2.2.2.1) ((bgO tp t so p1 P1).2.2.2.2) (n1 + (bgO tp t so p1 P1).2.1.length) (putC M1 (x0 + 75) n1 (bgO tp t so p1 P1).2.1) Z3 V3 (by omega) (by omega) i2 (by rw [ee, putC_app] at hM1; exact hM1) (by rw [ee] at hn1; simp only [List.length_append] at hn1; omega) (by rw [ee] at hq1; exact hq1) (by rw [ee] at hq2; exact hq2) hzb3 (by omega) (by simp only [Bool.false_eq_true, if_false, if_true] at hc1; omega) i5 (TP_putC hT1) _ _ hw ls (lv_sub hl [1, 2, 3] rfl)
        refine lv_iload_n hx hb dX2_parsed_42 rfl (lv_at hl 0 rfl) ?_
        have ee : prs tp t so (f + 1) p1 P1 false = bgO tp t so p1 P1 := pif_f (by omega)
        rw [ee] at hM1 hn1 hq1 hq2
        have eps : psd tp t so p0 = (prs tp t so (t + 1) p0 [] false) := if_neg (by rw [← hq1]; omega)
        exact c_iret (v := nI ((bgO tp t so p1 P1).1)) (by rw [eps, ← hq1]) hx hb hr rfl hlocks ⟨_, _, (by rw [eps, ← hn1, ← hq2]; exact hzb3), mH.to (by rw [eps]; exact hM1) rfl rfl hw.1⟩ hw.2 dX2_parsed_43
  exact L_12 _ (t + 1) p0 ([]) false n M (up2 (up2 Z 17 0 (nI 0)) 19 0 (nI 0)) V (Nat.lt_succ_self _) (by omega) hp0 rfl rfl rfl rfl ⟨(LX_k ((up2_ne (Or.inl (by decide))).trans ((up2_ne (Or.inl (by decide))).trans rfl)) ((up2_ne (Or.inl (by decide))).trans ((up2_ne (Or.inl (by decide))).trans rfl)) ((up2_ne (Or.inl (by decide))).trans ((up2_ne (Or.inl (by decide))).trans rfl)) ((up2_ne (Or.inl (by decide))).trans ((up2_ne (Or.inl (by decide))).trans rfl)) rfl hZ.1), ((up2_ne (Or.inl (by decide))).trans ((up2_ne (Or.inl (by decide))).trans hZ.2.1)), ((up2_ne (Or.inl (by decide))).trans ((up2_ne (Or.inl (by decide))).trans hZ.2.2.1)), ((up2_ne (Or.inl (by decide))).trans up2_at), trivial, ((up2_ne (Or.inl (by decide))).trans ((up2_ne (Or.inl (by decide))).trans hZ.2.2.2.2.2.1)), up2_at, ((up2_ne (Or.inl (by decide))).trans ((up2_ne (Or.inl (by decide))).trans hZ.2.2.2.2.2.2.2.1)), ((up2_ne (Or.inl (by decide))).trans ((up2_ne (Or.inl (by decide))).trans hZ.2.2.2.2.2.2.2.2))⟩ hnp (by simp [opn]) (by decide) hT _ _ hw ls (lv_sub hl [1, 2, 0] rfl)
