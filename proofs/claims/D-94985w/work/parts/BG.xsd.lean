/-! choice, one (printed by gen/xsd.py) -/
theorem may_all : ((List.range 4).all fun so => (List.range 11).all fun i => decide (((mayV so >>> (nI i &&& 31)) &&& nI 1 = 0) ↔ ¬ (i = 0 ∨ (i < 5 ∧ (so = 1 ∨ so = 3)) ∨ (5 ≤ i ∧ i < 8 ∧ (so = 2 ∨ so = 3)) ∨ (i = 8 ∧ so = 3) ∨ (9 ≤ i ∧ so = 2)))) = true := by decide +kernel
theorem may_ok (so : Nat) (hso : so < 4) (i : Nat) (hi : i < 11) : ((mayV so >>> (nI i &&& 31)) &&& nI 1 = 0 ↔ ¬ isO so i) :=
  of_decide_eq_true (List.all_eq_true.mp (List.all_eq_true.mp may_all so (List.mem_range.mpr hso)) i (List.mem_range.mpr hi))
set_option maxHeartbeats 4000000 in
set_option maxRecDepth 100000 in
theorem met_X3_choice (l : Launch) (G : gG) (κ : kK) (z : Nat) (tp : Nat → Nat) (Xb : Nat → Int32) (r ta t kd o d : Nat) (hXb : ∀ j, j < t → Xb j = sb (tp j) ∧ tp j < 256) (ht : t ≤ 300) (hra : r ≠ ta) (hz : z ≤ r) (hst : l.stackTraces = false) (hod : o + d = 8) (ihe : ∀ d1, d = d1 + 1 → g_either l G κ z tp Xb r ta t kd (o + 1) d1) (ihs : ∀ d1, d = d1 + 1 → g_sum l G κ z tp Xb r ta t kd (o + 1) d1) : g_choice l G κ z tp Xb r ta t kd o d := by
  intro p0 N0 n hn0 hzN hcs hod2
  have hp : p0 ≤ t := by omega
  show vq_Met l yX3_choice (ws_ yX3_choice cX3_choice 4 (some (Jvm.ClassFile.FieldType.object "BreathOnLoan$Sum"))) (rmG d 19 370 (16 * n + 8) (160 * n + 64)) (cT G κ z [.ref r] (fun H => tkP G r ta t Xb tp p0 o kd H ∧ H.size = N0)) (tQ (gN G z r ta t Xb tp kd (o + 1) p0 N0 true (6 * d + 1) 6 18 (yOne tp t kd o p0)) (fun q => q = r ∨ N0 ≤ q)) (tX (gX G t tp (yOne tp t kd o p0)) (fun q => q = r ∨ N0 ≤ q)) (16 * n + 8) (160 * n + 64) (fun q => q = r ∨ N0 ≤ q)
  refine t_start (by decide) (Nat.le_of_ble_eq_true rfl) ?_
  intro p e s m below meth c hx hb hr hlocks hml hown hts hB hK hZ htab ls hl
  have hl : lv_has ls 4 [(0, .ref r)] := hl
  obtain ⟨⟨num, hnum, hk, htp⟩, hN⟩ := hB
  have hAZ : ∀ q, (q = r ∨ N0 ≤ q) → aZ z q := fun q e => show z ≤ q by rcases e with e | e <;> omega
  have hS : va_S (fun q => q = r ∨ N0 ≤ q) s.heap s.heap [] := va_S.rf
  have hrN := at_lt hk
  have htN := at_lt htp
  have hcb := cst_b tp t p0
  have hrN0 : r < s.heap.size := hrN
  have htN0 : ta < s.heap.size := htN
  refine lv_aload_n hx hb dX3_choice_0 rfl (lv_at hl 0 rfl) ?_
  have hif : tW tp t p0 wIf := cst_if.mpr hcs
  have hnone := nmO_no (tp := tp) (t := t) (p := p0) (by omega)
  have hgt := lxQ_gt (tp := tp) (t := t) (p0 := p0) (fun e => by have := cst_0.mp e; omega)
  refine W_own (fun zw1 zw2 => ?_)
  have hNN := hS.1
  refine t_call (vq_runV (As := []) (rest := []) ⟨hx, hb, hml, hown, hts⟩ (met_X3_opens l G κ z tp Xb r ta t p0 o kd _  hXb ht hp hra hz (Nat.le_trans hzN (Nat.le_trans (Nat.le_of_eq hN.symm) hS.1)) hst (by omega)) (cv_X3_X3_opens hts ⟨by dsimp only [rmG]; omega, by dsimp only [rmG]; omega⟩) (cT.preV hK hZ (xS_mono hS hAZ) ⟨⟨_, hnum, hk, htp⟩, rfl⟩ (a_recv (ci := 3) hK hk rfl)) rfl rfl hl.1 rfl (lv_room (Nat.le_of_ble_eq_true rfl)) dX3_choice_1 ⟨by dsimp only [rmG]; omega, by dsimp only [rmG]; omega⟩) hS (fun q hq e => Or.inl (e.resolve_right (Nat.not_le.mpr hq))) (fun q e => e.elim Or.inl (fun e => Or.inr (Nat.le_trans (Nat.le_trans (Nat.le_of_eq hN.symm) hS.1) e))) (fun q9 ce9 H locs hX9 hz9 hk9 hS hc9 hv9 hl9 => ?_) (fun v9 H locs hB9 hz9 hk9 hS => ?_)
  · obtain ⟨hX1, hxw⟩ := hX9
    exact t_out htab hlocks hc9 hv9 hl9 ⟨3, p0, by decide, by decide, (by have h9 := yOne_deep (so := kd) (x := 41) hp (Or.inr (Or.inr ⟨hif, hnone, rfl⟩)); rw [← hX1] at h9; exact h9), hxw⟩ hS (by omega) (by omega)
  obtain ⟨rfl, ho8, ⟨num9, hnum, hk, htp⟩, hszO, husO⟩ := hB9
  have hcb := cst_b tp t (lxQ tp t p0)
  have hltO : lxQ tp t p0 ≤ t := lxQ_le hp
  obtain ⟨d1, hd1⟩ : ∃ d1, d = d1 + 1 := ⟨d - 1, by omega⟩
  refine W_own (fun zt1 zt2 => ?_)
  obtain ⟨cO1, hcO1, hdO1⟩ : ∃ c9 : Nat, H.size ≤ s.heap.size + c9 ∧ c9 + 16 * p0 + 16 ≤ 16 * (lxQ tp t p0) := ⟨16 * (lxQ tp t p0) - 16 * p0 - 16, by omega, by omega⟩
  obtain ⟨sO1, hsO1, htO1⟩ : ∃ s9 : Nat, hU H ≤ hU s.heap + s9 ∧ s9 + 160 * p0 + 160 ≤ 160 * (lxQ tp t p0) := ⟨160 * (lxQ tp t p0) - 160 * p0 - 160, by omega, by omega⟩
  refine W_tight (k := cO1) (n := sO1) hcO1 hsO1 ?_
  refine lv_aload_n hx hb dX3_choice_4 rfl (lv_at hl 0 rfl) ?_
  have hNN := hS.1
  obtain ⟨NA, hNA⟩ : ∃ m9 : Nat, (hpOf hS).size = m9 := ⟨_, rfl⟩
  dsimp only [hpOf] at hNA
  obtain ⟨nA, hnA⟩ := Nat.le.dest hltO
  refine W_own (fun zw1 zw2 => ?_)
  have hNN := hS.1
  refine t_call (vq_runV (As := []) (rest := []) ⟨hx, hb, hml, hown, hts⟩ ((ihe d1 hd1) (lxQ tp t p0) NA nA hnA (Nat.le_trans hzN (Nat.le_trans (Nat.le_of_eq hN.symm) (Nat.le_trans hS.1 (Nat.le_of_eq hNA))))) (cv_X3_X3_either hts ⟨by dsimp only [rmG]; omega, by dsimp only [rmG]; omega⟩) (cT.preV hK hZ (xS_mono hS hAZ) ⟨⟨_, hnum, hk, htp⟩, hNA⟩ (a_recv (ci := 3) hK hk rfl)) rfl rfl hl.1 rfl (lv_room (Nat.le_of_ble_eq_true rfl)) dX3_choice_5 ⟨by dsimp only [rmG]; omega, by dsimp only [rmG]; omega⟩) hS (fun q hq e => Or.inl (e.resolve_right (Nat.not_le.mpr (Nat.lt_of_lt_of_le hq (Nat.le_of_eq hNA))))) (fun q e => e.elim Or.inl (fun e => Or.inr (Nat.le_trans (Nat.le_trans (Nat.le_of_eq hN.symm) (Nat.le_trans hS.1 (Nat.le_of_eq hNA))) e))) (fun q9 ce9 H locs hX9 hz9 hk9 hS hc9 hv9 hl9 => ?_) (fun v9 H locs hB9 hz9 hk9 hS => ?_)
  · obtain ⟨f9, p9, hf0, hf6, hP9, hxw⟩ := hX9
    exact t_out htab hlocks hc9 hv9 hl9 ⟨f9, p9, hf0, hf6, yIf_e0 hif hnone (by omega) hP9.1 hf0, hxw⟩ hS (by omega) (by omega)
  obtain ⟨xA, LA, qA, rfl, hPA, hqA, ⟨num9, hnum, hk, htp⟩, haA, hszA, husA⟩ := hB9
  have hcb := cst_b tp t qA
  obtain ⟨MA, hMA⟩ : ∃ m9 : Nat, (hpOf hS).size = m9 := ⟨_, rfl⟩
  dsimp only [hpOf] at hMA
  rw [hMA] at haA
  have hrN := at_lt hk
  refine W_own (fun zt1 zt2 => ?_)
  obtain ⟨cA1, hcA1, hdA1⟩ : ∃ c9 : Nat, H.size ≤ s.heap.size + c9 ∧ c9 + 16 * p0 + 17 ≤ 16 * qA := ⟨16 * qA - 16 * p0 - 17, by omega, by omega⟩
  obtain ⟨sA1, hsA1, htA1⟩ : ∃ s9 : Nat, hU H ≤ hU s.heap + s9 ∧ s9 + 160 * p0 + 211 ≤ 160 * qA := ⟨160 * qA - 160 * p0 - 211, by omega, by omega⟩
  refine W_tight (k := cA1) (n := sA1) hcA1 hsA1 ?_
  refine lv_astore_n (lv' := [(1, .ref xA), (0, .ref r)]) hx hb dX3_choice_8 rfl hl (by decide) rfl (fun ls hl => ?_)
  refine lv_aload_n hx hb dX3_choice_9 rfl (lv_at hl 1 rfl) ?_
  refine lv_bipush (v := nI 63) hx hb dX3_choice_10 (by decide) ?_
  refine W_own (fun zw1 zw2 => ?_)
  have hNN := hS.1
  refine t_call (vq_runV (As := [.int (nI 63)]) (rest := []) ⟨hx, hb, hml, hown, hts⟩ (met_X3_want l G κ z tp Xb r ta t qA (o + 1) kd _ 63 hXb ht hqA.2 hra hz (Nat.le_trans hzN (Nat.le_trans (Nat.le_of_eq hN.symm) hS.1)) hst (by decide)) (cv_X3_X3_want hts ⟨by dsimp only [rmG]; omega, by dsimp only [rmG]; omega⟩) (cT.preV hK hZ (xS_mono hS hAZ) ⟨⟨_, hnum, hk, htp⟩, rfl⟩ (a_recv (ci := 3) hK hk rfl)) rfl rfl hl.1 rfl (lv_room (Nat.le_of_ble_eq_true rfl)) dX3_choice_12 ⟨by dsimp only [rmG]; omega, by dsimp only [rmG]; omega⟩) hS (fun q hq e => Or.inl (e.resolve_right (Nat.not_le.mpr hq))) (fun q e => e.elim Or.inl (fun e => Or.inr (Nat.le_trans (Nat.le_trans (Nat.le_of_eq hN.symm) hS.1) e))) (fun q9 ce9 H locs hX9 hz9 hk9 hS hc9 hv9 hl9 => ?_) (fun v9 H locs hB9 hz9 hk9 hS => ?_)
  · obtain ⟨hX1, hxw⟩ := hX9
    exact t_out htab hlocks hc9 hv9 hl9 ⟨1, qA, by decide, by decide, (yIf_e1 ht hif hnone (by omega) hPA.1 rfl (fun e => hX1 ((cst_sg (by decide)).mp e)) (fun e => (hPA.2 rfl).2 (cst_and.mp e)) (fun e => (hPA.2 rfl).1 (cst_or.mp e))), hxw⟩ hS (by omega) (by omega)
  obtain ⟨rfl, hcW, ⟨num9, hnum, hk, htp⟩, hszW, husW⟩ := hB9
  replace haA := gF haA (fun q h1 h2 => hk9 q (by omega) (by omega))
  have hcb := cst_b tp t (lxQ tp t qA)
  have hltW : lxQ tp t qA ≤ t := lxQ_le hqA.2
  have hgW := lxQ_gt (tp := tp) (t := t) (p0 := qA) (fun e => by have := cst_0.mp e; omega)
  have hI1 := yIf_1 hif hnone (by omega) hPA.1 rfl ((cst_sg (by decide)).mpr hcW)
  refine W_own (fun zt1 zt2 => ?_)
  obtain ⟨cB1, hcB1, hdB1⟩ : ∃ c9 : Nat, H.size ≤ s.heap.size + c9 ∧ c9 + 16 * p0 + 17 ≤ 16 * (lxQ tp t qA) := ⟨16 * (lxQ tp t qA) - 16 * p0 - 17, by omega, by omega⟩
  obtain ⟨sB1, hsB1, htB1⟩ : ∃ s9 : Nat, hU H ≤ hU s.heap + s9 ∧ s9 + 160 * p0 + 211 ≤ 160 * (lxQ tp t qA) := ⟨160 * (lxQ tp t qA) - 160 * p0 - 211, by omega, by omega⟩
  refine W_tight (k := cB1) (n := sB1) hcB1 hsB1 ?_
  refine lv_aload_n hx hb dX3_choice_15 rfl (lv_at hl 1 rfl) ?_
  have hNN := hS.1
  obtain ⟨NB, hNB⟩ : ∃ m9 : Nat, (hpOf hS).size = m9 := ⟨_, rfl⟩
  dsimp only [hpOf] at hNB
  obtain ⟨nB, hnB⟩ := Nat.le.dest hltW
  refine W_own (fun zw1 zw2 => ?_)
  have hNN := hS.1
  refine t_call (vq_runV (As := []) (rest := []) ⟨hx, hb, hml, hown, hts⟩ ((ihs d1 hd1) (lxQ tp t qA) NB nB hnB (Nat.le_trans hzN (Nat.le_trans (Nat.le_of_eq hN.symm) (Nat.le_trans hS.1 (Nat.le_of_eq hNB))))) (cv_X3_X3_sum hts ⟨by dsimp only [rmG]; omega, by dsimp only [rmG]; omega⟩) (cT.preV hK hZ (xS_mono hS hAZ) ⟨⟨_, hnum, hk, htp⟩, hNB⟩ (a_recv (ci := 3) hK hk rfl)) rfl rfl hl.1 rfl (lv_room (Nat.le_of_ble_eq_true rfl)) dX3_choice_16 ⟨by dsimp only [rmG]; omega, by dsimp only [rmG]; omega⟩) hS (fun q hq e => Or.inl (e.resolve_right (Nat.not_le.mpr (Nat.lt_of_lt_of_le hq (Nat.le_of_eq hNB))))) (fun q e => e.elim Or.inl (fun e => Or.inr (Nat.le_trans (Nat.le_trans (Nat.le_of_eq hN.symm) (Nat.le_trans hS.1 (Nat.le_of_eq hNB))) e))) (fun q9 ce9 H locs hX9 hz9 hk9 hS hc9 hv9 hl9 => ?_) (fun v9 H locs hB9 hz9 hk9 hS => ?_)
  · obtain ⟨f9, p9, hf0, hf6, hP9, hxw⟩ := hX9
    exact t_out htab hlocks hc9 hv9 hl9 ⟨f9, p9, hf0, hf6, yIf_se hI1 (Or.inl rfl) hP9.1 hf0, hxw⟩ hS (by omega) (by omega)
  obtain ⟨xB, LB, qB, rfl, hPB, hqB, ⟨num9, hnum, hk, htp⟩, haB, hszB, husB⟩ := hB9
  replace haA := gF haA (fun q h1 h2 => hk9 q (by omega) (by omega))
  have hcb := cst_b tp t qB
  obtain ⟨MB, hMB⟩ : ∃ m9 : Nat, (hpOf hS).size = m9 := ⟨_, rfl⟩
  dsimp only [hpOf] at hMB
  rw [hMB] at haB
  have hrN := at_lt hk
  refine W_own (fun zt1 zt2 => ?_)
  obtain ⟨cE1, hcE1, hdE1⟩ : ∃ c9 : Nat, H.size ≤ s.heap.size + c9 ∧ c9 + 16 * p0 + 17 ≤ 16 * qB := ⟨16 * qB - 16 * p0 - 17, by omega, by omega⟩
  obtain ⟨sE1, hsE1, htE1⟩ : ∃ s9 : Nat, hU H ≤ hU s.heap + s9 ∧ s9 + 160 * p0 + 211 ≤ 160 * qB := ⟨160 * qB - 160 * p0 - 211, by omega, by omega⟩
  refine W_tight (k := cE1) (n := sE1) hcE1 hsE1 ?_
  refine lv_astore_n (lv' := [(2, .ref xB), (1, .ref xA), (0, .ref r)]) hx hb dX3_choice_19 rfl hl (by decide) rfl (fun ls hl => ?_)
  refine lv_aload_n hx hb dX3_choice_20 rfl (lv_at hl 2 rfl) ?_
  refine lv_bipush (v := nI 58) hx hb dX3_choice_21 (by decide) ?_
  refine W_own (fun zw1 zw2 => ?_)
  have hNN := hS.1
  refine t_call (vq_runV (As := [.int (nI 58)]) (rest := []) ⟨hx, hb, hml, hown, hts⟩ (met_X3_want l G κ z tp Xb r ta t qB (o + 1) kd _ 58 hXb ht hqB.2 hra hz (Nat.le_trans hzN (Nat.le_trans (Nat.le_of_eq hN.symm) hS.1)) hst (by decide)) (cv_X3_X3_want hts ⟨by dsimp only [rmG]; omega, by dsimp only [rmG]; omega⟩) (cT.preV hK hZ (xS_mono hS hAZ) ⟨⟨_, hnum, hk, htp⟩, rfl⟩ (a_recv (ci := 3) hK hk rfl)) rfl rfl hl.1 rfl (lv_room (Nat.le_of_ble_eq_true rfl)) dX3_choice_23 ⟨by dsimp only [rmG]; omega, by dsimp only [rmG]; omega⟩) hS (fun q hq e => Or.inl (e.resolve_right (Nat.not_le.mpr hq))) (fun q e => e.elim Or.inl (fun e => Or.inr (Nat.le_trans (Nat.le_trans (Nat.le_of_eq hN.symm) hS.1) e))) (fun q9 ce9 H locs hX9 hz9 hk9 hS hc9 hv9 hl9 => ?_) (fun v9 H locs hB9 hz9 hk9 hS => ?_)
  · obtain ⟨hX1, hxw⟩ := hX9
    exact t_out htab hlocks hc9 hv9 hl9 ⟨1, qB, by decide, by decide, (yIf_st ht hI1 (Or.inl rfl) hPB.1 rfl (hPB.2 rfl) (fun _ e => hX1 ((cst_sg (by decide)).mp e)) (fun e => absurd e (by decide))), hxw⟩ hS (by omega) (by omega)
  obtain ⟨rfl, hcV, ⟨num9, hnum, hk, htp⟩, hszV, husV⟩ := hB9
  replace haA := gF haA (fun q h1 h2 => hk9 q (by omega) (by omega))
  replace haB := gF haB (fun q h1 h2 => hk9 q (by omega) (by omega))
  have hcb := cst_b tp t (lxQ tp t qB)
  have hltV : lxQ tp t qB ≤ t := lxQ_le hqB.2
  have hgV := lxQ_gt (tp := tp) (t := t) (p0 := qB) (fun e => by have := cst_0.mp e; omega)
  have hI2 := yIf_2 hI1 hPB.1 rfl (hPB.2 rfl) ((cst_sg (by decide)).mpr hcV)
  refine W_own (fun zt1 zt2 => ?_)
  obtain ⟨cC1, hcC1, hdC1⟩ : ∃ c9 : Nat, H.size ≤ s.heap.size + c9 ∧ c9 + 16 * p0 + 17 ≤ 16 * (lxQ tp t qB) := ⟨16 * (lxQ tp t qB) - 16 * p0 - 17, by omega, by omega⟩
  obtain ⟨sC1, hsC1, htC1⟩ : ∃ s9 : Nat, hU H ≤ hU s.heap + s9 ∧ s9 + 160 * p0 + 211 ≤ 160 * (lxQ tp t qB) := ⟨160 * (lxQ tp t qB) - 160 * p0 - 211, by omega, by omega⟩
  refine W_tight (k := cC1) (n := sC1) hcC1 hsC1 ?_
  refine lv_aload_n hx hb dX3_choice_26 rfl (lv_at hl 2 rfl) ?_
  have hNN := hS.1
  obtain ⟨NC, hNC⟩ : ∃ m9 : Nat, (hpOf hS).size = m9 := ⟨_, rfl⟩
  dsimp only [hpOf] at hNC
  obtain ⟨nC, hnC⟩ := Nat.le.dest hltV
  refine W_own (fun zw1 zw2 => ?_)
  have hNN := hS.1
  refine t_call (vq_runV (As := []) (rest := []) ⟨hx, hb, hml, hown, hts⟩ ((ihs d1 hd1) (lxQ tp t qB) NC nC hnC (Nat.le_trans hzN (Nat.le_trans (Nat.le_of_eq hN.symm) (Nat.le_trans hS.1 (Nat.le_of_eq hNC))))) (cv_X3_X3_sum hts ⟨by dsimp only [rmG]; omega, by dsimp only [rmG]; omega⟩) (cT.preV hK hZ (xS_mono hS hAZ) ⟨⟨_, hnum, hk, htp⟩, hNC⟩ (a_recv (ci := 3) hK hk rfl)) rfl rfl hl.1 rfl (lv_room (Nat.le_of_ble_eq_true rfl)) dX3_choice_27 ⟨by dsimp only [rmG]; omega, by dsimp only [rmG]; omega⟩) hS (fun q hq e => Or.inl (e.resolve_right (Nat.not_le.mpr (Nat.lt_of_lt_of_le hq (Nat.le_of_eq hNC))))) (fun q e => e.elim Or.inl (fun e => Or.inr (Nat.le_trans (Nat.le_trans (Nat.le_of_eq hN.symm) (Nat.le_trans hS.1 (Nat.le_of_eq hNC))) e))) (fun q9 ce9 H locs hX9 hz9 hk9 hS hc9 hv9 hl9 => ?_) (fun v9 H locs hB9 hz9 hk9 hS => ?_)
  · obtain ⟨f9, p9, hf0, hf6, hP9, hxw⟩ := hX9
    exact t_out htab hlocks hc9 hv9 hl9 ⟨f9, p9, hf0, hf6, yIf_se hI2 (Or.inr rfl) hP9.1 hf0, hxw⟩ hS (by omega) (by omega)
  obtain ⟨xC, LC, qC, rfl, hPC, hqC, ⟨num9, hnum, hk, htp⟩, haC, hszC, husC⟩ := hB9
  replace haA := gF haA (fun q h1 h2 => hk9 q (by omega) (by omega))
  replace haB := gF haB (fun q h1 h2 => hk9 q (by omega) (by omega))
  have hcb := cst_b tp t qC
  obtain ⟨MC, hMC⟩ : ∃ m9 : Nat, (hpOf hS).size = m9 := ⟨_, rfl⟩
  dsimp only [hpOf] at hMC
  rw [hMC] at haC
  have hrN := at_lt hk
  refine W_own (fun zt1 zt2 => ?_)
  obtain ⟨cF1, hcF1, hdF1⟩ : ∃ c9 : Nat, H.size ≤ s.heap.size + c9 ∧ c9 + 16 * p0 + 17 ≤ 16 * qC := ⟨16 * qC - 16 * p0 - 17, by omega, by omega⟩
  obtain ⟨sF1, hsF1, htF1⟩ : ∃ s9 : Nat, hU H ≤ hU s.heap + s9 ∧ s9 + 160 * p0 + 211 ≤ 160 * qC := ⟨160 * qC - 160 * p0 - 211, by omega, by omega⟩
  refine W_tight (k := cF1) (n := sF1) hcF1 hsF1 ?_
  refine lv_astore_n (lv' := [(3, .ref xC), (2, .ref xB), (1, .ref xA), (0, .ref r)]) hx hb dX3_choice_30 rfl hl (by decide) rfl (fun ls hl => ?_)
  refine lv_aload_n hx hb dX3_choice_31 rfl (lv_at hl 3 rfl) ?_
  refine lv_sipush (v := nI 210) hx hb dX3_choice_32 (by decide) ?_
  refine W_own (fun zw1 zw2 => ?_)
  have hNN := hS.1
  refine t_call (vq_runV (As := [.int (nI 210)]) (rest := []) ⟨hx, hb, hml, hown, hts⟩ (met_X3_want l G κ z tp Xb r ta t qC (o + 1) kd _ 210 hXb ht hqC.2 hra hz (Nat.le_trans hzN (Nat.le_trans (Nat.le_of_eq hN.symm) hS.1)) hst (by decide)) (cv_X3_X3_want hts ⟨by dsimp only [rmG]; omega, by dsimp only [rmG]; omega⟩) (cT.preV hK hZ (xS_mono hS hAZ) ⟨⟨_, hnum, hk, htp⟩, rfl⟩ (a_recv (ci := 3) hK hk rfl)) rfl rfl hl.1 rfl (lv_room (Nat.le_of_ble_eq_true rfl)) dX3_choice_35 ⟨by dsimp only [rmG]; omega, by dsimp only [rmG]; omega⟩) hS (fun q hq e => Or.inl (e.resolve_right (Nat.not_le.mpr hq))) (fun q e => e.elim Or.inl (fun e => Or.inr (Nat.le_trans (Nat.le_trans (Nat.le_of_eq hN.symm) hS.1) e))) (fun q9 ce9 H locs hX9 hz9 hk9 hS hc9 hv9 hl9 => ?_) (fun v9 H locs hB9 hz9 hk9 hS => ?_)
  · obtain ⟨hX1, hxw⟩ := hX9
    exact t_out htab hlocks hc9 hv9 hl9 ⟨1, qC, by decide, by decide, (yIf_st ht hI2 (Or.inr rfl) hPC.1 rfl (hPC.2 rfl) (fun e => absurd e (by decide)) (fun _ e => hX1 (cst_end.mp e))), hxw⟩ hS (by omega) (by omega)
  obtain ⟨rfl, hcU, ⟨num9, hnum, hk, htp⟩, hszU, husU⟩ := hB9
  replace haA := gF haA (fun q h1 h2 => hk9 q (by omega) (by omega))
  replace haB := gF haB (fun q h1 h2 => hk9 q (by omega) (by omega))
  replace haC := gF haC (fun q h1 h2 => hk9 q (by omega) (by omega))
  have hcb := cst_b tp t (lxQ tp t qC)
  have hltU : lxQ tp t qC ≤ t := lxQ_le hqC.2
  have hgU := lxQ_gt (tp := tp) (t := t) (p0 := qC) (fun e => by have := cst_0.mp e; omega)
  have hY := yIf_3 hI2 hPC.1 rfl (hPC.2 rfl) (cst_end.mpr hcU)
  rw [List.append_assoc] at hY
  refine W_own (fun zt1 zt2 => ?_)
  obtain ⟨cD1, hcD1, hdD1⟩ : ∃ c9 : Nat, H.size ≤ s.heap.size + c9 ∧ c9 + 16 * p0 + 17 ≤ 16 * (lxQ tp t qC) := ⟨16 * (lxQ tp t qC) - 16 * p0 - 17, by omega, by omega⟩
  obtain ⟨sD1, hsD1, htD1⟩ : ∃ s9 : Nat, hU H ≤ hU s.heap + s9 ∧ s9 + 160 * p0 + 211 ≤ 160 * (lxQ tp t qC) := ⟨160 * (lxQ tp t qC) - 160 * p0 - 211, by omega, by omega⟩
  refine W_tight (k := cD1) (n := sD1) hcD1 hsD1 ?_
  refine p_new (own := RX3) (C := RX13) (T := TX13) (N := 3) (ci := 13) (fs := [.null, .null, .null]) hx hb hts in_X13 tyX13 tyX13_ok hown (hts _ q722) (hts _ q723) (hts _ q124) hK rfl (by decide +kernel) (by dsimp only [rmG]; omega) (by dsimp only [rmG]; omega) dX3_choice_38 (fun q_1 H hq_1 eq_1 zq_1 oq_1 => ?_)
  have lr_q_1 : r < q_1 := by have := at_lt hk; omega
  have lta_q_1 : ta < q_1 := by have := at_lt htp; omega
  replace hk := va_at.kept hk (oq_1 _ (at_lt hk))
  replace htp := va_at.kept htp (oq_1 _ (at_lt htp))
  replace haA := gF haA (fun q h1 h2 => oq_1 q (by omega))
  replace haB := gF haB (fun q h1 h2 => oq_1 q (by omega))
  replace haC := gF haC (fun q h1 h2 => oq_1 q (by omega))
  replace hS := xS_new hS (by omega) oq_1
  refine lv_dup hx hb dX3_choice_41 rfl ?_
  refine lv_aload_n hx hb dX3_choice_42 rfl (lv_at hl 2 rfl) ?_
  refine lv_aload_n hx hb dX3_choice_43 rfl (lv_at hl 1 rfl) ?_
  refine lv_aload_n hx hb dX3_choice_44 rfl (lv_at hl 0 rfl) ?_
  have hNN := hS.1
  refine t_callR (va_runIN (As := [.ref xA, .ref xB, .ref xC]) (rest := [.ref q_1]) ⟨hx, hb, hml, hown, hts⟩ (met_X13_init l G κ z q_1 xA xB xC (by omega)) ⟨cn_X3_X13_init hts hK ⟨by dsimp only [rmG]; omega, by dsimp only [rmG]; omega⟩, rfl, hts _ q725⟩ (cT.pre hK hZ (xS_mono hS hAZ) hq_1) rfl rfl hl.1 rfl (lv_room (Nat.le_of_ble_eq_true rfl)) dX3_choice_45 ⟨by dsimp only [rmG]; omega, by dsimp only [rmG]; omega⟩) hS (fun q hq e => Or.inr (by have e : @Eq Nat q q_1 := e; omega)) (fun q e => Or.inr (by have e : @Eq Nat q q_1 := e; omega)) (fun v9 H locs hB9 hz9 hk9 hS => ?_)
  obtain ⟨rfl, hq_1, hsv, huv⟩ := hB9
  replace hk := va_at.kept hk (hk9 _ (at_lt hk) (by omega))
  replace htp := va_at.kept htp (hk9 _ (at_lt htp) (by omega))
  replace haA := gF haA (fun q h1 h2 => hk9 q (by omega) (by omega))
  replace haB := gF haB (fun q h1 h2 => hk9 q (by omega) (by omega))
  replace haC := gF haC (fun q h1 h2 => hk9 q (by omega) (by omega))
  have haF : aS G (gO z N0 H.size) H (6 * d + 1) true q_1 _ := mkIf hq_1 (by omega) (gU haA (by omega) (by omega) (by omega)) (gU haB (by omega) (by omega) (by omega)) (gU haC (by omega) (by omega) (by omega))
  refine W_own (fun z1 z2 => ?_)
  refine vq_ret ?_
  refine W.widen (k := 16 * n + 8) (n := 160 * n + 64) (by omega) (by omega) ?_
  exact t_aret hx hb hr (Or.inl ⟨_, rfl⟩) (Or.inr ⟨_, rfl⟩) hlocks ⟨_, _, (lxQ tp t qC), rfl, hY, ⟨by omega, hltU⟩, ⟨_, hnum, hk, htp⟩, haF, by omega, by omega⟩ hS dX3_choice_48
set_option maxHeartbeats 4000000 in
set_option maxRecDepth 100000 in
theorem met_X3_one (l : Launch) (G : gG) (κ : kK) (z : Nat) (tp : Nat → Nat) (Xb : Nat → Int32) (r ta t kd o d : Nat) (hXb : ∀ j, j < t → Xb j = sb (tp j) ∧ tp j < 256) (ht : t ≤ 300) (hra : r ≠ ta) (hz : z ≤ r) (hst : l.stackTraces = false) (hod : o + d = 8) (hkd : kd < 4) (hchoice : g_choice l G κ z tp Xb r ta t kd o d) (ihs : ∀ d1, d = d1 + 1 → g_sum l G κ z tp Xb r ta t kd (o + 1) d1) (iho : ∀ d1, d = d1 + 1 → g_one l G κ z tp Xb r ta t kd (o + 1) d1) : g_one l G κ z tp Xb r ta t kd o d := by
  intro p0 N0 n hn0 hzN
  have hp : p0 ≤ t := by omega
  show vq_Met l yX3_one (ws_ yX3_one cX3_one 2 (some (Jvm.ClassFile.FieldType.object "BreathOnLoan$Sum"))) (rmG d 20 400 (16 * n + 8) (160 * n + 64)) (cT G κ z [.ref r] (fun H => tkP G r ta t Xb tp p0 o kd H ∧ H.size = N0)) (tQ (gN G z r ta t Xb tp kd o p0 N0 true (6 * d + 1) 6 18 (yOne tp t kd o p0)) (fun q => q = r ∨ N0 ≤ q)) (tX (gX G t tp (yOne tp t kd o p0)) (fun q => q = r ∨ N0 ≤ q)) (16 * n + 8) (160 * n + 64) (fun q => q = r ∨ N0 ≤ q)
  refine t_start (by decide) (Nat.le_of_ble_eq_true rfl) ?_
  intro p e s m below meth c hx hb hr hlocks hml hown hts hB hK hZ htab ls hl
  have hl : lv_has ls 2 [(0, .ref r)] := hl
  obtain ⟨⟨num, hnum, hk, htp⟩, hN⟩ := hB
  have hAZ : ∀ q, (q = r ∨ N0 ≤ q) → aZ z q := fun q e => show z ≤ q by rcases e with e | e <;> omega
  have hS : va_S (fun q => q = r ∨ N0 ≤ q) s.heap s.heap [] := va_S.rf
  have hrN := at_lt hk
  have htN := at_lt htp
  have hcb := cst_b tp t p0
  have hrN0 : r < s.heap.size := hrN
  have htN0 : ta < s.heap.size := htN
  refine lv_aload_n hx hb dX3_one_0 rfl (lv_at hl 0 rfl) ?_
  refine a_get (own := RX3) (C := RX3) (T := TX3) (N := 8) (ci := 3) hx hb hts in_X3 hown hK hk rfl 4 (by decide) (hts _ q301) (fun _ h9 => h9) rfl dX3_one_1 ?_
  refine lv_sipush (v := nI 300) hx hb dX3_one_4 (by decide) ?_
  refine n_icmp_ne (tgt := 26) hx hb dX3_one_7 (by decide) (by omega) (by omega) (fun hc300 => ?_) (fun hc300 => ?_)
  · refine lv_aload_n hx hb dX3_one_26 rfl (lv_at hl 0 rfl) ?_
    refine a_get (own := RX3) (C := RX3) (T := TX3) (N := 8) (ci := 3) hx hb hts in_X3 hown hK hk rfl 4 (by decide) (hts _ q301) (fun _ h9 => h9) rfl dX3_one_27 ?_
    refine lv_sipush (v := nI 214) hx hb dX3_one_30 (by decide) ?_
    refine n_icmp_lt (tgt := 96) hx hb dX3_one_33 (by decide) (by omega) (by omega) (fun hlo => ?_) (fun hlo => ?_)
    · refine lv_aload_n hx hb dX3_one_96 rfl (lv_at hl 0 rfl) ?_
      refine a_get (own := RX3) (C := RX3) (T := TX3) (N := 8) (ci := 3) hx hb hts in_X3 hown hK hk rfl 4 (by decide) (hts _ q301) (fun _ h9 => h9) rfl dX3_one_97 ?_
      refine lv_sipush (v := nI 209) hx hb dX3_one_100 (by decide) ?_
      refine n_icmp_ne (tgt := 114) hx hb dX3_one_103 (by decide) (by omega) (by omega) (fun hc209 => ?_) (fun hc209 => ?_)
      · refine lv_aload_n hx hb dX3_one_114 rfl (lv_at hl 0 rfl) ?_
        refine a_get (own := RX3) (C := RX3) (T := TX3) (N := 8) (ci := 3) hx hb hts in_X3 hown hK hk rfl 4 (by decide) (hts _ q301) (fun _ h9 => h9) rfl dX3_one_115 ?_
        refine lv_bipush (v := nI 40) hx hb dX3_one_118 (by decide) ?_
        refine n_icmp_ne (tgt := 141) hx hb dX3_one_120 (by decide) (by omega) (by omega) (fun hc40 => ?_) (fun hc40 => ?_)
        · refine lv_aload_n hx hb dX3_one_141 rfl (lv_at hl 0 rfl) ?_
          refine a_get (own := RX3) (C := RX3) (T := TX3) (N := 8) (ci := 3) hx hb hts in_X3 hown hK hk rfl 4 (by decide) (hts _ q301) (fun _ h9 => h9) rfl dX3_one_142 ?_
          refine lv_bipush (v := nI 45) hx hb dX3_one_145 (by decide) ?_
          refine n_icmp_ne (tgt := 169) hx hb dX3_one_147 (by decide) (by omega) (by omega) (fun hc45 => ?_) (fun hc45 => ?_)
          · refine lv_aload_n hx hb dX3_one_169 rfl (lv_at hl 0 rfl) ?_
            refine lv_iconst (v := nI 1) hx hb dX3_one_170 (by decide) ?_
            refine t_callR (va_runV (As := [.int (nI 1)]) (rest := []) ⟨hx, hb, hml, hown, hts⟩ (met_X3_wrong l G κ z Xb r ta t _ (nI 1) (nI (lxQ tp t p0)) (nI (lxS tp t p0)) (nI (cst tp t p0)) num (nI o) (nI kd) (Nat.le_trans hzN (Nat.le_trans (Nat.le_of_eq hN.symm) hS.1)) hst) (cv_X3_X3_wrong hts ⟨by dsimp only [rmG]; omega, by dsimp only [rmG]; omega⟩) (cT.preV hK hZ (xS_mono hS hAZ) ⟨⟨hk, htp⟩, rfl⟩ (a_recv (ci := 3) hK hk rfl)) rfl rfl hl.1 rfl (lv_room (Nat.le_of_ble_eq_true rfl)) dX3_one_171 ⟨by dsimp only [rmG]; omega, by dsimp only [rmG]; omega⟩) hS (fun q hq e => absurd hq (Nat.not_lt.mpr e)) (fun q e => Or.inr (Nat.le_trans (Nat.le_trans (Nat.le_of_eq hN.symm) hS.1) e)) (fun v9 H locs hB9 hz9 hk9 hS => ?_)
            obtain ⟨rfl, hwx, hwz, hwu⟩ := hB9
            replace hk := va_at.kept hk (hk9 _ (at_lt hk) (Nat.not_le.mpr (at_lt hk)))
            replace htp := va_at.kept htp (hk9 _ (at_lt htp) (Nat.not_le.mpr (at_lt htp)))
            refine vq_athrow hx hb dX3_one_174 ?_
            obtain ⟨fw, hwx⟩ := hwx
            exact t_outA htab hlocks hK hwx ⟨1, p0, by decide, by decide, yOne_else hp (fun e => hc300 (cst_1.mp e)) (nmO_no (by omega)) (fun e => hc40 ((cst_sg (by decide)).mp e)) (fun e => hc45 ((cst_sg (by decide)).mp e)) (fun e => hc209 (cst_if.mp e)), fw, hwx⟩ hS (by omega) (by omega)
          refine lv_aload_n hx hb dX3_one_150 rfl (lv_at hl 0 rfl) ?_
          have hl45 : lxT tp t p0 = 45 := (cst_sg (by decide)).mpr hc45
          have hgt := lxQ_gt (tp := tp) (t := t) (p0 := p0) (fun e => by have := cst_0.mp e; omega)
          refine W_own (fun zw1 zw2 => ?_)
          have hNN := hS.1
          refine t_call (vq_runV (As := []) (rest := []) ⟨hx, hb, hml, hown, hts⟩ (met_X3_opens l G κ z tp Xb r ta t p0 o kd _  hXb ht hp hra hz (Nat.le_trans hzN (Nat.le_trans (Nat.le_of_eq hN.symm) hS.1)) hst (by omega)) (cv_X3_X3_opens hts ⟨by dsimp only [rmG]; omega, by dsimp only [rmG]; omega⟩) (cT.preV hK hZ (xS_mono hS hAZ) ⟨⟨_, hnum, hk, htp⟩, rfl⟩ (a_recv (ci := 3) hK hk rfl)) rfl rfl hl.1 rfl (lv_room (Nat.le_of_ble_eq_true rfl)) dX3_one_151 ⟨by dsimp only [rmG]; omega, by dsimp only [rmG]; omega⟩) hS (fun q hq e => Or.inl (e.resolve_right (Nat.not_le.mpr hq))) (fun q e => e.elim Or.inl (fun e => Or.inr (Nat.le_trans (Nat.le_trans (Nat.le_of_eq hN.symm) hS.1) e))) (fun q9 ce9 H locs hX9 hz9 hk9 hS hc9 hv9 hl9 => ?_) (fun v9 H locs hB9 hz9 hk9 hS => ?_)
          · obtain ⟨hX1, hxw⟩ := hX9
            exact t_out htab hlocks hc9 hv9 hl9 ⟨3, p0, by decide, by decide, (by have h9 := yOne_deep (so := kd) (x := 2) hp (Or.inr (Or.inl ⟨hl45, rfl⟩)); rw [← hX1] at h9; exact h9), hxw⟩ hS (by omega) (by omega)
          obtain ⟨rfl, ho8, ⟨num9, hnum, hk, htp⟩, hszO, husO⟩ := hB9
          have hcb := cst_b tp t (lxQ tp t p0)
          have hltO : lxQ tp t p0 ≤ t := lxQ_le hp
          obtain ⟨d1, hd1⟩ : ∃ d1, d = d1 + 1 := ⟨d - 1, by omega⟩
          refine W_own (fun zt1 zt2 => ?_)
          obtain ⟨cO1, hcO1, hdO1⟩ : ∃ c9 : Nat, H.size ≤ s.heap.size + c9 ∧ c9 + 16 * p0 + 16 ≤ 16 * (lxQ tp t p0) := ⟨16 * (lxQ tp t p0) - 16 * p0 - 16, by omega, by omega⟩
          obtain ⟨sO1, hsO1, htO1⟩ : ∃ s9 : Nat, hU H ≤ hU s.heap + s9 ∧ s9 + 160 * p0 + 160 ≤ 160 * (lxQ tp t p0) := ⟨160 * (lxQ tp t p0) - 160 * p0 - 160, by omega, by omega⟩
          refine W_tight (k := cO1) (n := sO1) hcO1 hsO1 ?_
          refine p_new (own := RX3) (C := RX14) (T := TX14) (N := 1) (ci := 14) (fs := [.null]) hx hb hts in_X14 tyX14 tyX14_ok hown (hts _ q738) (hts _ q739) (hts _ q125) hK rfl (by decide +kernel) (by dsimp only [rmG]; omega) (by dsimp only [rmG]; omega) dX3_one_154 (fun q_1 H hq_1 eq_1 zq_1 oq_1 => ?_)
          have lr_q_1 : r < q_1 := by have := at_lt hk; omega
          have lta_q_1 : ta < q_1 := by have := at_lt htp; omega
          replace hk := va_at.kept hk (oq_1 _ (at_lt hk))
          replace htp := va_at.kept htp (oq_1 _ (at_lt htp))
          replace hS := xS_new hS (by omega) oq_1
          refine lv_dup hx hb dX3_one_157 rfl ?_
          refine lv_aload_n hx hb dX3_one_158 rfl (lv_at hl 0 rfl) ?_
          refine W_own (fun zt1 zt2 => ?_)
          obtain ⟨cT9, hcT9, hdT9⟩ : ∃ c9 : Nat, H.size ≤ s.heap.size + c9 ∧ c9 + 16 * p0 + 15 ≤ 16 * (lxQ tp t p0) := ⟨16 * (lxQ tp t p0) - 16 * p0 - 15, by omega, by omega⟩
          obtain ⟨sT9, hsT9, htT9⟩ : ∃ s9 : Nat, hU H ≤ hU s.heap + s9 ∧ s9 + 160 * p0 + 159 ≤ 160 * (lxQ tp t p0) := ⟨160 * (lxQ tp t p0) - 160 * p0 - 159, by omega, by omega⟩
          refine W_tight (k := cT9) (n := sT9) hcT9 hsT9 ?_
          have hNN := hS.1
          obtain ⟨NA, hNA⟩ : ∃ m9 : Nat, (hpOf hS).size = m9 := ⟨_, rfl⟩
          dsimp only [hpOf] at hNA
          obtain ⟨nA, hnA⟩ := Nat.le.dest hltO
          refine W_own (fun zw1 zw2 => ?_)
          have hNN := hS.1
          refine t_call (vq_runV (As := []) (rest := [.ref q_1, .ref q_1]) ⟨hx, hb, hml, hown, hts⟩ ((iho d1 hd1) (lxQ tp t p0) NA nA hnA (Nat.le_trans hzN (Nat.le_trans (Nat.le_of_eq hN.symm) (Nat.le_trans hS.1 (Nat.le_of_eq hNA))))) (cv_X3_X3_one hts ⟨by dsimp only [rmG]; omega, by dsimp only [rmG]; omega⟩) (cT.preV hK hZ (xS_mono hS hAZ) ⟨⟨_, hnum, hk, htp⟩, hNA⟩ (a_recv (ci := 3) hK hk rfl)) rfl rfl hl.1 rfl (lv_room (Nat.le_of_ble_eq_true rfl)) dX3_one_159 ⟨by dsimp only [rmG]; omega, by dsimp only [rmG]; omega⟩) hS (fun q hq e => Or.inl (e.resolve_right (Nat.not_le.mpr (Nat.lt_of_lt_of_le hq (Nat.le_of_eq hNA))))) (fun q e => e.elim Or.inl (fun e => Or.inr (Nat.le_trans (Nat.le_trans (Nat.le_of_eq hN.symm) (Nat.le_trans hS.1 (Nat.le_of_eq hNA))) e))) (fun q9 ce9 H locs hX9 hz9 hk9 hS hc9 hv9 hl9 => ?_) (fun v9 H locs hB9 hz9 hk9 hS => ?_)
          · obtain ⟨f9, p9, hf0, hf6, hP9, hxw⟩ := hX9
            exact t_out htab hlocks hc9 hv9 hl9 ⟨f9, p9, hf0, hf6, yOne_minusE hf0 hl45 (by omega) hP9, hxw⟩ hS (by omega) (by omega)
          obtain ⟨xA, LA, qA, rfl, hPA, hqA, ⟨num9, hnum, hk, htp⟩, haA, hszA, husA⟩ := hB9
          replace hq_1 := va_at.kept hq_1 (hk9 _ (at_lt hq_1) (by have := at_lt hq_1; omega))
          have hcb := cst_b tp t qA
          obtain ⟨MA, hMA⟩ : ∃ m9 : Nat, (hpOf hS).size = m9 := ⟨_, rfl⟩
          dsimp only [hpOf] at hMA
          rw [hMA] at haA
          have hrN := at_lt hk
          have hNN := hS.1
          refine t_callR (va_runIN (As := [.ref xA]) (rest := [.ref q_1]) ⟨hx, hb, hml, hown, hts⟩ (met_X14_init l G κ z q_1 xA (by omega)) ⟨cn_X3_X14_init hts hK ⟨by dsimp only [rmG]; omega, by dsimp only [rmG]; omega⟩, rfl, hts _ q741⟩ (cT.pre hK hZ (xS_mono hS hAZ) hq_1) rfl rfl hl.1 rfl (lv_room (Nat.le_of_ble_eq_true rfl)) dX3_one_162 ⟨by dsimp only [rmG]; omega, by dsimp only [rmG]; omega⟩) hS (fun q hq e => Or.inr (by have e : @Eq Nat q q_1 := e; omega)) (fun q e => Or.inr (by have e : @Eq Nat q q_1 := e; omega)) (fun v9 H locs hB9 hz9 hk9 hS => ?_)
          obtain ⟨rfl, hq_1, hsv, huv⟩ := hB9
          replace hk := va_at.kept hk (hk9 _ (at_lt hk) (by omega))
          replace htp := va_at.kept htp (hk9 _ (at_lt htp) (by omega))
          replace haA := gF haA (fun q h1 h2 => hk9 q (by omega) (by omega))
          refine W_own (fun zt1 zt2 => ?_)
          obtain ⟨cE1, hcE1, hdE1⟩ : ∃ c9 : Nat, H.size ≤ s.heap.size + c9 ∧ c9 + 16 * p0 + 6 ≤ 16 * qA := ⟨16 * qA - 16 * p0 - 6, by omega, by omega⟩
          obtain ⟨sE1, hsE1, htE1⟩ : ∃ s9 : Nat, hU H ≤ hU s.heap + s9 ∧ s9 + 160 * p0 + 18 ≤ 160 * qA := ⟨160 * qA - 160 * p0 - 18, by omega, by omega⟩
          refine W_tight (k := cE1) (n := sE1) hcE1 hsE1 ?_
          refine lv_astore_n (lv' := [(1, .ref q_1), (0, .ref r)]) hx hb dX3_one_165 rfl hl (by decide) rfl (fun ls hl => ?_)
          refine lv_goto (tgt := 175) hx hb dX3_one_166 (by decide) ?_
          refine lv_aload_n hx hb dX3_one_175 rfl (lv_at hl 1 rfl) ?_
          refine lv_dup hx hb dX3_one_176 rfl ?_
          refine a_get (own := RX3) (C := RX3) (T := TX3) (N := 8) (ci := 3) hx hb hts in_X3 hown hK hk rfl 6 (by decide) (hts _ q303) (fun _ h9 => h9) rfl dX3_one_177 ?_
          refine lv_iconst (v := nI 1) hx hb dX3_one_180 (by decide) ?_
          refine n_isub hx hb (by omega) dX3_one_181 ?_
          rw [show o + 1 - 1 = o by omega]
          refine p_put (own := RX3) (C := RX3) (T := TX3) (N := 8) (ci := 3) (a := r) (fs := [.ref ta, .int (nI t), .int (nI (lxQ tp t qA)), .int (nI (lxS tp t qA)), .int (nI (cst tp t qA)), .int num9, .int (nI (o + 1)), .int (nI kd)]) (ty := tyX3 6) (v := .int (nI o)) hx hb hts in_X3 tyX3 tyX3_ok nmX3 hown hK hk rfl 6 (by decide) (hts _ q303) (fun _ h9 => h9) rfl (tyX3_ok 6 (by decide)) rfl rfl (Nat.le_of_ble_eq_true rfl) dX3_one_182 (fun H locs hk hz9 ho9 hl9 => ?_)
          replace hk : va_at (gD G) g_cl (r, .inr (3, [.ref ta, .int (nI t), .int (nI (lxQ tp t qA)), .int (nI (lxS tp t qA)), .int (nI (cst tp t qA)), .int num9, .int (nI o), .int (nI kd)])) H := hk
          replace htp := va_at.kept htp (ho9 _ (Ne.symm hra))
          replace hq_1 := va_at.kept hq_1 (ho9 _ (by omega))
          replace haA := gF haA (fun q h1 h2 => ho9 q (by omega))
          replace hS := xS_put hS (Or.inl rfl) hz9 ho9 hl9
          refine lv_aload_n hx hb dX3_one_185 rfl (lv_at hl 0 rfl) ?_
          have haF : aS G (gO z N0 H.size) H (6 * d + 1) true q_1 _ := mkMinus hq_1 (by omega) (gU haA (by omega) (by omega) (by omega))
          refine W_own (fun z1 z2 => ?_)
          refine vq_ret ?_
          refine W.widen (k := 16 * n + 8) (n := 160 * n + 64) (by omega) (by omega) ?_
          exact t_aret hx hb hr (Or.inl ⟨_, rfl⟩) (Or.inr ⟨_, rfl⟩) hlocks ⟨_, _, qA, rfl, yOne_minus hl45 (by omega) hPA, ⟨by omega, hqA.2⟩, ⟨_, hnum, hk, htp⟩, haF, by omega, by omega⟩ hS dX3_one_186
        refine lv_aload_n hx hb dX3_one_123 rfl (lv_at hl 0 rfl) ?_
        have hl40 : lxT tp t p0 = 40 := (cst_sg (by decide)).mpr hc40
        have hgt := lxQ_gt (tp := tp) (t := t) (p0 := p0) (fun e => by have := cst_0.mp e; omega)
        refine W_own (fun zw1 zw2 => ?_)
        have hNN := hS.1
        refine t_call (vq_runV (As := []) (rest := []) ⟨hx, hb, hml, hown, hts⟩ (met_X3_opens l G κ z tp Xb r ta t p0 o kd _  hXb ht hp hra hz (Nat.le_trans hzN (Nat.le_trans (Nat.le_of_eq hN.symm) hS.1)) hst (by omega)) (cv_X3_X3_opens hts ⟨by dsimp only [rmG]; omega, by dsimp only [rmG]; omega⟩) (cT.preV hK hZ (xS_mono hS hAZ) ⟨⟨_, hnum, hk, htp⟩, rfl⟩ (a_recv (ci := 3) hK hk rfl)) rfl rfl hl.1 rfl (lv_room (Nat.le_of_ble_eq_true rfl)) dX3_one_124 ⟨by dsimp only [rmG]; omega, by dsimp only [rmG]; omega⟩) hS (fun q hq e => Or.inl (e.resolve_right (Nat.not_le.mpr hq))) (fun q e => e.elim Or.inl (fun e => Or.inr (Nat.le_trans (Nat.le_trans (Nat.le_of_eq hN.symm) hS.1) e))) (fun q9 ce9 H locs hX9 hz9 hk9 hS hc9 hv9 hl9 => ?_) (fun v9 H locs hB9 hz9 hk9 hS => ?_)
        · obtain ⟨hX1, hxw⟩ := hX9
          exact t_out htab hlocks hc9 hv9 hl9 ⟨3, p0, by decide, by decide, (by have h9 := yOne_deep (so := kd) (x := 40) hp (Or.inl ⟨hl40, rfl⟩); rw [← hX1] at h9; exact h9), hxw⟩ hS (by omega) (by omega)
        obtain ⟨rfl, ho8, ⟨num9, hnum, hk, htp⟩, hszO, husO⟩ := hB9
        have hcb := cst_b tp t (lxQ tp t p0)
        have hltO : lxQ tp t p0 ≤ t := lxQ_le hp
        obtain ⟨d1, hd1⟩ : ∃ d1, d = d1 + 1 := ⟨d - 1, by omega⟩
        refine W_own (fun zt1 zt2 => ?_)
        obtain ⟨cO1, hcO1, hdO1⟩ : ∃ c9 : Nat, H.size ≤ s.heap.size + c9 ∧ c9 + 16 * p0 + 16 ≤ 16 * (lxQ tp t p0) := ⟨16 * (lxQ tp t p0) - 16 * p0 - 16, by omega, by omega⟩
        obtain ⟨sO1, hsO1, htO1⟩ : ∃ s9 : Nat, hU H ≤ hU s.heap + s9 ∧ s9 + 160 * p0 + 160 ≤ 160 * (lxQ tp t p0) := ⟨160 * (lxQ tp t p0) - 160 * p0 - 160, by omega, by omega⟩
        refine W_tight (k := cO1) (n := sO1) hcO1 hsO1 ?_
        refine lv_aload_n hx hb dX3_one_127 rfl (lv_at hl 0 rfl) ?_
        have hNN := hS.1
        obtain ⟨NA, hNA⟩ : ∃ m9 : Nat, (hpOf hS).size = m9 := ⟨_, rfl⟩
        dsimp only [hpOf] at hNA
        obtain ⟨nA, hnA⟩ := Nat.le.dest hltO
        refine W_own (fun zw1 zw2 => ?_)
        have hNN := hS.1
        refine t_call (vq_runV (As := []) (rest := []) ⟨hx, hb, hml, hown, hts⟩ ((ihs d1 hd1) (lxQ tp t p0) NA nA hnA (Nat.le_trans hzN (Nat.le_trans (Nat.le_of_eq hN.symm) (Nat.le_trans hS.1 (Nat.le_of_eq hNA))))) (cv_X3_X3_sum hts ⟨by dsimp only [rmG]; omega, by dsimp only [rmG]; omega⟩) (cT.preV hK hZ (xS_mono hS hAZ) ⟨⟨_, hnum, hk, htp⟩, hNA⟩ (a_recv (ci := 3) hK hk rfl)) rfl rfl hl.1 rfl (lv_room (Nat.le_of_ble_eq_true rfl)) dX3_one_128 ⟨by dsimp only [rmG]; omega, by dsimp only [rmG]; omega⟩) hS (fun q hq e => Or.inl (e.resolve_right (Nat.not_le.mpr (Nat.lt_of_lt_of_le hq (Nat.le_of_eq hNA))))) (fun q e => e.elim Or.inl (fun e => Or.inr (Nat.le_trans (Nat.le_trans (Nat.le_of_eq hN.symm) (Nat.le_trans hS.1 (Nat.le_of_eq hNA))) e))) (fun q9 ce9 H locs hX9 hz9 hk9 hS hc9 hv9 hl9 => ?_) (fun v9 H locs hB9 hz9 hk9 hS => ?_)
        · obtain ⟨f9, p9, hf0, hf6, hP9, hxw⟩ := hX9
          exact t_out htab hlocks hc9 hv9 hl9 ⟨f9, p9, hf0, hf6, yOne_parE hf0 hl40 (by omega) ht hP9.1, hxw⟩ hS (by omega) (by omega)
        obtain ⟨xA, LA, qA, rfl, hPA, hqA, ⟨num9, hnum, hk, htp⟩, haA, hszA, husA⟩ := hB9
        have hcb := cst_b tp t qA
        obtain ⟨MA, hMA⟩ : ∃ m9 : Nat, (hpOf hS).size = m9 := ⟨_, rfl⟩
        dsimp only [hpOf] at hMA
        rw [hMA] at haA
        have hrN := at_lt hk
        refine W_own (fun zt1 zt2 => ?_)
        obtain ⟨cA1, hcA1, hdA1⟩ : ∃ c9 : Nat, H.size ≤ s.heap.size + c9 ∧ c9 + 16 * p0 + 16 ≤ 16 * qA := ⟨16 * qA - 16 * p0 - 16, by omega, by omega⟩
        obtain ⟨sA1, hsA1, htA1⟩ : ∃ s9 : Nat, hU H ≤ hU s.heap + s9 ∧ s9 + 160 * p0 + 160 ≤ 160 * qA := ⟨160 * qA - 160 * p0 - 160, by omega, by omega⟩
        refine W_tight (k := cA1) (n := sA1) hcA1 hsA1 ?_
        refine lv_astore_n (lv' := [(1, .ref xA), (0, .ref r)]) hx hb dX3_one_131 rfl hl (by decide) rfl (fun ls hl => ?_)
        refine lv_aload_n hx hb dX3_one_132 rfl (lv_at hl 1 rfl) ?_
        refine lv_bipush (v := nI 41) hx hb dX3_one_133 (by decide) ?_
        refine W_own (fun zw1 zw2 => ?_)
        have hNN := hS.1
        refine t_call (vq_runV (As := [.int (nI 41)]) (rest := []) ⟨hx, hb, hml, hown, hts⟩ (met_X3_want l G κ z tp Xb r ta t qA (o + 1) kd _ 41 hXb ht hqA.2 hra hz (Nat.le_trans hzN (Nat.le_trans (Nat.le_of_eq hN.symm) hS.1)) hst (by decide)) (cv_X3_X3_want hts ⟨by dsimp only [rmG]; omega, by dsimp only [rmG]; omega⟩) (cT.preV hK hZ (xS_mono hS hAZ) ⟨⟨_, hnum, hk, htp⟩, rfl⟩ (a_recv (ci := 3) hK hk rfl)) rfl rfl hl.1 rfl (lv_room (Nat.le_of_ble_eq_true rfl)) dX3_one_135 ⟨by dsimp only [rmG]; omega, by dsimp only [rmG]; omega⟩) hS (fun q hq e => Or.inl (e.resolve_right (Nat.not_le.mpr hq))) (fun q e => e.elim Or.inl (fun e => Or.inr (Nat.le_trans (Nat.le_trans (Nat.le_of_eq hN.symm) hS.1) e))) (fun q9 ce9 H locs hX9 hz9 hk9 hS hc9 hv9 hl9 => ?_) (fun v9 H locs hB9 hz9 hk9 hS => ?_)
        · obtain ⟨hX1, hxw⟩ := hX9
          exact t_out htab hlocks hc9 hv9 hl9 ⟨1, qA, by decide, by decide, (yOne_par1 hl40 (by omega) ht hPA.1 (hPA.2 rfl) (fun e => hX1 ((cst_sg (by decide)).mp e))), hxw⟩ hS (by omega) (by omega)
        obtain ⟨rfl, hcW, ⟨num9, hnum, hk, htp⟩, hszW, husW⟩ := hB9
        replace haA := gF haA (fun q h1 h2 => hk9 q (by omega) (by omega))
        have hcb := cst_b tp t (lxQ tp t qA)
        have hltW : lxQ tp t qA ≤ t := lxQ_le hqA.2
        have hgW := lxQ_gt (tp := tp) (t := t) (p0 := qA) (fun e => by have := cst_0.mp e; omega)
        have hY := yOne_parN hl40 (by omega) ht hPA.1 (hPA.2 rfl) ((cst_sg (by decide)).mpr hcW)
        refine W_own (fun zt1 zt2 => ?_)
        obtain ⟨cB1, hcB1, hdB1⟩ : ∃ c9 : Nat, H.size ≤ s.heap.size + c9 ∧ c9 + 16 * p0 + 16 ≤ 16 * (lxQ tp t qA) := ⟨16 * (lxQ tp t qA) - 16 * p0 - 16, by omega, by omega⟩
        obtain ⟨sB1, hsB1, htB1⟩ : ∃ s9 : Nat, hU H ≤ hU s.heap + s9 ∧ s9 + 160 * p0 + 160 ≤ 160 * (lxQ tp t qA) := ⟨160 * (lxQ tp t qA) - 160 * p0 - 160, by omega, by omega⟩
        refine W_tight (k := cB1) (n := sB1) hcB1 hsB1 ?_
        refine lv_goto (tgt := 175) hx hb dX3_one_138 (by decide) ?_
        refine lv_aload_n hx hb dX3_one_175 rfl (lv_at hl 1 rfl) ?_
        refine lv_dup hx hb dX3_one_176 rfl ?_
        refine a_get (own := RX3) (C := RX3) (T := TX3) (N := 8) (ci := 3) hx hb hts in_X3 hown hK hk rfl 6 (by decide) (hts _ q303) (fun _ h9 => h9) rfl dX3_one_177 ?_
        refine lv_iconst (v := nI 1) hx hb dX3_one_180 (by decide) ?_
        refine n_isub hx hb (by omega) dX3_one_181 ?_
        rw [show o + 1 - 1 = o by omega]
        refine p_put (own := RX3) (C := RX3) (T := TX3) (N := 8) (ci := 3) (a := r) (fs := [.ref ta, .int (nI t), .int (nI (lxQ tp t (lxQ tp t qA))), .int (nI (lxS tp t (lxQ tp t qA))), .int (nI (cst tp t (lxQ tp t qA))), .int num9, .int (nI (o + 1)), .int (nI kd)]) (ty := tyX3 6) (v := .int (nI o)) hx hb hts in_X3 tyX3 tyX3_ok nmX3 hown hK hk rfl 6 (by decide) (hts _ q303) (fun _ h9 => h9) rfl (tyX3_ok 6 (by decide)) rfl rfl (Nat.le_of_ble_eq_true rfl) dX3_one_182 (fun H locs hk hz9 ho9 hl9 => ?_)
        replace hk : va_at (gD G) g_cl (r, .inr (3, [.ref ta, .int (nI t), .int (nI (lxQ tp t (lxQ tp t qA))), .int (nI (lxS tp t (lxQ tp t qA))), .int (nI (cst tp t (lxQ tp t qA))), .int num9, .int (nI o), .int (nI kd)])) H := hk
        replace htp := va_at.kept htp (ho9 _ (Ne.symm hra))
        replace haA := gF haA (fun q h1 h2 => ho9 q (by omega))
        replace hS := xS_put hS (Or.inl rfl) hz9 ho9 hl9
        refine lv_aload_n hx hb dX3_one_185 rfl (lv_at hl 0 rfl) ?_
        have haF : aS G (gO z N0 H.size) H (6 * d + 1) true xA _ := gU haA (by omega) (by omega) (by omega)
        refine W_own (fun z1 z2 => ?_)
        refine vq_ret ?_
        refine W.widen (k := 16 * n + 8) (n := 160 * n + 64) (by omega) (by omega) ?_
        exact t_aret hx hb hr (Or.inl ⟨_, rfl⟩) (Or.inr ⟨_, rfl⟩) hlocks ⟨_, _, (lxQ tp t qA), rfl, hY, ⟨by omega, hltW⟩, ⟨_, hnum, hk, htp⟩, haF, by omega, by omega⟩ hS dX3_one_186
      refine lv_aload_n hx hb dX3_one_106 rfl (lv_at hl 0 rfl) ?_
      have hNN := hS.1
      obtain ⟨NA, hNA⟩ : ∃ m9 : Nat, (hpOf hS).size = m9 := ⟨_, rfl⟩
      dsimp only [hpOf] at hNA
      refine W_own (fun zw1 zw2 => ?_)
      have hNN := hS.1
      refine t_call (vq_runV (As := []) (rest := []) ⟨hx, hb, hml, hown, hts⟩ (hchoice p0 NA n hn0 (Nat.le_trans hzN (Nat.le_trans (Nat.le_of_eq hN.symm) (Nat.le_trans hS.1 (Nat.le_of_eq hNA)))) hc209 hod) (cv_X3_X3_choice hts ⟨by dsimp only [rmG]; omega, by dsimp only [rmG]; omega⟩) (cT.preV hK hZ (xS_mono hS hAZ) ⟨⟨_, hnum, hk, htp⟩, hNA⟩ (a_recv (ci := 3) hK hk rfl)) rfl rfl hl.1 rfl (lv_room (Nat.le_of_ble_eq_true rfl)) dX3_one_107 ⟨by dsimp only [rmG]; omega, by dsimp only [rmG]; omega⟩) hS (fun q hq e => Or.inl (e.resolve_right (Nat.not_le.mpr (Nat.lt_of_lt_of_le hq (Nat.le_of_eq hNA))))) (fun q e => e.elim Or.inl (fun e => Or.inr (Nat.le_trans (Nat.le_trans (Nat.le_of_eq hN.symm) (Nat.le_trans hS.1 (Nat.le_of_eq hNA))) e))) (fun q9 ce9 H locs hX9 hz9 hk9 hS hc9 hv9 hl9 => ?_) (fun v9 H locs hB9 hz9 hk9 hS => ?_)
      · obtain ⟨f9, p9, hf0, hf6, hP9, hxw⟩ := hX9
        exact t_out htab hlocks hc9 hv9 hl9 ⟨f9, p9, hf0, hf6, hP9, hxw⟩ hS (by omega) (by omega)
      obtain ⟨xA, LA, qA, rfl, hPA, hqA, ⟨num9, hnum, hk, htp⟩, haA, hszA, husA⟩ := hB9
      have hcb := cst_b tp t qA
      obtain ⟨MA, hMA⟩ : ∃ m9 : Nat, (hpOf hS).size = m9 := ⟨_, rfl⟩
      dsimp only [hpOf] at hMA
      rw [hMA] at haA
      have hrN := at_lt hk
      refine W_own (fun zt1 zt2 => ?_)
      obtain ⟨cA1, hcA1, hdA1⟩ : ∃ c9 : Nat, H.size ≤ s.heap.size + c9 ∧ c9 + 16 * p0 + 6 ≤ 16 * qA := ⟨16 * qA - 16 * p0 - 6, by omega, by omega⟩
      obtain ⟨sA1, hsA1, htA1⟩ : ∃ s9 : Nat, hU H ≤ hU s.heap + s9 ∧ s9 + 160 * p0 + 18 ≤ 160 * qA := ⟨160 * qA - 160 * p0 - 18, by omega, by omega⟩
      refine W_tight (k := cA1) (n := sA1) hcA1 hsA1 ?_
      refine lv_astore_n (lv' := [(1, .ref xA), (0, .ref r)]) hx hb dX3_one_110 rfl hl (by decide) rfl (fun ls hl => ?_)
      refine lv_goto (tgt := 175) hx hb dX3_one_111 (by decide) ?_
      refine lv_aload_n hx hb dX3_one_175 rfl (lv_at hl 1 rfl) ?_
      refine lv_dup hx hb dX3_one_176 rfl ?_
      refine a_get (own := RX3) (C := RX3) (T := TX3) (N := 8) (ci := 3) hx hb hts in_X3 hown hK hk rfl 6 (by decide) (hts _ q303) (fun _ h9 => h9) rfl dX3_one_177 ?_
      refine lv_iconst (v := nI 1) hx hb dX3_one_180 (by decide) ?_
      refine n_isub hx hb (by omega) dX3_one_181 ?_
      rw [show o + 1 - 1 = o by omega]
      refine p_put (own := RX3) (C := RX3) (T := TX3) (N := 8) (ci := 3) (a := r) (fs := [.ref ta, .int (nI t), .int (nI (lxQ tp t qA)), .int (nI (lxS tp t qA)), .int (nI (cst tp t qA)), .int num9, .int (nI (o + 1)), .int (nI kd)]) (ty := tyX3 6) (v := .int (nI o)) hx hb hts in_X3 tyX3 tyX3_ok nmX3 hown hK hk rfl 6 (by decide) (hts _ q303) (fun _ h9 => h9) rfl (tyX3_ok 6 (by decide)) rfl rfl (Nat.le_of_ble_eq_true rfl) dX3_one_182 (fun H locs hk hz9 ho9 hl9 => ?_)
      replace hk : va_at (gD G) g_cl (r, .inr (3, [.ref ta, .int (nI t), .int (nI (lxQ tp t qA)), .int (nI (lxS tp t qA)), .int (nI (cst tp t qA)), .int num9, .int (nI o), .int (nI kd)])) H := hk
      replace htp := va_at.kept htp (ho9 _ (Ne.symm hra))
      replace haA := gF haA (fun q h1 h2 => ho9 q (by omega))
      replace hS := xS_put hS (Or.inl rfl) hz9 ho9 hl9
      refine lv_aload_n hx hb dX3_one_185 rfl (lv_at hl 0 rfl) ?_
      have haF : aS G (gO z N0 H.size) H (6 * d + 1) true xA _ := gU haA (by omega) (by omega) (by omega)
      refine W_own (fun z1 z2 => ?_)
      refine vq_ret ?_
      refine W.widen (k := 16 * n + 8) (n := 160 * n + 64) (by omega) (by omega) ?_
      exact t_aret hx hb hr (Or.inl ⟨_, rfl⟩) (Or.inr ⟨_, rfl⟩) hlocks ⟨_, _, qA, rfl, hPA, hqA, ⟨_, hnum, hk, htp⟩, haF, by omega, by omega⟩ hS dX3_one_186
    refine lv_aload_n hx hb dX3_one_36 rfl (lv_at hl 0 rfl) ?_
    refine a_get (own := RX3) (C := RX3) (T := TX3) (N := 8) (ci := 3) hx hb hts in_X3 hown hK hk rfl 4 (by decide) (hts _ q301) (fun _ h9 => h9) rfl dX3_one_37 ?_
    refine lv_sipush (v := nI 224) hx hb dX3_one_40 (by decide) ?_
    refine n_icmp_gt (tgt := 96) hx hb dX3_one_43 (by decide) (by omega) (by omega) (fun hhi => ?_) (fun hhi => ?_)
    · refine lv_aload_n hx hb dX3_one_96 rfl (lv_at hl 0 rfl) ?_
      refine a_get (own := RX3) (C := RX3) (T := TX3) (N := 8) (ci := 3) hx hb hts in_X3 hown hK hk rfl 4 (by decide) (hts _ q301) (fun _ h9 => h9) rfl dX3_one_97 ?_
      refine lv_sipush (v := nI 209) hx hb dX3_one_100 (by decide) ?_
      refine n_icmp_ne (tgt := 114) hx hb dX3_one_103 (by decide) (by omega) (by omega) (fun hc209 => ?_) (fun hc209 => ?_)
      · refine lv_aload_n hx hb dX3_one_114 rfl (lv_at hl 0 rfl) ?_
        refine a_get (own := RX3) (C := RX3) (T := TX3) (N := 8) (ci := 3) hx hb hts in_X3 hown hK hk rfl 4 (by decide) (hts _ q301) (fun _ h9 => h9) rfl dX3_one_115 ?_
        refine lv_bipush (v := nI 40) hx hb dX3_one_118 (by decide) ?_
        refine n_icmp_ne (tgt := 141) hx hb dX3_one_120 (by decide) (by omega) (by omega) (fun hc40 => ?_) (fun hc40 => ?_)
        · refine lv_aload_n hx hb dX3_one_141 rfl (lv_at hl 0 rfl) ?_
          refine a_get (own := RX3) (C := RX3) (T := TX3) (N := 8) (ci := 3) hx hb hts in_X3 hown hK hk rfl 4 (by decide) (hts _ q301) (fun _ h9 => h9) rfl dX3_one_142 ?_
          refine lv_bipush (v := nI 45) hx hb dX3_one_145 (by decide) ?_
          refine n_icmp_ne (tgt := 169) hx hb dX3_one_147 (by decide) (by omega) (by omega) (fun hc45 => ?_) (fun hc45 => ?_)
          · refine lv_aload_n hx hb dX3_one_169 rfl (lv_at hl 0 rfl) ?_
            refine lv_iconst (v := nI 1) hx hb dX3_one_170 (by decide) ?_
            refine t_callR (va_runV (As := [.int (nI 1)]) (rest := []) ⟨hx, hb, hml, hown, hts⟩ (met_X3_wrong l G κ z Xb r ta t _ (nI 1) (nI (lxQ tp t p0)) (nI (lxS tp t p0)) (nI (cst tp t p0)) num (nI o) (nI kd) (Nat.le_trans hzN (Nat.le_trans (Nat.le_of_eq hN.symm) hS.1)) hst) (cv_X3_X3_wrong hts ⟨by dsimp only [rmG]; omega, by dsimp only [rmG]; omega⟩) (cT.preV hK hZ (xS_mono hS hAZ) ⟨⟨hk, htp⟩, rfl⟩ (a_recv (ci := 3) hK hk rfl)) rfl rfl hl.1 rfl (lv_room (Nat.le_of_ble_eq_true rfl)) dX3_one_171 ⟨by dsimp only [rmG]; omega, by dsimp only [rmG]; omega⟩) hS (fun q hq e => absurd hq (Nat.not_lt.mpr e)) (fun q e => Or.inr (Nat.le_trans (Nat.le_trans (Nat.le_of_eq hN.symm) hS.1) e)) (fun v9 H locs hB9 hz9 hk9 hS => ?_)
            obtain ⟨rfl, hwx, hwz, hwu⟩ := hB9
            replace hk := va_at.kept hk (hk9 _ (at_lt hk) (Nat.not_le.mpr (at_lt hk)))
            replace htp := va_at.kept htp (hk9 _ (at_lt htp) (Nat.not_le.mpr (at_lt htp)))
            refine vq_athrow hx hb dX3_one_174 ?_
            obtain ⟨fw, hwx⟩ := hwx
            exact t_outA htab hlocks hK hwx ⟨1, p0, by decide, by decide, yOne_else hp (fun e => hc300 (cst_1.mp e)) (nmO_no (by omega)) (fun e => hc40 ((cst_sg (by decide)).mp e)) (fun e => hc45 ((cst_sg (by decide)).mp e)) (fun e => hc209 (cst_if.mp e)), fw, hwx⟩ hS (by omega) (by omega)
          refine lv_aload_n hx hb dX3_one_150 rfl (lv_at hl 0 rfl) ?_
          have hl45 : lxT tp t p0 = 45 := (cst_sg (by decide)).mpr hc45
          have hgt := lxQ_gt (tp := tp) (t := t) (p0 := p0) (fun e => by have := cst_0.mp e; omega)
          refine W_own (fun zw1 zw2 => ?_)
          have hNN := hS.1
          refine t_call (vq_runV (As := []) (rest := []) ⟨hx, hb, hml, hown, hts⟩ (met_X3_opens l G κ z tp Xb r ta t p0 o kd _  hXb ht hp hra hz (Nat.le_trans hzN (Nat.le_trans (Nat.le_of_eq hN.symm) hS.1)) hst (by omega)) (cv_X3_X3_opens hts ⟨by dsimp only [rmG]; omega, by dsimp only [rmG]; omega⟩) (cT.preV hK hZ (xS_mono hS hAZ) ⟨⟨_, hnum, hk, htp⟩, rfl⟩ (a_recv (ci := 3) hK hk rfl)) rfl rfl hl.1 rfl (lv_room (Nat.le_of_ble_eq_true rfl)) dX3_one_151 ⟨by dsimp only [rmG]; omega, by dsimp only [rmG]; omega⟩) hS (fun q hq e => Or.inl (e.resolve_right (Nat.not_le.mpr hq))) (fun q e => e.elim Or.inl (fun e => Or.inr (Nat.le_trans (Nat.le_trans (Nat.le_of_eq hN.symm) hS.1) e))) (fun q9 ce9 H locs hX9 hz9 hk9 hS hc9 hv9 hl9 => ?_) (fun v9 H locs hB9 hz9 hk9 hS => ?_)
          · obtain ⟨hX1, hxw⟩ := hX9
            exact t_out htab hlocks hc9 hv9 hl9 ⟨3, p0, by decide, by decide, (by have h9 := yOne_deep (so := kd) (x := 2) hp (Or.inr (Or.inl ⟨hl45, rfl⟩)); rw [← hX1] at h9; exact h9), hxw⟩ hS (by omega) (by omega)
          obtain ⟨rfl, ho8, ⟨num9, hnum, hk, htp⟩, hszO, husO⟩ := hB9
          have hcb := cst_b tp t (lxQ tp t p0)
          have hltO : lxQ tp t p0 ≤ t := lxQ_le hp
          obtain ⟨d1, hd1⟩ : ∃ d1, d = d1 + 1 := ⟨d - 1, by omega⟩
          refine W_own (fun zt1 zt2 => ?_)
          obtain ⟨cO1, hcO1, hdO1⟩ : ∃ c9 : Nat, H.size ≤ s.heap.size + c9 ∧ c9 + 16 * p0 + 16 ≤ 16 * (lxQ tp t p0) := ⟨16 * (lxQ tp t p0) - 16 * p0 - 16, by omega, by omega⟩
          obtain ⟨sO1, hsO1, htO1⟩ : ∃ s9 : Nat, hU H ≤ hU s.heap + s9 ∧ s9 + 160 * p0 + 160 ≤ 160 * (lxQ tp t p0) := ⟨160 * (lxQ tp t p0) - 160 * p0 - 160, by omega, by omega⟩
          refine W_tight (k := cO1) (n := sO1) hcO1 hsO1 ?_
          refine p_new (own := RX3) (C := RX14) (T := TX14) (N := 1) (ci := 14) (fs := [.null]) hx hb hts in_X14 tyX14 tyX14_ok hown (hts _ q738) (hts _ q739) (hts _ q125) hK rfl (by decide +kernel) (by dsimp only [rmG]; omega) (by dsimp only [rmG]; omega) dX3_one_154 (fun q_2 H hq_2 eq_2 zq_2 oq_2 => ?_)
          have lr_q_2 : r < q_2 := by have := at_lt hk; omega
          have lta_q_2 : ta < q_2 := by have := at_lt htp; omega
          replace hk := va_at.kept hk (oq_2 _ (at_lt hk))
          replace htp := va_at.kept htp (oq_2 _ (at_lt htp))
          replace hS := xS_new hS (by omega) oq_2
          refine lv_dup hx hb dX3_one_157 rfl ?_
          refine lv_aload_n hx hb dX3_one_158 rfl (lv_at hl 0 rfl) ?_
          refine W_own (fun zt1 zt2 => ?_)
          obtain ⟨cT9, hcT9, hdT9⟩ : ∃ c9 : Nat, H.size ≤ s.heap.size + c9 ∧ c9 + 16 * p0 + 15 ≤ 16 * (lxQ tp t p0) := ⟨16 * (lxQ tp t p0) - 16 * p0 - 15, by omega, by omega⟩
          obtain ⟨sT9, hsT9, htT9⟩ : ∃ s9 : Nat, hU H ≤ hU s.heap + s9 ∧ s9 + 160 * p0 + 159 ≤ 160 * (lxQ tp t p0) := ⟨160 * (lxQ tp t p0) - 160 * p0 - 159, by omega, by omega⟩
          refine W_tight (k := cT9) (n := sT9) hcT9 hsT9 ?_
          have hNN := hS.1
          obtain ⟨NA, hNA⟩ : ∃ m9 : Nat, (hpOf hS).size = m9 := ⟨_, rfl⟩
          dsimp only [hpOf] at hNA
          obtain ⟨nA, hnA⟩ := Nat.le.dest hltO
          refine W_own (fun zw1 zw2 => ?_)
          have hNN := hS.1
          refine t_call (vq_runV (As := []) (rest := [.ref q_2, .ref q_2]) ⟨hx, hb, hml, hown, hts⟩ ((iho d1 hd1) (lxQ tp t p0) NA nA hnA (Nat.le_trans hzN (Nat.le_trans (Nat.le_of_eq hN.symm) (Nat.le_trans hS.1 (Nat.le_of_eq hNA))))) (cv_X3_X3_one hts ⟨by dsimp only [rmG]; omega, by dsimp only [rmG]; omega⟩) (cT.preV hK hZ (xS_mono hS hAZ) ⟨⟨_, hnum, hk, htp⟩, hNA⟩ (a_recv (ci := 3) hK hk rfl)) rfl rfl hl.1 rfl (lv_room (Nat.le_of_ble_eq_true rfl)) dX3_one_159 ⟨by dsimp only [rmG]; omega, by dsimp only [rmG]; omega⟩) hS (fun q hq e => Or.inl (e.resolve_right (Nat.not_le.mpr (Nat.lt_of_lt_of_le hq (Nat.le_of_eq hNA))))) (fun q e => e.elim Or.inl (fun e => Or.inr (Nat.le_trans (Nat.le_trans (Nat.le_of_eq hN.symm) (Nat.le_trans hS.1 (Nat.le_of_eq hNA))) e))) (fun q9 ce9 H locs hX9 hz9 hk9 hS hc9 hv9 hl9 => ?_) (fun v9 H locs hB9 hz9 hk9 hS => ?_)
          · obtain ⟨f9, p9, hf0, hf6, hP9, hxw⟩ := hX9
            exact t_out htab hlocks hc9 hv9 hl9 ⟨f9, p9, hf0, hf6, yOne_minusE hf0 hl45 (by omega) hP9, hxw⟩ hS (by omega) (by omega)
          obtain ⟨xA, LA, qA, rfl, hPA, hqA, ⟨num9, hnum, hk, htp⟩, haA, hszA, husA⟩ := hB9
          replace hq_2 := va_at.kept hq_2 (hk9 _ (at_lt hq_2) (by have := at_lt hq_2; omega))
          have hcb := cst_b tp t qA
          obtain ⟨MA, hMA⟩ : ∃ m9 : Nat, (hpOf hS).size = m9 := ⟨_, rfl⟩
          dsimp only [hpOf] at hMA
          rw [hMA] at haA
          have hrN := at_lt hk
          have hNN := hS.1
          refine t_callR (va_runIN (As := [.ref xA]) (rest := [.ref q_2]) ⟨hx, hb, hml, hown, hts⟩ (met_X14_init l G κ z q_2 xA (by omega)) ⟨cn_X3_X14_init hts hK ⟨by dsimp only [rmG]; omega, by dsimp only [rmG]; omega⟩, rfl, hts _ q741⟩ (cT.pre hK hZ (xS_mono hS hAZ) hq_2) rfl rfl hl.1 rfl (lv_room (Nat.le_of_ble_eq_true rfl)) dX3_one_162 ⟨by dsimp only [rmG]; omega, by dsimp only [rmG]; omega⟩) hS (fun q hq e => Or.inr (by have e : @Eq Nat q q_2 := e; omega)) (fun q e => Or.inr (by have e : @Eq Nat q q_2 := e; omega)) (fun v9 H locs hB9 hz9 hk9 hS => ?_)
          obtain ⟨rfl, hq_2, hsv, huv⟩ := hB9
          replace hk := va_at.kept hk (hk9 _ (at_lt hk) (by omega))
          replace htp := va_at.kept htp (hk9 _ (at_lt htp) (by omega))
          replace haA := gF haA (fun q h1 h2 => hk9 q (by omega) (by omega))
          refine W_own (fun zt1 zt2 => ?_)
          obtain ⟨cE1, hcE1, hdE1⟩ : ∃ c9 : Nat, H.size ≤ s.heap.size + c9 ∧ c9 + 16 * p0 + 6 ≤ 16 * qA := ⟨16 * qA - 16 * p0 - 6, by omega, by omega⟩
          obtain ⟨sE1, hsE1, htE1⟩ : ∃ s9 : Nat, hU H ≤ hU s.heap + s9 ∧ s9 + 160 * p0 + 18 ≤ 160 * qA := ⟨160 * qA - 160 * p0 - 18, by omega, by omega⟩
          refine W_tight (k := cE1) (n := sE1) hcE1 hsE1 ?_
          refine lv_astore_n (lv' := [(1, .ref q_2), (0, .ref r)]) hx hb dX3_one_165 rfl hl (by decide) rfl (fun ls hl => ?_)
          refine lv_goto (tgt := 175) hx hb dX3_one_166 (by decide) ?_
          refine lv_aload_n hx hb dX3_one_175 rfl (lv_at hl 1 rfl) ?_
          refine lv_dup hx hb dX3_one_176 rfl ?_
          refine a_get (own := RX3) (C := RX3) (T := TX3) (N := 8) (ci := 3) hx hb hts in_X3 hown hK hk rfl 6 (by decide) (hts _ q303) (fun _ h9 => h9) rfl dX3_one_177 ?_
          refine lv_iconst (v := nI 1) hx hb dX3_one_180 (by decide) ?_
          refine n_isub hx hb (by omega) dX3_one_181 ?_
          rw [show o + 1 - 1 = o by omega]
          refine p_put (own := RX3) (C := RX3) (T := TX3) (N := 8) (ci := 3) (a := r) (fs := [.ref ta, .int (nI t), .int (nI (lxQ tp t qA)), .int (nI (lxS tp t qA)), .int (nI (cst tp t qA)), .int num9, .int (nI (o + 1)), .int (nI kd)]) (ty := tyX3 6) (v := .int (nI o)) hx hb hts in_X3 tyX3 tyX3_ok nmX3 hown hK hk rfl 6 (by decide) (hts _ q303) (fun _ h9 => h9) rfl (tyX3_ok 6 (by decide)) rfl rfl (Nat.le_of_ble_eq_true rfl) dX3_one_182 (fun H locs hk hz9 ho9 hl9 => ?_)
          replace hk : va_at (gD G) g_cl (r, .inr (3, [.ref ta, .int (nI t), .int (nI (lxQ tp t qA)), .int (nI (lxS tp t qA)), .int (nI (cst tp t qA)), .int num9, .int (nI o), .int (nI kd)])) H := hk
          replace htp := va_at.kept htp (ho9 _ (Ne.symm hra))
          replace hq_2 := va_at.kept hq_2 (ho9 _ (by omega))
          replace haA := gF haA (fun q h1 h2 => ho9 q (by omega))
          replace hS := xS_put hS (Or.inl rfl) hz9 ho9 hl9
          refine lv_aload_n hx hb dX3_one_185 rfl (lv_at hl 0 rfl) ?_
          have haF : aS G (gO z N0 H.size) H (6 * d + 1) true q_2 _ := mkMinus hq_2 (by omega) (gU haA (by omega) (by omega) (by omega))
          refine W_own (fun z1 z2 => ?_)
          refine vq_ret ?_
          refine W.widen (k := 16 * n + 8) (n := 160 * n + 64) (by omega) (by omega) ?_
          exact t_aret hx hb hr (Or.inl ⟨_, rfl⟩) (Or.inr ⟨_, rfl⟩) hlocks ⟨_, _, qA, rfl, yOne_minus hl45 (by omega) hPA, ⟨by omega, hqA.2⟩, ⟨_, hnum, hk, htp⟩, haF, by omega, by omega⟩ hS dX3_one_186
        refine lv_aload_n hx hb dX3_one_123 rfl (lv_at hl 0 rfl) ?_
        have hl40 : lxT tp t p0 = 40 := (cst_sg (by decide)).mpr hc40
        have hgt := lxQ_gt (tp := tp) (t := t) (p0 := p0) (fun e => by have := cst_0.mp e; omega)
        refine W_own (fun zw1 zw2 => ?_)
        have hNN := hS.1
        refine t_call (vq_runV (As := []) (rest := []) ⟨hx, hb, hml, hown, hts⟩ (met_X3_opens l G κ z tp Xb r ta t p0 o kd _  hXb ht hp hra hz (Nat.le_trans hzN (Nat.le_trans (Nat.le_of_eq hN.symm) hS.1)) hst (by omega)) (cv_X3_X3_opens hts ⟨by dsimp only [rmG]; omega, by dsimp only [rmG]; omega⟩) (cT.preV hK hZ (xS_mono hS hAZ) ⟨⟨_, hnum, hk, htp⟩, rfl⟩ (a_recv (ci := 3) hK hk rfl)) rfl rfl hl.1 rfl (lv_room (Nat.le_of_ble_eq_true rfl)) dX3_one_124 ⟨by dsimp only [rmG]; omega, by dsimp only [rmG]; omega⟩) hS (fun q hq e => Or.inl (e.resolve_right (Nat.not_le.mpr hq))) (fun q e => e.elim Or.inl (fun e => Or.inr (Nat.le_trans (Nat.le_trans (Nat.le_of_eq hN.symm) hS.1) e))) (fun q9 ce9 H locs hX9 hz9 hk9 hS hc9 hv9 hl9 => ?_) (fun v9 H locs hB9 hz9 hk9 hS => ?_)
        · obtain ⟨hX1, hxw⟩ := hX9
          exact t_out htab hlocks hc9 hv9 hl9 ⟨3, p0, by decide, by decide, (by have h9 := yOne_deep (so := kd) (x := 40) hp (Or.inl ⟨hl40, rfl⟩); rw [← hX1] at h9; exact h9), hxw⟩ hS (by omega) (by omega)
        obtain ⟨rfl, ho8, ⟨num9, hnum, hk, htp⟩, hszO, husO⟩ := hB9
        have hcb := cst_b tp t (lxQ tp t p0)
        have hltO : lxQ tp t p0 ≤ t := lxQ_le hp
        obtain ⟨d1, hd1⟩ : ∃ d1, d = d1 + 1 := ⟨d - 1, by omega⟩
        refine W_own (fun zt1 zt2 => ?_)
        obtain ⟨cO1, hcO1, hdO1⟩ : ∃ c9 : Nat, H.size ≤ s.heap.size + c9 ∧ c9 + 16 * p0 + 16 ≤ 16 * (lxQ tp t p0) := ⟨16 * (lxQ tp t p0) - 16 * p0 - 16, by omega, by omega⟩
        obtain ⟨sO1, hsO1, htO1⟩ : ∃ s9 : Nat, hU H ≤ hU s.heap + s9 ∧ s9 + 160 * p0 + 160 ≤ 160 * (lxQ tp t p0) := ⟨160 * (lxQ tp t p0) - 160 * p0 - 160, by omega, by omega⟩
        refine W_tight (k := cO1) (n := sO1) hcO1 hsO1 ?_
        refine lv_aload_n hx hb dX3_one_127 rfl (lv_at hl 0 rfl) ?_
        have hNN := hS.1
        obtain ⟨NA, hNA⟩ : ∃ m9 : Nat, (hpOf hS).size = m9 := ⟨_, rfl⟩
        dsimp only [hpOf] at hNA
        obtain ⟨nA, hnA⟩ := Nat.le.dest hltO
        refine W_own (fun zw1 zw2 => ?_)
        have hNN := hS.1
        refine t_call (vq_runV (As := []) (rest := []) ⟨hx, hb, hml, hown, hts⟩ ((ihs d1 hd1) (lxQ tp t p0) NA nA hnA (Nat.le_trans hzN (Nat.le_trans (Nat.le_of_eq hN.symm) (Nat.le_trans hS.1 (Nat.le_of_eq hNA))))) (cv_X3_X3_sum hts ⟨by dsimp only [rmG]; omega, by dsimp only [rmG]; omega⟩) (cT.preV hK hZ (xS_mono hS hAZ) ⟨⟨_, hnum, hk, htp⟩, hNA⟩ (a_recv (ci := 3) hK hk rfl)) rfl rfl hl.1 rfl (lv_room (Nat.le_of_ble_eq_true rfl)) dX3_one_128 ⟨by dsimp only [rmG]; omega, by dsimp only [rmG]; omega⟩) hS (fun q hq e => Or.inl (e.resolve_right (Nat.not_le.mpr (Nat.lt_of_lt_of_le hq (Nat.le_of_eq hNA))))) (fun q e => e.elim Or.inl (fun e => Or.inr (Nat.le_trans (Nat.le_trans (Nat.le_of_eq hN.symm) (Nat.le_trans hS.1 (Nat.le_of_eq hNA))) e))) (fun q9 ce9 H locs hX9 hz9 hk9 hS hc9 hv9 hl9 => ?_) (fun v9 H locs hB9 hz9 hk9 hS => ?_)
        · obtain ⟨f9, p9, hf0, hf6, hP9, hxw⟩ := hX9
          exact t_out htab hlocks hc9 hv9 hl9 ⟨f9, p9, hf0, hf6, yOne_parE hf0 hl40 (by omega) ht hP9.1, hxw⟩ hS (by omega) (by omega)
        obtain ⟨xA, LA, qA, rfl, hPA, hqA, ⟨num9, hnum, hk, htp⟩, haA, hszA, husA⟩ := hB9
        have hcb := cst_b tp t qA
        obtain ⟨MA, hMA⟩ : ∃ m9 : Nat, (hpOf hS).size = m9 := ⟨_, rfl⟩
        dsimp only [hpOf] at hMA
        rw [hMA] at haA
        have hrN := at_lt hk
        refine W_own (fun zt1 zt2 => ?_)
        obtain ⟨cA1, hcA1, hdA1⟩ : ∃ c9 : Nat, H.size ≤ s.heap.size + c9 ∧ c9 + 16 * p0 + 16 ≤ 16 * qA := ⟨16 * qA - 16 * p0 - 16, by omega, by omega⟩
        obtain ⟨sA1, hsA1, htA1⟩ : ∃ s9 : Nat, hU H ≤ hU s.heap + s9 ∧ s9 + 160 * p0 + 160 ≤ 160 * qA := ⟨160 * qA - 160 * p0 - 160, by omega, by omega⟩
        refine W_tight (k := cA1) (n := sA1) hcA1 hsA1 ?_
        refine lv_astore_n (lv' := [(1, .ref xA), (0, .ref r)]) hx hb dX3_one_131 rfl hl (by decide) rfl (fun ls hl => ?_)
        refine lv_aload_n hx hb dX3_one_132 rfl (lv_at hl 1 rfl) ?_
        refine lv_bipush (v := nI 41) hx hb dX3_one_133 (by decide) ?_
        refine W_own (fun zw1 zw2 => ?_)
        have hNN := hS.1
        refine t_call (vq_runV (As := [.int (nI 41)]) (rest := []) ⟨hx, hb, hml, hown, hts⟩ (met_X3_want l G κ z tp Xb r ta t qA (o + 1) kd _ 41 hXb ht hqA.2 hra hz (Nat.le_trans hzN (Nat.le_trans (Nat.le_of_eq hN.symm) hS.1)) hst (by decide)) (cv_X3_X3_want hts ⟨by dsimp only [rmG]; omega, by dsimp only [rmG]; omega⟩) (cT.preV hK hZ (xS_mono hS hAZ) ⟨⟨_, hnum, hk, htp⟩, rfl⟩ (a_recv (ci := 3) hK hk rfl)) rfl rfl hl.1 rfl (lv_room (Nat.le_of_ble_eq_true rfl)) dX3_one_135 ⟨by dsimp only [rmG]; omega, by dsimp only [rmG]; omega⟩) hS (fun q hq e => Or.inl (e.resolve_right (Nat.not_le.mpr hq))) (fun q e => e.elim Or.inl (fun e => Or.inr (Nat.le_trans (Nat.le_trans (Nat.le_of_eq hN.symm) hS.1) e))) (fun q9 ce9 H locs hX9 hz9 hk9 hS hc9 hv9 hl9 => ?_) (fun v9 H locs hB9 hz9 hk9 hS => ?_)
        · obtain ⟨hX1, hxw⟩ := hX9
          exact t_out htab hlocks hc9 hv9 hl9 ⟨1, qA, by decide, by decide, (yOne_par1 hl40 (by omega) ht hPA.1 (hPA.2 rfl) (fun e => hX1 ((cst_sg (by decide)).mp e))), hxw⟩ hS (by omega) (by omega)
        obtain ⟨rfl, hcW, ⟨num9, hnum, hk, htp⟩, hszW, husW⟩ := hB9
        replace haA := gF haA (fun q h1 h2 => hk9 q (by omega) (by omega))
        have hcb := cst_b tp t (lxQ tp t qA)
        have hltW : lxQ tp t qA ≤ t := lxQ_le hqA.2
        have hgW := lxQ_gt (tp := tp) (t := t) (p0 := qA) (fun e => by have := cst_0.mp e; omega)
        have hY := yOne_parN hl40 (by omega) ht hPA.1 (hPA.2 rfl) ((cst_sg (by decide)).mpr hcW)
        refine W_own (fun zt1 zt2 => ?_)
        obtain ⟨cB1, hcB1, hdB1⟩ : ∃ c9 : Nat, H.size ≤ s.heap.size + c9 ∧ c9 + 16 * p0 + 16 ≤ 16 * (lxQ tp t qA) := ⟨16 * (lxQ tp t qA) - 16 * p0 - 16, by omega, by omega⟩
        obtain ⟨sB1, hsB1, htB1⟩ : ∃ s9 : Nat, hU H ≤ hU s.heap + s9 ∧ s9 + 160 * p0 + 160 ≤ 160 * (lxQ tp t qA) := ⟨160 * (lxQ tp t qA) - 160 * p0 - 160, by omega, by omega⟩
        refine W_tight (k := cB1) (n := sB1) hcB1 hsB1 ?_
        refine lv_goto (tgt := 175) hx hb dX3_one_138 (by decide) ?_
        refine lv_aload_n hx hb dX3_one_175 rfl (lv_at hl 1 rfl) ?_
        refine lv_dup hx hb dX3_one_176 rfl ?_
        refine a_get (own := RX3) (C := RX3) (T := TX3) (N := 8) (ci := 3) hx hb hts in_X3 hown hK hk rfl 6 (by decide) (hts _ q303) (fun _ h9 => h9) rfl dX3_one_177 ?_
        refine lv_iconst (v := nI 1) hx hb dX3_one_180 (by decide) ?_
        refine n_isub hx hb (by omega) dX3_one_181 ?_
        rw [show o + 1 - 1 = o by omega]
        refine p_put (own := RX3) (C := RX3) (T := TX3) (N := 8) (ci := 3) (a := r) (fs := [.ref ta, .int (nI t), .int (nI (lxQ tp t (lxQ tp t qA))), .int (nI (lxS tp t (lxQ tp t qA))), .int (nI (cst tp t (lxQ tp t qA))), .int num9, .int (nI (o + 1)), .int (nI kd)]) (ty := tyX3 6) (v := .int (nI o)) hx hb hts in_X3 tyX3 tyX3_ok nmX3 hown hK hk rfl 6 (by decide) (hts _ q303) (fun _ h9 => h9) rfl (tyX3_ok 6 (by decide)) rfl rfl (Nat.le_of_ble_eq_true rfl) dX3_one_182 (fun H locs hk hz9 ho9 hl9 => ?_)
        replace hk : va_at (gD G) g_cl (r, .inr (3, [.ref ta, .int (nI t), .int (nI (lxQ tp t (lxQ tp t qA))), .int (nI (lxS tp t (lxQ tp t qA))), .int (nI (cst tp t (lxQ tp t qA))), .int num9, .int (nI o), .int (nI kd)])) H := hk
        replace htp := va_at.kept htp (ho9 _ (Ne.symm hra))
        replace haA := gF haA (fun q h1 h2 => ho9 q (by omega))
        replace hS := xS_put hS (Or.inl rfl) hz9 ho9 hl9
        refine lv_aload_n hx hb dX3_one_185 rfl (lv_at hl 0 rfl) ?_
        have haF : aS G (gO z N0 H.size) H (6 * d + 1) true xA _ := gU haA (by omega) (by omega) (by omega)
        refine W_own (fun z1 z2 => ?_)
        refine vq_ret ?_
        refine W.widen (k := 16 * n + 8) (n := 160 * n + 64) (by omega) (by omega) ?_
        exact t_aret hx hb hr (Or.inl ⟨_, rfl⟩) (Or.inr ⟨_, rfl⟩) hlocks ⟨_, _, (lxQ tp t qA), rfl, hY, ⟨by omega, hltW⟩, ⟨_, hnum, hk, htp⟩, haF, by omega, by omega⟩ hS dX3_one_186
      refine lv_aload_n hx hb dX3_one_106 rfl (lv_at hl 0 rfl) ?_
      have hNN := hS.1
      obtain ⟨NA, hNA⟩ : ∃ m9 : Nat, (hpOf hS).size = m9 := ⟨_, rfl⟩
      dsimp only [hpOf] at hNA
      refine W_own (fun zw1 zw2 => ?_)
      have hNN := hS.1
      refine t_call (vq_runV (As := []) (rest := []) ⟨hx, hb, hml, hown, hts⟩ (hchoice p0 NA n hn0 (Nat.le_trans hzN (Nat.le_trans (Nat.le_of_eq hN.symm) (Nat.le_trans hS.1 (Nat.le_of_eq hNA)))) hc209 hod) (cv_X3_X3_choice hts ⟨by dsimp only [rmG]; omega, by dsimp only [rmG]; omega⟩) (cT.preV hK hZ (xS_mono hS hAZ) ⟨⟨_, hnum, hk, htp⟩, hNA⟩ (a_recv (ci := 3) hK hk rfl)) rfl rfl hl.1 rfl (lv_room (Nat.le_of_ble_eq_true rfl)) dX3_one_107 ⟨by dsimp only [rmG]; omega, by dsimp only [rmG]; omega⟩) hS (fun q hq e => Or.inl (e.resolve_right (Nat.not_le.mpr (Nat.lt_of_lt_of_le hq (Nat.le_of_eq hNA))))) (fun q e => e.elim Or.inl (fun e => Or.inr (Nat.le_trans (Nat.le_trans (Nat.le_of_eq hN.symm) (Nat.le_trans hS.1 (Nat.le_of_eq hNA))) e))) (fun q9 ce9 H locs hX9 hz9 hk9 hS hc9 hv9 hl9 => ?_) (fun v9 H locs hB9 hz9 hk9 hS => ?_)
      · obtain ⟨f9, p9, hf0, hf6, hP9, hxw⟩ := hX9
        exact t_out htab hlocks hc9 hv9 hl9 ⟨f9, p9, hf0, hf6, hP9, hxw⟩ hS (by omega) (by omega)
      obtain ⟨xA, LA, qA, rfl, hPA, hqA, ⟨num9, hnum, hk, htp⟩, haA, hszA, husA⟩ := hB9
      have hcb := cst_b tp t qA
      obtain ⟨MA, hMA⟩ : ∃ m9 : Nat, (hpOf hS).size = m9 := ⟨_, rfl⟩
      dsimp only [hpOf] at hMA
      rw [hMA] at haA
      have hrN := at_lt hk
      refine W_own (fun zt1 zt2 => ?_)
      obtain ⟨cA1, hcA1, hdA1⟩ : ∃ c9 : Nat, H.size ≤ s.heap.size + c9 ∧ c9 + 16 * p0 + 6 ≤ 16 * qA := ⟨16 * qA - 16 * p0 - 6, by omega, by omega⟩
      obtain ⟨sA1, hsA1, htA1⟩ : ∃ s9 : Nat, hU H ≤ hU s.heap + s9 ∧ s9 + 160 * p0 + 18 ≤ 160 * qA := ⟨160 * qA - 160 * p0 - 18, by omega, by omega⟩
      refine W_tight (k := cA1) (n := sA1) hcA1 hsA1 ?_
      refine lv_astore_n (lv' := [(1, .ref xA), (0, .ref r)]) hx hb dX3_one_110 rfl hl (by decide) rfl (fun ls hl => ?_)
      refine lv_goto (tgt := 175) hx hb dX3_one_111 (by decide) ?_
      refine lv_aload_n hx hb dX3_one_175 rfl (lv_at hl 1 rfl) ?_
      refine lv_dup hx hb dX3_one_176 rfl ?_
      refine a_get (own := RX3) (C := RX3) (T := TX3) (N := 8) (ci := 3) hx hb hts in_X3 hown hK hk rfl 6 (by decide) (hts _ q303) (fun _ h9 => h9) rfl dX3_one_177 ?_
      refine lv_iconst (v := nI 1) hx hb dX3_one_180 (by decide) ?_
      refine n_isub hx hb (by omega) dX3_one_181 ?_
      rw [show o + 1 - 1 = o by omega]
      refine p_put (own := RX3) (C := RX3) (T := TX3) (N := 8) (ci := 3) (a := r) (fs := [.ref ta, .int (nI t), .int (nI (lxQ tp t qA)), .int (nI (lxS tp t qA)), .int (nI (cst tp t qA)), .int num9, .int (nI (o + 1)), .int (nI kd)]) (ty := tyX3 6) (v := .int (nI o)) hx hb hts in_X3 tyX3 tyX3_ok nmX3 hown hK hk rfl 6 (by decide) (hts _ q303) (fun _ h9 => h9) rfl (tyX3_ok 6 (by decide)) rfl rfl (Nat.le_of_ble_eq_true rfl) dX3_one_182 (fun H locs hk hz9 ho9 hl9 => ?_)
      replace hk : va_at (gD G) g_cl (r, .inr (3, [.ref ta, .int (nI t), .int (nI (lxQ tp t qA)), .int (nI (lxS tp t qA)), .int (nI (cst tp t qA)), .int num9, .int (nI o), .int (nI kd)])) H := hk
      replace htp := va_at.kept htp (ho9 _ (Ne.symm hra))
      replace haA := gF haA (fun q h1 h2 => ho9 q (by omega))
      replace hS := xS_put hS (Or.inl rfl) hz9 ho9 hl9
      refine lv_aload_n hx hb dX3_one_185 rfl (lv_at hl 0 rfl) ?_
      have haF : aS G (gO z N0 H.size) H (6 * d + 1) true xA _ := gU haA (by omega) (by omega) (by omega)
      refine W_own (fun z1 z2 => ?_)
      refine vq_ret ?_
      refine W.widen (k := 16 * n + 8) (n := 160 * n + 64) (by omega) (by omega) ?_
      exact t_aret hx hb hr (Or.inl ⟨_, rfl⟩) (Or.inr ⟨_, rfl⟩) hlocks ⟨_, _, qA, rfl, hPA, hqA, ⟨_, hnum, hk, htp⟩, haF, by omega, by omega⟩ hS dX3_one_186
    refine va_gets (v := .ref (κ.2.2.2 1)) hx hb hZ.2.2.2.2.1.1 (xS_mono hS hAZ) hown (hts _ q632) (fun _ h9 => h9) dX3_one_46 ?_
    refine lv_aload_n hx hb dX3_one_49 rfl (lv_at hl 0 rfl) ?_
    refine a_get (own := RX3) (C := RX3) (T := TX3) (N := 8) (ci := 3) hx hb hts in_X3 hown hK hk rfl 7 (by decide) (hts _ q304) (fun _ h9 => h9) rfl dX3_one_50 ?_
    refine va_ti (v := .int (mayV kd)) hx hb hZ.2.2.2.2.1.2 (xS_mono hS hAZ) (vp_in_nI hkd (by decide)) (by rw [nI_clamp (show kd < 2 ^ 31 by omega)]) dX3_one_53 ?_
    refine lv_aload_n hx hb dX3_one_54 rfl (lv_at hl 0 rfl) ?_
    refine a_get (own := RX3) (C := RX3) (T := TX3) (N := 8) (ci := 3) hx hb hts in_X3 hown hK hk rfl 4 (by decide) (hts _ q301) (fun _ h9 => h9) rfl dX3_one_55 ?_
    refine lv_sipush (v := nI 214) hx hb dX3_one_58 (by decide) ?_
    refine n_isub hx hb (by omega) dX3_one_61 ?_
    refine lv_ishr hx hb dX3_one_62 ?_
    refine lv_iconst (v := nI 1) hx hb dX3_one_63 (by decide) ?_
    refine lv_iand hx hb dX3_one_64 ?_
    have hmay := may_ok kd hkd (cst tp t p0 - 214) (by omega)
    refine lv_if_ne (tgt := 74) hx hb dX3_one_65 (by decide) (fun hmy => ?_) (fun hmy => ?_)
    · have hyes : isO kd (cst tp t p0 - 214) := Classical.byContradiction (fun h9 => hmy (hmay.mpr h9))
      refine p_new (own := RX3) (C := RX9) (T := TX9) (N := 1) (ci := 9) (fs := [.int (nI 0)]) hx hb hts in_X9 tyX9 tyX9_ok hown (hts _ q634) (hts _ q635) (hts _ q119) hK rfl (by decide +kernel) (by dsimp only [rmG]; omega) (by dsimp only [rmG]; omega) dX3_one_74 (fun q_3 H hq_3 eq_3 zq_3 oq_3 => ?_)
      have lr_q_3 : r < q_3 := by have := at_lt hk; omega
      have lta_q_3 : ta < q_3 := by have := at_lt htp; omega
      replace hk := va_at.kept hk (oq_3 _ (at_lt hk))
      replace htp := va_at.kept htp (oq_3 _ (at_lt htp))
      replace hS := xS_new hS (by omega) oq_3
      refine lv_dup hx hb dX3_one_77 rfl ?_
      refine lv_aload_n hx hb dX3_one_78 rfl (lv_at hl 0 rfl) ?_
      refine a_get (own := RX3) (C := RX3) (T := TX3) (N := 8) (ci := 3) hx hb hts in_X3 hown hK hk rfl 4 (by decide) (hts _ q301) (fun _ h9 => h9) rfl dX3_one_79 ?_
      refine lv_sipush (v := nI 214) hx hb dX3_one_82 (by decide) ?_
      refine n_isub hx hb (by omega) dX3_one_85 ?_
      have hNN := hS.1
      refine t_callR (va_runIN (As := [.int (nI ((cst tp t p0) - 214))]) (rest := [.ref q_3]) ⟨hx, hb, hml, hown, hts⟩ (met_X9_init l G κ z q_3 (nI ((cst tp t p0) - 214)) (by omega)) ⟨cn_X3_X9_init hts hK ⟨by dsimp only [rmG]; omega, by dsimp only [rmG]; omega⟩, rfl, hts _ q637⟩ (cT.pre hK hZ (xS_mono hS hAZ) hq_3) rfl rfl hl.1 rfl (lv_room (Nat.le_of_ble_eq_true rfl)) dX3_one_86 ⟨by dsimp only [rmG]; omega, by dsimp only [rmG]; omega⟩) hS (fun q hq e => Or.inr (by have e : @Eq Nat q q_3 := e; omega)) (fun q e => Or.inr (by have e : @Eq Nat q q_3 := e; omega)) (fun v9 H locs hB9 hz9 hk9 hS => ?_)
      obtain ⟨rfl, hq_3, hsv, huv⟩ := hB9
      replace hk := va_at.kept hk (hk9 _ (at_lt hk) (by omega))
      replace htp := va_at.kept htp (hk9 _ (at_lt htp) (by omega))
      refine lv_astore_n (lv' := [(1, .ref q_3), (0, .ref r)]) hx hb dX3_one_89 rfl hl (by decide) rfl (fun ls hl => ?_)
      refine lv_aload_n hx hb dX3_one_90 rfl (lv_at hl 1 rfl) ?_
      refine t_callR (va_runV (As := []) (rest := []) ⟨hx, hb, hml, hown, hts⟩ (met_X3_next l G κ z tp Xb r ta t (lxQ tp t p0) (nI (lxS tp t p0)) (nI (cst tp t p0)) num (nI o) (nI kd) hXb ht (lxQ_le hp) hra hz) (cv_X3_X3_next hts ⟨by dsimp only [rmG]; omega, by dsimp only [rmG]; omega⟩) (cT.preV hK hZ (xS_mono hS hAZ) ⟨hk, htp⟩ (a_recv (ci := 3) hK hk rfl)) rfl rfl hl.1 rfl (lv_room (Nat.le_of_ble_eq_true rfl)) dX3_one_91 ⟨by dsimp only [rmG]; omega, by dsimp only [rmG]; omega⟩) hS (fun q hq e => Or.inl e) (fun q e => Or.inl e) (fun v9 H locs hB9 hz9 hk9 hS => ?_)
      obtain ⟨rfl, num9, hnum, hk, htp⟩ := hB9
      replace hq_3 := va_at.kept hq_3 (hk9 _ (at_lt hq_3) (by omega))
      refine lv_aload_n hx hb dX3_one_94 rfl (lv_at hl 0 rfl) ?_
      have hgt := lxQ_gt (tp := tp) (t := t) (p0 := p0) (fun e => by have := cst_0.mp e; omega)
      have haF : aS G (gO z N0 H.size) H (6 * d + 1) true q_3 _ := mkName hq_3 (by omega) (by omega)
      refine W_own (fun z1 z2 => ?_)
      refine vq_ret ?_
      refine W.widen (k := 16 * n + 8) (n := 160 * n + 64) (by omega) (by omega) ?_
      exact t_aret hx hb hr (Or.inl ⟨_, rfl⟩) (Or.inr ⟨_, rfl⟩) hlocks ⟨_, _, (lxQ tp t p0), rfl, yOne_nm hp (nmO_yes (by omega) (by omega)) (by omega) hyes, ⟨hgt, lxQ_le hp⟩, ⟨_, hnum, hk, htp⟩, haF, by omega, by omega⟩ hS dX3_one_95
    have hno := hmay.mp hmy
    refine lv_aload_n hx hb dX3_one_68 rfl (lv_at hl 0 rfl) ?_
    refine lv_iconst (v := nI 5) hx hb dX3_one_69 (by decide) ?_
    refine t_callR (va_runV (As := [.int (nI 5)]) (rest := []) ⟨hx, hb, hml, hown, hts⟩ (met_X3_wrong l G κ z Xb r ta t _ (nI 5) (nI (lxQ tp t p0)) (nI (lxS tp t p0)) (nI (cst tp t p0)) num (nI o) (nI kd) (Nat.le_trans hzN (Nat.le_trans (Nat.le_of_eq hN.symm) hS.1)) hst) (cv_X3_X3_wrong hts ⟨by dsimp only [rmG]; omega, by dsimp only [rmG]; omega⟩) (cT.preV hK hZ (xS_mono hS hAZ) ⟨⟨hk, htp⟩, rfl⟩ (a_recv (ci := 3) hK hk rfl)) rfl rfl hl.1 rfl (lv_room (Nat.le_of_ble_eq_true rfl)) dX3_one_70 ⟨by dsimp only [rmG]; omega, by dsimp only [rmG]; omega⟩) hS (fun q hq e => absurd hq (Nat.not_lt.mpr e)) (fun q e => Or.inr (Nat.le_trans (Nat.le_trans (Nat.le_of_eq hN.symm) hS.1) e)) (fun v9 H locs hB9 hz9 hk9 hS => ?_)
    obtain ⟨rfl, hwx, hwz, hwu⟩ := hB9
    replace hk := va_at.kept hk (hk9 _ (at_lt hk) (Nat.not_le.mpr (at_lt hk)))
    replace htp := va_at.kept htp (hk9 _ (at_lt htp) (Nat.not_le.mpr (at_lt htp)))
    refine vq_athrow hx hb dX3_one_73 ?_
    obtain ⟨fw, hwx⟩ := hwx
    exact t_outA htab hlocks hK hwx ⟨5, p0, by decide, by decide, yOne_nm5 hp (nmO_yes (by omega) (by omega)) hno, fw, hwx⟩ hS (by omega) (by omega)
  refine p_new (own := RX3) (C := RX8) (T := TX8) (N := 1) (ci := 8) (fs := [.int (nI 0)]) hx hb hts in_X8 tyX8 tyX8_ok hown (hts _ q622) (hts _ q623) (hts _ q118) hK rfl (by decide +kernel) (by dsimp only [rmG]; omega) (by dsimp only [rmG]; omega) dX3_one_10 (fun q_4 H hq_4 eq_4 zq_4 oq_4 => ?_)
  have lr_q_4 : r < q_4 := by have := at_lt hk; omega
  have lta_q_4 : ta < q_4 := by have := at_lt htp; omega
  replace hk := va_at.kept hk (oq_4 _ (at_lt hk))
  replace htp := va_at.kept htp (oq_4 _ (at_lt htp))
  replace hS := xS_new hS (by omega) oq_4
  refine lv_dup hx hb dX3_one_13 rfl ?_
  refine lv_aload_n hx hb dX3_one_14 rfl (lv_at hl 0 rfl) ?_
  refine lv_iconst (v := nI 0) hx hb dX3_one_15 (by decide) ?_
  refine lv_sipush (v := nI 9999) hx hb dX3_one_16 (by decide) ?_
  refine W_own (fun zw1 zw2 => ?_)
  have hNN := hS.1
  refine t_call (vq_runV (As := [.int (nI 0), .int (nI 9999)]) (rest := [.ref q_4, .ref q_4]) ⟨hx, hb, hml, hown, hts⟩ (met_X3_number l G κ z tp Xb r ta t p0 o kd _ 0 9999 hXb ht hp hra hz (Nat.le_trans hzN (Nat.le_trans (Nat.le_of_eq hN.symm) hS.1)) hst (Nat.zero_le _) (by decide)) (cv_X3_X3_number hts ⟨by dsimp only [rmG]; omega, by dsimp only [rmG]; omega⟩) (cT.preV hK hZ (xS_mono hS hAZ) ⟨⟨_, hnum, hk, htp⟩, rfl⟩ (a_recv (ci := 3) hK hk rfl)) rfl rfl hl.1 rfl (lv_room (Nat.le_of_ble_eq_true rfl)) dX3_one_19 ⟨by dsimp only [rmG]; omega, by dsimp only [rmG]; omega⟩) hS (fun q hq e => Or.inl (e.resolve_right (Nat.not_le.mpr hq))) (fun q e => e.elim Or.inl (fun e => Or.inr (Nat.le_trans (Nat.le_trans (Nat.le_of_eq hN.symm) hS.1) e))) (fun q9 ce9 H locs hX9 hz9 hk9 hS hc9 hv9 hl9 => ?_) (fun v9 H locs hB9 hz9 hk9 hS => ?_)
  · rcases hX9 with ⟨hX1, hxw⟩ | ⟨hX1, hX2, hxw⟩
    · exact absurd (cst_1.mpr hc300) hX1
    · exact t_out htab hlocks hc9 hv9 hl9 ⟨2, p0, by decide, by decide, (yOne_num2 hp hX1 (by omega)), hxw⟩ hS (by omega) (by omega)
  obtain ⟨rfl, hT1, hlohi, ⟨num9, hnum, hk, htp⟩, hszN, husN⟩ := hB9
  replace hq_4 := va_at.kept hq_4 (hk9 _ (at_lt hq_4) (by have := at_lt hq_4; omega))
  have hcb := cst_b tp t (lxQ tp t p0)
  have hltN : lxQ tp t p0 ≤ t := lxQ_le hp
  have hgt := lxQ_gt (tp := tp) (t := t) (p0 := p0) (fun e => by have := cst_0.mp e; omega)
  have hNN := hS.1
  refine t_callR (va_runIN (As := [.int (nI (lxN tp t p0))]) (rest := [.ref q_4]) ⟨hx, hb, hml, hown, hts⟩ (met_X8_init l G κ z q_4 (nI (lxN tp t p0)) (by omega)) ⟨cn_X3_X8_init hts hK ⟨by dsimp only [rmG]; omega, by dsimp only [rmG]; omega⟩, rfl, hts _ q625⟩ (cT.pre hK hZ (xS_mono hS hAZ) hq_4) rfl rfl hl.1 rfl (lv_room (Nat.le_of_ble_eq_true rfl)) dX3_one_22 ⟨by dsimp only [rmG]; omega, by dsimp only [rmG]; omega⟩) hS (fun q hq e => Or.inr (by have e : @Eq Nat q q_4 := e; omega)) (fun q e => Or.inr (by have e : @Eq Nat q q_4 := e; omega)) (fun v9 H locs hB9 hz9 hk9 hS => ?_)
  obtain ⟨rfl, hq_4, hsv, huv⟩ := hB9
  replace hk := va_at.kept hk (hk9 _ (at_lt hk) (by omega))
  replace htp := va_at.kept htp (hk9 _ (at_lt htp) (by omega))
  have haF : aS G (gO z N0 H.size) H (6 * d + 1) true q_4 _ := mkPlain hq_4 (by omega)
  refine W_own (fun z1 z2 => ?_)
  refine vq_ret ?_
  refine W.widen (k := 16 * n + 8) (n := 160 * n + 64) (by omega) (by omega) ?_
  exact t_aret hx hb hr (Or.inl ⟨_, rfl⟩) (Or.inr ⟨_, rfl⟩) hlocks ⟨_, _, (lxQ tp t p0), rfl, yOne_num hp hT1 hlohi.2, ⟨hgt, hltN⟩, ⟨_, hnum, hk, htp⟩, haF, by omega, by omega⟩ hS dX3_one_25
