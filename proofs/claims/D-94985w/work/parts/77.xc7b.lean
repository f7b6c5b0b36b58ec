set_option maxHeartbeats 4000000 in
set_option maxRecDepth 100000 in
theorem met_X8_of (l : Launch) (G : gG) (O : Nat → Prop) (n : Nat) (hch : chOK l G O n) (r na : Nat) (nm : Nat → Int32) (L : Cd) (v : Int64) (hv : ev nm L v) : Met l yX8_of (ws_ yX8_of cX8_of 2 (some .long)) (rmE n) (cP G [.ref r, .ref na] (fun H => dPlain G H r L ∧ nmA G H na nm)) (cR (some (.long v))) 0 0 (fun _ => False) := by
  refine c_start (by decide) (Nat.le_of_ble_eq_true rfl) ?_
  intro p e s m below meth c hx hb hr hlocks hml hown hts hB hK ls hl
  obtain ⟨hD, hN⟩ := hB
  obtain ⟨z, h1, rfl⟩ := hD
  have hl : lv_has ls 2 [(0, .ref r), (1, .ref na)] := hl
  refine lv_aload_n hx hb dX8_of_0 rfl (lv_at hl 0 rfl) ?_
  refine a_get (own := RX8) (C := RX8) (T := TX8) (N := 1) (ci := 8) hx hb hts in_X8 hown hK h1 rfl 0 (by decide) (hts _ q628) (fun _ h9 => h9) rfl dX8_of_1 ?_
  refine lv_i2l (v := (z).toInt64) hx hb dX8_of_4 rfl ?_
  exact c_rlret (v := (z).toInt64) (ev_uni ev_plain hv) hx hb hr hlocks dX8_of_5 rfl rfl
set_option maxHeartbeats 4000000 in
set_option maxRecDepth 100000 in
theorem met_X9_of (l : Launch) (G : gG) (O : Nat → Prop) (n : Nat) (hch : chOK l G O n) (r na : Nat) (nm : Nat → Int32) (L : Cd) (v : Int64) (hv : ev nm L v) : Met l yX9_of (ws_ yX9_of cX9_of 2 (some .long)) (rmE n) (cP G [.ref r, .ref na] (fun H => dName G H r L ∧ nmA G H na nm)) (cR (some (.long v))) 0 0 (fun _ => False) := by
  refine c_start (by decide) (Nat.le_of_ble_eq_true rfl) ?_
  intro p e s m below meth c hx hb hr hlocks hml hown hts hB hK ls hl
  obtain ⟨hD, hN⟩ := hB
  obtain ⟨z, hz, h1, rfl⟩ := hD
  have hl : lv_has ls 2 [(0, .ref r), (1, .ref na)] := hl
  refine lv_aload_n hx hb dX9_of_0 rfl (lv_at hl 1 rfl) ?_
  refine lv_aload_n hx hb dX9_of_1 rfl (lv_at hl 0 rfl) ?_
  refine a_get (own := RX9) (C := RX9) (T := TX9) (N := 1) (ci := 9) hx hb hts in_X9 hown hK h1 rfl 0 (by decide) (hts _ q640) (fun _ h9 => h9) rfl dX9_of_2 ?_
  refine a_iald (j := z) hx hb hK hN (by decide) hz dX9_of_5 ?_
  refine lv_i2l (v := (nm z).toInt64) hx hb dX9_of_6 rfl ?_
  exact c_rlret (v := (nm z).toInt64) (ev_uni (ev_name hz) hv) hx hb hr hlocks dX9_of_7 rfl rfl
set_option maxHeartbeats 4000000 in
set_option maxRecDepth 100000 in
theorem met_X14_of (l : Launch) (G : gG) (O : Nat → Prop) (n : Nat) (hch : chOK l G O n) (r na : Nat) (nm : Nat → Int32) (L : Cd) (v : Int64) (hv : ev nm L v) : Met l yX14_of (ws_ yX14_of cX14_of 2 (some .long)) (rmE n) (cP G [.ref r, .ref na] (fun H => dMinus G H (fun b x l => aS G O H n b x l) r L ∧ nmA G H na nm)) (cR (some (.long v))) 0 0 (fun _ => False) := by
  refine c_start (by decide) (Nat.le_of_ble_eq_true rfl) ?_
  intro p e s m below meth c hx hb hr hlocks hml hown hts hB hK ls hl
  obtain ⟨hD, hN⟩ := hB
  obtain ⟨x, L1, h1, h2, rfl⟩ := hD
  obtain ⟨u, hu, -⟩ := (aS_val nm _ _ _).1 h2
  have hl : lv_has ls 2 [(0, .ref r), (1, .ref na)] := hl
  refine lv_aload_n hx hb dX14_of_0 rfl (lv_at hl 0 rfl) ?_
  refine a_get (own := RX14) (C := RX14) (T := TX14) (N := 1) (ci := 14) hx hb hts in_X14 hown hK h1 rfl 0 (by decide) (hts _ q744) (fun _ h9 => h9) rfl dX14_of_1 ?_
  refine lv_aload_n hx hb dX14_of_4 rfl (lv_at hl 1 rfl) ?_
  refine fSum_X14 ⟨hx, hb, hml, hown, hts⟩ hts hK hch (by dsimp only [rmE]; omega) (by dsimp only [rmE]; omega) ⟨Nat.le_refl _, Nat.le_refl _⟩ h2 hN hu hl.1 (Nat.le_of_ble_eq_true rfl) dX14_of_5 ?_
  refine lv_lneg hx hb dX14_of_10 ?_
  exact c_rlret (v := -u) (ev_uni (ev_minus hu) hv) hx hb hr hlocks dX14_of_11 rfl rfl
set_option maxHeartbeats 4000000 in
set_option maxRecDepth 100000 in
theorem met_X10_is (l : Launch) (G : gG) (O : Nat → Prop) (n : Nat) (hch : chOK l G O n) (r na : Nat) (nm : Nat → Int32) (L : Cd) (v : Bool) (hv : eb nm L v) : Met l yX10_is (ws_ yX10_is cX10_is 2 (some .boolean)) (rmE n) (cP G [.ref r, .ref na] (fun H => dNot G H (fun b x l => aS G O H n b x l) r L ∧ nmA G H na nm)) (cR (some (.int (bI (v = true))))) 0 0 (fun _ => False) := by
  refine c_start (by decide) (Nat.le_of_ble_eq_true rfl) ?_
  intro p e s m below meth c hx hb hr hlocks hml hown hts hB hK ls hl
  obtain ⟨hD, hN⟩ := hB
  obtain ⟨x, L1, h1, h2, rfl⟩ := hD
  obtain ⟨u, hu⟩ := (aS_val nm _ _ _).2 h2
  have hl : lv_has ls 2 [(0, .ref r), (1, .ref na)] := hl
  refine lv_aload_n hx hb dX10_is_0 rfl (lv_at hl 0 rfl) ?_
  refine a_get (own := RX10) (C := RX10) (T := TX10) (N := 1) (ci := 10) hx hb hts in_X10 hown hK h1 rfl 0 (by decide) (hts _ q672) (fun _ h9 => h9) rfl dX10_is_1 ?_
  refine lv_aload_n hx hb dX10_is_4 rfl (lv_at hl 1 rfl) ?_
  refine fAsked_X10 ⟨hx, hb, hml, hown, hts⟩ hts hK hch (by dsimp only [rmE]; omega) (by dsimp only [rmE]; omega) ⟨Nat.le_refl _, Nat.le_refl _⟩ h2 hN hu hl.1 (Nat.le_of_ble_eq_true rfl) dX10_is_5 ?_
  refine b_if_ne (tgt := 17) hx hb dX10_is_10 (by decide) (fun c_1 => ?_) (fun c_1 => ?_)
  · refine lv_iconst (v := nI 0) hx hb dX10_is_17 (by decide) ?_
    exact c_rret (v := nI 0) (by rw [← eb_uni (eb_not hu) hv]; cases u with | true => (first | exact absurd rfl (by assumption) | exact (bI_f (by decide)).symm | exact (bI_t (by decide)).symm) | false => (first | exact absurd (by assumption) (by decide) | exact (bI_f (by decide)).symm | exact (bI_t (by decide)).symm)) hx hb hr rfl hlocks dX10_is_18 rfl rfl
  refine lv_iconst (v := nI 1) hx hb dX10_is_13 (by decide) ?_
  refine lv_goto (tgt := 18) hx hb dX10_is_14 (by decide) ?_
  exact c_rret (v := nI 1) (by rw [← eb_uni (eb_not hu) hv]; cases u with | true => (first | exact absurd rfl (by assumption) | exact (bI_f (by decide)).symm | exact (bI_t (by decide)).symm) | false => (first | exact absurd (by assumption) (by decide) | exact (bI_f (by decide)).symm | exact (bI_t (by decide)).symm)) hx hb hr rfl hlocks dX10_is_18 rfl rfl
set_option maxHeartbeats 4000000 in
set_option maxRecDepth 100000 in
theorem met_X13_of (l : Launch) (G : gG) (O : Nat → Prop) (n : Nat) (hch : chOK l G O n) (r na : Nat) (nm : Nat → Int32) (L : Cd) (v : Int64) (hv : ev nm L v) : Met l yX13_of (ws_ yX13_of cX13_of 2 (some .long)) (rmE n) (cP G [.ref r, .ref na] (fun H => dIf G H (fun b x l => aS G O H n b x l) r L ∧ nmA G H na nm)) (cR (some (.long v))) 0 0 (fun _ => False) := by
  refine c_start (by decide) (Nat.le_of_ble_eq_true rfl) ?_
  intro p e s m below meth c hx hb hr hlocks hml hown hts hB hK ls hl
  obtain ⟨hD, hN⟩ := hB
  obtain ⟨w, y, z, L0, L1, L2, h1, h2, h3, h4, rfl⟩ := hD
  obtain ⟨u, hu⟩ := (aS_val nm _ _ _).2 h2
  obtain ⟨a, ha, -⟩ := (aS_val nm _ _ _).1 h3
  obtain ⟨b, hbb, -⟩ := (aS_val nm _ _ _).1 h4
  have hl : lv_has ls 2 [(0, .ref r), (1, .ref na)] := hl
  refine lv_aload_n hx hb dX13_of_0 rfl (lv_at hl 0 rfl) ?_
  refine a_get (own := RX13) (C := RX13) (T := TX13) (N := 3) (ci := 13) hx hb hts in_X13 hown hK h1 rfl 0 (by decide) (hts _ q728) (fun _ h9 => h9) rfl dX13_of_1 ?_
  refine lv_aload_n hx hb dX13_of_4 rfl (lv_at hl 1 rfl) ?_
  refine fAsked_X13 ⟨hx, hb, hml, hown, hts⟩ hts hK hch (by dsimp only [rmE]; omega) (by dsimp only [rmE]; omega) ⟨Nat.le_refl _, Nat.le_refl _⟩ h2 hN hu hl.1 (Nat.le_of_ble_eq_true rfl) dX13_of_5 ?_
  refine b_if_eq (tgt := 26) hx hb dX13_of_10 (by decide) (fun c_1 => ?_) (fun c_1 => ?_)
  · refine lv_aload_n hx hb dX13_of_26 rfl (lv_at hl 0 rfl) ?_
    refine a_get (own := RX13) (C := RX13) (T := TX13) (N := 3) (ci := 13) hx hb hts in_X13 hown hK h1 rfl 2 (by decide) (hts _ q730) (fun _ h9 => h9) rfl dX13_of_27 ?_
    refine lv_aload_n hx hb dX13_of_30 rfl (lv_at hl 1 rfl) ?_
    refine fSum_X13 ⟨hx, hb, hml, hown, hts⟩ hts hK hch (by dsimp only [rmE]; omega) (by dsimp only [rmE]; omega) ⟨Nat.le_refl _, Nat.le_refl _⟩ h4 hN hbb hl.1 (Nat.le_of_ble_eq_true rfl) dX13_of_31 ?_
    exact c_rlret (v := b) (by rw [← ev_uni (ev_if hu ha hbb) hv]; cases u with | true => (first | exact absurd rfl (by assumption) | rfl) | false => (first | exact absurd (by assumption) (by decide) | rfl)) hx hb hr hlocks dX13_of_36 rfl rfl
  refine lv_aload_n hx hb dX13_of_13 rfl (lv_at hl 0 rfl) ?_
  refine a_get (own := RX13) (C := RX13) (T := TX13) (N := 3) (ci := 13) hx hb hts in_X13 hown hK h1 rfl 1 (by decide) (hts _ q729) (fun _ h9 => h9) rfl dX13_of_14 ?_
  refine lv_aload_n hx hb dX13_of_17 rfl (lv_at hl 1 rfl) ?_
  refine fSum_X13 ⟨hx, hb, hml, hown, hts⟩ hts hK hch (by dsimp only [rmE]; omega) (by dsimp only [rmE]; omega) ⟨Nat.le_refl _, Nat.le_refl _⟩ h3 hN ha hl.1 (Nat.le_of_ble_eq_true rfl) dX13_of_18 ?_
  refine lv_goto (tgt := 36) hx hb dX13_of_23 (by decide) ?_
  exact c_rlret (v := a) (by rw [← ev_uni (ev_if hu ha hbb) hv]; cases u with | true => (first | exact absurd rfl (by assumption) | rfl) | false => (first | exact absurd (by assumption) (by decide) | rfl)) hx hb hr hlocks dX13_of_36 rfl rfl
