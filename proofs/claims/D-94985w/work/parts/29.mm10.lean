set_option maxHeartbeats 4000000 in
set_option maxRecDepth 100000 in
theorem met_X2_nameBlower (l : Launch) (G : gG) (ad : Nat → Nat) (M Z : Nat → Nat → Int32) (V : Nat → Nat → Int64) (b : Nat) (hb0 : b < 6) (h : Int32) : Met l yX2_nameBlower (ws_ yX2_nameBlower cX2_nameBlower 3 none) ({ frames := 1, cells := 0, slots := 0, locals := 22 } : Room) (cP G [.ref (ad 0), .int (nI b), .int h] (mH G ad M Z V)) (cQ none (mH G ad M (up2 (up2 (up2 (up2 (up2 Z 22 0 h) 22 1 (nI b)) 22 2 (M 0 (10 + 5 * b))) 22 3 (M 0 (10 + 5 * b + 1))) 22 4 (M 0 (10 + 5 * b + 2))) V) (mA ad)) 0 0 (mA ad) := by
  refine c_start (by decide) (Nat.le_of_ble_eq_true rfl) ?_
  intro p e s m below meth c hx hb hr hlocks hml hown hts hB hK ls hl
  have hw := MS.of hB
  have hl : lv_has ls 3 [(0, .ref (ad 0)), (1, .int (nI b)), (2, .int h)] := hl
  refine lv_aload_n hx hb dX2_nameBlower_0 rfl (lv_at hl 0 rfl) ?_
  refine m_g_named hx hb hts hown hK hw dX2_nameBlower_1 ?_
  refine lv_iconst (v := nI 0) hx hb dX2_nameBlower_4 (by decide) ?_
  refine lv_iload_n hx hb dX2_nameBlower_5 rfl (lv_at hl 2 rfl) ?_
  refine m_s_named (j := 0) hx hb hK hw (by decide) dX2_nameBlower_6 (fun H locs hw => ?_)
  refine lv_aload_n hx hb dX2_nameBlower_7 rfl (lv_at hl 0 rfl) ?_
  refine m_g_named hx hb hts hown hK hw dX2_nameBlower_8 ?_
  refine lv_iconst (v := nI 1) hx hb dX2_nameBlower_11 (by decide) ?_
  refine lv_iload_n hx hb dX2_nameBlower_12 rfl (lv_at hl 1 rfl) ?_
  refine m_s_named (j := 1) hx hb hK hw (by decide) dX2_nameBlower_13 (fun H locs hw => ?_)
  refine lv_aload_n hx hb dX2_nameBlower_14 rfl (lv_at hl 0 rfl) ?_
  refine m_g_named hx hb hts hown hK hw dX2_nameBlower_15 ?_
  refine lv_iconst (v := nI 2) hx hb dX2_nameBlower_18 (by decide) ?_
  refine lv_aload_n hx hb dX2_nameBlower_19 rfl (lv_at hl 0 rfl) ?_
  refine lv_iload_n hx hb dX2_nameBlower_20 rfl (lv_at hl 1 rfl) ?_
  refine lv_iconst (v := nI 0) hx hb dX2_nameBlower_21 (by decide) ?_
  refine c_read (va_runV (As := [.int (nI b), .int (nI 0)]) (rest := [.int (nI 2), .ref (ad 6)]) ⟨hx, hb, hml, hown, hts⟩ (met_X2_get l G ad M (up2 (up2 Z 22 0 h) 22 1 (nI b)) V b 0 (M 0 (10 + 5 * b)) (by omega) rfl) (cv_X2_X2_get hts ⟨Nat.le_of_ble_eq_true rfl, Nat.le_of_ble_eq_true rfl⟩) (cP.preV hK hw.1 (hw.1.recv hK)) rfl rfl hl.1 rfl (lv_room (Nat.le_of_ble_eq_true rfl)) dX2_nameBlower_22 ⟨by first | exact Nat.zero_le _ | omega | decide, by first | exact Nat.zero_le _ | omega | decide⟩) ?_
  refine m_s_named (j := 2) hx hb hK hw (by decide) dX2_nameBlower_25 (fun H locs hw => ?_)
  refine lv_aload_n hx hb dX2_nameBlower_26 rfl (lv_at hl 0 rfl) ?_
  refine m_g_named hx hb hts hown hK hw dX2_nameBlower_27 ?_
  refine lv_iconst (v := nI 3) hx hb dX2_nameBlower_30 (by decide) ?_
  refine lv_aload_n hx hb dX2_nameBlower_31 rfl (lv_at hl 0 rfl) ?_
  refine lv_iload_n hx hb dX2_nameBlower_32 rfl (lv_at hl 1 rfl) ?_
  refine lv_iconst (v := nI 1) hx hb dX2_nameBlower_33 (by decide) ?_
  refine c_read (va_runV (As := [.int (nI b), .int (nI 1)]) (rest := [.int (nI 3), .ref (ad 6)]) ⟨hx, hb, hml, hown, hts⟩ (met_X2_get l G ad M (up2 (up2 (up2 Z 22 0 h) 22 1 (nI b)) 22 2 (M 0 (10 + 5 * b))) V b 1 (M 0 (10 + 5 * b + 1)) (by omega) rfl) (cv_X2_X2_get hts ⟨Nat.le_of_ble_eq_true rfl, Nat.le_of_ble_eq_true rfl⟩) (cP.preV hK hw.1 (hw.1.recv hK)) rfl rfl hl.1 rfl (lv_room (Nat.le_of_ble_eq_true rfl)) dX2_nameBlower_34 ⟨by first | exact Nat.zero_le _ | omega | decide, by first | exact Nat.zero_le _ | omega | decide⟩) ?_
  refine m_s_named (j := 3) hx hb hK hw (by decide) dX2_nameBlower_37 (fun H locs hw => ?_)
  refine lv_aload_n hx hb dX2_nameBlower_38 rfl (lv_at hl 0 rfl) ?_
  refine m_g_named hx hb hts hown hK hw dX2_nameBlower_39 ?_
  refine lv_iconst (v := nI 4) hx hb dX2_nameBlower_42 (by decide) ?_
  refine lv_aload_n hx hb dX2_nameBlower_43 rfl (lv_at hl 0 rfl) ?_
  refine lv_iload_n hx hb dX2_nameBlower_44 rfl (lv_at hl 1 rfl) ?_
  refine lv_iconst (v := nI 2) hx hb dX2_nameBlower_45 (by decide) ?_
  refine c_read (va_runV (As := [.int (nI b), .int (nI 2)]) (rest := [.int (nI 4), .ref (ad 6)]) ⟨hx, hb, hml, hown, hts⟩ (met_X2_get l G ad M (up2 (up2 (up2 (up2 Z 22 0 h) 22 1 (nI b)) 22 2 (M 0 (10 + 5 * b))) 22 3 (M 0 (10 + 5 * b + 1))) V b 2 (M 0 (10 + 5 * b + 2)) (by omega) rfl) (cv_X2_X2_get hts ⟨Nat.le_of_ble_eq_true rfl, Nat.le_of_ble_eq_true rfl⟩) (cP.preV hK hw.1 (hw.1.recv hK)) rfl rfl hl.1 rfl (lv_room (Nat.le_of_ble_eq_true rfl)) dX2_nameBlower_46 ⟨by first | exact Nat.zero_le _ | omega | decide, by first | exact Nat.zero_le _ | omega | decide⟩) ?_
  refine m_s_named (j := 4) hx hb hK hw (by decide) dX2_nameBlower_49 (fun H locs hw => ?_)
  exact c_vret hx hb hr hlocks (mH.to (by first | rfl | simp [pif_true, pif_false]) rfl rfl hw.1) hw.2 dX2_nameBlower_50
set_option maxHeartbeats 4000000 in
set_option maxRecDepth 100000 in
theorem met_X2_nameKind (l : Launch) (G : gG) (ad : Nat → Nat) (M Z : Nat → Nat → Int32) (V : Nat → Nat → Int64) (k : Nat) (hk : k < 6) : Met l yX2_nameKind (ws_ yX2_nameKind cX2_nameKind 2 none) ({ frames := 0, cells := 0, slots := 0, locals := 0 } : Room) (cP G [.ref (ad 0), .int (nI k)] (mH G ad M Z V)) (cQ none (mH G ad M (up2 (up2 (up2 Z 22 5 (nI k)) 22 6 (M 0 (40 + 3 * k))) 22 7 (M 0 (40 + 3 * k + 2))) V) (mA ad)) 0 0 (mA ad) := by
  refine c_start (by decide) (Nat.le_of_ble_eq_true rfl) ?_
  intro p e s m below meth c hx hb hr hlocks hml hown hts hB hK ls hl
  have hw := MS.of hB
  have hl : lv_has ls 2 [(0, .ref (ad 0)), (1, .int (nI k))] := hl
  refine lv_aload_n hx hb dX2_nameKind_0 rfl (lv_at hl 0 rfl) ?_
  refine m_g_named hx hb hts hown hK hw dX2_nameKind_1 ?_
  refine lv_iconst (v := nI 5) hx hb dX2_nameKind_4 (by decide) ?_
  refine lv_iload_n hx hb dX2_nameKind_5 rfl (lv_at hl 1 rfl) ?_
  refine m_s_named (j := 5) hx hb hK hw (by decide) dX2_nameKind_6 (fun H locs hw => ?_)
  refine lv_aload_n hx hb dX2_nameKind_7 rfl (lv_at hl 0 rfl) ?_
  refine m_g_named hx hb hts hown hK hw dX2_nameKind_8 ?_
  refine lv_bipush (v := nI 6) hx hb dX2_nameKind_11 (by decide) ?_
  refine lv_aload_n hx hb dX2_nameKind_13 rfl (lv_at hl 0 rfl) ?_
  refine m_g_a hx hb hts hown hK hw dX2_nameKind_14 ?_
  refine lv_bipush (v := nI 40) hx hb dX2_nameKind_17 (by decide) ?_
  refine lv_iconst (v := nI 3) hx hb dX2_nameKind_19 (by decide) ?_
  refine lv_iload_n hx hb dX2_nameKind_20 rfl (lv_at hl 1 rfl) ?_
  refine n_imul hx hb dX2_nameKind_21 ?_
  refine n_iadd hx hb dX2_nameKind_22 ?_
  refine m_l_a (j := 40 + 3 * k) (v := M 0 (40 + 3 * k)) hx hb hK hw rfl (by omega) dX2_nameKind_23 ?_
  refine m_s_named (j := 6) hx hb hK hw (by decide) dX2_nameKind_24 (fun H locs hw => ?_)
  refine lv_aload_n hx hb dX2_nameKind_25 rfl (lv_at hl 0 rfl) ?_
  refine m_g_named hx hb hts hown hK hw dX2_nameKind_26 ?_
  refine lv_bipush (v := nI 7) hx hb dX2_nameKind_29 (by decide) ?_
  refine lv_aload_n hx hb dX2_nameKind_31 rfl (lv_at hl 0 rfl) ?_
  refine m_g_a hx hb hts hown hK hw dX2_nameKind_32 ?_
  refine lv_bipush (v := nI 40) hx hb dX2_nameKind_35 (by decide) ?_
  refine lv_iconst (v := nI 3) hx hb dX2_nameKind_37 (by decide) ?_
  refine lv_iload_n hx hb dX2_nameKind_38 rfl (lv_at hl 1 rfl) ?_
  refine n_imul hx hb dX2_nameKind_39 ?_
  refine n_iadd hx hb dX2_nameKind_40 ?_
  refine lv_iconst (v := nI 2) hx hb dX2_nameKind_41 (by decide) ?_
  refine n_iadd hx hb dX2_nameKind_42 ?_
  refine m_l_a (j := 40 + 3 * k + 2) (v := M 0 (40 + 3 * k + 2)) hx hb hK hw rfl (by omega) dX2_nameKind_43 ?_
  refine m_s_named (j := 7) hx hb hK hw (by decide) dX2_nameKind_44 (fun H locs hw => ?_)
  exact c_vret hx hb hr hlocks (mH.to (by first | rfl | simp [pif_true, pif_false]) rfl rfl hw.1) hw.2 dX2_nameKind_45
set_option maxHeartbeats 4000000 in
set_option maxRecDepth 100000 in
theorem met_X2_smokeIn (l : Launch) (G : gG) (ad : Nat → Nat) (M Z : Nat → Nat → Int32) (V : Nat → Nat → Int64) (tx : kT) (htx : mTx M tx) (h : Int32) : Met l yX2_smokeIn (ws_ yX2_smokeIn cX2_smokeIn 2 (some .int)) ({ frames := 4, cells := 0, slots := 0, locals := 97 } : Room) (cP G [.ref (ad 0), .int h] (mH G ad M Z V)) (cQ (some (.int (mSmoke tx h))) (fun H => ∃ Z9 V9, (∀ k9, k9 ≠ 22 → k9 ≠ 24 → Z9 k9 = Z k9) ∧ mH G ad M Z9 V9 H) (mA ad)) 0 0 (mA ad) := by
  refine c_start (by decide) (Nat.le_of_ble_eq_true rfl) ?_
  intro p e s m below meth c hx hb hr hlocks hml hown hts hB hK ls hl
  have hw := MS.of hB
  have hl : lv_has ls 2 [(0, .ref (ad 0)), (1, .int h)] := hl
  refine lv_aload_n hx hb dX2_smokeIn_0 rfl (lv_at hl 0 rfl) ?_
  refine m_g_named hx hb hts hown hK hw dX2_smokeIn_1 ?_
  refine lv_iconst (v := nI 0) hx hb dX2_smokeIn_4 (by decide) ?_
  refine lv_iload_n hx hb dX2_smokeIn_5 rfl (lv_at hl 1 rfl) ?_
  refine m_s_named (j := 0) hx hb hK hw (by decide) dX2_smokeIn_6 (fun H locs hw => ?_)
  refine lv_aload_n hx hb dX2_smokeIn_7 rfl (lv_at hl 0 rfl) ?_
  refine lv_iconst (v := nI 0) hx hb dX2_smokeIn_8 (by decide) ?_
  refine lv_bipush (v := nI 40) hx hb dX2_smokeIn_9 (by decide) ?_
  refine lv_bipush (v := nI 40) hx hb dX2_smokeIn_11 (by decide) ?_
  refine c_call (va_runV (As := [.int (nI 0), .int (nI 40), .int (nI 40)]) (rest := []) ⟨hx, hb, hml, hown, hts⟩ (met_X2_sumOf l G ad M (up2 Z 22 0 h) V tx htx 0 (by decide) (nI 40) (nI 40)) (cv_X2_X2_sumOf hts ⟨Nat.le_of_ble_eq_true rfl, Nat.le_of_ble_eq_true rfl⟩) (cP.preV hK hw.1 (hw.1.recv hK)) rfl rfl hl.1 rfl (lv_room (Nat.le_of_ble_eq_true rfl)) dX2_smokeIn_13 ⟨by first | exact Nat.zero_le _ | omega | decide, by first | exact Nat.zero_le _ | omega | decide⟩) hw.2 (fun q _ h => h) (fun q h => h) (fun H locs hw _ _ hS => ?_)
  obtain ⟨Z1, V1, hz1, hw⟩ := hw
  replace hw := MS.mk hw hS
  exact c_iret (v := mSumT tx ((up2 Z 22 0 h) 22) 0 (nI 40) (nI 40)) (mSumT_congr (M := M) (by decide) htx (fun v9 h9 => by (have h8 : v9 = 0 := by (unfold nmOk at h9; omega)); obtain rfl := h8 <;> first | exact up2_at)) hx hb hr rfl hlocks ⟨_, _, (fun k9 h9 h8 => (by rw [hz1 k9 h8]; funext j9; first | rfl | exact up2_ne (Or.inl h9) | simp only [up2_eq, h9, false_and, if_false])), mH.to rfl rfl rfl hw.1⟩ hw.2 dX2_smokeIn_16
set_option maxHeartbeats 4000000 in
set_option maxRecDepth 100000 in
theorem met_X2_costOf (l : Launch) (G : gG) (ad : Nat → Nat) (M Z : Nat → Nat → Int32) (V : Nat → Nat → Int64) (tx : kT) (htx : mTx M tx) (b : Nat) (hb0 : b < 6) (h : Int32) : Met l yX2_costOf (ws_ yX2_costOf cX2_costOf 3 (some .int)) ({ frames := 4, cells := 0, slots := 0, locals := 97 } : Room) (cP G [.ref (ad 0), .int (nI b), .int h] (mH G ad M Z V)) (cQ (some (.int (mCost tx M b h))) (fun H => ∃ Z9 V9, (∀ k9, k9 ≠ 22 → k9 ≠ 24 → Z9 k9 = Z k9) ∧ mH G ad M Z9 V9 H) (mA ad)) 0 0 (mA ad) := by
  refine c_start (by decide) (Nat.le_of_ble_eq_true rfl) ?_
  intro p e s m below meth c hx hb hr hlocks hml hown hts hB hK ls hl
  have hw := MS.of hB
  have hl : lv_has ls 3 [(0, .ref (ad 0)), (1, .int (nI b)), (2, .int h)] := hl
  refine lv_aload_n hx hb dX2_costOf_0 rfl (lv_at hl 0 rfl) ?_
  refine lv_iload_n hx hb dX2_costOf_1 rfl (lv_at hl 1 rfl) ?_
  refine lv_iload_n hx hb dX2_costOf_2 rfl (lv_at hl 2 rfl) ?_
  refine c_call (va_runV (As := [.int (nI b), .int h]) (rest := []) ⟨hx, hb, hml, hown, hts⟩ (met_X2_nameBlower l G ad M Z V b (by omega) h) (cv_X2_X2_nameBlower hts ⟨Nat.le_of_ble_eq_true rfl, Nat.le_of_ble_eq_true rfl⟩) (cP.preV hK hw.1 (hw.1.recv hK)) rfl rfl hl.1 rfl (lv_room (Nat.le_of_ble_eq_true rfl)) dX2_costOf_3 ⟨by first | exact Nat.zero_le _ | omega | decide, by first | exact Nat.zero_le _ | omega | decide⟩) hw.2 (fun q _ h => h) (fun q h => h) (fun H locs hw _ _ hS => ?_)
  replace hw := MS.mk hw hS
  refine lv_aload_n hx hb dX2_costOf_6 rfl (lv_at hl 0 rfl) ?_
  refine lv_iconst (v := nI 1) hx hb dX2_costOf_7 (by decide) ?_
  refine lv_bipush (v := nI 99) hx hb dX2_costOf_8 (by decide) ?_
  refine lv_iconst (v := nI 1) hx hb dX2_costOf_10 (by decide) ?_
  refine c_call (va_runV (As := [.int (nI 1), .int (nI 99), .int (nI 1)]) (rest := []) ⟨hx, hb, hml, hown, hts⟩ (met_X2_sumOf l G ad M (up2 (up2 (up2 (up2 (up2 Z 22 0 h) 22 1 (nI b)) 22 2 (M 0 (10 + 5 * b))) 22 3 (M 0 (10 + 5 * b + 1))) 22 4 (M 0 (10 + 5 * b + 2))) V tx htx 1 (by decide) (nI 99) (nI 1)) (cv_X2_X2_sumOf hts ⟨Nat.le_of_ble_eq_true rfl, Nat.le_of_ble_eq_true rfl⟩) (cP.preV hK hw.1 (hw.1.recv hK)) rfl rfl hl.1 rfl (lv_room (Nat.le_of_ble_eq_true rfl)) dX2_costOf_11 ⟨by first | exact Nat.zero_le _ | omega | decide, by first | exact Nat.zero_le _ | omega | decide⟩) hw.2 (fun q _ h => h) (fun q h => h) (fun H locs hw _ _ hS => ?_)
  obtain ⟨Z1, V1, hz1, hw⟩ := hw
  replace hw := MS.mk hw hS
  exact c_iret (v := mSumT tx ((up2 (up2 (up2 (up2 (up2 Z 22 0 h) 22 1 (nI b)) 22 2 (M 0 (10 + 5 * b))) 22 3 (M 0 (10 + 5 * b + 1))) 22 4 (M 0 (10 + 5 * b + 2))) 22) 1 (nI 99) (nI 1)) (mSumT_congr (M := M) (by decide) htx (fun v9 h9 => by (have h8 : v9 = 0 ∨ v9 = 1 ∨ v9 = 2 ∨ v9 = 3 ∨ v9 = 4 := by (unfold nmOk at h9; omega)); obtain rfl | rfl | rfl | rfl | rfl := h8 <;> first | exact ((up2_ne (Or.inr (by decide))).trans ((up2_ne (Or.inr (by decide))).trans ((up2_ne (Or.inr (by decide))).trans ((up2_ne (Or.inr (by decide))).trans up2_at)))) | exact ((up2_ne (Or.inr (by decide))).trans ((up2_ne (Or.inr (by decide))).trans ((up2_ne (Or.inr (by decide))).trans up2_at))) | exact ((up2_ne (Or.inr (by decide))).trans ((up2_ne (Or.inr (by decide))).trans up2_at)) | exact ((up2_ne (Or.inr (by decide))).trans up2_at) | exact up2_at)) hx hb hr rfl hlocks ⟨_, _, (fun k9 h9 h8 => (by rw [hz1 k9 h8]; funext j9; first | rfl | exact up2_ne (Or.inl h9) | simp only [up2_eq, h9, false_and, if_false])), mH.to rfl rfl rfl hw.1⟩ hw.2 dX2_costOf_14
set_option maxHeartbeats 4000000 in
set_option maxRecDepth 100000 in
theorem met_X2_shareOf (l : Launch) (G : gG) (ad : Nat → Nat) (M Z : Nat → Nat → Int32) (V : Nat → Nat → Int64) (tx : kT) (htx : mTx M tx) (q b k : Nat) (hq : q < 10) (hb0 : b < 6) (hk : k < 6) (ek : M 0 (150 + 10 * q) = nI k) : Met l yX2_shareOf (ws_ yX2_shareOf cX2_shareOf 3 (some .int)) ({ frames := 4, cells := 0, slots := 0, locals := 97 } : Room) (cP G [.ref (ad 0), .int (nI q), .int (nI b)] (mH G ad M Z V)) (cQ (some (.int (mShare tx M q b k))) (fun H => ∃ Z9 V9, (∀ k9, k9 ≠ 22 → k9 ≠ 24 → Z9 k9 = Z k9) ∧ mH G ad M Z9 V9 H) (mA ad)) 0 0 (mA ad) := by
  refine c_start (by decide) (Nat.le_of_ble_eq_true rfl) ?_
  intro p e s m below meth c hx hb hr hlocks hml hown hts hB hK ls hl
  have hw := MS.of hB
  have hl : lv_has ls 3 [(0, .ref (ad 0)), (1, .int (nI q)), (2, .int (nI b))] := hl
  refine lv_aload_n hx hb dX2_shareOf_0 rfl (lv_at hl 0 rfl) ?_
  refine lv_iload_n hx hb dX2_shareOf_1 rfl (lv_at hl 2 rfl) ?_
  refine lv_aload_n hx hb dX2_shareOf_2 rfl (lv_at hl 0 rfl) ?_
  refine m_g_a hx hb hts hown hK hw dX2_shareOf_3 ?_
  refine lv_iconst (v := nI 3) hx hb dX2_shareOf_6 (by decide) ?_
  refine m_l_a (j := 3) (v := M 0 3) hx hb hK hw rfl (by decide) dX2_shareOf_7 ?_
  refine c_call (va_runV (As := [.int (nI b), .int (M 0 3)]) (rest := []) ⟨hx, hb, hml, hown, hts⟩ (met_X2_nameBlower l G ad M Z V b (by omega) (M 0 3)) (cv_X2_X2_nameBlower hts ⟨Nat.le_of_ble_eq_true rfl, Nat.le_of_ble_eq_true rfl⟩) (cP.preV hK hw.1 (hw.1.recv hK)) rfl rfl hl.1 rfl (lv_room (Nat.le_of_ble_eq_true rfl)) dX2_shareOf_8 ⟨by first | exact Nat.zero_le _ | omega | decide, by first | exact Nat.zero_le _ | omega | decide⟩) hw.2 (fun q _ h => h) (fun q h => h) (fun H locs hw _ _ hS => ?_)
  replace hw := MS.mk hw hS
  refine lv_aload_n hx hb dX2_shareOf_11 rfl (lv_at hl 0 rfl) ?_
  refine lv_aload_n hx hb dX2_shareOf_12 rfl (lv_at hl 0 rfl) ?_
  refine m_g_a hx hb hts hown hK hw dX2_shareOf_13 ?_
  refine lv_iload_n hx hb dX2_shareOf_16 rfl (lv_at hl 1 rfl) ?_
  refine c_read (va_runS (As := [.int (nI q)]) (rest := [.ref (ad 1), .ref (ad 0)]) ⟨hx, hb, hml, hown, hts⟩ (met_X2_pieceAt l G q) (cs_X2_X2_pieceAt hts ⟨Nat.le_of_ble_eq_true rfl, Nat.le_of_ble_eq_true rfl⟩) (cP.pre hK trivial) rfl rfl hl.1 rfl (lv_room (Nat.le_of_ble_eq_true rfl)) dX2_shareOf_17 ⟨by first | exact Nat.zero_le _ | omega | decide, by first | exact Nat.zero_le _ | omega | decide⟩) ?_
  refine m_l_a (j := 150 + 10 * q) (v := nI k) hx hb hK hw ek (by omega) dX2_shareOf_20 ?_
  refine c_call (va_runV (As := [.int (nI k)]) (rest := []) ⟨hx, hb, hml, hown, hts⟩ (met_X2_nameKind l G ad M (up2 (up2 (up2 (up2 (up2 Z 22 0 (M 0 3)) 22 1 (nI b)) 22 2 (M 0 (10 + 5 * b))) 22 3 (M 0 (10 + 5 * b + 1))) 22 4 (M 0 (10 + 5 * b + 2))) V k (by omega)) (cv_X2_X2_nameKind hts ⟨Nat.le_of_ble_eq_true rfl, Nat.le_of_ble_eq_true rfl⟩) (cP.preV hK hw.1 (hw.1.recv hK)) rfl rfl hl.1 rfl (lv_room (Nat.le_of_ble_eq_true rfl)) dX2_shareOf_21 ⟨by first | exact Nat.zero_le _ | omega | decide, by first | exact Nat.zero_le _ | omega | decide⟩) hw.2 (fun q _ h => h) (fun q h => h) (fun H locs hw _ _ hS => ?_)
  replace hw := MS.mk hw hS
  refine lv_aload_n hx hb dX2_shareOf_24 rfl (lv_at hl 0 rfl) ?_
  refine m_g_named hx hb hts hown hK hw dX2_shareOf_25 ?_
  refine lv_bipush (v := nI 8) hx hb dX2_shareOf_28 (by decide) ?_
  refine lv_aload_n hx hb dX2_shareOf_30 rfl (lv_at hl 0 rfl) ?_
  refine lv_iload_n hx hb dX2_shareOf_31 rfl (lv_at hl 1 rfl) ?_
  refine lv_iload_n hx hb dX2_shareOf_32 rfl (lv_at hl 2 rfl) ?_
  refine c_read (va_runV (As := [.int (nI q), .int (nI b)]) (rest := [.int (nI 8), .ref (ad 6)]) ⟨hx, hb, hml, hown, hts⟩ (met_X2_gave l G ad M (up2 (up2 (up2 (up2 (up2 (up2 (up2 (up2 Z 22 0 (M 0 3)) 22 1 (nI b)) 22 2 (M 0 (10 + 5 * b))) 22 3 (M 0 (10 + 5 * b + 1))) 22 4 (M 0 (10 + 5 * b + 2))) 22 5 (nI k)) 22 6 (M 0 (40 + 3 * k))) 22 7 (M 0 (40 + 3 * k + 2))) V q b (M 0 (150 + 10 * q + 4 + b)) (by omega) rfl) (cv_X2_X2_gave hts ⟨Nat.le_of_ble_eq_true rfl, Nat.le_of_ble_eq_true rfl⟩) (cP.preV hK hw.1 (hw.1.recv hK)) rfl rfl hl.1 rfl (lv_room (Nat.le_of_ble_eq_true rfl)) dX2_shareOf_33 ⟨by first | exact Nat.zero_le _ | omega | decide, by first | exact Nat.zero_le _ | omega | decide⟩) ?_
  refine m_s_named (j := 8) hx hb hK hw (by decide) dX2_shareOf_36 (fun H locs hw => ?_)
  refine lv_aload_n hx hb dX2_shareOf_37 rfl (lv_at hl 0 rfl) ?_
  refine lv_iconst (v := nI 3) hx hb dX2_shareOf_38 (by decide) ?_
  refine lv_bipush (v := nI 99) hx hb dX2_shareOf_39 (by decide) ?_
  refine lv_aload_n hx hb dX2_shareOf_41 rfl (lv_at hl 0 rfl) ?_
  refine m_g_named hx hb hts hown hK hw dX2_shareOf_42 ?_
  refine lv_bipush (v := nI 8) hx hb dX2_shareOf_45 (by decide) ?_
  refine m_l_named (j := 8) (v := M 0 (150 + 10 * q + 4 + b)) hx hb hK hw up2_at (by decide) dX2_shareOf_47 ?_
  refine c_call (va_runV (As := [.int (nI 3), .int (nI 99), .int (M 0 (150 + 10 * q + 4 + b))]) (rest := []) ⟨hx, hb, hml, hown, hts⟩ (met_X2_sumOf l G ad M (up2 (up2 (up2 (up2 (up2 (up2 (up2 (up2 (up2 Z 22 0 (M 0 3)) 22 1 (nI b)) 22 2 (M 0 (10 + 5 * b))) 22 3 (M 0 (10 + 5 * b + 1))) 22 4 (M 0 (10 + 5 * b + 2))) 22 5 (nI k)) 22 6 (M 0 (40 + 3 * k))) 22 7 (M 0 (40 + 3 * k + 2))) 22 8 (M 0 (150 + 10 * q + 4 + b))) V tx htx 3 (by decide) (nI 99) (M 0 (150 + 10 * q + 4 + b))) (cv_X2_X2_sumOf hts ⟨Nat.le_of_ble_eq_true rfl, Nat.le_of_ble_eq_true rfl⟩) (cP.preV hK hw.1 (hw.1.recv hK)) rfl rfl hl.1 rfl (lv_room (Nat.le_of_ble_eq_true rfl)) dX2_shareOf_48 ⟨by first | exact Nat.zero_le _ | omega | decide, by first | exact Nat.zero_le _ | omega | decide⟩) hw.2 (fun q _ h => h) (fun q h => h) (fun H locs hw _ _ hS => ?_)
  obtain ⟨Z1, V1, hz1, hw⟩ := hw
  replace hw := MS.mk hw hS
  exact c_iret (v := mSumT tx ((up2 (up2 (up2 (up2 (up2 (up2 (up2 (up2 (up2 Z 22 0 (M 0 3)) 22 1 (nI b)) 22 2 (M 0 (10 + 5 * b))) 22 3 (M 0 (10 + 5 * b + 1))) 22 4 (M 0 (10 + 5 * b + 2))) 22 5 (nI k)) 22 6 (M 0 (40 + 3 * k))) 22 7 (M 0 (40 + 3 * k + 2))) 22 8 (M 0 (150 + 10 * q + 4 + b))) 22) 3 (nI 99) (M 0 (150 + 10 * q + 4 + b))) (mSumT_congr (M := M) (by decide) htx (fun v9 h9 => by (have h8 : v9 = 0 ∨ v9 = 1 ∨ v9 = 2 ∨ v9 = 3 ∨ v9 = 4 ∨ v9 = 5 ∨ v9 = 6 ∨ v9 = 7 ∨ v9 = 8 := by (unfold nmOk at h9; omega)); obtain rfl | rfl | rfl | rfl | rfl | rfl | rfl | rfl | rfl := h8 <;> first | exact ((up2_ne (Or.inr (by decide))).trans ((up2_ne (Or.inr (by decide))).trans ((up2_ne (Or.inr (by decide))).trans ((up2_ne (Or.inr (by decide))).trans ((up2_ne (Or.inr (by decide))).trans ((up2_ne (Or.inr (by decide))).trans ((up2_ne (Or.inr (by decide))).trans ((up2_ne (Or.inr (by decide))).trans up2_at)))))))) | exact ((up2_ne (Or.inr (by decide))).trans ((up2_ne (Or.inr (by decide))).trans ((up2_ne (Or.inr (by decide))).trans ((up2_ne (Or.inr (by decide))).trans ((up2_ne (Or.inr (by decide))).trans ((up2_ne (Or.inr (by decide))).trans ((up2_ne (Or.inr (by decide))).trans up2_at))))))) | exact ((up2_ne (Or.inr (by decide))).trans ((up2_ne (Or.inr (by decide))).trans ((up2_ne (Or.inr (by decide))).trans ((up2_ne (Or.inr (by decide))).trans ((up2_ne (Or.inr (by decide))).trans ((up2_ne (Or.inr (by decide))).trans up2_at)))))) | exact ((up2_ne (Or.inr (by decide))).trans ((up2_ne (Or.inr (by decide))).trans ((up2_ne (Or.inr (by decide))).trans ((up2_ne (Or.inr (by decide))).trans ((up2_ne (Or.inr (by decide))).trans up2_at))))) | exact ((up2_ne (Or.inr (by decide))).trans ((up2_ne (Or.inr (by decide))).trans ((up2_ne (Or.inr (by decide))).trans ((up2_ne (Or.inr (by decide))).trans up2_at)))) | exact ((up2_ne (Or.inr (by decide))).trans ((up2_ne (Or.inr (by decide))).trans ((up2_ne (Or.inr (by decide))).trans up2_at))) | exact ((up2_ne (Or.inr (by decide))).trans ((up2_ne (Or.inr (by decide))).trans up2_at)) | exact ((up2_ne (Or.inr (by decide))).trans up2_at) | exact up2_at)) hx hb hr rfl hlocks ⟨_, _, (fun k9 h9 h8 => (by rw [hz1 k9 h8]; funext j9; first | rfl | exact up2_ne (Or.inl h9) | simp only [up2_eq, h9, false_and, if_false])), mH.to rfl rfl rfl hw.1⟩ hw.2 dX2_shareOf_51
set_option maxHeartbeats 4000000 in
set_option maxRecDepth 100000 in
theorem met_X2_smoke (l : Launch) (G : gG) (ad : Nat → Nat) (M Z : Nat → Nat → Int32) (V : Nat → Nat → Int64) (tx : kT) (htx : mTx M tx) (h : Int32) : Met l yX2_smoke (ws_ yX2_smoke cX2_smoke 2 (some .int)) ({ frames := 5, cells := 0, slots := 0, locals := 118 } : Room) (cP G [.ref (ad 0), .int h] (mH G ad M Z V)) (cQ (some (.int (pif (vp_in h 1000) (mSmoke tx h) (-1)))) (fun H => ∃ Z9 V9, (∀ k9, k9 ≠ 22 → k9 ≠ 24 → Z9 k9 = Z k9) ∧ mH G ad M Z9 V9 H) (mA ad)) 0 0 (mA ad) := by
  refine c_start (by decide) (Nat.le_of_ble_eq_true rfl) ?_
  intro p e s m below meth c hx hb hr hlocks hml hown hts hB hK ls hl
  have hw := MS.of hB
  have hl : lv_has ls 2 [(0, .ref (ad 0)), (1, .int h)] := hl
  refine lv_iload_n hx hb dX2_smoke_0 rfl (lv_at hl 1 rfl) ?_
  refine c_read (va_runS (As := [.int h]) (rest := []) ⟨hx, hb, hml, hown, hts⟩ (met_X2_isHour l G h) (cs_X2_X2_isHour hts ⟨Nat.le_of_ble_eq_true rfl, Nat.le_of_ble_eq_true rfl⟩) (cP.pre hK trivial) rfl rfl hl.1 rfl (lv_room (Nat.le_of_ble_eq_true rfl)) dX2_smoke_1 ⟨by first | exact Nat.zero_le _ | omega | decide, by first | exact Nat.zero_le _ | omega | decide⟩) ?_
  refine b_if_eq (tgt := 15) hx hb dX2_smoke_4 (by decide) (fun c_1 => ?_) (fun c_1 => ?_)
  · refine lv_iconst (v := (-1)) hx hb dX2_smoke_15 (by decide) ?_
    exact c_iret (v := (-1)) (by first | rw [pif_t (by assumption)] | rw [pif_f (by assumption)]) hx hb hr rfl hlocks ⟨_, _, (fun _ _ _ => rfl), mH.to rfl rfl rfl hw.1⟩ hw.2 dX2_smoke_16
  obtain ⟨jh, h_jh, rfl⟩ := vp_in_of c_1 (by omega)
  have k_jh : (nI jh).toNatClampNeg = jh := nI_clamp (by omega)
  refine lv_aload_n hx hb dX2_smoke_7 rfl (lv_at hl 0 rfl) ?_
  refine lv_iload_n hx hb dX2_smoke_8 rfl (lv_at hl 1 rfl) ?_
  refine c_call (va_runV (As := [.int (nI jh)]) (rest := []) ⟨hx, hb, hml, hown, hts⟩ (met_X2_smokeIn l G ad M Z V tx htx (nI jh)) (cv_X2_X2_smokeIn hts ⟨Nat.le_of_ble_eq_true rfl, Nat.le_of_ble_eq_true rfl⟩) (cP.preV hK hw.1 (hw.1.recv hK)) rfl rfl hl.1 rfl (lv_room (Nat.le_of_ble_eq_true rfl)) dX2_smoke_9 ⟨by first | exact Nat.zero_le _ | omega | decide, by first | exact Nat.zero_le _ | omega | decide⟩) hw.2 (fun q _ h => h) (fun q h => h) (fun H locs hw _ _ hS => ?_)
  obtain ⟨Z1, V1, hz1, hw⟩ := hw
  replace hw := MS.mk hw hS
  refine lv_goto (tgt := 16) hx hb dX2_smoke_12 (by decide) ?_
  exact c_iret (v := mSmoke tx (nI jh)) (by first | rw [pif_t (by assumption)] | rw [pif_f (by assumption)]) hx hb hr rfl hlocks ⟨_, _, hz1, mH.to rfl rfl rfl hw.1⟩ hw.2 dX2_smoke_16
set_option maxHeartbeats 4000000 in
set_option maxRecDepth 100000 in
theorem met_X2_cost (l : Launch) (G : gG) (ad : Nat → Nat) (M Z : Nat → Nat → Int32) (V : Nat → Nat → Int64) (tx : kT) (htx : mTx M tx) (x h : Int32) (nb : Nat) (en : M 0 0 = nI nb) (hn : nb ≤ 6) : Met l yX2_cost (ws_ yX2_cost cX2_cost 3 (some .int)) ({ frames := 5, cells := 0, slots := 0, locals := 119 } : Room) (cP G [.ref (ad 0), .int x, .int h] (mH G ad M Z V)) (cQ (some (.int (pif (vp_in x nb ∧ vp_in h 1000) (mCost tx M (cl x) h) (-1)))) (fun H => ∃ Z9 V9, (∀ k9, k9 ≠ 22 → k9 ≠ 24 → Z9 k9 = Z k9) ∧ mH G ad M Z9 V9 H) (mA ad)) 0 0 (mA ad) := by
  refine c_start (by decide) (Nat.le_of_ble_eq_true rfl) ?_
  intro p e s m below meth c hx hb hr hlocks hml hown hts hB hK ls hl
  have hw := MS.of hB
  have hl : lv_has ls 3 [(0, .ref (ad 0)), (1, .int x), (2, .int h)] := hl
  refine lv_aload_n hx hb dX2_cost_0 rfl (lv_at hl 0 rfl) ?_
  refine lv_iload_n hx hb dX2_cost_1 rfl (lv_at hl 1 rfl) ?_
  refine c_read (va_runV (As := [.int x]) (rest := []) ⟨hx, hb, hml, hown, hts⟩ (met_X2_isBlower l G ad M Z V x nb en (by omega)) (cv_X2_X2_isBlower hts ⟨Nat.le_of_ble_eq_true rfl, Nat.le_of_ble_eq_true rfl⟩) (cP.preV hK hw.1 (hw.1.recv hK)) rfl rfl hl.1 rfl (lv_room (Nat.le_of_ble_eq_true rfl)) dX2_cost_2 ⟨by first | exact Nat.zero_le _ | omega | decide, by first | exact Nat.zero_le _ | omega | decide⟩) ?_
  refine b_if_eq (tgt := 24) hx hb dX2_cost_5 (by decide) (fun c_1 => ?_) (fun c_1 => ?_)
  · refine lv_iconst (v := (-1)) hx hb dX2_cost_24 (by decide) ?_
    exact c_iret (v := (-1)) (by first | (rw [pif_t ⟨by assumption, by assumption⟩, show cl (nI jx) = jx from k_jx]) | rw [pif_f (fun h9 => by first | exact absurd h9.1 (by assumption) | exact absurd h9.2 (by assumption))]) hx hb hr rfl hlocks ⟨_, _, (fun _ _ _ => rfl), mH.to rfl rfl rfl hw.1⟩ hw.2 dX2_cost_25
  obtain ⟨jx, h_jx, rfl⟩ := vp_in_of c_1 (by omega)
  have k_jx : (nI jx).toNatClampNeg = jx := nI_clamp (by omega)
  refine lv_iload_n hx hb dX2_cost_8 rfl (lv_at hl 2 rfl) ?_
  refine c_read (va_runS (As := [.int h]) (rest := []) ⟨hx, hb, hml, hown, hts⟩ (met_X2_isHour l G h) (cs_X2_X2_isHour hts ⟨Nat.le_of_ble_eq_true rfl, Nat.le_of_ble_eq_true rfl⟩) (cP.pre hK trivial) rfl rfl hl.1 rfl (lv_room (Nat.le_of_ble_eq_true rfl)) dX2_cost_9 ⟨by first | exact Nat.zero_le _ | omega | decide, by first | exact Nat.zero_le _ | omega | decide⟩) ?_
  refine b_if_eq (tgt := 24) hx hb dX2_cost_12 (by decide) (fun c_2 => ?_) (fun c_2 => ?_)
  · refine lv_iconst (v := (-1)) hx hb dX2_cost_24 (by decide) ?_
    exact c_iret (v := (-1)) (by first | (rw [pif_t ⟨by assumption, by assumption⟩, show cl (nI jx) = jx from k_jx]) | rw [pif_f (fun h9 => by first | exact absurd h9.1 (by assumption) | exact absurd h9.2 (by assumption))]) hx hb hr rfl hlocks ⟨_, _, (fun _ _ _ => rfl), mH.to rfl rfl rfl hw.1⟩ hw.2 dX2_cost_25
  obtain ⟨jh, h_jh, rfl⟩ := vp_in_of c_2 (by omega)
  have k_jh : (nI jh).toNatClampNeg = jh := nI_clamp (by omega)
  refine lv_aload_n hx hb dX2_cost_15 rfl (lv_at hl 0 rfl) ?_
  refine lv_iload_n hx hb dX2_cost_16 rfl (lv_at hl 1 rfl) ?_
  refine lv_iload_n hx hb dX2_cost_17 rfl (lv_at hl 2 rfl) ?_
  refine c_call (va_runV (As := [.int (nI jx), .int (nI jh)]) (rest := []) ⟨hx, hb, hml, hown, hts⟩ (met_X2_costOf l G ad M Z V tx htx jx (by omega) (nI jh)) (cv_X2_X2_costOf hts ⟨Nat.le_of_ble_eq_true rfl, Nat.le_of_ble_eq_true rfl⟩) (cP.preV hK hw.1 (hw.1.recv hK)) rfl rfl hl.1 rfl (lv_room (Nat.le_of_ble_eq_true rfl)) dX2_cost_18 ⟨by first | exact Nat.zero_le _ | omega | decide, by first | exact Nat.zero_le _ | omega | decide⟩) hw.2 (fun q _ h => h) (fun q h => h) (fun H locs hw _ _ hS => ?_)
  obtain ⟨Z1, V1, hz1, hw⟩ := hw
  replace hw := MS.mk hw hS
  refine lv_goto (tgt := 25) hx hb dX2_cost_21 (by decide) ?_
  exact c_iret (v := mCost tx M jx (nI jh)) (by first | (rw [pif_t ⟨by assumption, by assumption⟩, show cl (nI jx) = jx from k_jx]) | rw [pif_f (fun h9 => by first | exact absurd h9.1 (by assumption) | exact absurd h9.2 (by assumption))]) hx hb hr rfl hlocks ⟨_, _, hz1, mH.to rfl rfl rfl hw.1⟩ hw.2 dX2_cost_25
