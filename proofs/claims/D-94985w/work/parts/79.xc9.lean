set_option maxHeartbeats 4000000 in
set_option maxRecDepth 100000 in
theorem met_X0_namesBlower (l : Launch) (G : gG) (ad : Nat → Nat) (sz : Nat) (X Z : Nat → Nat → Int32) (T : Nat → Nat → Option Nat) (b : Nat) (hb0 : b < 6) : Met l yX0_namesBlower (ws_ yX0_namesBlower cX0_namesBlower 2 none) ({ frames := 0, cells := 0, slots := 0, locals := 0 } : Room) (cP G [.ref (ad 0), .int (nI b)] (xH G ad X Z T sz)) (cQ none (xH G ad X (up2 (up2 (up2 (up2 Z 2 1 (nI b)) 2 2 (X (61 + b) 0)) 2 3 (X (61 + b) 1)) 2 4 (X 53 b)) T sz) (xA ad sz)) 0 0 (xA ad sz) := by
  refine c_start (by decide) (Nat.le_of_ble_eq_true rfl) ?_
  intro p e s m below meth c hx hb hr hlocks hml hown hts hB hK ls hl
  have hz := hB.2.2
  have hw := XS.of hB
  have hl : lv_has ls 2 [(0, .ref (ad 0)), (1, .int (nI b))] := hl
  refine lv_aload_n hx hb dX0_namesBlower_0 rfl (lv_at hl 0 rfl) ?_
  refine x_g_names hx hb hts hown hK hw dX0_namesBlower_1 ?_
  refine lv_iconst (v := nI 1) hx hb dX0_namesBlower_4 (by decide) ?_
  refine lv_iload_n hx hb dX0_namesBlower_5 rfl (lv_at hl 1 rfl) ?_
  refine z_s (k := 2) (j := 1) (n := 11) hx hb hK hw (by decide) (by decide) dX0_namesBlower_6 (fun H locs hw => ?_)
  refine lv_aload_n hx hb dX0_namesBlower_7 rfl (lv_at hl 0 rfl) ?_
  refine x_g_names hx hb hts hown hK hw dX0_namesBlower_8 ?_
  refine lv_iconst (v := nI 2) hx hb dX0_namesBlower_11 (by decide) ?_
  refine lv_aload_n hx hb dX0_namesBlower_12 rfl (lv_at hl 0 rfl) ?_
  refine x_g_now hx hb hts hown hK hw dX0_namesBlower_13 ?_
  refine x_sX0_51_blower hx hb hts hown hK hw dX0_namesBlower_16 ?_
  refine lv_iload_n hx hb dX0_namesBlower_19 rfl (lv_at hl 1 rfl) ?_
  refine x_a (r := 61 + b) hx hb hK hw xO_55 rfl (by decide) (by omega) rfl dX0_namesBlower_20 ?_
  refine lv_iconst (v := nI 0) hx hb dX0_namesBlower_21 (by decide) ?_
  refine x_l (k := 61 + b) (j := 0) (n := 3) (v := X (61 + b) 0) hx hb hK hw rfl (xL_61 (by omega)) (by decide) dX0_namesBlower_22 ?_
  refine z_s (k := 2) (j := 2) (n := 11) hx hb hK hw (by decide) (by decide) dX0_namesBlower_23 (fun H locs hw => ?_)
  refine lv_aload_n hx hb dX0_namesBlower_24 rfl (lv_at hl 0 rfl) ?_
  refine x_g_names hx hb hts hown hK hw dX0_namesBlower_25 ?_
  refine lv_iconst (v := nI 3) hx hb dX0_namesBlower_28 (by decide) ?_
  refine lv_aload_n hx hb dX0_namesBlower_29 rfl (lv_at hl 0 rfl) ?_
  refine x_g_now hx hb hts hown hK hw dX0_namesBlower_30 ?_
  refine x_sX0_51_blower hx hb hts hown hK hw dX0_namesBlower_33 ?_
  refine lv_iload_n hx hb dX0_namesBlower_36 rfl (lv_at hl 1 rfl) ?_
  refine x_a (r := 61 + b) hx hb hK hw xO_55 rfl (by decide) (by omega) rfl dX0_namesBlower_37 ?_
  refine lv_iconst (v := nI 1) hx hb dX0_namesBlower_38 (by decide) ?_
  refine x_l (k := 61 + b) (j := 1) (n := 3) (v := X (61 + b) 1) hx hb hK hw rfl (xL_61 (by omega)) (by decide) dX0_namesBlower_39 ?_
  refine z_s (k := 2) (j := 3) (n := 11) hx hb hK hw (by decide) (by decide) dX0_namesBlower_40 (fun H locs hw => ?_)
  refine lv_aload_n hx hb dX0_namesBlower_41 rfl (lv_at hl 0 rfl) ?_
  refine x_g_names hx hb hts hown hK hw dX0_namesBlower_42 ?_
  refine lv_iconst (v := nI 4) hx hb dX0_namesBlower_45 (by decide) ?_
  refine lv_aload_n hx hb dX0_namesBlower_46 rfl (lv_at hl 0 rfl) ?_
  refine x_g_now hx hb hts hown hK hw dX0_namesBlower_47 ?_
  refine x_sX0_51_row hx hb hts hown hK hw dX0_namesBlower_50 ?_
  refine lv_iconst (v := nI 0) hx hb dX0_namesBlower_53 (by decide) ?_
  refine lv_iload_n hx hb dX0_namesBlower_54 rfl (lv_at hl 1 rfl) ?_
  refine n_iadd0 hx hb dX0_namesBlower_55 ?_
  refine x_l (k := 53) (j := b) (n := 275) (v := X 53 b) hx hb hK hw rfl (by decide) (by omega) dX0_namesBlower_56 ?_
  refine z_s (k := 2) (j := 4) (n := 11) hx hb hK hw (by decide) (by decide) dX0_namesBlower_57 (fun H locs hw => ?_)
  exact c_vret hx hb hr hlocks (xH.to rfl rfl rfl hw.1) hw.2.1 dX0_namesBlower_58
set_option maxHeartbeats 4000000 in
set_option maxRecDepth 100000 in
theorem met_X0_namesKind (l : Launch) (G : gG) (ad : Nat → Nat) (sz : Nat) (X Z : Nat → Nat → Int32) (T : Nat → Nat → Option Nat) (k : Nat) (hk : k < 6) : Met l yX0_namesKind (ws_ yX0_namesKind cX0_namesKind 2 none) ({ frames := 0, cells := 0, slots := 0, locals := 0 } : Room) (cP G [.ref (ad 0), .int (nI k)] (xH G ad X Z T sz)) (cQ none (xH G ad X (up2 (up2 (up2 Z 2 5 (nI k)) 2 6 (X (67 + k) 0)) 2 7 (X (67 + k) 2)) T sz) (xA ad sz)) 0 0 (xA ad sz) := by
  refine c_start (by decide) (Nat.le_of_ble_eq_true rfl) ?_
  intro p e s m below meth c hx hb hr hlocks hml hown hts hB hK ls hl
  have hz := hB.2.2
  have hw := XS.of hB
  have hl : lv_has ls 2 [(0, .ref (ad 0)), (1, .int (nI k))] := hl
  refine lv_aload_n hx hb dX0_namesKind_0 rfl (lv_at hl 0 rfl) ?_
  refine x_g_names hx hb hts hown hK hw dX0_namesKind_1 ?_
  refine lv_iconst (v := nI 5) hx hb dX0_namesKind_4 (by decide) ?_
  refine lv_iload_n hx hb dX0_namesKind_5 rfl (lv_at hl 1 rfl) ?_
  refine z_s (k := 2) (j := 5) (n := 11) hx hb hK hw (by decide) (by decide) dX0_namesKind_6 (fun H locs hw => ?_)
  refine lv_aload_n hx hb dX0_namesKind_7 rfl (lv_at hl 0 rfl) ?_
  refine x_g_names hx hb hts hown hK hw dX0_namesKind_8 ?_
  refine lv_bipush (v := nI 6) hx hb dX0_namesKind_11 (by decide) ?_
  refine lv_aload_n hx hb dX0_namesKind_13 rfl (lv_at hl 0 rfl) ?_
  refine x_g_now hx hb hts hown hK hw dX0_namesKind_14 ?_
  refine x_sX0_51_kind hx hb hts hown hK hw dX0_namesKind_17 ?_
  refine lv_iload_n hx hb dX0_namesKind_20 rfl (lv_at hl 1 rfl) ?_
  refine x_a (r := 67 + k) hx hb hK hw xO_56 rfl (by decide) (by omega) rfl dX0_namesKind_21 ?_
  refine lv_iconst (v := nI 0) hx hb dX0_namesKind_22 (by decide) ?_
  refine x_l (k := 67 + k) (j := 0) (n := 3) (v := X (67 + k) 0) hx hb hK hw rfl (xL_67 (by omega)) (by decide) dX0_namesKind_23 ?_
  refine z_s (k := 2) (j := 6) (n := 11) hx hb hK hw (by decide) (by decide) dX0_namesKind_24 (fun H locs hw => ?_)
  refine lv_aload_n hx hb dX0_namesKind_25 rfl (lv_at hl 0 rfl) ?_
  refine x_g_names hx hb hts hown hK hw dX0_namesKind_26 ?_
  refine lv_bipush (v := nI 7) hx hb dX0_namesKind_29 (by decide) ?_
  refine lv_aload_n hx hb dX0_namesKind_31 rfl (lv_at hl 0 rfl) ?_
  refine x_g_now hx hb hts hown hK hw dX0_namesKind_32 ?_
  refine x_sX0_51_kind hx hb hts hown hK hw dX0_namesKind_35 ?_
  refine lv_iload_n hx hb dX0_namesKind_38 rfl (lv_at hl 1 rfl) ?_
  refine x_a (r := 67 + k) hx hb hK hw xO_56 rfl (by decide) (by omega) rfl dX0_namesKind_39 ?_
  refine lv_iconst (v := nI 2) hx hb dX0_namesKind_40 (by decide) ?_
  refine x_l (k := 67 + k) (j := 2) (n := 3) (v := X (67 + k) 2) hx hb hK hw rfl (xL_67 (by omega)) (by decide) dX0_namesKind_41 ?_
  refine z_s (k := 2) (j := 7) (n := 11) hx hb hK hw (by decide) (by decide) dX0_namesKind_42 (fun H locs hw => ?_)
  exact c_vret hx hb hr hlocks (xH.to rfl rfl rfl hw.1) hw.2.1 dX0_namesKind_43
theorem xSmoke_eq {M : Nat → Nat → Int32} {tx : kT} (htx : mTx M tx) {f : Nat → Int32} {h : Int32} (h0 : f 0 = h) : mSumT tx f 0 (nI 40) (nI 40) = mSmoke tx h :=
  mSumT_congr (M := M) (by decide) htx (fun v hv => by
    rcases hv with e | ⟨-, e⟩ | ⟨-, -, e⟩ | ⟨-, e⟩ | ⟨-, -, e⟩
    · subst e; exact h0
    all_goals omega)
theorem xCost_eq {M : Nat → Nat → Int32} {tx : kT} (htx : mTx M tx) {f : Nat → Int32} {b : Nat} {h : Int32} (h0 : f 0 = h) (h1 : f 1 = nI b) (h2 : f 2 = M 0 (10 + 5 * b)) (h3 : f 3 = M 0 (10 + 5 * b + 1)) (h4 : f 4 = M 0 (10 + 5 * b + 2)) : mSumT tx f 1 (nI 99) (nI 1) = mCost tx M b h :=
  mSumT_congr (M := M) (by decide) htx (fun v hv => by
    have hv5 : v < 5 := by
      rcases hv with e | ⟨e, -⟩ | ⟨-, -, e⟩ | ⟨-, e⟩ | ⟨-, -, e⟩ <;> omega
    unfold nmB
    obtain rfl | rfl | rfl | rfl | rfl : v = 0 ∨ v = 1 ∨ v = 2 ∨ v = 3 ∨ v = 4 := by omega
    · exact h0
    · exact h1
    · exact h2
    · exact h3
    · exact h4)
set_option maxHeartbeats 4000000 in
set_option maxRecDepth 100000 in
theorem met_X0_smokeIn (l : Launch) (G : gG) (ad : Nat → Nat) (sz : Nat) (X Z : Nat → Nat → Int32) (T : Nat → Nat → Option Nat) (M : Nat → Nat → Int32) (tx : kT) (htx : mTx M tx) (x : Int32) : Met l yX0_smokeIn (ws_ yX0_smokeIn cX0_smokeIn 2 (some .int)) ({ frames := 106, cells := 0, slots := 0, locals := 6424 } : Room) (cP G [.ref (ad 0), .int x] (fun H => xH G ad X Z T sz H ∧ aTx G (xOld ad sz) X T tx H)) (cQ (some (.int (mSmoke tx x))) (fun H => ∃ Z9, (∀ k9, k9 ≠ 2 → Z9 k9 = Z k9) ∧ xH G ad X Z9 T sz H) (xA ad sz)) 0 0 (xA ad sz) := by
  refine c_start (by decide) (Nat.le_of_ble_eq_true rfl) ?_
  intro p e s m below meth c hx hb hr hlocks hml hown hts hB hK ls hl
  obtain ⟨hB, hE⟩ := hB
  have hz := hB.2.2
  have hw := XS.of hB
  have hl : lv_has ls 2 [(0, .ref (ad 0)), (1, .int x)] := hl
  refine lv_aload_n hx hb dX0_smokeIn_0 rfl (lv_at hl 0 rfl) ?_
  refine x_g_names hx hb hts hown hK hw dX0_smokeIn_1 ?_
  refine lv_iconst (v := nI 0) hx hb dX0_smokeIn_4 (by decide) ?_
  refine lv_iload_n hx hb dX0_smokeIn_5 rfl (lv_at hl 1 rfl) ?_
  refine z_s (k := 2) (j := 0) (n := 11) hx hb hK hw (by decide) (by decide) dX0_smokeIn_6 (fun H locs hw => ?_)
  refine lv_aload_n hx hb dX0_smokeIn_7 rfl (lv_at hl 0 rfl) ?_
  refine lv_iconst (v := nI 0) hx hb dX0_smokeIn_8 (by decide) ?_
  refine lv_bipush (v := nI 40) hx hb dX0_smokeIn_9 (by decide) ?_
  refine lv_bipush (v := nI 40) hx hb dX0_smokeIn_11 (by decide) ?_
  refine c_read (va_runV (As := [.int (nI 0), .int (nI 40), .int (nI 40)]) (rest := []) ⟨hx, hb, hml, hown, hts⟩ (met_X0_asks l G ad sz X (up2 Z 2 0 x) T tx 0 40 (by decide) (by decide) (nI 40)) (cv_X0_X0_asks hts ⟨Nat.le_of_ble_eq_true rfl, Nat.le_of_ble_eq_true rfl⟩) (cP.preV hK ⟨hw.1, (aTx.kept rfl (fun q h9 => h9.keep hw.2.1 hz) (fun q h9 => h9) hE)⟩ (hw.1.recv hK)) rfl rfl hl.1 rfl (lv_room (Nat.le_of_ble_eq_true rfl)) dX0_smokeIn_13 ⟨by first | exact Nat.zero_le _ | omega | decide, by first | exact Nat.zero_le _ | omega | decide⟩) ?_
  exact c_iret (v := mSumT tx ((up2 Z 2 0 x) 2) 0 (nI 40) (nI 40)) (xSmoke_eq htx up2_at) hx hb hr rfl hlocks ⟨_, fun k9 h9 => up2_row h9, xH.to rfl rfl rfl hw.1⟩ hw.2.1 dX0_smokeIn_16
set_option maxHeartbeats 4000000 in
set_option maxRecDepth 100000 in
theorem met_X0_costOf (l : Launch) (G : gG) (ad : Nat → Nat) (sz : Nat) (X Z : Nat → Nat → Int32) (T : Nat → Nat → Option Nat) (M : Nat → Nat → Int32) (tx : kT) (htx : mTx M tx) (b : Nat) (hb0 : b < 6) (h0 : X (61 + b) 0 = M 0 (10 + 5 * b)) (h1 : X (61 + b) 1 = M 0 (10 + 5 * b + 1)) (h2 : X 53 b = M 0 (10 + 5 * b + 2)) (x : Int32) : Met l yX0_costOf (ws_ yX0_costOf cX0_costOf 3 (some .int)) ({ frames := 106, cells := 0, slots := 0, locals := 6424 } : Room) (cP G [.ref (ad 0), .int (nI b), .int x] (fun H => xH G ad X Z T sz H ∧ aTx G (xOld ad sz) X T tx H)) (cQ (some (.int (mCost tx M b x))) (fun H => ∃ Z9, (∀ k9, k9 ≠ 2 → Z9 k9 = Z k9) ∧ xH G ad X Z9 T sz H) (xA ad sz)) 0 0 (xA ad sz) := by
  refine c_start (by decide) (Nat.le_of_ble_eq_true rfl) ?_
  intro p e s m below meth c hx hb hr hlocks hml hown hts hB hK ls hl
  obtain ⟨hB, hE⟩ := hB
  have hz := hB.2.2
  have hw := XS.of hB
  have hl : lv_has ls 3 [(0, .ref (ad 0)), (1, .int (nI b)), (2, .int x)] := hl
  refine lv_aload_n hx hb dX0_costOf_0 rfl (lv_at hl 0 rfl) ?_
  refine x_g_names hx hb hts hown hK hw dX0_costOf_1 ?_
  refine lv_iconst (v := nI 0) hx hb dX0_costOf_4 (by decide) ?_
  refine lv_iload_n hx hb dX0_costOf_5 rfl (lv_at hl 2 rfl) ?_
  refine z_s (k := 2) (j := 0) (n := 11) hx hb hK hw (by decide) (by decide) dX0_costOf_6 (fun H locs hw => ?_)
  refine lv_aload_n hx hb dX0_costOf_7 rfl (lv_at hl 0 rfl) ?_
  refine lv_iload_n hx hb dX0_costOf_8 rfl (lv_at hl 1 rfl) ?_
  refine c_call (va_runV (As := [.int (nI b)]) (rest := []) ⟨hx, hb, hml, hown, hts⟩ (met_X0_namesBlower l G ad sz X (up2 Z 2 0 x) T b (by omega)) (cv_X0_X0_namesBlower hts ⟨Nat.le_of_ble_eq_true rfl, Nat.le_of_ble_eq_true rfl⟩) (cP.preV hK hw.1 (hw.1.recv hK)) rfl rfl hl.1 rfl (lv_room (Nat.le_of_ble_eq_true rfl)) dX0_costOf_9 ⟨by first | exact Nat.zero_le _ | omega | decide, by first | exact Nat.zero_le _ | omega | decide⟩) hw.2.1 (fun q _ h => h) (fun q h => h) (fun H locs hw _ _ hS => ?_)
  replace hw := XS.mk hw hS hz
  refine lv_aload_n hx hb dX0_costOf_12 rfl (lv_at hl 0 rfl) ?_
  refine lv_iconst (v := nI 1) hx hb dX0_costOf_13 (by decide) ?_
  refine lv_bipush (v := nI 99) hx hb dX0_costOf_14 (by decide) ?_
  refine lv_iconst (v := nI 1) hx hb dX0_costOf_16 (by decide) ?_
  refine c_read (va_runV (As := [.int (nI 1), .int (nI 99), .int (nI 1)]) (rest := []) ⟨hx, hb, hml, hown, hts⟩ (met_X0_asks l G ad sz X (up2 (up2 (up2 (up2 (up2 Z 2 0 x) 2 1 (nI b)) 2 2 (X (61 + b) 0)) 2 3 (X (61 + b) 1)) 2 4 (X 53 b)) T tx 1 99 (by decide) (by decide) (nI 1)) (cv_X0_X0_asks hts ⟨Nat.le_of_ble_eq_true rfl, Nat.le_of_ble_eq_true rfl⟩) (cP.preV hK ⟨hw.1, (aTx.kept rfl (fun q h9 => h9.keep hw.2.1 hz) (fun q h9 => h9) hE)⟩ (hw.1.recv hK)) rfl rfl hl.1 rfl (lv_room (Nat.le_of_ble_eq_true rfl)) dX0_costOf_17 ⟨by first | exact Nat.zero_le _ | omega | decide, by first | exact Nat.zero_le _ | omega | decide⟩) ?_
  exact c_iret (v := mSumT tx ((up2 (up2 (up2 (up2 (up2 Z 2 0 x) 2 1 (nI b)) 2 2 (X (61 + b) 0)) 2 3 (X (61 + b) 1)) 2 4 (X 53 b)) 2) 1 (nI 99) (nI 1)) (xCost_eq htx ((up2_ne (Or.inr (by decide))).trans ((up2_ne (Or.inr (by decide))).trans ((up2_ne (Or.inr (by decide))).trans ((up2_ne (Or.inr (by decide))).trans up2_at)))) ((up2_ne (Or.inr (by decide))).trans ((up2_ne (Or.inr (by decide))).trans ((up2_ne (Or.inr (by decide))).trans up2_at))) ((up2_ne (Or.inr (by decide))).trans ((up2_ne (Or.inr (by decide))).trans (up2_at.trans h0))) ((up2_ne (Or.inr (by decide))).trans (up2_at.trans h1)) (up2_at.trans h2)) hx hb hr rfl hlocks ⟨_, fun k9 h9 => (up2_row h9).trans ((up2_row h9).trans ((up2_row h9).trans ((up2_row h9).trans (up2_row h9)))), xH.to rfl rfl rfl hw.1⟩ hw.2.1 dX0_costOf_20
set_option maxHeartbeats 4000000 in
set_option maxRecDepth 100000 in
theorem met_X0_smoke (l : Launch) (G : gG) (ad : Nat → Nat) (sz : Nat) (X Z : Nat → Nat → Int32) (T : Nat → Nat → Option Nat) (M : Nat → Nat → Int32) (tx : kT) (htx : mTx M tx) (x : Int32) : Met l yX0_smoke (ws_ yX0_smoke cX0_smoke 2 (some .int)) ({ frames := 107, cells := 0, slots := 0, locals := 6445 } : Room) (cP G [.ref (ad 0), .int x] (fun H => xH G ad X Z T sz H ∧ aTx G (xOld ad sz) X T tx H)) (cQ (some (.int (pif (vp_in x 1000) (mSmoke tx x) (-1)))) (fun H => ∃ Z9, (∀ k9, k9 ≠ 2 → Z9 k9 = Z k9) ∧ xH G ad X Z9 T sz H) (xA ad sz)) 0 0 (xA ad sz) := by
  refine c_start (by decide) (Nat.le_of_ble_eq_true rfl) ?_
  intro p e s m below meth c hx hb hr hlocks hml hown hts hB hK ls hl
  obtain ⟨hB, hE⟩ := hB
  have hz := hB.2.2
  have hw := XS.of hB
  have hl : lv_has ls 2 [(0, .ref (ad 0)), (1, .int x)] := hl
  refine lv_iload_n hx hb dX0_smoke_0 rfl (lv_at hl 1 rfl) ?_
  refine lv_iconst (v := nI 0) hx hb dX0_smoke_1 (by decide) ?_
  refine lv_sipush (v := nI 999) hx hb dX0_smoke_2 (by decide) ?_
  refine c_read (va_runS (As := [.int x, .int (nI 0), .int (nI 999)]) (rest := []) ⟨hx, hb, hml, hown, hts⟩ (met_X0_in l G x (nI 0) (nI 999)) (cs_X0_X0_in hts ⟨Nat.le_of_ble_eq_true rfl, Nat.le_of_ble_eq_true rfl⟩) (cP.pre hK trivial) rfl rfl hl.1 rfl (lv_room (Nat.le_of_ble_eq_true rfl)) dX0_smoke_5 ⟨by first | exact Nat.zero_le _ | omega | decide, by first | exact Nat.zero_le _ | omega | decide⟩) ?_
  refine b_if_eq (tgt := 19) hx hb dX0_smoke_8 (by decide) (fun c_1 => ?_) (fun c_1 => ?_)
  · refine lv_iconst (v := (-1)) hx hb dX0_smoke_19 (by decide) ?_
    exact c_iret (v := (-1)) (by first | rfl | rw [pif_t (by first | with_reducible assumption | exact ⟨by first | with_reducible assumption | exact vp_in_nI h_jx (by omega), by first | with_reducible assumption | exact (in_const (by decide)).mp (by with_reducible assumption)⟩ | exact (in_const (by decide)).mp (by with_reducible assumption))] | rw [pif_f (fun h9 => by first | exact absurd h9 (by with_reducible assumption) | exact absurd h9.1 (by with_reducible assumption) | exact absurd ((in_const (n := 999) (by decide)).mpr h9.2) (by with_reducible assumption) | exact absurd ((in_const (n := 999) (by decide)).mpr h9) (by with_reducible assumption))]) hx hb hr rfl hlocks ⟨_, fun k9 h9 => rfl, xH.to rfl rfl rfl hw.1⟩ hw.2.1 dX0_smoke_20
  refine lv_aload_n hx hb dX0_smoke_11 rfl (lv_at hl 0 rfl) ?_
  refine lv_iload_n hx hb dX0_smoke_12 rfl (lv_at hl 1 rfl) ?_
  refine c_call (va_runV (As := [.int x]) (rest := []) ⟨hx, hb, hml, hown, hts⟩ (met_X0_smokeIn l G ad sz X Z T M tx htx x) (cv_X0_X0_smokeIn hts ⟨Nat.le_of_ble_eq_true rfl, Nat.le_of_ble_eq_true rfl⟩) (cP.preV hK ⟨hw.1, (aTx.kept rfl (fun q h9 => h9.keep hw.2.1 hz) (fun q h9 => h9) hE)⟩ (hw.1.recv hK)) rfl rfl hl.1 rfl (lv_room (Nat.le_of_ble_eq_true rfl)) dX0_smoke_13 ⟨by first | exact Nat.zero_le _ | omega | decide, by first | exact Nat.zero_le _ | omega | decide⟩) hw.2.1 (fun q _ h => h) (fun q h => h) (fun H locs hw _ _ hS => ?_)
  obtain ⟨Z1, hkz1, hw⟩ := hw
  replace hw := XS.mk hw hS hz
  refine lv_goto (tgt := 20) hx hb dX0_smoke_16 (by decide) ?_
  exact c_iret (v := mSmoke tx x) (by first | rfl | rw [pif_t (by first | with_reducible assumption | exact ⟨by first | with_reducible assumption | exact vp_in_nI h_jx (by omega), by first | with_reducible assumption | exact (in_const (by decide)).mp (by with_reducible assumption)⟩ | exact (in_const (by decide)).mp (by with_reducible assumption))] | rw [pif_f (fun h9 => by first | exact absurd h9 (by with_reducible assumption) | exact absurd h9.1 (by with_reducible assumption) | exact absurd ((in_const (n := 999) (by decide)).mpr h9.2) (by with_reducible assumption) | exact absurd ((in_const (n := 999) (by decide)).mpr h9) (by with_reducible assumption))]) hx hb hr rfl hlocks ⟨_, fun k9 h9 => ((hkz1 k9 h9).trans rfl), xH.to rfl rfl rfl hw.1⟩ hw.2.1 dX0_smoke_20
set_option maxHeartbeats 4000000 in
set_option maxRecDepth 100000 in
theorem met_X0_cost (l : Launch) (G : gG) (ad : Nat → Nat) (sz : Nat) (X Z : Nat → Nat → Int32) (T : Nat → Nat → Option Nat) (M : Nat → Nat → Int32) (nb nk nx np h nu ns ne nt : Nat) (hR : RS X 51 (M 0) nb nk nx np h nu ns ne nt) (tx : kT) (htx : mTx M tx) (x y : Int32) : Met l yX0_cost (ws_ yX0_cost cX0_cost 3 (some .int)) ({ frames := 107, cells := 0, slots := 0, locals := 6446 } : Room) (cP G [.ref (ad 0), .int x, .int y] (fun H => xH G ad X Z T sz H ∧ aTx G (xOld ad sz) X T tx H)) (cQ (some (.int (pif (vp_in x nb ∧ vp_in y 1000) (mCost tx M (cl x) y) (-1)))) (fun H => ∃ Z9, (∀ k9, k9 ≠ 2 → Z9 k9 = Z k9) ∧ xH G ad X Z9 T sz H) (xA ad sz)) 0 0 (xA ad sz) := by
  refine c_start (by decide) (Nat.le_of_ble_eq_true rfl) ?_
  intro p e s m below meth c hx hb hr hlocks hml hown hts hB hK ls hl
  obtain ⟨hB, hE⟩ := hB
  have hz := hB.2.2
  have hw := XS.of hB
  have hl : lv_has ls 3 [(0, .ref (ad 0)), (1, .int x), (2, .int y)] := hl
  have hR0 := hR
  obtain ⟨⟨rnb, mnb, hnb⟩, ⟨rnk, mnk, hnk⟩, ⟨rnx, mnx, hnx⟩, rtx, ⟨rns, mns, hns⟩, ⟨rne, mne, hne⟩, ⟨rnt, mnt, hnt⟩, ⟨rnp, mnp, hnp⟩, ⟨rh, mh, hh⟩, ⟨rnu, mnu, hnu⟩, rbl, rbe, rgi, rki, rse, rto, rpi, rbu, rkd, rva, rst⟩ := hR
  change X 52 0 = _ at rnb; change X 52 1 = _ at rnk; change X 52 2 = _ at rnx; change X 52 3 = _ at rtx; change X 52 4 = _ at rns; change X 52 5 = _ at rne; change X 52 6 = _ at rnt; change X 53 112 = _ at rnp; change X 53 113 = _ at rh; change X 53 114 = _ at rnu
  refine lv_aload_n hx hb dX0_cost_0 rfl (lv_at hl 0 rfl) ?_
  refine lv_iload_n hx hb dX0_cost_1 rfl (lv_at hl 1 rfl) ?_
  refine c_read (va_runV (As := [.int x]) (rest := []) ⟨hx, hb, hml, hown, hts⟩ (met_X0_isBlower l G ad sz X Z T x nb rnb (by omega)) (cv_X0_X0_isBlower hts ⟨Nat.le_of_ble_eq_true rfl, Nat.le_of_ble_eq_true rfl⟩) (cP.preV hK hw.1 (hw.1.recv hK)) rfl rfl hl.1 rfl (lv_room (Nat.le_of_ble_eq_true rfl)) dX0_cost_2 ⟨by first | exact Nat.zero_le _ | omega | decide, by first | exact Nat.zero_le _ | omega | decide⟩) ?_
  refine b_if_eq (tgt := 28) hx hb dX0_cost_5 (by decide) (fun c_1 => ?_) (fun c_1 => ?_)
  · refine lv_iconst (v := (-1)) hx hb dX0_cost_28 (by decide) ?_
    exact c_iret (v := (-1)) (by first | rfl | rw [pif_t (by first | with_reducible assumption | exact ⟨by first | with_reducible assumption | exact vp_in_nI h_jx (by omega), by first | with_reducible assumption | exact (in_const (by decide)).mp (by with_reducible assumption)⟩ | exact (in_const (by decide)).mp (by with_reducible assumption))] | rw [pif_f (fun h9 => by first | exact absurd h9 (by with_reducible assumption) | exact absurd h9.1 (by with_reducible assumption) | exact absurd ((in_const (n := 999) (by decide)).mpr h9.2) (by with_reducible assumption) | exact absurd ((in_const (n := 999) (by decide)).mpr h9) (by with_reducible assumption))]) hx hb hr rfl hlocks ⟨_, fun k9 h9 => rfl, xH.to rfl rfl rfl hw.1⟩ hw.2.1 dX0_cost_29
  obtain ⟨jx, h_jx, rfl⟩ := vp_in_of c_1 (by omega)
  have k_jx : (nI jx).toNatClampNeg = jx := nI_clamp (by omega)
  refine lv_iload_n hx hb dX0_cost_8 rfl (lv_at hl 2 rfl) ?_
  refine lv_iconst (v := nI 0) hx hb dX0_cost_9 (by decide) ?_
  refine lv_sipush (v := nI 999) hx hb dX0_cost_10 (by decide) ?_
  refine c_read (va_runS (As := [.int y, .int (nI 0), .int (nI 999)]) (rest := []) ⟨hx, hb, hml, hown, hts⟩ (met_X0_in l G y (nI 0) (nI 999)) (cs_X0_X0_in hts ⟨Nat.le_of_ble_eq_true rfl, Nat.le_of_ble_eq_true rfl⟩) (cP.pre hK trivial) rfl rfl hl.1 rfl (lv_room (Nat.le_of_ble_eq_true rfl)) dX0_cost_13 ⟨by first | exact Nat.zero_le _ | omega | decide, by first | exact Nat.zero_le _ | omega | decide⟩) ?_
  refine b_if_eq (tgt := 28) hx hb dX0_cost_16 (by decide) (fun c_2 => ?_) (fun c_2 => ?_)
  · refine lv_iconst (v := (-1)) hx hb dX0_cost_28 (by decide) ?_
    exact c_iret (v := (-1)) (by first | rfl | rw [pif_t (by first | with_reducible assumption | exact ⟨by first | with_reducible assumption | exact vp_in_nI h_jx (by omega), by first | with_reducible assumption | exact (in_const (by decide)).mp (by with_reducible assumption)⟩ | exact (in_const (by decide)).mp (by with_reducible assumption))] | rw [pif_f (fun h9 => by first | exact absurd h9 (by with_reducible assumption) | exact absurd h9.1 (by with_reducible assumption) | exact absurd ((in_const (n := 999) (by decide)).mpr h9.2) (by with_reducible assumption) | exact absurd ((in_const (n := 999) (by decide)).mpr h9) (by with_reducible assumption))]) hx hb hr rfl hlocks ⟨_, fun k9 h9 => rfl, xH.to rfl rfl rfl hw.1⟩ hw.2.1 dX0_cost_29
  refine lv_aload_n hx hb dX0_cost_19 rfl (lv_at hl 0 rfl) ?_
  refine lv_iload_n hx hb dX0_cost_20 rfl (lv_at hl 1 rfl) ?_
  refine lv_iload_n hx hb dX0_cost_21 rfl (lv_at hl 2 rfl) ?_
  refine c_call (va_runV (As := [.int (nI jx), .int y]) (rest := []) ⟨hx, hb, hml, hown, hts⟩ (met_X0_costOf l G ad sz X Z T M tx htx jx (by omega) ((rbl jx (by omega)).1) ((rbl jx (by omega)).2.1) ((rbe jx (by omega)).1) y) (cv_X0_X0_costOf hts ⟨Nat.le_of_ble_eq_true rfl, Nat.le_of_ble_eq_true rfl⟩) (cP.preV hK ⟨hw.1, (aTx.kept rfl (fun q h9 => h9.keep hw.2.1 hz) (fun q h9 => h9) hE)⟩ (hw.1.recv hK)) rfl rfl hl.1 rfl (lv_room (Nat.le_of_ble_eq_true rfl)) dX0_cost_22 ⟨by first | exact Nat.zero_le _ | omega | decide, by first | exact Nat.zero_le _ | omega | decide⟩) hw.2.1 (fun q _ h => h) (fun q h => h) (fun H locs hw _ _ hS => ?_)
  obtain ⟨Z1, hkz1, hw⟩ := hw
  replace hw := XS.mk hw hS hz
  refine lv_goto (tgt := 29) hx hb dX0_cost_25 (by decide) ?_
  exact c_iret (v := mCost tx M jx y) (by rw [pif_t ⟨vp_in_nI h_jx (by omega), (in_const (by decide)).mp (by with_reducible assumption)⟩]; simp only [cl, k_jx]) hx hb hr rfl hlocks ⟨_, fun k9 h9 => ((hkz1 k9 h9).trans rfl), xH.to rfl rfl rfl hw.1⟩ hw.2.1 dX0_cost_29
