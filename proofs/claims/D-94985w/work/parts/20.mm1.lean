set_option maxHeartbeats 4000000 in
set_option maxRecDepth 100000 in
theorem met_X2_isIn (l : Launch) (G : gG) (v lo hi : Int32) : Met l yX2_isIn (ws_ yX2_isIn cX2_isIn 3 (some .boolean)) ({ frames := 0, cells := 0, slots := 0, locals := 0 } : Room) (cP G [.int v, .int lo, .int hi] (fun _ => True)) (cR (some (.int (bI (lo ≤ v ∧ v ≤ hi))))) 0 0 (fun _ => False) := by
  refine c_start (by decide) (Nat.le_of_ble_eq_true rfl) ?_
  intro p e s m below meth c hx hb hr hlocks hml hown hts hB hK ls hl
  have hl : lv_has ls 3 [(0, .int v), (1, .int lo), (2, .int hi)] := hl
  refine lv_iload_n hx hb dX2_isIn_0 rfl (lv_at hl 0 rfl) ?_
  refine lv_iload_n hx hb dX2_isIn_1 rfl (lv_at hl 1 rfl) ?_
  refine lv_icmp_lt (tgt := 14) hx hb dX2_isIn_2 (by decide) (fun c_1 => ?_) (fun c_1 => ?_)
  · refine lv_iconst (v := nI 0) hx hb dX2_isIn_14 (by decide) ?_
    exact c_rret (v := nI 0) ((bI_f (by simp [c_1, Int32.not_le.mpr c_1])).symm) hx hb hr rfl hlocks dX2_isIn_15 rfl rfl
  refine lv_iload_n hx hb dX2_isIn_5 rfl (lv_at hl 0 rfl) ?_
  refine lv_iload_n hx hb dX2_isIn_6 rfl (lv_at hl 2 rfl) ?_
  refine lv_icmp_gt (tgt := 14) hx hb dX2_isIn_7 (by decide) (fun c_2 => ?_) (fun c_2 => ?_)
  · refine lv_iconst (v := nI 0) hx hb dX2_isIn_14 (by decide) ?_
    exact c_rret (v := nI 0) ((bI_f (by simp [c_1, Int32.not_lt.mp c_1, c_2, Int32.not_le.mpr c_2])).symm) hx hb hr rfl hlocks dX2_isIn_15 rfl rfl
  refine lv_iconst (v := nI 1) hx hb dX2_isIn_10 (by decide) ?_
  refine lv_goto (tgt := 15) hx hb dX2_isIn_11 (by decide) ?_
  exact c_rret (v := nI 1) ((bI_t (by simp [c_1, Int32.not_lt.mp c_1, c_2, Int32.not_lt.mp c_2])).symm) hx hb hr rfl hlocks dX2_isIn_15 rfl rfl
set_option maxHeartbeats 4000000 in
set_option maxRecDepth 100000 in
theorem met_X2_isHour (l : Launch) (G : gG) (h : Int32) : Met l yX2_isHour (ws_ yX2_isHour cX2_isHour 1 (some .boolean)) ({ frames := 1, cells := 0, slots := 0, locals := 22 } : Room) (cP G [.int h] (fun _ => True)) (cR (some (.int (bI (vp_in h 1000))))) 0 0 (fun _ => False) := by
  refine c_start (by decide) (Nat.le_of_ble_eq_true rfl) ?_
  intro p e s m below meth c hx hb hr hlocks hml hown hts hB hK ls hl
  have hl : lv_has ls 1 [(0, .int h)] := hl
  refine lv_iload_n hx hb dX2_isHour_0 rfl (lv_at hl 0 rfl) ?_
  refine lv_iconst (v := nI 0) hx hb dX2_isHour_1 (by decide) ?_
  refine lv_sipush (v := nI 999) hx hb dX2_isHour_2 (by decide) ?_
  refine c_read (va_runS (As := [.int h, .int (nI 0), .int (nI 999)]) (rest := []) ⟨hx, hb, hml, hown, hts⟩ (met_X2_isIn l G h (nI 0) (nI 999)) (cs_X2_X2_isIn hts ⟨Nat.le_of_ble_eq_true rfl, Nat.le_of_ble_eq_true rfl⟩) (cP.pre hK trivial) rfl rfl hl.1 rfl (lv_room (Nat.le_of_ble_eq_true rfl)) dX2_isHour_5 ⟨by first | exact Nat.zero_le _ | omega | decide, by first | exact Nat.zero_le _ | omega | decide⟩) ?_
  exact c_rret (v := bI (nI 0 ≤ h ∧ h ≤ nI 999)) (bI_congr (in_const (by decide))) hx hb hr (bI_nar _) hlocks dX2_isHour_8 rfl rfl
set_option maxHeartbeats 4000000 in
set_option maxRecDepth 100000 in
theorem met_X2_isBlower (l : Launch) (G : gG) (ad : Nat → Nat) (M Z : Nat → Nat → Int32) (V : Nat → Nat → Int64) (b : Int32) (n : Nat) (en : M 0 0 = nI n) (hn : n < 2 ^ 31) : Met l yX2_isBlower (ws_ yX2_isBlower cX2_isBlower 2 (some .boolean)) ({ frames := 1, cells := 0, slots := 0, locals := 22 } : Room) (cP G [.ref (ad 0), .int b] (mH G ad M Z V)) (cR (some (.int (bI (vp_in b n))))) 0 0 (fun _ => False) := by
  refine c_start (by decide) (Nat.le_of_ble_eq_true rfl) ?_
  intro p e s m below meth c hx hb hr hlocks hml hown hts hB hK ls hl
  have hw := MS.of hB
  have hl : lv_has ls 2 [(0, .ref (ad 0)), (1, .int b)] := hl
  refine lv_iload_n hx hb dX2_isBlower_0 rfl (lv_at hl 1 rfl) ?_
  refine lv_iconst (v := nI 0) hx hb dX2_isBlower_1 (by decide) ?_
  refine lv_aload_n hx hb dX2_isBlower_2 rfl (lv_at hl 0 rfl) ?_
  refine m_g_a hx hb hts hown hK hw dX2_isBlower_3 ?_
  refine lv_iconst (v := nI 0) hx hb dX2_isBlower_6 (by decide) ?_
  refine m_l_a (j := 0) (v := nI n) hx hb hK hw en (by decide) dX2_isBlower_7 ?_
  refine lv_iconst (v := nI 1) hx hb dX2_isBlower_8 (by decide) ?_
  refine lv_isub hx hb dX2_isBlower_9 ?_
  refine c_read (va_runS (As := [.int b, .int (nI 0), .int ((nI n) - (nI 1))]) (rest := []) ⟨hx, hb, hml, hown, hts⟩ (met_X2_isIn l G b (nI 0) ((nI n) - (nI 1))) (cs_X2_X2_isIn hts ⟨Nat.le_of_ble_eq_true rfl, Nat.le_of_ble_eq_true rfl⟩) (cP.pre hK trivial) rfl rfl hl.1 rfl (lv_room (Nat.le_of_ble_eq_true rfl)) dX2_isBlower_10 ⟨by first | exact Nat.zero_le _ | omega | decide, by first | exact Nat.zero_le _ | omega | decide⟩) ?_
  exact c_rret (v := bI (nI 0 ≤ b ∧ b ≤ (nI n) - (nI 1))) (bI_congr (in_vp hn)) hx hb hr (bI_nar _) hlocks dX2_isBlower_13 rfl rfl
set_option maxHeartbeats 4000000 in
set_option maxRecDepth 100000 in
theorem met_X2_isKind (l : Launch) (G : gG) (ad : Nat → Nat) (M Z : Nat → Nat → Int32) (V : Nat → Nat → Int64) (b : Int32) (n : Nat) (en : M 0 1 = nI n) (hn : n < 2 ^ 31) : Met l yX2_isKind (ws_ yX2_isKind cX2_isKind 2 (some .boolean)) ({ frames := 1, cells := 0, slots := 0, locals := 22 } : Room) (cP G [.ref (ad 0), .int b] (mH G ad M Z V)) (cR (some (.int (bI (vp_in b n))))) 0 0 (fun _ => False) := by
  refine c_start (by decide) (Nat.le_of_ble_eq_true rfl) ?_
  intro p e s m below meth c hx hb hr hlocks hml hown hts hB hK ls hl
  have hw := MS.of hB
  have hl : lv_has ls 2 [(0, .ref (ad 0)), (1, .int b)] := hl
  refine lv_iload_n hx hb dX2_isKind_0 rfl (lv_at hl 1 rfl) ?_
  refine lv_iconst (v := nI 0) hx hb dX2_isKind_1 (by decide) ?_
  refine lv_aload_n hx hb dX2_isKind_2 rfl (lv_at hl 0 rfl) ?_
  refine m_g_a hx hb hts hown hK hw dX2_isKind_3 ?_
  refine lv_iconst (v := nI 1) hx hb dX2_isKind_6 (by decide) ?_
  refine m_l_a (j := 1) (v := nI n) hx hb hK hw en (by decide) dX2_isKind_7 ?_
  refine lv_iconst (v := nI 1) hx hb dX2_isKind_8 (by decide) ?_
  refine lv_isub hx hb dX2_isKind_9 ?_
  refine c_read (va_runS (As := [.int b, .int (nI 0), .int ((nI n) - (nI 1))]) (rest := []) ⟨hx, hb, hml, hown, hts⟩ (met_X2_isIn l G b (nI 0) ((nI n) - (nI 1))) (cs_X2_X2_isIn hts ⟨Nat.le_of_ble_eq_true rfl, Nat.le_of_ble_eq_true rfl⟩) (cP.pre hK trivial) rfl rfl hl.1 rfl (lv_room (Nat.le_of_ble_eq_true rfl)) dX2_isKind_10 ⟨by first | exact Nat.zero_le _ | omega | decide, by first | exact Nat.zero_le _ | omega | decide⟩) ?_
  exact c_rret (v := bI (nI 0 ≤ b ∧ b ≤ (nI n) - (nI 1))) (bI_congr (in_vp hn)) hx hb hr (bI_nar _) hlocks dX2_isKind_13 rfl rfl
set_option maxHeartbeats 4000000 in
set_option maxRecDepth 100000 in
theorem met_X2_isPiece (l : Launch) (G : gG) (ad : Nat → Nat) (M Z : Nat → Nat → Int32) (V : Nat → Nat → Int64) (b : Int32) (n : Nat) (en : M 0 2 = nI n) (hn : n < 2 ^ 31) : Met l yX2_isPiece (ws_ yX2_isPiece cX2_isPiece 2 (some .boolean)) ({ frames := 1, cells := 0, slots := 0, locals := 22 } : Room) (cP G [.ref (ad 0), .int b] (mH G ad M Z V)) (cR (some (.int (bI (vp_in b n))))) 0 0 (fun _ => False) := by
  refine c_start (by decide) (Nat.le_of_ble_eq_true rfl) ?_
  intro p e s m below meth c hx hb hr hlocks hml hown hts hB hK ls hl
  have hw := MS.of hB
  have hl : lv_has ls 2 [(0, .ref (ad 0)), (1, .int b)] := hl
  refine lv_iload_n hx hb dX2_isPiece_0 rfl (lv_at hl 1 rfl) ?_
  refine lv_iconst (v := nI 0) hx hb dX2_isPiece_1 (by decide) ?_
  refine lv_aload_n hx hb dX2_isPiece_2 rfl (lv_at hl 0 rfl) ?_
  refine m_g_a hx hb hts hown hK hw dX2_isPiece_3 ?_
  refine lv_iconst (v := nI 2) hx hb dX2_isPiece_6 (by decide) ?_
  refine m_l_a (j := 2) (v := nI n) hx hb hK hw en (by decide) dX2_isPiece_7 ?_
  refine lv_iconst (v := nI 1) hx hb dX2_isPiece_8 (by decide) ?_
  refine lv_isub hx hb dX2_isPiece_9 ?_
  refine c_read (va_runS (As := [.int b, .int (nI 0), .int ((nI n) - (nI 1))]) (rest := []) ⟨hx, hb, hml, hown, hts⟩ (met_X2_isIn l G b (nI 0) ((nI n) - (nI 1))) (cs_X2_X2_isIn hts ⟨Nat.le_of_ble_eq_true rfl, Nat.le_of_ble_eq_true rfl⟩) (cP.pre hK trivial) rfl rfl hl.1 rfl (lv_room (Nat.le_of_ble_eq_true rfl)) dX2_isPiece_10 ⟨by first | exact Nat.zero_le _ | omega | decide, by first | exact Nat.zero_le _ | omega | decide⟩) ?_
  exact c_rret (v := bI (nI 0 ≤ b ∧ b ≤ (nI n) - (nI 1))) (bI_congr (in_vp hn)) hx hb hr (bI_nar _) hlocks dX2_isPiece_13 rfl rfl
set_option maxHeartbeats 4000000 in
set_option maxRecDepth 100000 in
theorem met_X2_get (l : Launch) (G : gG) (ad : Nat → Nat) (M Z : Nat → Nat → Int32) (V : Nat → Nat → Int64) (b w : Nat) (v : Int32) (h : 10 + 5 * b + w < 3890) (hv : M 0 (10 + 5 * b + w) = v) : Met l yX2_get (ws_ yX2_get cX2_get 3 (some .int)) ({ frames := 0, cells := 0, slots := 0, locals := 0 } : Room) (cP G [.ref (ad 0), .int (nI b), .int (nI w)] (mH G ad M Z V)) (cR (some (.int v))) 0 0 (fun _ => False) := by
  refine c_start (by decide) (Nat.le_of_ble_eq_true rfl) ?_
  intro p e s m below meth c hx hb hr hlocks hml hown hts hB hK ls hl
  have hw := MS.of hB
  have hl : lv_has ls 3 [(0, .ref (ad 0)), (1, .int (nI b)), (2, .int (nI w))] := hl
  refine lv_aload_n hx hb dX2_get_0 rfl (lv_at hl 0 rfl) ?_
  refine m_g_a hx hb hts hown hK hw dX2_get_1 ?_
  refine lv_bipush (v := nI 10) hx hb dX2_get_4 (by decide) ?_
  refine lv_iconst (v := nI 5) hx hb dX2_get_6 (by decide) ?_
  refine lv_iload_n hx hb dX2_get_7 rfl (lv_at hl 1 rfl) ?_
  refine n_imul hx hb dX2_get_8 ?_
  refine n_iadd hx hb dX2_get_9 ?_
  refine lv_iload_n hx hb dX2_get_10 rfl (lv_at hl 2 rfl) ?_
  refine n_iadd hx hb dX2_get_11 ?_
  refine m_l_a (j := 10 + 5 * b + w) (v := v) hx hb hK hw hv (by omega) dX2_get_12 ?_
  exact c_rret (v := v) (by first | rfl | simp [pif_true, pif_false]) hx hb hr rfl hlocks dX2_get_13 rfl rfl
set_option maxHeartbeats 4000000 in
set_option maxRecDepth 100000 in
theorem met_X2_set (l : Launch) (G : gG) (ad : Nat → Nat) (M Z : Nat → Nat → Int32) (V : Nat → Nat → Int64) (b w : Nat) (x : Int32) (h : 10 + 5 * b + w < 3890) : Met l yX2_set (ws_ yX2_set cX2_set 4 none) ({ frames := 0, cells := 0, slots := 0, locals := 0 } : Room) (cP G [.ref (ad 0), .int (nI b), .int (nI w), .int x] (mH G ad M Z V)) (cQ none (mH G ad (up2 M 0 (10 + 5 * b + w) x) Z V) (mA ad)) 0 0 (mA ad) := by
  refine c_start (by decide) (Nat.le_of_ble_eq_true rfl) ?_
  intro p e s m below meth c hx hb hr hlocks hml hown hts hB hK ls hl
  have hw := MS.of hB
  have hl : lv_has ls 4 [(0, .ref (ad 0)), (1, .int (nI b)), (2, .int (nI w)), (3, .int x)] := hl
  refine lv_aload_n hx hb dX2_set_0 rfl (lv_at hl 0 rfl) ?_
  refine m_g_a hx hb hts hown hK hw dX2_set_1 ?_
  refine lv_bipush (v := nI 10) hx hb dX2_set_4 (by decide) ?_
  refine lv_iconst (v := nI 5) hx hb dX2_set_6 (by decide) ?_
  refine lv_iload_n hx hb dX2_set_7 rfl (lv_at hl 1 rfl) ?_
  refine n_imul hx hb dX2_set_8 ?_
  refine n_iadd hx hb dX2_set_9 ?_
  refine lv_iload_n hx hb dX2_set_10 rfl (lv_at hl 2 rfl) ?_
  refine n_iadd hx hb dX2_set_11 ?_
  refine lv_iload_n hx hb dX2_set_12 rfl (lv_at hl 3 rfl) ?_
  refine m_s_a (j := 10 + 5 * b + w) hx hb hK hw (by omega) dX2_set_13 (fun H locs hw => ?_)
  exact c_vret hx hb hr hlocks (mH.to (by first | rfl | simp [pif_true, pif_false]) rfl rfl hw.1) hw.2 dX2_set_14
set_option maxHeartbeats 4000000 in
set_option maxRecDepth 100000 in
theorem met_X2_pieceAt (l : Launch) (G : gG) (q : Nat) : Met l yX2_pieceAt (ws_ yX2_pieceAt cX2_pieceAt 1 (some .int)) ({ frames := 0, cells := 0, slots := 0, locals := 0 } : Room) (cP G [.int (nI q)] (fun _ => True)) (cR (some (.int (nI (150 + 10 * q))))) 0 0 (fun _ => False) := by
  refine c_start (by decide) (Nat.le_of_ble_eq_true rfl) ?_
  intro p e s m below meth c hx hb hr hlocks hml hown hts hB hK ls hl
  have hl : lv_has ls 1 [(0, .int (nI q))] := hl
  refine lv_sipush (v := nI 150) hx hb dX2_pieceAt_0 (by decide) ?_
  refine lv_bipush (v := nI 10) hx hb dX2_pieceAt_3 (by decide) ?_
  refine lv_iload_n hx hb dX2_pieceAt_5 rfl (lv_at hl 0 rfl) ?_
  refine n_imul hx hb dX2_pieceAt_6 ?_
  refine n_iadd hx hb dX2_pieceAt_7 ?_
  exact c_rret (v := nI (150 + 10 * q)) (by first | rfl | simp [pif_true, pif_false]) hx hb hr rfl hlocks dX2_pieceAt_8 rfl rfl
set_option maxHeartbeats 4000000 in
set_option maxRecDepth 100000 in
theorem met_X2_gave (l : Launch) (G : gG) (ad : Nat → Nat) (M Z : Nat → Nat → Int32) (V : Nat → Nat → Int64) (q b : Nat) (v : Int32) (h : 150 + 10 * q + 4 + b < 3890) (hv : M 0 (150 + 10 * q + 4 + b) = v) : Met l yX2_gave (ws_ yX2_gave cX2_gave 3 (some .int)) ({ frames := 1, cells := 0, slots := 0, locals := 20 } : Room) (cP G [.ref (ad 0), .int (nI q), .int (nI b)] (mH G ad M Z V)) (cR (some (.int v))) 0 0 (fun _ => False) := by
  refine c_start (by decide) (Nat.le_of_ble_eq_true rfl) ?_
  intro p e s m below meth c hx hb hr hlocks hml hown hts hB hK ls hl
  have hw := MS.of hB
  have hl : lv_has ls 3 [(0, .ref (ad 0)), (1, .int (nI q)), (2, .int (nI b))] := hl
  refine lv_aload_n hx hb dX2_gave_0 rfl (lv_at hl 0 rfl) ?_
  refine m_g_a hx hb hts hown hK hw dX2_gave_1 ?_
  refine lv_iload_n hx hb dX2_gave_4 rfl (lv_at hl 1 rfl) ?_
  refine c_read (va_runS (As := [.int (nI q)]) (rest := [.ref (ad 1)]) ⟨hx, hb, hml, hown, hts⟩ (met_X2_pieceAt l G q) (cs_X2_X2_pieceAt hts ⟨Nat.le_of_ble_eq_true rfl, Nat.le_of_ble_eq_true rfl⟩) (cP.pre hK trivial) rfl rfl hl.1 rfl (lv_room (Nat.le_of_ble_eq_true rfl)) dX2_gave_5 ⟨by first | exact Nat.zero_le _ | omega | decide, by first | exact Nat.zero_le _ | omega | decide⟩) ?_
  refine lv_iconst (v := nI 4) hx hb dX2_gave_8 (by decide) ?_
  refine n_iadd hx hb dX2_gave_9 ?_
  refine lv_iload_n hx hb dX2_gave_10 rfl (lv_at hl 2 rfl) ?_
  refine n_iadd hx hb dX2_gave_11 ?_
  refine m_l_a (j := 150 + 10 * q + 4 + b) (v := v) hx hb hK hw hv (by omega) dX2_gave_12 ?_
  exact c_rret (v := v) (by first | rfl | simp [pif_true, pif_false]) hx hb hr rfl hlocks dX2_gave_13 rfl rfl
