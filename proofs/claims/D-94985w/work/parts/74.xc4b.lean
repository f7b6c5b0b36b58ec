set_option maxHeartbeats 4000000 in
set_option maxRecDepth 100000 in
theorem met_X0_quarrels (l : Launch) (G : gG) (ad : Nat → Nat) (sz : Nat) (X Z : Nat → Nat → Int32) (T : Nat → Nat → Option Nat) (a b : Nat) (w g : Int32) (ha : a < 6) (hg : X (61 + a) 2 = g) : Met l yX0_quarrels (ws_ yX0_quarrels cX0_quarrels 4 none) ({ frames := 0, cells := 0, slots := 0, locals := 0 } : Room) (cP G [.ref (ad 0), .int (nI a), .int (nI b), .int w] (xH G ad X Z T sz)) (cQ none (xH G ad (up2 X (61 + a) 2 (mQ g b w)) Z T sz) (xA ad sz)) 0 0 (xA ad sz) := by
  refine c_start (by decide) (Nat.le_of_ble_eq_true rfl) ?_
  intro p e s m below meth c hx hb hr hlocks hml hown hts hB hK ls hl
  have hz := hB.2.2
  have hw := XS.of hB
  have hl : lv_has ls 4 [(0, .ref (ad 0)), (1, .int (nI a)), (2, .int (nI b)), (3, .int w)] := hl
  refine lv_aload_n hx hb dX0_quarrels_0 rfl (lv_at hl 0 rfl) ?_
  refine x_g_now hx hb hts hown hK hw dX0_quarrels_1 ?_
  refine x_sX0_51_blower hx hb hts hown hK hw dX0_quarrels_4 ?_
  refine lv_iload_n hx hb dX0_quarrels_7 rfl (lv_at hl 1 rfl) ?_
  refine x_a (r := 61 + a) hx hb hK hw xO_55 rfl (by decide) (by omega) rfl dX0_quarrels_8 ?_
  refine lv_iconst (v := nI 2) hx hb dX0_quarrels_9 (by decide) ?_
  refine lv_iload_n hx hb dX0_quarrels_10 rfl (lv_at hl 3 rfl) ?_
  refine lv_if_eq (tgt := 32) hx hb dX0_quarrels_11 (by decide) (fun c_1 => ?_) (fun c_1 => ?_)
  · refine lv_aload_n hx hb dX0_quarrels_32 rfl (lv_at hl 0 rfl) ?_
    refine x_g_now hx hb hts hown hK hw dX0_quarrels_33 ?_
    refine x_sX0_51_blower hx hb hts hown hK hw dX0_quarrels_36 ?_
    refine lv_iload_n hx hb dX0_quarrels_39 rfl (lv_at hl 1 rfl) ?_
    refine x_a (r := 61 + a) hx hb hK hw xO_55 rfl (by decide) (by omega) rfl dX0_quarrels_40 ?_
    refine lv_iconst (v := nI 2) hx hb dX0_quarrels_41 (by decide) ?_
    refine x_l (k := 61 + a) (j := 2) (n := 3) (v := g) hx hb hK hw hg (xL_61 (by omega)) (by decide) dX0_quarrels_42 ?_
    refine lv_iconst (v := nI 1) hx hb dX0_quarrels_43 (by decide) ?_
    refine lv_iload_n hx hb dX0_quarrels_44 rfl (lv_at hl 2 rfl) ?_
    refine lv_ishl hx hb dX0_quarrels_45 ?_
    refine lv_iconst (v := (-1)) hx hb dX0_quarrels_46 (by decide) ?_
    refine lv_ixor hx hb dX0_quarrels_47 ?_
    refine lv_iand hx hb dX0_quarrels_48 ?_
    refine x_s (k := 61 + a) (j := 2) (n := 3) hx hb hK hw (xL_61 (by omega)) (by decide) dX0_quarrels_49 (fun H locs hw => ?_)
    exact c_vret hx hb hr hlocks (xH.to (by first | rfl | simp [mQ, c_1, pif_true, pif_false]) rfl rfl hw.1) hw.2.1 dX0_quarrels_50
  refine lv_aload_n hx hb dX0_quarrels_14 rfl (lv_at hl 0 rfl) ?_
  refine x_g_now hx hb hts hown hK hw dX0_quarrels_15 ?_
  refine x_sX0_51_blower hx hb hts hown hK hw dX0_quarrels_18 ?_
  refine lv_iload_n hx hb dX0_quarrels_21 rfl (lv_at hl 1 rfl) ?_
  refine x_a (r := 61 + a) hx hb hK hw xO_55 rfl (by decide) (by omega) rfl dX0_quarrels_22 ?_
  refine lv_iconst (v := nI 2) hx hb dX0_quarrels_23 (by decide) ?_
  refine x_l (k := 61 + a) (j := 2) (n := 3) (v := g) hx hb hK hw hg (xL_61 (by omega)) (by decide) dX0_quarrels_24 ?_
  refine lv_iconst (v := nI 1) hx hb dX0_quarrels_25 (by decide) ?_
  refine lv_iload_n hx hb dX0_quarrels_26 rfl (lv_at hl 2 rfl) ?_
  refine lv_ishl hx hb dX0_quarrels_27 ?_
  refine lv_ior hx hb dX0_quarrels_28 ?_
  refine lv_goto (tgt := 49) hx hb dX0_quarrels_29 (by decide) ?_
  refine x_s (k := 61 + a) (j := 2) (n := 3) hx hb hK hw (xL_61 (by omega)) (by decide) dX0_quarrels_49 (fun H locs hw => ?_)
  exact c_vret hx hb hr hlocks (xH.to (by first | rfl | simp [mQ, c_1, pif_true, pif_false]) rfl rfl hw.1) hw.2.1 dX0_quarrels_50
set_option maxHeartbeats 4000000 in
set_option maxRecDepth 100000 in
theorem met_X0_quarrel (l : Launch) (G : gG) (ad : Nat → Nat) (sz : Nat) (X Z : Nat → Nat → Int32) (T : Nat → Nat → Option Nat) (x y w : Int32) (nb : Nat) (en : X 52 0 = nI nb) (hn : nb ≤ 6) : Met l yX0_quarrel (ws_ yX0_quarrel cX0_quarrel 4 (some .boolean)) ({ frames := 2, cells := 0, slots := 0, locals := 43 } : Room) (cP G [.ref (ad 0), .int x, .int y, .int w] (xH G ad X Z T sz)) (cQ (some (.int (bI (vp_in x nb ∧ vp_in y nb ∧ ¬ x = y)))) (xH G ad (xQuarrel X nb x y w) Z T sz) (xA ad sz)) 0 0 (xA ad sz) := by
  refine c_start (by decide) (Nat.le_of_ble_eq_true rfl) ?_
  intro p e s m below meth c hx hb hr hlocks hml hown hts hB hK ls hl
  have hz := hB.2.2
  have hw := XS.of hB
  have hl : lv_has ls 4 [(0, .ref (ad 0)), (1, .int x), (2, .int y), (3, .int w)] := hl
  refine lv_aload_n hx hb dX0_quarrel_0 rfl (lv_at hl 0 rfl) ?_
  refine lv_iload_n hx hb dX0_quarrel_1 rfl (lv_at hl 1 rfl) ?_
  refine c_read (va_runV (As := [.int x]) (rest := []) ⟨hx, hb, hml, hown, hts⟩ (met_X0_isBlower l G ad sz X Z T x nb en (by omega)) (cv_X0_X0_isBlower hts ⟨Nat.le_of_ble_eq_true rfl, Nat.le_of_ble_eq_true rfl⟩) (cP.preV hK hw.1 (hw.1.recv hK)) rfl rfl hl.1 rfl (lv_room (Nat.le_of_ble_eq_true rfl)) dX0_quarrel_2 ⟨by first | exact Nat.zero_le _ | omega | decide, by first | exact Nat.zero_le _ | omega | decide⟩) ?_
  refine b_if_eq (tgt := 21) hx hb dX0_quarrel_5 (by decide) (fun c_1 => ?_) (fun c_1 => ?_)
  · refine lv_iconst (v := nI 0) hx hb dX0_quarrel_21 (by decide) ?_
    exact c_iret (v := nI 0) (by first | rfl | exact (bI_t (by simp [c_1])).symm | exact (bI_f (by simp [c_1])).symm) hx hb hr rfl hlocks (xH.to (by simp [xQuarrel, c_1, pif_true, pif_false]) rfl rfl hw.1) hw.2.1 dX0_quarrel_22
  obtain ⟨jx, h_jx, rfl⟩ := vp_in_of c_1 (by omega)
  have k_jx : (nI jx).toNatClampNeg = jx := nI_clamp (by omega)
  refine lv_aload_n hx hb dX0_quarrel_8 rfl (lv_at hl 0 rfl) ?_
  refine lv_iload_n hx hb dX0_quarrel_9 rfl (lv_at hl 2 rfl) ?_
  refine c_read (va_runV (As := [.int y]) (rest := []) ⟨hx, hb, hml, hown, hts⟩ (met_X0_isBlower l G ad sz X Z T y nb en (by omega)) (cv_X0_X0_isBlower hts ⟨Nat.le_of_ble_eq_true rfl, Nat.le_of_ble_eq_true rfl⟩) (cP.preV hK hw.1 (hw.1.recv hK)) rfl rfl hl.1 rfl (lv_room (Nat.le_of_ble_eq_true rfl)) dX0_quarrel_10 ⟨by first | exact Nat.zero_le _ | omega | decide, by first | exact Nat.zero_le _ | omega | decide⟩) ?_
  refine b_if_eq (tgt := 21) hx hb dX0_quarrel_13 (by decide) (fun c_2 => ?_) (fun c_2 => ?_)
  · refine lv_iconst (v := nI 0) hx hb dX0_quarrel_21 (by decide) ?_
    exact c_iret (v := nI 0) (by first | rfl | exact (bI_t (by simp [c_1, h_jx, k_jx, c_2])).symm | exact (bI_f (by simp [c_1, h_jx, k_jx, c_2])).symm) hx hb hr rfl hlocks (xH.to (by simp [xQuarrel, c_1, h_jx, k_jx, c_2, pif_true, pif_false]) rfl rfl hw.1) hw.2.1 dX0_quarrel_22
  obtain ⟨jy, h_jy, rfl⟩ := vp_in_of c_2 (by omega)
  have k_jy : (nI jy).toNatClampNeg = jy := nI_clamp (by omega)
  refine lv_iload_n hx hb dX0_quarrel_16 rfl (lv_at hl 1 rfl) ?_
  refine lv_iload_n hx hb dX0_quarrel_17 rfl (lv_at hl 2 rfl) ?_
  refine n_icmp_ne (tgt := 23) hx hb dX0_quarrel_18 (by decide) (by omega) (by omega) (fun c_3 => ?_) (fun c_3 => ?_)
  · refine lv_aload_n hx hb dX0_quarrel_23 rfl (lv_at hl 0 rfl) ?_
    refine lv_iload_n hx hb dX0_quarrel_24 rfl (lv_at hl 1 rfl) ?_
    refine lv_iload_n hx hb dX0_quarrel_25 rfl (lv_at hl 2 rfl) ?_
    refine lv_iload_n hx hb dX0_quarrel_26 rfl (lv_at hl 3 rfl) ?_
    refine c_call (va_runV (As := [.int (nI jx), .int (nI jy), .int w]) (rest := []) ⟨hx, hb, hml, hown, hts⟩ (met_X0_quarrels l G ad sz X Z T jx jy w (X (61 + jx) 2) (by omega) rfl) (cv_X0_X0_quarrels hts ⟨Nat.le_of_ble_eq_true rfl, Nat.le_of_ble_eq_true rfl⟩) (cP.preV hK hw.1 (hw.1.recv hK)) rfl rfl hl.1 rfl (lv_room (Nat.le_of_ble_eq_true rfl)) dX0_quarrel_27 ⟨by first | exact Nat.zero_le _ | omega | decide, by first | exact Nat.zero_le _ | omega | decide⟩) hw.2.1 (fun q _ h => h) (fun q h => h) (fun H locs hw _ _ hS => ?_)
    replace hw := XS.mk hw hS hz
    refine lv_aload_n hx hb dX0_quarrel_30 rfl (lv_at hl 0 rfl) ?_
    refine lv_iload_n hx hb dX0_quarrel_31 rfl (lv_at hl 2 rfl) ?_
    refine lv_iload_n hx hb dX0_quarrel_32 rfl (lv_at hl 1 rfl) ?_
    refine lv_iload_n hx hb dX0_quarrel_33 rfl (lv_at hl 3 rfl) ?_
    refine c_call (va_runV (As := [.int (nI jy), .int (nI jx), .int w]) (rest := []) ⟨hx, hb, hml, hown, hts⟩ (met_X0_quarrels l G ad sz (up2 X (61 + jx) 2 (mQ (X (61 + jx) 2) jy w)) Z T jy jx w (X (61 + jy) 2) (by omega) ((up2_ne (Or.inl (by omega))).trans rfl)) (cv_X0_X0_quarrels hts ⟨Nat.le_of_ble_eq_true rfl, Nat.le_of_ble_eq_true rfl⟩) (cP.preV hK hw.1 (hw.1.recv hK)) rfl rfl hl.1 rfl (lv_room (Nat.le_of_ble_eq_true rfl)) dX0_quarrel_34 ⟨by first | exact Nat.zero_le _ | omega | decide, by first | exact Nat.zero_le _ | omega | decide⟩) hw.2.1 (fun q _ h => h) (fun q h => h) (fun H locs hw _ _ hS => ?_)
    replace hw := XS.mk hw hS hz
    refine lv_iconst (v := nI 1) hx hb dX0_quarrel_37 (by decide) ?_
    exact c_iret (v := nI 1) (by first | rfl | exact (bI_t (by simp [c_1, h_jx, k_jx, c_2, h_jy, k_jy, c_3, nI_eq (show jx < 2 ^ 31 by omega) (show jy < 2 ^ 31 by omega)])).symm | exact (bI_f (by simp [c_1, h_jx, k_jx, c_2, h_jy, k_jy, c_3, nI_eq (show jx < 2 ^ 31 by omega) (show jy < 2 ^ 31 by omega)])).symm) hx hb hr rfl hlocks (xH.to (by simp [xQuarrel, c_1, h_jx, k_jx, c_2, h_jy, k_jy, c_3, pif_true, pif_false, nI_eq (show jx < 2 ^ 31 by omega) (show jy < 2 ^ 31 by omega)]) rfl rfl hw.1) hw.2.1 dX0_quarrel_38
  refine lv_iconst (v := nI 0) hx hb dX0_quarrel_21 (by decide) ?_
  exact c_iret (v := nI 0) (by first | rfl | exact (bI_t (by simp [c_1, h_jx, k_jx, c_2, h_jy, k_jy, c_3, nI_eq (show jx < 2 ^ 31 by omega) (show jy < 2 ^ 31 by omega)])).symm | exact (bI_f (by simp [c_1, h_jx, k_jx, c_2, h_jy, k_jy, c_3, nI_eq (show jx < 2 ^ 31 by omega) (show jy < 2 ^ 31 by omega)])).symm) hx hb hr rfl hlocks (xH.to (by simp [xQuarrel, c_1, h_jx, k_jx, c_2, h_jy, k_jy, c_3, pif_true, pif_false, nI_eq (show jx < 2 ^ 31 by omega) (show jy < 2 ^ 31 by omega)]) rfl rfl hw.1) hw.2.1 dX0_quarrel_22
