set_option maxHeartbeats 4000000 in
set_option maxRecDepth 100000 in
theorem met_X0_by (l : Launch) (G : gG) (ad : Nat → Nat) (sz : Nat) (X Z : Nat → Nat → Int32) (T : Nat → Nat → Option Nat) (x : Int32) (nx : Nat) (ex : X 52 2 = nI nx) (hx4 : nx ≤ 4) : Met l yX0_by (ws_ yX0_by cX0_by 2 (some .boolean)) ({ frames := 2, cells := 0, slots := 0, locals := 43 } : Room) (cP G [.ref (ad 0), .int x] (xH G ad X Z T sz)) (cQ (some (.int (bI (x = (-1) ∨ vp_in x nx)))) (xH G ad (pif (x = (-1) ∨ vp_in x nx) (up2 X 52 3 x) X) Z T sz) (xA ad sz)) 0 0 (xA ad sz) := by
  refine c_start (by decide) (Nat.le_of_ble_eq_true rfl) ?_
  intro p e s m below meth c hx hb hr hlocks hml hown hts hB hK ls hl
  have hz := hB.2.2
  have hw := XS.of hB
  have hl : lv_has ls 2 [(0, .ref (ad 0)), (1, .int x)] := hl
  refine lv_iload_n hx hb dX0_by_0 rfl (lv_at hl 1 rfl) ?_
  refine lv_iconst (v := (-1)) hx hb dX0_by_1 (by decide) ?_
  refine lv_icmp_eq (tgt := 15) hx hb dX0_by_2 (by decide) (fun c_1 => ?_) (fun c_1 => ?_)
  · refine lv_aload_n hx hb dX0_by_15 rfl (lv_at hl 0 rfl) ?_
    refine x_g_now hx hb hts hown hK hw dX0_by_16 ?_
    refine x_sX0_51_n hx hb hts hown hK hw dX0_by_19 ?_
    refine lv_iconst (v := nI 3) hx hb dX0_by_22 (by decide) ?_
    refine lv_iload_n hx hb dX0_by_23 rfl (lv_at hl 1 rfl) ?_
    refine x_s (k := 52) (j := 3) (n := 7) hx hb hK hw (by decide) (by decide) dX0_by_24 (fun H locs hw => ?_)
    refine lv_iconst (v := nI 1) hx hb dX0_by_25 (by decide) ?_
    exact c_iret (v := nI 1) (by first | exact (bI_t (Or.inl (by assumption))).symm | exact (bI_t (Or.inr (by first | assumption | exact vp_in_nI h_jx (by omega)))).symm | exact (bI_f (fun h9 => h9.elim (fun h8 => absurd h8 (by assumption)) (fun h8 => absurd h8 (by assumption)))).symm) hx hb hr rfl hlocks (xH.to (by first | rw [pif_t (Or.inl (by assumption))] | rw [pif_t (Or.inr (by first | assumption | exact vp_in_nI h_jx (by omega)))] | rw [pif_f (fun h9 => h9.elim (fun h8 => absurd h8 (by assumption)) (fun h8 => absurd h8 (by assumption)))]) rfl rfl hw.1) hw.2.1 dX0_by_26
  refine lv_aload_n hx hb dX0_by_5 rfl (lv_at hl 0 rfl) ?_
  refine lv_iload_n hx hb dX0_by_6 rfl (lv_at hl 1 rfl) ?_
  refine c_read (va_runV (As := [.int x]) (rest := []) ⟨hx, hb, hml, hown, hts⟩ (met_X0_isText l G ad sz X Z T x nx ex (by omega)) (cv_X0_X0_isText hts ⟨Nat.le_of_ble_eq_true rfl, Nat.le_of_ble_eq_true rfl⟩) (cP.preV hK hw.1 (hw.1.recv hK)) rfl rfl hl.1 rfl (lv_room (Nat.le_of_ble_eq_true rfl)) dX0_by_7 ⟨by first | exact Nat.zero_le _ | omega | decide, by first | exact Nat.zero_le _ | omega | decide⟩) ?_
  refine b_if_ne (tgt := 15) hx hb dX0_by_10 (by decide) (fun c_2 => ?_) (fun c_2 => ?_)
  · obtain ⟨jx, h_jx, rfl⟩ := vp_in_of c_2 (by omega)
    have k_jx : (nI jx).toNatClampNeg = jx := nI_clamp (by omega)
    refine lv_aload_n hx hb dX0_by_15 rfl (lv_at hl 0 rfl) ?_
    refine x_g_now hx hb hts hown hK hw dX0_by_16 ?_
    refine x_sX0_51_n hx hb hts hown hK hw dX0_by_19 ?_
    refine lv_iconst (v := nI 3) hx hb dX0_by_22 (by decide) ?_
    refine lv_iload_n hx hb dX0_by_23 rfl (lv_at hl 1 rfl) ?_
    refine x_s (k := 52) (j := 3) (n := 7) hx hb hK hw (by decide) (by decide) dX0_by_24 (fun H locs hw => ?_)
    refine lv_iconst (v := nI 1) hx hb dX0_by_25 (by decide) ?_
    exact c_iret (v := nI 1) (by first | exact (bI_t (Or.inl (by assumption))).symm | exact (bI_t (Or.inr (by first | assumption | exact vp_in_nI h_jx (by omega)))).symm | exact (bI_f (fun h9 => h9.elim (fun h8 => absurd h8 (by assumption)) (fun h8 => absurd h8 (by assumption)))).symm) hx hb hr rfl hlocks (xH.to (by first | rw [pif_t (Or.inl (by assumption))] | rw [pif_t (Or.inr (by first | assumption | exact vp_in_nI h_jx (by omega)))] | rw [pif_f (fun h9 => h9.elim (fun h8 => absurd h8 (by assumption)) (fun h8 => absurd h8 (by assumption)))]) rfl rfl hw.1) hw.2.1 dX0_by_26
  refine lv_iconst (v := nI 0) hx hb dX0_by_13 (by decide) ?_
  exact c_iret (v := nI 0) (by first | exact (bI_t (Or.inl (by assumption))).symm | exact (bI_t (Or.inr (by first | assumption | exact vp_in_nI h_jx (by omega)))).symm | exact (bI_f (fun h9 => h9.elim (fun h8 => absurd h8 (by assumption)) (fun h8 => absurd h8 (by assumption)))).symm) hx hb hr rfl hlocks (xH.to (by first | rw [pif_t (Or.inl (by assumption))] | rw [pif_t (Or.inr (by first | assumption | exact vp_in_nI h_jx (by omega)))] | rw [pif_f (fun h9 => h9.elim (fun h8 => absurd h8 (by assumption)) (fun h8 => absurd h8 (by assumption)))]) rfl rfl hw.1) hw.2.1 dX0_by_14
set_option maxHeartbeats 4000000 in
set_option maxRecDepth 100000 in
theorem met_X0_begin (l : Launch) (G : gG) (ad : Nat → Nat) (sz : Nat) (X Z : Nat → Nat → Int32) (T : Nat → Nat → Option Nat) (x : Int32) (nk : Nat) (ek : X 52 1 = nI nk) (hk : nk ≤ 6) (np : Nat) (ep : X 53 112 = nI np) (hp : np ≤ 10) (ns : Nat) (es : X 52 4 = nI ns) (hs : ns ≤ 30) : Met l yX0_begin (ws_ yX0_begin cX0_begin 3 (some .int)) ({ frames := 3, cells := 0, slots := 0, locals := 82 } : Room) (cP G [.ref (ad 0), .int x] (xH G ad X Z T sz)) (cQ (some (.int (pif (vp_in x nk ∧ ¬ np = 10) (nI np) (-1)))) (xH G ad (pif (vp_in x nk ∧ ¬ np = 10) (xBeginPut X np ns x) X) Z T sz) (xA ad sz)) 0 0 (xA ad sz) := by
  refine c_start (by decide) (Nat.le_of_ble_eq_true rfl) ?_
  intro p e s m below meth c hx hb hr hlocks hml hown hts hB hK ls hl
  have hz := hB.2.2
  have hw := XS.of hB
  have hl : lv_has ls 3 [(0, .ref (ad 0)), (1, .int x)] := hl
  refine lv_aload_n hx hb dX0_begin_0 rfl (lv_at hl 0 rfl) ?_
  refine x_g_now hx hb hts hown hK hw dX0_begin_1 ?_
  refine x_sX0_51_row hx hb hts hown hK hw dX0_begin_4 ?_
  refine lv_bipush (v := nI 112) hx hb dX0_begin_7 (by decide) ?_
  refine x_l (k := 53) (j := 112) (n := 275) (v := nI np) hx hb hK hw ep (by decide) (by decide) dX0_begin_9 ?_
  refine lv_istore_n (lv' := [(2, .int (nI np)), (0, .ref (ad 0)), (1, .int x)]) hx hb dX0_begin_10 rfl hl (by decide) rfl (fun ls hl => ?_)
  refine lv_aload_n hx hb dX0_begin_11 rfl (lv_at hl 1 rfl) ?_
  refine lv_iload_n hx hb dX0_begin_12 rfl (lv_at hl 2 rfl) ?_
  refine c_read (va_runV (As := [.int x]) (rest := []) ⟨hx, hb, hml, hown, hts⟩ (met_X0_isKind l G ad sz X Z T x nk ek (by omega)) (cv_X0_X0_isKind hts ⟨Nat.le_of_ble_eq_true rfl, Nat.le_of_ble_eq_true rfl⟩) (cP.preV hK hw.1 (hw.1.recv hK)) rfl rfl hl.1 rfl (lv_room (Nat.le_of_ble_eq_true rfl)) dX0_begin_13 ⟨by first | exact Nat.zero_le _ | omega | decide, by first | exact Nat.zero_le _ | omega | decide⟩) ?_
  refine b_if_eq (tgt := 25) hx hb dX0_begin_16 (by decide) (fun c_1 => ?_) (fun c_1 => ?_)
  · refine lv_iconst (v := (-1)) hx hb dX0_begin_25 (by decide) ?_
    exact c_iret (v := (-1)) (by first | (rw [pif_t ⟨by first | assumption | exact vp_in_nI h_jx (by omega), by assumption⟩]; first | done | rfl) | rw [pif_f (fun h9 => by first | exact absurd h9.1 (by assumption) | exact absurd (by assumption) h9.2)]) hx hb hr rfl hlocks (xH.to (by first | (rw [pif_t ⟨by first | assumption | exact vp_in_nI h_jx (by omega), by assumption⟩]; first | done | rfl) | rw [pif_f (fun h9 => by first | exact absurd h9.1 (by assumption) | exact absurd (by assumption) h9.2)]) rfl rfl hw.1) hw.2.1 dX0_begin_26
  obtain ⟨jx, h_jx, rfl⟩ := vp_in_of c_1 (by omega)
  have k_jx : (nI jx).toNatClampNeg = jx := nI_clamp (by omega)
  refine lv_iload_n hx hb dX0_begin_19 rfl (lv_at hl 0 rfl) ?_
  refine lv_bipush (v := nI 10) hx hb dX0_begin_20 (by decide) ?_
  refine n_icmp_ne (tgt := 27) hx hb dX0_begin_22 (by decide) (by omega) (by decide) (fun c_2 => ?_) (fun c_2 => ?_)
  · refine lv_aload_n hx hb dX0_begin_27 rfl (lv_at hl 1 rfl) ?_
    refine x_g_now hx hb hts hown hK hw dX0_begin_28 ?_
    refine c_call (va_runV (As := []) (rest := []) ⟨hx, hb, hml, hown, hts⟩ (met_X1_keeps l G ad sz X Z T ns es (by omega)) (cv_X0_X1_keeps hts ⟨Nat.le_of_ble_eq_true rfl, Nat.le_of_ble_eq_true rfl⟩) (cP.preV hK hw.1 (hw.1.recv0 hK)) rfl rfl hl.1 rfl (lv_room (Nat.le_of_ble_eq_true rfl)) dX0_begin_31 ⟨by first | exact Nat.zero_le _ | omega | decide, by first | exact Nat.zero_le _ | omega | decide⟩) hw.2.1 (fun q _ h => h) (fun q h => h) (fun H locs hw _ _ hS => ?_)
    replace hw := XS.mk hw hS hz
    refine lv_aload_n hx hb dX0_begin_34 rfl (lv_at hl 1 rfl) ?_
    refine x_g_now hx hb hts hown hK hw dX0_begin_35 ?_
    refine x_sX0_51_row hx hb hts hown hK hw dX0_begin_38 ?_
    refine lv_iload_n hx hb dX0_begin_41 rfl (lv_at hl 0 rfl) ?_
    refine lv_iconst (v := nI 0) hx hb dX0_begin_42 (by decide) ?_
    refine c_read (va_runS (As := [.int (nI np), .int (nI 0)]) (rest := [.ref (ad 53)]) ⟨hx, hb, hml, hown, hts⟩ (met_X0_at l G np 0) (cs_X0_X0_at hts ⟨Nat.le_of_ble_eq_true rfl, Nat.le_of_ble_eq_true rfl⟩) (cP.pre hK trivial) rfl rfl hl.1 rfl (lv_room (Nat.le_of_ble_eq_true rfl)) dX0_begin_43 ⟨by first | exact Nat.zero_le _ | omega | decide, by first | exact Nat.zero_le _ | omega | decide⟩) ?_
    refine lv_iload_n hx hb dX0_begin_46 rfl (lv_at hl 0 rfl) ?_
    refine lv_iconst (v := nI 0) hx hb dX0_begin_47 (by decide) ?_
    refine c_read (va_runS (As := [.int (nI np), .int (nI 0)]) (rest := [.int (nI (12 + 10 * np)), .ref (ad 53)]) ⟨hx, hb, hml, hown, hts⟩ (met_X0_at l G np 0) (cs_X0_X0_at hts ⟨Nat.le_of_ble_eq_true rfl, Nat.le_of_ble_eq_true rfl⟩) (cP.pre hK trivial) rfl rfl hl.1 rfl (lv_room (Nat.le_of_ble_eq_true rfl)) dX0_begin_48 ⟨by first | exact Nat.zero_le _ | omega | decide, by first | exact Nat.zero_le _ | omega | decide⟩) ?_
    refine lv_bipush (v := nI 10) hx hb dX0_begin_51 (by decide) ?_
    refine n_iadd hx hb dX0_begin_53 ?_
    refine lv_iconst (v := nI 0) hx hb dX0_begin_54 (by decide) ?_
    refine c_call (va_runS (As := [.ref (ad 53), .int (nI (12 + 10 * np)), .int (nI (12 + 10 * np + 10)), .int (nI 0)]) (rest := []) ⟨hx, hb, hml, hown, hts⟩ (met_J12_fill l G ad sz (xKeep X ns) Z T (12 + 10 * np) (12 + 10 * np + 10) (by omega) (by omega)) (cs_X0_J12_fill hts ⟨Nat.le_of_ble_eq_true rfl, Nat.le_of_ble_eq_true rfl⟩) (cP.pre hK hw.1) rfl rfl hl.1 rfl (lv_room (Nat.le_of_ble_eq_true rfl)) dX0_begin_55 ⟨by first | exact Nat.zero_le _ | omega | decide, by first | exact Nat.zero_le _ | omega | decide⟩) hw.2.1 (fun q _ h => h) (fun q h => h) (fun H locs hw _ _ hS => ?_)
    replace hw := XS.mk hw hS hz
    refine lv_aload_n hx hb dX0_begin_58 rfl (lv_at hl 1 rfl) ?_
    refine x_g_now hx hb hts hown hK hw dX0_begin_59 ?_
    refine x_sX0_51_row hx hb hts hown hK hw dX0_begin_62 ?_
    refine lv_iload_n hx hb dX0_begin_65 rfl (lv_at hl 0 rfl) ?_
    refine lv_iconst (v := nI 0) hx hb dX0_begin_66 (by decide) ?_
    refine c_read (va_runS (As := [.int (nI np), .int (nI 0)]) (rest := [.ref (ad 53)]) ⟨hx, hb, hml, hown, hts⟩ (met_X0_at l G np 0) (cs_X0_X0_at hts ⟨Nat.le_of_ble_eq_true rfl, Nat.le_of_ble_eq_true rfl⟩) (cP.pre hK trivial) rfl rfl hl.1 rfl (lv_room (Nat.le_of_ble_eq_true rfl)) dX0_begin_67 ⟨by first | exact Nat.zero_le _ | omega | decide, by first | exact Nat.zero_le _ | omega | decide⟩) ?_
    refine lv_iload_n hx hb dX0_begin_70 rfl (lv_at hl 2 rfl) ?_
    refine x_s (k := 53) (j := 12 + 10 * np) (n := 275) hx hb hK hw (by decide) (by omega) dX0_begin_71 (fun H locs hw => ?_)
    refine lv_aload_n hx hb dX0_begin_72 rfl (lv_at hl 1 rfl) ?_
    refine x_g_now hx hb hts hown hK hw dX0_begin_73 ?_
    refine x_sX0_51_row hx hb hts hown hK hw dX0_begin_76 ?_
    refine lv_bipush (v := nI 112) hx hb dX0_begin_79 (by decide) ?_
    refine lv_dup2_11 hx hb dX0_begin_81 rfl rfl ?_
    refine x_l (k := 53) (j := 112) (n := 275) (v := nI np) hx hb hK hw ((up2_ne (Or.inr (by omega))).trans ((xZero_out (by omega)).trans ((congrFun (xKeep_lo (by omega) (by omega) (by omega)) 112).trans ep))) (by decide) (by decide) dX0_begin_82 ?_
    refine lv_iconst (v := nI 1) hx hb dX0_begin_83 (by decide) ?_
    refine n_iadd hx hb dX0_begin_84 ?_
    refine x_s (k := 53) (j := 112) (n := 275) hx hb hK hw (by decide) (by decide) dX0_begin_85 (fun H locs hw => ?_)
    refine lv_iload_n hx hb dX0_begin_86 rfl (lv_at hl 0 rfl) ?_
    exact c_iret (v := nI np) (by first | (rw [pif_t ⟨by first | assumption | exact vp_in_nI h_jx (by omega), by assumption⟩]; first | done | rfl) | rw [pif_f (fun h9 => by first | exact absurd h9.1 (by assumption) | exact absurd (by assumption) h9.2)]) hx hb hr rfl hlocks (xH.to (by first | (rw [pif_t ⟨by first | assumption | exact vp_in_nI h_jx (by omega), by assumption⟩]; first | done | rfl) | rw [pif_f (fun h9 => by first | exact absurd h9.1 (by assumption) | exact absurd (by assumption) h9.2)]) rfl rfl hw.1) hw.2.1 dX0_begin_87
  refine lv_iconst (v := (-1)) hx hb dX0_begin_25 (by decide) ?_
  exact c_iret (v := (-1)) (by first | (rw [pif_t ⟨by first | assumption | exact vp_in_nI h_jx (by omega), by assumption⟩]; first | done | rfl) | rw [pif_f (fun h9 => by first | exact absurd h9.1 (by assumption) | exact absurd (by assumption) h9.2)]) hx hb hr rfl hlocks (xH.to (by first | (rw [pif_t ⟨by first | assumption | exact vp_in_nI h_jx (by omega), by assumption⟩]; first | done | rfl) | rw [pif_f (fun h9 => by first | exact absurd h9.1 (by assumption) | exact absurd (by assumption) h9.2)]) rfl rfl hw.1) hw.2.1 dX0_begin_26
set_option maxHeartbeats 4000000 in
set_option maxRecDepth 100000 in
theorem met_X0_later (l : Launch) (G : gG) (ad : Nat → Nat) (sz : Nat) (X Z : Nat → Nat → Int32) (T : Nat → Nat → Option Nat) (x : Int32) (h : Nat) (eh : X 53 113 = nI h) (hh : h ≤ 999) (ns : Nat) (es : X 52 4 = nI ns) (hs : ns ≤ 30) : Met l yX0_later (ws_ yX0_later cX0_later 3 (some .int)) ({ frames := 3, cells := 0, slots := 0, locals := 82 } : Room) (cP G [.ref (ad 0), .int x] (xH G ad X Z T sz)) (cQ (some (.int (pif ((nI 1 ≤ x ∧ x ≤ nI 99) ∧ h + cl x ≤ 999) (nI (h + cl x)) (-1)))) (xH G ad (pif ((nI 1 ≤ x ∧ x ≤ nI 99) ∧ h + cl x ≤ 999) (xLater X (cl x)) X) Z T sz) (xA ad sz)) 0 0 (xA ad sz) := by
  refine c_start (by decide) (Nat.le_of_ble_eq_true rfl) ?_
  intro p e s m below meth c hx hb hr hlocks hml hown hts hB hK ls hl
  have hz := hB.2.2
  have hw := XS.of hB
  have hl : lv_has ls 3 [(0, .ref (ad 0)), (1, .int x)] := hl
  refine lv_iload_n hx hb dX0_later_0 rfl (lv_at hl 1 rfl) ?_
  refine lv_iconst (v := nI 1) hx hb dX0_later_1 (by decide) ?_
  refine lv_bipush (v := nI 99) hx hb dX0_later_2 (by decide) ?_
  refine c_read (va_runS (As := [.int x, .int (nI 1), .int (nI 99)]) (rest := []) ⟨hx, hb, hml, hown, hts⟩ (met_X0_in l G x (nI 1) (nI 99)) (cs_X0_X0_in hts ⟨Nat.le_of_ble_eq_true rfl, Nat.le_of_ble_eq_true rfl⟩) (cP.pre hK trivial) rfl rfl hl.1 rfl (lv_room (Nat.le_of_ble_eq_true rfl)) dX0_later_4 ⟨by first | exact Nat.zero_le _ | omega | decide, by first | exact Nat.zero_le _ | omega | decide⟩) ?_
  refine b_if_eq (tgt := 22) hx hb dX0_later_7 (by decide) (fun c_1 => ?_) (fun c_1 => ?_)
  · refine lv_iconst (v := (-1)) hx hb dX0_later_22 (by decide) ?_
    exact c_iret (v := (-1)) (by rw [pif_f (fun h9 => absurd h9.1 (by assumption))]) hx hb hr rfl hlocks (xH.to (by rw [pif_f (fun h9 => absurd h9.1 (by assumption))]) rfl rfl hw.1) hw.2.1 dX0_later_23
  obtain ⟨j, h_j, rfl⟩ := in_rng (by decide) (by decide) c_1
  have k_j : (nI j).toNatClampNeg = j := nI_clamp (by omega)
  refine lv_aload_n hx hb dX0_later_10 rfl (lv_at hl 0 rfl) ?_
  refine c_read (va_runV (As := []) (rest := []) ⟨hx, hb, hml, hown, hts⟩ (met_X0_hour l G ad sz X Z T (nI h) eh) (cv_X0_X0_hour hts ⟨Nat.le_of_ble_eq_true rfl, Nat.le_of_ble_eq_true rfl⟩) (cP.preV hK hw.1 (hw.1.recv hK)) rfl rfl hl.1 rfl (lv_room (Nat.le_of_ble_eq_true rfl)) dX0_later_11 ⟨by first | exact Nat.zero_le _ | omega | decide, by first | exact Nat.zero_le _ | omega | decide⟩) ?_
  refine lv_iload_n hx hb dX0_later_14 rfl (lv_at hl 1 rfl) ?_
  refine n_iadd hx hb dX0_later_15 ?_
  refine lv_sipush (v := nI 999) hx hb dX0_later_16 (by decide) ?_
  refine n_icmp_le (tgt := 24) hx hb dX0_later_19 (by decide) (by omega) (by decide) (fun c_2 => ?_) (fun c_2 => ?_)
  · refine lv_iconst (v := nI 0) hx hb dX0_later_24 (by decide) ?_
    refine lv_istore_n (lv' := [(2, .int (nI 0)), (0, .ref (ad 0)), (1, .int (nI j))]) hx hb dX0_later_25 rfl hl (by decide) rfl (fun ls hl => ?_)
    have L26_3 : ∀ (fuel : Nat) (k : Nat) (X1 : Nat → Nat → Int32) (n1 : Nat), j - k < fuel → (k ≤ j) → (it (fun _ X => xLater1 X) (j - k) k X1 = it (fun _ X => xLater1 X) (j - 0) 0 X) → (X1 53 113 = nI (h + k)) → (X1 52 4 = nI n1) → (n1 ≤ 30) → ∀ (H : Heap) (locs : List Loc), XS G ad sz s.heap X1 Z T H locs → ∀ (ls : Array Slot), lv_has ls 3 [(0, .ref (ad 0)), (1, .int (nI j)), (2, .int (nI k))] → W p l e ({ frames := 3, cells := 0, slots := 0, locals := 82 } : Room) s m ([.ref (ad 0), .int (nI j)] : List Value).toArray below meth c H locs 0 0 (MQ below (cQ (some (.int (pif ((nI 1 ≤ (nI j) ∧ (nI j) ≤ nI 99) ∧ h + cl (nI j) ≤ 999) (nI (h + cl (nI j))) (-1)))) (xH G ad (pif ((nI 1 ≤ (nI j) ∧ (nI j) ≤ nI 99) ∧ h + cl (nI j) ≤ 999) (xLater X (cl (nI j))) X) Z T sz) (xA ad sz)) ([.ref (ad 0), .int (nI j)] : List Value).toArray s 0 0 (xA ad sz)) (F0 m 26 ls []) := by
      intro fuel
      induction fuel with
      | zero => intro k X1 n1 hf; exact absurd hf (Nat.not_lt_zero _)
      | succ fuel ih =>
        intro k X1 n1 hf hi1 hM1 hc3 hc6 hn1 H locs hw ls hl
        have ih26 := ih
        refine lv_iload_n hx hb dX0_later_26 rfl (lv_at hl 2 rfl) ?_
        refine lv_iload_n hx hb dX0_later_27 rfl (lv_at hl 1 rfl) ?_
        refine n_icmp_ge (tgt := 73) hx hb dX0_later_28 (by decide) (by omega) (by omega) (fun c_4 => ?_) (fun c_4 => ?_)
        · refine lv_aload_n hx hb dX0_later_73 rfl (lv_at hl 0 rfl) ?_
          refine c_read (va_runV (As := []) (rest := []) ⟨hx, hb, hml, hown, hts⟩ (met_X0_hour l G ad sz X1 Z T (nI (h + k)) hc3) (cv_X0_X0_hour hts ⟨Nat.le_of_ble_eq_true rfl, Nat.le_of_ble_eq_true rfl⟩) (cP.preV hK hw.1 (hw.1.recv hK)) rfl rfl hl.1 rfl (lv_room (Nat.le_of_ble_eq_true rfl)) dX0_later_74 ⟨by first | exact Nat.zero_le _ | omega | decide, by first | exact Nat.zero_le _ | omega | decide⟩) ?_
          exact c_iret (v := nI (h + k)) (by rw [pif_t ⟨by assumption, by simp only [cl, k_j]; omega⟩]; simp only [cl, k_j]; rw [show k = j by omega]) hx hb hr rfl hlocks (xH.to (by rw [pif_t ⟨by assumption, by simp only [cl, k_j]; omega⟩]; simp only [cl, k_j, xLater]; exact (it_z (by omega)).symm.trans hM1) rfl rfl hw.1) hw.2.1 dX0_later_77
        refine lv_aload_n hx hb dX0_later_31 rfl (lv_at hl 0 rfl) ?_
        refine x_g_now hx hb hts hown hK hw dX0_later_32 ?_
        refine c_call (va_runV (As := []) (rest := []) ⟨hx, hb, hml, hown, hts⟩ (met_X1_keeps l G ad sz X1 Z T n1 hc6 (by omega)) (cv_X0_X1_keeps hts ⟨Nat.le_of_ble_eq_true rfl, Nat.le_of_ble_eq_true rfl⟩) (cP.preV hK hw.1 (hw.1.recv0 hK)) rfl rfl hl.1 rfl (lv_room (Nat.le_of_ble_eq_true rfl)) dX0_later_35 ⟨by first | exact Nat.zero_le _ | omega | decide, by first | exact Nat.zero_le _ | omega | decide⟩) hw.2.1 (fun q _ h => h) (fun q h => h) (fun H locs hw _ _ hS => ?_)
        replace hw := XS.mk hw hS hz
        refine lv_aload_n hx hb dX0_later_38 rfl (lv_at hl 0 rfl) ?_
        refine x_g_now hx hb hts hown hK hw dX0_later_39 ?_
        refine x_sX0_51_row hx hb hts hown hK hw dX0_later_42 ?_
        refine lv_bipush (v := nI 113) hx hb dX0_later_45 (by decide) ?_
        refine lv_dup2_11 hx hb dX0_later_47 rfl rfl ?_
        refine x_l (k := 53) (j := 113) (n := 275) (v := nI (h + k)) hx hb hK hw ((congrFun (xKeep_lo (by omega) (by omega) (by omega)) 113).trans hc3) (by decide) (by decide) dX0_later_48 ?_
        refine lv_iconst (v := nI 1) hx hb dX0_later_49 (by decide) ?_
        refine n_iadd hx hb dX0_later_50 ?_
        refine x_s (k := 53) (j := 113) (n := 275) hx hb hK hw (by decide) (by decide) dX0_later_51 (fun H locs hw => ?_)
        refine lv_aload_n hx hb dX0_later_52 rfl (lv_at hl 0 rfl) ?_
        refine x_g_now hx hb hts hown hK hw dX0_later_53 ?_
        refine x_sX0_51_row hx hb hts hown hK hw dX0_later_56 ?_
        refine lv_bipush (v := nI 6) hx hb dX0_later_59 (by decide) ?_
        refine lv_bipush (v := nI 12) hx hb dX0_later_61 (by decide) ?_
        refine lv_iconst (v := nI 0) hx hb dX0_later_63 (by decide) ?_
        refine c_call (va_runS (As := [.ref (ad 53), .int (nI 6), .int (nI 12), .int (nI 0)]) (rest := []) ⟨hx, hb, hml, hown, hts⟩ (met_J12_fill l G ad sz (up2 (xKeep X1 n1) 53 113 (nI (h + k + 1))) Z T 6 12 (by omega) (by omega)) (cs_X0_J12_fill hts ⟨Nat.le_of_ble_eq_true rfl, Nat.le_of_ble_eq_true rfl⟩) (cP.pre hK hw.1) rfl rfl hl.1 rfl (lv_room (Nat.le_of_ble_eq_true rfl)) dX0_later_64 ⟨by first | exact Nat.zero_le _ | omega | decide, by first | exact Nat.zero_le _ | omega | decide⟩) hw.2.1 (fun q _ h => h) (fun q h => h) (fun H locs hw _ _ hS => ?_)
        replace hw := XS.mk hw hS hz
        refine lv_iinc (v := nI (k + 1)) (lv' := [(2, .int (nI (k + 1))), (0, .ref (ad 0)), (1, .int (nI j))]) hx hb dX0_later_67 hl (k := 2) rfl (n_inc k 1) (by decide) rfl (fun ls hl => ?_)
        refine lv_goto (tgt := 26) hx hb dX0_later_70 (by decide) ?_
        exact ih26 (k + 1) (xZero (up2 (xKeep X1 n1) 53 113 (nI (h + k + 1))) 6 12) (min n1 29 + 1) (by omega) (by omega) (by rw [show (xZero (up2 (xKeep X1 n1) 53 113 (nI (h + k + 1))) 6 12) = xLater1 X1 by unfold xLater1 xKeepC; rw [hc3, hc6, show cl (nI n1) = n1 from nI_clamp (by omega), show nI (h + k) + nI 1 = nI (h + k + 1) from nI_add _ _]]; exact (it_s (by omega)).symm.trans hM1) (by exact ((xZero_out (by omega)).trans up2_at)) ((congrFun (xZero_ne (by decide)) 4).trans ((up2_ne (Or.inl (by decide))).trans ((xKeep_4 (by omega))))) (by omega) _ _ hw ls (lv_sub hl [1, 2, 0] rfl)
    exact L26_3 _ 0 X ns (Nat.lt_succ_self _) (by omega) rfl eh es (by omega) _ _ hw ls (lv_sub hl [1, 2, 0] rfl)
  refine lv_iconst (v := (-1)) hx hb dX0_later_22 (by decide) ?_
  exact c_iret (v := (-1)) (by rw [pif_f (fun h9 => by have h8 := h9.2; simp only [cl, k_j] at h8; omega)]) hx hb hr rfl hlocks (xH.to (by rw [pif_f (fun h9 => by have h8 := h9.2; simp only [cl, k_j] at h8; omega)]) rfl rfl hw.1) hw.2.1 dX0_later_23
set_option maxHeartbeats 4000000 in
set_option maxRecDepth 100000 in
theorem met_X0_undo (l : Launch) (G : gG) (ad : Nat → Nat) (sz : Nat) (X Z : Nat → Nat → Int32) (T : Nat → Nat → Option Nat) (ns : Nat) (es : X 52 4 = nI ns) (hs : ns ≤ 30) : Met l yX0_undo (ws_ yX0_undo cX0_undo 1 (some .int)) ({ frames := 2, cells := 0, slots := 0, locals := 61 } : Room) (cP G [.ref (ad 0)] (xH G ad X Z T sz)) (cQ (some (.int (pif (ns = 0) (-1) (nI (ns - 1))))) (xH G ad (pif (ns = 0) X (xUndo X ns)) Z T sz) (xA ad sz)) 0 0 (xA ad sz) := by
  refine c_start (by decide) (Nat.le_of_ble_eq_true rfl) ?_
  intro p e s m below meth c hx hb hr hlocks hml hown hts hB hK ls hl
  have hz := hB.2.2
  have hw := XS.of hB
  have hl : lv_has ls 1 [(0, .ref (ad 0))] := hl
  refine lv_aload_n hx hb dX0_undo_0 rfl (lv_at hl 0 rfl) ?_
  refine x_g_now hx hb hts hown hK hw dX0_undo_1 ?_
  refine x_sX0_51_n hx hb hts hown hK hw dX0_undo_4 ?_
  refine lv_iconst (v := nI 4) hx hb dX0_undo_7 (by decide) ?_
  refine x_l (k := 52) (j := 4) (n := 7) (v := nI ns) hx hb hK hw es (by decide) (by decide) dX0_undo_8 ?_
  refine n_if_ne (tgt := 14) hx hb dX0_undo_9 (by decide) (by omega) (fun c_1 => ?_) (fun c_1 => ?_)
  · refine lv_aload_n hx hb dX0_undo_14 rfl (lv_at hl 0 rfl) ?_
    refine x_g_now hx hb hts hown hK hw dX0_undo_15 ?_
    refine x_sX0_51_n hx hb hts hown hK hw dX0_undo_18 ?_
    refine lv_iconst (v := nI 4) hx hb dX0_undo_21 (by decide) ?_
    refine lv_dup2_11 hx hb dX0_undo_22 rfl rfl ?_
    refine x_l (k := 52) (j := 4) (n := 7) (v := nI ns) hx hb hK hw es (by decide) (by decide) dX0_undo_23 ?_
    refine lv_iconst (v := nI 1) hx hb dX0_undo_24 (by decide) ?_
    refine n_isub hx hb (by omega) dX0_undo_25 ?_
    refine x_s (k := 52) (j := 4) (n := 7) hx hb hK hw (by decide) (by decide) dX0_undo_26 (fun H locs hw => ?_)
    refine lv_aload_n hx hb dX0_undo_27 rfl (lv_at hl 0 rfl) ?_
    refine x_g_now hx hb hts hown hK hw dX0_undo_28 ?_
    refine x_sX0_51_step hx hb hts hown hK hw dX0_undo_31 ?_
    refine lv_aload_n hx hb dX0_undo_34 rfl (lv_at hl 0 rfl) ?_
    refine x_g_now hx hb hts hown hK hw dX0_undo_35 ?_
    refine x_sX0_51_n hx hb hts hown hK hw dX0_undo_38 ?_
    refine lv_iconst (v := nI 4) hx hb dX0_undo_41 (by decide) ?_
    refine x_l (k := 52) (j := 4) (n := 7) (v := nI (ns - 1)) hx hb hK hw up2_at (by decide) (by decide) dX0_undo_42 ?_
    refine x_a (r := 93 + (ns - 1)) hx hb hK hw xO_58 rfl (by decide) (by omega) rfl dX0_undo_43 ?_
    refine lv_aload_n hx hb dX0_undo_44 rfl (lv_at hl 0 rfl) ?_
    refine x_g_now hx hb hts hown hK hw dX0_undo_45 ?_
    refine x_sX0_51_row hx hb hts hown hK hw dX0_undo_48 ?_
    refine c_call (va_runSN (As := [.ref (ad (93 + (ns - 1))), .ref (ad 53)]) (rest := []) ⟨hx, hb, hml, hown, hts⟩ (met_X1_copy l G (ad (93 + (ns - 1))) (ad 53) 275 ((up2 X 52 4 (nI (ns - 1))) (93 + (ns - 1))) ((up2 X 52 4 (nI (ns - 1))) 53) (fun e9 => absurd (hw.1.2.1 _ _ (xLen_R (k := 93 + (ns - 1)) (by rw [xL_93 (by omega)]; decide)) (xLen_R (k := 53) (by rw [show xLen 53 = 275 from by decide]; decide)) e9) (by omega)) (by decide)) ⟨cn_X0_X1_copy hts hK ⟨Nat.le_of_ble_eq_true rfl, Nat.le_of_ble_eq_true rfl⟩, hts _ q189, trivial⟩ (cP.pre hK ⟨(hw.1.atx (xL_93 (by omega)) (by decide)), (hw.1.atx (by decide) (by decide))⟩) rfl rfl hl.1 rfl (lv_room (Nat.le_of_ble_eq_true rfl)) dX0_undo_51 ⟨by first | exact Nat.zero_le _ | omega | decide, by first | exact Nat.zero_le _ | omega | decide⟩) hw.2.1 (fun q _ e9 => Or.inl ⟨53, (xLen_R (k := 53) (by rw [show xLen 53 = 275 from by decide]; decide)), e9⟩) (fun q h9 => h9.elim (fun e9 => Or.inl ⟨93 + (ns - 1), (xLen_R (k := 93 + (ns - 1)) (by rw [xL_93 (by omega)]; decide)), e9⟩) (fun e9 => Or.inl ⟨53, (xLen_R (k := 53) (by rw [show xLen 53 = 275 from by decide]; decide)), e9⟩)) (fun H locs hB9 hz9 hk9 hS9 => ?_)
    replace hw := XS.row hw (by decide) (by decide) hB9 hz9 hk9 hS9
    clear hB9 hz9 hk9 hS9
    refine lv_aload_n hx hb dX0_undo_54 rfl (lv_at hl 0 rfl) ?_
    refine x_g_now hx hb hts hown hK hw dX0_undo_55 ?_
    refine x_sX0_51_n hx hb hts hown hK hw dX0_undo_58 ?_
    refine lv_iconst (v := nI 4) hx hb dX0_undo_61 (by decide) ?_
    refine x_l (k := 52) (j := 4) (n := 7) (v := nI (ns - 1)) hx hb hK hw ((congrFun (upr_ne (by decide)) 4).trans up2_at) (by decide) (by decide) dX0_undo_62 ?_
    exact c_iret (v := nI (ns - 1)) (by first | rw [pif_t (by omega)] | (rw [pif_f (by omega)]; first | done | rfl)) hx hb hr rfl hlocks (xH.to (by first | rw [pif_t (by omega)] | (rw [pif_f (by omega)]; first | done | rfl)) rfl rfl hw.1) hw.2.1 dX0_undo_63
  refine lv_iconst (v := (-1)) hx hb dX0_undo_12 (by decide) ?_
  exact c_iret (v := (-1)) (by first | rw [pif_t (by omega)] | (rw [pif_f (by omega)]; first | done | rfl)) hx hb hr rfl hlocks (xH.to (by first | rw [pif_t (by omega)] | (rw [pif_f (by omega)]; first | done | rfl)) rfl rfl hw.1) hw.2.1 dX0_undo_13

