noncomputable def xBlowM (tx : kT) (M X : Nat → Nat → Int32) (nb nu ns h jx jy k : Nat) (z : Int32) : Nat → Nat → Int32 := xBlow2 (xBlow1 X ns jx jy z (mCost tx M jy (nI h) * z)) nu jx jy z (nI h) (xState (xBlow1 X ns jx jy z (mCost tx M jy (nI h) * z)) nb jx k)
noncomputable def xBlow (tx : kT) (M X : Nat → Nat → Int32) (np nb nu ns h : Nat) (x y z : Int32) : Nat → Nat → Int32 := pif (mBlowOk tx M np nb nu x y z) (xBlowM tx M X nb nu ns h (cl x) (cl y) (cl (M 0 (150 + 10 * cl x))) z) X
noncomputable def xBlowR (tx : kT) (M X : Nat → Nat → Int32) (np nb nu ns h : Nat) (x y z : Int32) : Int32 := pif (mBlowOk tx M np nb nu x y z) (xState (xBlow1 X ns (cl x) (cl y) z (mCost tx M (cl y) (nI h) * z)) nb (cl x) (cl (M 0 (150 + 10 * cl x)))) (-1)
set_option maxHeartbeats 4000000 in
set_option maxRecDepth 100000 in
theorem met_X0_blow (l : Launch) (G : gG) (ad : Nat → Nat) (sz : Nat) (X Z : Nat → Nat → Int32) (T : Nat → Nat → Option Nat) (M : Nat → Nat → Int32) (nb nk nx np h nu ns ne nt : Nat) (hR : RS X 51 (M 0) nb nk nx np h nu ns ne nt) (tx : kT) (htx : mTx M tx) (x y z : Int32) : Met l yX0_blow (ws_ yX0_blow cX0_blow 6 (some .int)) ({ frames := 108, cells := 1, slots := 4, locals := 6469 } : Room) (cP G [.ref (ad 0), .int x, .int y, .int z] (fun H => xH G ad X Z T sz H ∧ aTx G (xOld ad sz) X T tx H)) (cQ (some (.int (xBlowR tx M X np nb nu ns h x y z))) (fun H => ∃ Z9, (∀ k9, k9 ≠ 2 → Z9 k9 = Z k9) ∧ xH G ad (xBlow tx M X np nb nu ns h x y z) Z9 T sz H) (xA ad sz)) 1 4 (xA ad sz) := by
  refine c_start (by decide) (Nat.le_of_ble_eq_true rfl) ?_
  intro p e s m below meth c hx hb hr hlocks hml hown hts hB hK ls hl
  obtain ⟨hB, hE⟩ := hB
  have hz := hB.2.2
  have hw := XS.of hB
  have hl : lv_has ls 6 [(0, .ref (ad 0)), (1, .int x), (2, .int y), (3, .int z)] := hl
  have hR0 := hR
  obtain ⟨⟨rnb, mnb, hnb⟩, ⟨rnk, mnk, hnk⟩, ⟨rnx, mnx, hnx⟩, rtx, ⟨rns, mns, hns⟩, ⟨rne, mne, hne⟩, ⟨rnt, mnt, hnt⟩, ⟨rnp, mnp, hnp⟩, ⟨rh, mh, hh⟩, ⟨rnu, mnu, hnu⟩, rbl, rbe, rgi, rki, rse, rto, rpi, rbu, rkd, rva, rst⟩ := hR
  change X 52 0 = _ at rnb; change X 52 1 = _ at rnk; change X 52 2 = _ at rnx; change X 52 3 = _ at rtx; change X 52 4 = _ at rns; change X 52 5 = _ at rne; change X 52 6 = _ at rnt; change X 53 112 = _ at rnp; change X 53 113 = _ at rh; change X 53 114 = _ at rnu
  refine lv_aload_n hx hb dX0_blow_0 rfl (lv_at hl 0 rfl) ?_
  refine lv_iload_n hx hb dX0_blow_1 rfl (lv_at hl 1 rfl) ?_
  refine lv_iload_n hx hb dX0_blow_2 rfl (lv_at hl 2 rfl) ?_
  refine lv_iload_n hx hb dX0_blow_3 rfl (lv_at hl 3 rfl) ?_
  refine c_call (va_runV (As := [.int x, .int y, .int z]) (rest := []) ⟨hx, hb, hml, hown, hts⟩ (met_X0_canBlow l G ad sz X Z T M nb nk nx np h nu ns ne nt hR0 tx htx x y z) (cv_X0_X0_canBlow hts ⟨Nat.le_of_ble_eq_true rfl, Nat.le_of_ble_eq_true rfl⟩) (cP.preV hK ⟨hw.1, (aTx.kept rfl (fun q h9 => h9.keep hw.2.1 hz) (fun q h9 => h9) hE)⟩ (hw.1.recv hK)) rfl rfl hl.1 rfl (lv_room (Nat.le_of_ble_eq_true rfl)) dX0_blow_4 ⟨by first | exact Nat.zero_le _ | omega | decide, by first | exact Nat.zero_le _ | omega | decide⟩) hw.2.1 (fun q _ h => h) (fun q h => h) (fun H locs hw _ _ hS => ?_)
  obtain ⟨Z1, hkz1, hw⟩ := hw
  replace hw := XS.mk hw hS hz
  refine b_if_ne (tgt := 12) hx hb dX0_blow_7 (by decide) (fun c_1 => ?_) (fun c_1 => ?_)
  · have hok := c_1
    obtain ⟨jx, h_jx, ex⟩ := vp_in_of hok.1 (by omega)
    obtain ⟨jy, h_jy, ey⟩ := vp_in_of hok.2.1 (by omega)
    obtain ⟨k, hk6, ek⟩ := rkd jx h_jx
    subst ex
    subst ey
    have k_jx : (nI jx).toNatClampNeg = jx := nI_clamp (by omega)
    have k_jy : (nI jy).toNatClampNeg = jy := nI_clamp (by omega)
    have n40 : ¬ nu = 40 := hok.2.2.2.2.1
    have ek2 : X 53 (12 + 10 * jx) = nI k := (rpi (10 * jx) (by omega)).trans ek
    refine lv_aload_n hx hb dX0_blow_12 rfl (lv_at hl 0 rfl) ?_
    refine lv_iload_n hx hb dX0_blow_13 rfl (lv_at hl 2 rfl) ?_
    refine lv_aload_n hx hb dX0_blow_14 rfl (lv_at hl 0 rfl) ?_
    refine c_read (va_runV (As := []) (rest := [.int (nI jy), .ref (ad 0)]) ⟨hx, hb, hml, hown, hts⟩ (met_X0_hour l G ad sz X Z1 T (nI h) rh) (cv_X0_X0_hour hts ⟨Nat.le_of_ble_eq_true rfl, Nat.le_of_ble_eq_true rfl⟩) (cP.preV hK hw.1 (hw.1.recv hK)) rfl rfl hl.1 rfl (lv_room (Nat.le_of_ble_eq_true rfl)) dX0_blow_15 ⟨by first | exact Nat.zero_le _ | omega | decide, by first | exact Nat.zero_le _ | omega | decide⟩) ?_
    refine c_call (va_runV (As := [.int (nI jy), .int (nI h)]) (rest := []) ⟨hx, hb, hml, hown, hts⟩ (met_X0_costOf l G ad sz X Z1 T M tx htx jy (by omega) (rbl jy (by omega)).1 (rbl jy (by omega)).2.1 (rbe jy (by omega)).1 (nI h)) (cv_X0_X0_costOf hts ⟨Nat.le_of_ble_eq_true rfl, Nat.le_of_ble_eq_true rfl⟩) (cP.preV hK ⟨hw.1, (aTx.kept rfl (fun q h9 => h9.keep hw.2.1 hz) (fun q h9 => h9) hE)⟩ (hw.1.recv hK)) rfl rfl hl.1 rfl (lv_room (Nat.le_of_ble_eq_true rfl)) dX0_blow_18 ⟨by first | exact Nat.zero_le _ | omega | decide, by first | exact Nat.zero_le _ | omega | decide⟩) hw.2.1 (fun q _ h => h) (fun q h => h) (fun H locs hw _ _ hS => ?_)
    obtain ⟨Z2, hkz2, hw⟩ := hw
    replace hw := XS.mk hw hS hz
    refine lv_iload_n hx hb dX0_blow_21 rfl (lv_at hl 3 rfl) ?_
    refine lv_imul hx hb dX0_blow_22 ?_
    refine lv_istore (lv' := [(4, .int ((mCost tx M jy (nI h)) * z)), (0, .ref (ad 0)), (1, .int (nI jx)), (2, .int (nI jy)), (3, .int z)]) hx hb dX0_blow_23 hl (by decide) rfl (fun ls hl => ?_)
    refine lv_aload_n hx hb dX0_blow_25 rfl (lv_at hl 1 rfl) ?_
    refine x_g_now hx hb hts hown hK hw dX0_blow_26 ?_
    refine c_call (va_runV (As := []) (rest := []) ⟨hx, hb, hml, hown, hts⟩ (met_X1_keeps l G ad sz X Z2 T ns rns (by omega)) (cv_X0_X1_keeps hts ⟨Nat.le_of_ble_eq_true rfl, Nat.le_of_ble_eq_true rfl⟩) (cP.preV hK hw.1 (hw.1.recv0 hK)) rfl rfl hl.1 rfl (lv_room (Nat.le_of_ble_eq_true rfl)) dX0_blow_29 ⟨by first | exact Nat.zero_le _ | omega | decide, by first | exact Nat.zero_le _ | omega | decide⟩) hw.2.1 (fun q _ h => h) (fun q h => h) (fun H locs hw _ _ hS => ?_)
    replace hw := XS.mk hw hS hz
    refine lv_aload_n hx hb dX0_blow_32 rfl (lv_at hl 1 rfl) ?_
    refine x_g_now hx hb hts hown hK hw dX0_blow_33 ?_
    refine x_sX0_51_row hx hb hts hown hK hw dX0_blow_36 ?_
    refine lv_iconst (v := nI 0) hx hb dX0_blow_39 (by decide) ?_
    refine lv_iload_n hx hb dX0_blow_40 rfl (lv_at hl 3 rfl) ?_
    refine n_iadd0 hx hb dX0_blow_41 ?_
    refine lv_dup2_11 hx hb dX0_blow_42 rfl rfl ?_
    refine x_l (k := 53) (j := jy) (n := 275) (v := X 53 jy) hx hb hK hw ((congrFun (xKeep_lo (by omega) (by omega) (by omega)) jy).trans rfl) (by decide) (by omega) dX0_blow_43 ?_
    refine lv_iload hx hb dX0_blow_44 (lv_at hl 0 rfl) ?_
    refine lv_isub hx hb dX0_blow_46 ?_
    refine x_s (k := 53) (j := jy) (n := 275) hx hb hK hw (by decide) (by omega) dX0_blow_47 (fun H locs hw => ?_)
    refine lv_aload_n hx hb dX0_blow_48 rfl (lv_at hl 1 rfl) ?_
    refine x_g_now hx hb hts hown hK hw dX0_blow_49 ?_
    refine x_sX0_51_row hx hb hts hown hK hw dX0_blow_52 ?_
    refine lv_bipush (v := nI 6) hx hb dX0_blow_55 (by decide) ?_
    refine lv_iload_n hx hb dX0_blow_57 rfl (lv_at hl 3 rfl) ?_
    refine n_iadd hx hb dX0_blow_58 ?_
    refine lv_dup2_11 hx hb dX0_blow_59 rfl rfl ?_
    refine x_l (k := 53) (j := 6 + jy) (n := 275) (v := X 53 (6 + jy)) hx hb hK hw ((up2_ne (Or.inr (by omega))).trans ((congrFun (xKeep_lo (by omega) (by omega) (by omega)) (6 + jy)).trans rfl)) (by decide) (by omega) dX0_blow_60 ?_
    refine lv_iload_n hx hb dX0_blow_61 rfl (lv_at hl 4 rfl) ?_
    refine lv_iadd hx hb dX0_blow_62 ?_
    refine x_s (k := 53) (j := 6 + jy) (n := 275) hx hb hK hw (by decide) (by omega) dX0_blow_63 (fun H locs hw => ?_)
    refine lv_aload_n hx hb dX0_blow_64 rfl (lv_at hl 1 rfl) ?_
    refine x_g_now hx hb hts hown hK hw dX0_blow_65 ?_
    refine x_sX0_51_row hx hb hts hown hK hw dX0_blow_68 ?_
    refine lv_iload_n hx hb dX0_blow_71 rfl (lv_at hl 2 rfl) ?_
    refine lv_iconst (v := nI 2) hx hb dX0_blow_72 (by decide) ?_
    refine c_read (va_runS (As := [.int (nI jx), .int (nI 2)]) (rest := [.ref (ad 53)]) ⟨hx, hb, hml, hown, hts⟩ (met_X0_at l G jx 2) (cs_X0_X0_at hts ⟨Nat.le_of_ble_eq_true rfl, Nat.le_of_ble_eq_true rfl⟩) (cP.pre hK trivial) rfl rfl hl.1 rfl (lv_room (Nat.le_of_ble_eq_true rfl)) dX0_blow_73 ⟨by first | exact Nat.zero_le _ | omega | decide, by first | exact Nat.zero_le _ | omega | decide⟩) ?_
    refine lv_dup2_11 hx hb dX0_blow_76 rfl rfl ?_
    refine x_l (k := 53) (j := 12 + 10 * jx + 2) (n := 275) (v := X 53 (12 + 10 * jx + 2)) hx hb hK hw ((up2_ne (Or.inr (by omega))).trans ((up2_ne (Or.inr (by omega))).trans ((congrFun (xKeep_lo (by omega) (by omega) (by omega)) (12 + 10 * jx + 2)).trans rfl))) (by decide) (by omega) dX0_blow_77 ?_
    refine lv_iload_n hx hb dX0_blow_78 rfl (lv_at hl 4 rfl) ?_
    refine lv_iadd hx hb dX0_blow_79 ?_
    refine x_s (k := 53) (j := 12 + 10 * jx + 2) (n := 275) hx hb hK hw (by decide) (by omega) dX0_blow_80 (fun H locs hw => ?_)
    refine lv_aload_n hx hb dX0_blow_81 rfl (lv_at hl 1 rfl) ?_
    refine x_g_now hx hb hts hown hK hw dX0_blow_82 ?_
    refine x_sX0_51_row hx hb hts hown hK hw dX0_blow_85 ?_
    refine lv_iload_n hx hb dX0_blow_88 rfl (lv_at hl 2 rfl) ?_
    refine lv_iconst (v := nI 4) hx hb dX0_blow_89 (by decide) ?_
    refine lv_iload_n hx hb dX0_blow_90 rfl (lv_at hl 3 rfl) ?_
    refine n_iadd hx hb dX0_blow_91 ?_
    refine c_read (va_runS (As := [.int (nI jx), .int (nI (4 + jy))]) (rest := [.ref (ad 53)]) ⟨hx, hb, hml, hown, hts⟩ (met_X0_at l G jx (4 + jy)) (cs_X0_X0_at hts ⟨Nat.le_of_ble_eq_true rfl, Nat.le_of_ble_eq_true rfl⟩) (cP.pre hK trivial) rfl rfl hl.1 rfl (lv_room (Nat.le_of_ble_eq_true rfl)) dX0_blow_92 ⟨by first | exact Nat.zero_le _ | omega | decide, by first | exact Nat.zero_le _ | omega | decide⟩) ?_
    refine lv_dup2_11 hx hb dX0_blow_95 rfl rfl ?_
    refine x_l (k := 53) (j := 12 + 10 * jx + (4 + jy)) (n := 275) (v := X 53 (12 + 10 * jx + (4 + jy))) hx hb hK hw ((up2_ne (Or.inr (by omega))).trans ((up2_ne (Or.inr (by omega))).trans ((up2_ne (Or.inr (by omega))).trans ((congrFun (xKeep_lo (by omega) (by omega) (by omega)) (12 + 10 * jx + (4 + jy))).trans rfl)))) (by decide) (by omega) dX0_blow_96 ?_
    refine lv_iload_n hx hb dX0_blow_97 rfl (lv_at hl 4 rfl) ?_
    refine lv_iadd hx hb dX0_blow_98 ?_
    refine x_s (k := 53) (j := 12 + 10 * jx + (4 + jy)) (n := 275) hx hb hK hw (by decide) (by omega) dX0_blow_99 (fun H locs hw => ?_)
    refine lv_aload_n hx hb dX0_blow_100 rfl (lv_at hl 1 rfl) ?_
    refine x_g_now hx hb hts hown hK hw dX0_blow_101 ?_
    refine x_sX0_51_row hx hb hts hown hK hw dX0_blow_104 ?_
    refine lv_iload_n hx hb dX0_blow_107 rfl (lv_at hl 2 rfl) ?_
    refine lv_iconst (v := nI 1) hx hb dX0_blow_108 (by decide) ?_
    refine c_read (va_runS (As := [.int (nI jx), .int (nI 1)]) (rest := [.ref (ad 53)]) ⟨hx, hb, hml, hown, hts⟩ (met_X0_at l G jx 1) (cs_X0_X0_at hts ⟨Nat.le_of_ble_eq_true rfl, Nat.le_of_ble_eq_true rfl⟩) (cP.pre hK trivial) rfl rfl hl.1 rfl (lv_room (Nat.le_of_ble_eq_true rfl)) dX0_blow_109 ⟨by first | exact Nat.zero_le _ | omega | decide, by first | exact Nat.zero_le _ | omega | decide⟩) ?_
    refine lv_aload_n hx hb dX0_blow_112 rfl (lv_at hl 1 rfl) ?_
    refine lv_iload_n hx hb dX0_blow_113 rfl (lv_at hl 2 rfl) ?_
    refine c_read (va_runV (As := [.int (nI jx)]) (rest := [.int (nI (12 + 10 * jx + 1)), .ref (ad 53)]) ⟨hx, hb, hml, hown, hts⟩ (met_X0_stateOf l G ad sz (up2 (up2 (up2 (up2 (xKeep X ns) 53 jy ((X 53 jy) - ((mCost tx M jy (nI h)) * z))) 53 (6 + jy) ((X 53 (6 + jy)) + z)) 53 (12 + 10 * jx + 2) ((X 53 (12 + 10 * jx + 2)) + z)) 53 (12 + 10 * jx + (4 + jy)) ((X 53 (12 + 10 * jx + (4 + jy))) + z)) Z2 T jx k (by omega) (by omega) ((up2_ne (Or.inr (by omega))).trans ((up2_ne (Or.inr (by omega))).trans ((up2_ne (Or.inr (by omega))).trans ((up2_ne (Or.inr (by omega))).trans ((congrFun (xKeep_lo (by omega) (by omega) (by omega)) (12 + 10 * jx)).trans ek2))))) nb ((up2_ne (Or.inl (by decide))).trans ((up2_ne (Or.inl (by decide))).trans ((up2_ne (Or.inl (by decide))).trans ((up2_ne (Or.inl (by decide))).trans ((xKeep_52 (by omega) (by decide)).trans rnb))))) (by omega)) (cv_X0_X0_stateOf hts ⟨Nat.le_of_ble_eq_true rfl, Nat.le_of_ble_eq_true rfl⟩) (cP.preV hK hw.1 (hw.1.recv hK)) rfl rfl hl.1 rfl (lv_room (Nat.le_of_ble_eq_true rfl)) dX0_blow_114 ⟨by first | exact Nat.zero_le _ | omega | decide, by first | exact Nat.zero_le _ | omega | decide⟩) ?_
    refine x_s (k := 53) (j := 12 + 10 * jx + 1) (n := 275) hx hb hK hw (by decide) (by omega) dX0_blow_117 (fun H locs hw => ?_)
    refine lv_iconst (v := nI 4) hx hb dX0_blow_118 (by decide) ?_
    refine xn_new (n := 4) hx hb (hts _ q180) hK hw (by decide) (by decide) (Nat.le_of_ble_eq_true rfl) (Nat.le_of_ble_eq_true rfl) dX0_blow_119 (fun q_2 H hw hq_2 => ?_)
    refine lv_dup hx hb dX0_blow_121 rfl ?_
    refine lv_iconst (v := nI 0) hx hb dX0_blow_122 (by decide) ?_
    refine lv_iload_n hx hb dX0_blow_123 rfl (lv_at hl 2 rfl) ?_
    refine xn_s (j := 0) hx hb hK hw hq_2 (by decide) (by decide) dX0_blow_124 (fun H locs hw hq_2 => ?_)
    refine lv_dup hx hb dX0_blow_125 rfl ?_
    refine lv_iconst (v := nI 1) hx hb dX0_blow_126 (by decide) ?_
    refine lv_iload_n hx hb dX0_blow_127 rfl (lv_at hl 3 rfl) ?_
    refine xn_s (j := 1) hx hb hK hw hq_2 (by decide) (by decide) dX0_blow_128 (fun H locs hw hq_2 => ?_)
    refine lv_dup hx hb dX0_blow_129 rfl ?_
    refine lv_iconst (v := nI 2) hx hb dX0_blow_130 (by decide) ?_
    refine lv_iload_n hx hb dX0_blow_131 rfl (lv_at hl 4 rfl) ?_
    refine xn_s (j := 2) hx hb hK hw hq_2 (by decide) (by decide) dX0_blow_132 (fun H locs hw hq_2 => ?_)
    refine lv_dup hx hb dX0_blow_133 rfl ?_
    refine lv_iconst (v := nI 3) hx hb dX0_blow_134 (by decide) ?_
    refine lv_aload_n hx hb dX0_blow_135 rfl (lv_at hl 1 rfl) ?_
    refine c_read (va_runV (As := []) (rest := [.int (nI 3), .ref q_2, .ref q_2]) ⟨hx, hb, hml, hown, hts⟩ (met_X0_hour l G ad sz (up2 (up2 (up2 (up2 (up2 (xKeep X ns) 53 jy ((X 53 jy) - ((mCost tx M jy (nI h)) * z))) 53 (6 + jy) ((X 53 (6 + jy)) + z)) 53 (12 + 10 * jx + 2) ((X 53 (12 + 10 * jx + 2)) + z)) 53 (12 + 10 * jx + (4 + jy)) ((X 53 (12 + 10 * jx + (4 + jy))) + z)) 53 (12 + 10 * jx + 1) (xState (up2 (up2 (up2 (up2 (xKeep X ns) 53 jy ((X 53 jy) - ((mCost tx M jy (nI h)) * z))) 53 (6 + jy) ((X 53 (6 + jy)) + z)) 53 (12 + 10 * jx + 2) ((X 53 (12 + 10 * jx + 2)) + z)) 53 (12 + 10 * jx + (4 + jy)) ((X 53 (12 + 10 * jx + (4 + jy))) + z)) nb jx k)) Z2 T (nI h) ((up2_ne (Or.inr (by omega))).trans ((up2_ne (Or.inr (by omega))).trans ((up2_ne (Or.inr (by omega))).trans ((up2_ne (Or.inr (by omega))).trans ((up2_ne (Or.inr (by omega))).trans ((congrFun (xKeep_lo (by omega) (by omega) (by omega)) 113).trans rh))))))) (cv_X0_X0_hour hts ⟨Nat.le_of_ble_eq_true rfl, Nat.le_of_ble_eq_true rfl⟩) (cP.preV hK hw.1 (hw.1.recv hK)) rfl rfl hl.1 rfl (lv_room (Nat.le_of_ble_eq_true rfl)) dX0_blow_136 ⟨by first | exact Nat.zero_le _ | omega | decide, by first | exact Nat.zero_le _ | omega | decide⟩) ?_
    refine xn_s (j := 3) hx hb hK hw hq_2 (by decide) (by decide) dX0_blow_139 (fun H locs hw hq_2 => ?_)
    refine lv_astore (lv' := [(5, .ref q_2), (4, .int ((mCost tx M jy (nI h)) * z)), (0, .ref (ad 0)), (1, .int (nI jx)), (2, .int (nI jy)), (3, .int z)]) hx hb dX0_blow_140 hl (by decide) rfl (fun ls hl => ?_)
    refine lv_aload hx hb dX0_blow_142 (lv_at hl 0 rfl) ?_
    refine lv_iconst (v := nI 0) hx hb dX0_blow_144 (by decide) ?_
    refine lv_aload_n hx hb dX0_blow_145 rfl (lv_at hl 2 rfl) ?_
    refine x_g_now hx hb hts hown hK hw dX0_blow_146 ?_
    refine x_sX0_51_row hx hb hts hown hK hw dX0_blow_149 ?_
    refine lv_bipush (v := nI 115) hx hb dX0_blow_152 (by decide) ?_
    refine lv_iconst (v := nI 4) hx hb dX0_blow_154 (by decide) ?_
    refine lv_aload_n hx hb dX0_blow_155 rfl (lv_at hl 2 rfl) ?_
    refine x_g_now hx hb hts hown hK hw dX0_blow_156 ?_
    refine x_sX0_51_row hx hb hts hown hK hw dX0_blow_159 ?_
    refine lv_bipush (v := nI 114) hx hb dX0_blow_162 (by decide) ?_
    refine x_l (k := 53) (j := 114) (n := 275) (v := nI nu) hx hb hK hw ((up2_ne (Or.inr (by omega))).trans ((up2_ne (Or.inr (by omega))).trans ((up2_ne (Or.inr (by omega))).trans ((up2_ne (Or.inr (by omega))).trans ((up2_ne (Or.inr (by omega))).trans ((congrFun (xKeep_lo (by omega) (by omega) (by omega)) 114).trans rnu)))))) (by decide) (by decide) dX0_blow_164 ?_
    refine n_imul hx hb dX0_blow_165 ?_
    refine n_iadd hx hb dX0_blow_166 ?_
    refine lv_iconst (v := nI 4) hx hb dX0_blow_167 (by decide) ?_
    refine xn_copy (n := 4) (k := 53) (N := 275) (dp := 115 + 4 * nu) hx hb (hml.trans hl.1.symm) hts hown hK hw hq_2 (by decide) (by decide) (by omega) (Nat.le_of_ble_eq_true rfl) (Nat.le_of_ble_eq_true rfl) dX0_blow_168 (fun H locs hw => ?_)
    refine lv_aload_n hx hb dX0_blow_171 rfl (lv_at hl 2 rfl) ?_
    refine x_g_now hx hb hts hown hK hw dX0_blow_172 ?_
    refine x_sX0_51_row hx hb hts hown hK hw dX0_blow_175 ?_
    refine lv_bipush (v := nI 114) hx hb dX0_blow_178 (by decide) ?_
    refine lv_dup2_11 hx hb dX0_blow_180 rfl rfl ?_
    refine x_l (k := 53) (j := 114) (n := 275) (v := nI nu) hx hb hK hw (((congrFun upr_at 114).trans (pk_cpy_out (Or.inl (by omega)))).trans ((up2_ne (Or.inr (by omega))).trans ((up2_ne (Or.inr (by omega))).trans ((up2_ne (Or.inr (by omega))).trans ((up2_ne (Or.inr (by omega))).trans ((up2_ne (Or.inr (by omega))).trans ((congrFun (xKeep_lo (by omega) (by omega) (by omega)) 114).trans rnu))))))) (by decide) (by decide) dX0_blow_181 ?_
    refine lv_iconst (v := nI 1) hx hb dX0_blow_182 (by decide) ?_
    refine n_iadd hx hb dX0_blow_183 ?_
    refine x_s (k := 53) (j := 114) (n := 275) hx hb hK hw (by decide) (by decide) dX0_blow_184 (fun H locs hw => ?_)
    refine lv_aload_n hx hb dX0_blow_185 rfl (lv_at hl 2 rfl) ?_
    refine lv_iload_n hx hb dX0_blow_186 rfl (lv_at hl 3 rfl) ?_
    refine lv_iconst (v := nI 1) hx hb dX0_blow_187 (by decide) ?_
    refine c_read (va_runV (As := [.int (nI jx), .int (nI 1)]) (rest := []) ⟨hx, hb, hml, hown, hts⟩ (met_X0_ofPiece l G ad sz (up2 (upr (up2 (up2 (up2 (up2 (up2 (xKeep X ns) 53 jy ((X 53 jy) - ((mCost tx M jy (nI h)) * z))) 53 (6 + jy) ((X 53 (6 + jy)) + z)) 53 (12 + 10 * jx + 2) ((X 53 (12 + 10 * jx + 2)) + z)) 53 (12 + 10 * jx + (4 + jy)) ((X 53 (12 + 10 * jx + (4 + jy))) + z)) 53 (12 + 10 * jx + 1) (xState (up2 (up2 (up2 (up2 (xKeep X ns) 53 jy ((X 53 jy) - ((mCost tx M jy (nI h)) * z))) 53 (6 + jy) ((X 53 (6 + jy)) + z)) 53 (12 + 10 * jx + 2) ((X 53 (12 + 10 * jx + 2)) + z)) 53 (12 + 10 * jx + (4 + jy)) ((X 53 (12 + 10 * jx + (4 + jy))) + z)) nb jx k)) 53 (va_cpy (upd (upd (upd (upd (fun _ => 0) 0 (nI jx)) 1 (nI jy)) 2 z) 3 (nI h)) ((up2 (up2 (up2 (up2 (up2 (xKeep X ns) 53 jy ((X 53 jy) - ((mCost tx M jy (nI h)) * z))) 53 (6 + jy) ((X 53 (6 + jy)) + z)) 53 (12 + 10 * jx + 2) ((X 53 (12 + 10 * jx + 2)) + z)) 53 (12 + 10 * jx + (4 + jy)) ((X 53 (12 + 10 * jx + (4 + jy))) + z)) 53 (12 + 10 * jx + 1) (xState (up2 (up2 (up2 (up2 (xKeep X ns) 53 jy ((X 53 jy) - ((mCost tx M jy (nI h)) * z))) 53 (6 + jy) ((X 53 (6 + jy)) + z)) 53 (12 + 10 * jx + 2) ((X 53 (12 + 10 * jx + 2)) + z)) 53 (12 + 10 * jx + (4 + jy)) ((X 53 (12 + 10 * jx + (4 + jy))) + z)) nb jx k)) 53) 0 (115 + 4 * nu) 4)) 53 114 (nI (nu + 1))) Z2 T jx 1 (xState (up2 (up2 (up2 (up2 (xKeep X ns) 53 jy ((X 53 jy) - ((mCost tx M jy (nI h)) * z))) 53 (6 + jy) ((X 53 (6 + jy)) + z)) 53 (12 + 10 * jx + 2) ((X 53 (12 + 10 * jx + 2)) + z)) 53 (12 + 10 * jx + (4 + jy)) ((X 53 (12 + 10 * jx + (4 + jy))) + z)) nb jx k) (by omega) ((up2_ne (Or.inr (by omega))).trans (((congrFun upr_at (12 + 10 * jx + 1)).trans (pk_cpy_out (Or.inl (by omega)))).trans up2_at))) (cv_X0_X0_ofPiece hts ⟨Nat.le_of_ble_eq_true rfl, Nat.le_of_ble_eq_true rfl⟩) (cP.preV hK hw.1 (hw.1.recv hK)) rfl rfl hl.1 rfl (lv_room (Nat.le_of_ble_eq_true rfl)) dX0_blow_188 ⟨by first | exact Nat.zero_le _ | omega | decide, by first | exact Nat.zero_le _ | omega | decide⟩) ?_
    refine W.widen (k := 1) (n := 4) (Nat.le_of_ble_eq_true rfl) (Nat.le_of_ble_eq_true rfl) ?_
    exact c_iret (v := xState (up2 (up2 (up2 (up2 (xKeep X ns) 53 jy ((X 53 jy) - ((mCost tx M jy (nI h)) * z))) 53 (6 + jy) ((X 53 (6 + jy)) + z)) 53 (12 + 10 * jx + 2) ((X 53 (12 + 10 * jx + 2)) + z)) 53 (12 + 10 * jx + (4 + jy)) ((X 53 (12 + 10 * jx + (4 + jy))) + z)) nb jx k) (by unfold xBlowR; rw [pif_t hok, show cl (nI jx) = jx from k_jx, show cl (nI jy) = jy from k_jy, ek, show cl (nI k) = k from nI_clamp (by omega)]; rfl) hx hb hr rfl hlocks ⟨_, fun k9 h9 => ((hkz2 k9 h9).trans ((hkz1 k9 h9).trans rfl)), xH.to (by unfold xBlow; rw [pif_t hok, show cl (nI jx) = jx from k_jx, show cl (nI jy) = jy from k_jy, ek, show cl (nI k) = k from nI_clamp (by omega)]; rfl) rfl rfl hw.1⟩ hw.2.1 dX0_blow_191
  refine lv_iconst (v := (-1)) hx hb dX0_blow_10 (by decide) ?_
  refine W.widen (k := 1) (n := 4) (Nat.le_of_ble_eq_true rfl) (Nat.le_of_ble_eq_true rfl) ?_
  exact c_iret (v := (-1)) (by unfold xBlowR; rw [pif_f c_1]) hx hb hr rfl hlocks ⟨_, fun k9 h9 => ((hkz1 k9 h9).trans rfl), xH.to (by unfold xBlow; rw [pif_f c_1]) rfl rfl hw.1⟩ hw.2.1 dX0_blow_11
