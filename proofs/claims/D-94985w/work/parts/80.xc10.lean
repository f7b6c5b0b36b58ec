theorem int_swap {y : Int32} : nI 4 + y - nI 10 = nI 4 + (y - nI 10) := by
  rw [Int32.sub_eq_add_neg, Int32.sub_eq_add_neg, Int32.add_assoc]
theorem sub_back {x : Int32} {k j : Nat} (h : x - nI k = nI j) : x = nI (j + k) := by
  rw [← nI_add, ← h, Int32.sub_add_cancel]
theorem about_lt {M : Nat → Nat → Int32} {nk c : Nat} (hk : nk ≤ 6) (hc : c ≤ 8) : mAbout M nk (nI c) = M 0 c := by
  unfold mAbout
  rw [pif_f (fun h9 => by have := (nI_leI (by decide) (by omega)).mp h9.1; omega), pif_f (fun h9 => by have := (nI_leI (by decide) (by omega)).mp h9.1; omega), pif_t ⟨(nI_leI (by decide) (by omega)).mpr (by omega), (nI_leI (by omega) (by decide)).mpr hc⟩, show cl (nI c) = c from nI_clamp (by omega)]
theorem about_9 {M : Nat → Nat → Int32} {nk : Nat} (hk : nk ≤ 6) : mAbout M nk (nI 9) = M 4 0 := by
  unfold mAbout
  rw [pif_f (fun h9 => by have := (nI_leI (by decide) (by decide)).mp h9.1; omega), pif_f (fun h9 => by have := (nI_leI (by decide) (by decide)).mp h9.1; omega), pif_f (fun h9 => by have := (nI_leI (by decide) (by decide)).mp h9.2; omega), pif_t rfl]
theorem about_k {M : Nat → Nat → Int32} {nk j : Nat} (hk : nk ≤ 6) (hj : j < nk) : mAbout M nk (nI (j + 10)) = M 0 (40 + 3 * j + 2) := by
  unfold mAbout
  rw [pif_t ⟨(nI_leI (by decide) (by omega)).mpr (by omega), (nI_leI (by omega) (by omega)).mpr (by omega)⟩, show cl (nI (j + 10)) = j + 10 from nI_clamp (by omega), Nat.add_sub_cancel]
theorem about_w {M : Nat → Nat → Int32} {nk j : Nat} (hk : nk ≤ 6) (hj : j < nk) : mAbout M nk (nI (j + 20)) = nI 100 * M 0 (40 + 3 * j) + M 0 (40 + 3 * j + 1) := by
  unfold mAbout
  rw [pif_f (fun h9 => by have := (nI_leI (by omega) (by omega)).mp h9.2; omega), pif_t ⟨(nI_leI (by decide) (by omega)).mpr (by omega), (nI_leI (by omega) (by omega)).mpr (by omega)⟩, show cl (nI (j + 20)) = j + 20 from nI_clamp (by omega), Nat.add_sub_cancel]
theorem about_no {M : Nat → Nat → Int32} {nk : Nat} {x : Int32} (hk : nk ≤ 6) (h0 : ¬ vp_in x 10) (h1 : ¬ vp_in (x - nI 10) nk) (h2 : ¬ vp_in (x - nI 20) nk) : mAbout M nk x = (-2) := by
  have hw : ∀ k j, x = nI (j + k) → x - nI k = nI j := fun k j e => by rw [e, ← nI_add, Int32.add_sub_cancel]
  unfold mAbout
  rw [pif_f (fun h9 => by
      obtain ⟨j, ⟨a, b⟩, rfl⟩ := in_rng (by omega) (by omega) h9
      refine h1 ?_
      rw [hw 10 (j - 10) (by rw [Nat.sub_add_cancel (by omega)])]
      exact vp_in_nI (by omega) (by omega)),
    pif_f (fun h9 => by
      obtain ⟨j, ⟨a, b⟩, rfl⟩ := in_rng (by omega) (by omega) h9
      refine h2 ?_
      rw [hw 20 (j - 20) (by rw [Nat.sub_add_cancel (by omega)])]
      exact vp_in_nI (by omega) (by omega)),
    pif_f (fun h9 => by
      obtain ⟨j, ⟨a, b⟩, rfl⟩ := in_rng (by omega) (by omega) h9
      exact h0 (vp_in_nI (by omega) (by decide))),
    pif_f (fun h9 => by subst h9; exact h0 (vp_in_nI (by decide) (by decide)))]
set_option maxHeartbeats 4000000 in
set_option maxRecDepth 100000 in
theorem met_X0_of (l : Launch) (G : gG) (ad : Nat → Nat) (sz : Nat) (X Z : Nat → Nat → Int32) (T : Nat → Nat → Option Nat) (M : Nat → Nat → Int32) (nb nk nx np h nu ns ne nt : Nat) (hR : RS X 51 (M 0) nb nk nx np h nu ns ne nt) (x y : Int32) : Met l yX0_of (ws_ yX0_of cX0_of 3 (some .int)) ({ frames := 2, cells := 0, slots := 0, locals := 43 } : Room) (cP G [.ref (ad 0), .int x, .int y] (xH G ad X Z T sz)) (cR (some (.int (pif (vp_in x nb ∧ vp_in y 5) (M 0 (10 + 5 * cl x + cl y)) (-1))))) 0 0 (fun _ => False) := by
  refine c_start (by decide) (Nat.le_of_ble_eq_true rfl) ?_
  intro p e s m below meth c hx hb hr hlocks hml hown hts hB hK ls hl
  have hz := hB.2.2
  have hw := XS.of hB
  have hl : lv_has ls 3 [(0, .ref (ad 0)), (1, .int x), (2, .int y)] := hl
  have hR0 := hR
  obtain ⟨⟨rnb, mnb, hnb⟩, ⟨rnk, mnk, hnk⟩, ⟨rnx, mnx, hnx⟩, rtx, ⟨rns, mns, hns⟩, ⟨rne, mne, hne⟩, ⟨rnt, mnt, hnt⟩, ⟨rnp, mnp, hnp⟩, ⟨rh, mh, hh⟩, ⟨rnu, mnu, hnu⟩, rbl, rbe, rgi, rki, rse, rto, rpi, rbu, rkd, rva, rst⟩ := hR
  change X 52 0 = _ at rnb; change X 52 1 = _ at rnk; change X 52 2 = _ at rnx; change X 52 3 = _ at rtx; change X 52 4 = _ at rns; change X 52 5 = _ at rne; change X 52 6 = _ at rnt; change X 53 112 = _ at rnp; change X 53 113 = _ at rh; change X 53 114 = _ at rnu
  refine lv_aload_n hx hb dX0_of_0 rfl (lv_at hl 0 rfl) ?_
  refine lv_iload_n hx hb dX0_of_1 rfl (lv_at hl 1 rfl) ?_
  refine c_read (va_runV (As := [.int x]) (rest := []) ⟨hx, hb, hml, hown, hts⟩ (met_X0_isBlower l G ad sz X Z T x nb rnb (by omega)) (cv_X0_X0_isBlower hts ⟨Nat.le_of_ble_eq_true rfl, Nat.le_of_ble_eq_true rfl⟩) (cP.preV hK hw.1 (hw.1.recv hK)) rfl rfl hl.1 rfl (lv_room (Nat.le_of_ble_eq_true rfl)) dX0_of_2 ⟨by first | exact Nat.zero_le _ | omega | decide, by first | exact Nat.zero_le _ | omega | decide⟩) ?_
  refine b_if_ne (tgt := 10) hx hb dX0_of_5 (by decide) (fun c_1 => ?_) (fun c_1 => ?_)
  · obtain ⟨jx, h_jx, rfl⟩ := vp_in_of c_1 (by omega)
    have k_jx : (nI jx).toNatClampNeg = jx := nI_clamp (by omega)
    refine lv_iload_n hx hb dX0_of_10 rfl (lv_at hl 2 rfl) ?_
    by_cases hy5 : vp_in y 5
    · obtain ⟨jy, h_jy, rfl⟩ := vp_in_of hy5 (by decide)
      obtain rfl | rfl | rfl | rfl | rfl : jy = 0 ∨ jy = 1 ∨ jy = 2 ∨ jy = 3 ∨ jy = 4 := by omega
      · refine lv_tableIn (x := nI 0) (off := 33) (tgt := 44) hx hb dX0_of_11 (by decide) (by decide) (by decide) (by decide) ?_
        refine lv_aload_n hx hb dX0_of_44 rfl (lv_at hl 0 rfl) ?_
        refine x_g_now hx hb hts hown hK hw dX0_of_45 ?_
        refine x_sX0_51_blower hx hb hts hown hK hw dX0_of_48 ?_
        refine lv_iload_n hx hb dX0_of_51 rfl (lv_at hl 1 rfl) ?_
        refine x_a (r := 61 + jx) hx hb hK hw xO_55 rfl (by decide) (by omega) rfl dX0_of_52 ?_
        refine lv_iconst (v := nI 0) hx hb dX0_of_53 (by decide) ?_
        refine x_l (k := 61 + jx) (j := 0) (n := 3) (v := M 0 (10 + 5 * jx)) hx hb hK hw ((rbl jx (by omega)).1) (xL_61 (by omega)) (by decide) dX0_of_54 ?_
        exact c_rret (v := M 0 (10 + 5 * jx)) (by rw [pif_t ⟨vp_in_nI h_jx (by omega), vp_in_nI (by decide) (by decide)⟩, show cl (nI 0) = 0 from nI_clamp (by decide)]; simp only [cl, k_jx]; first | done | rfl) hx hb hr rfl hlocks dX0_of_55 rfl rfl
      · refine lv_tableIn (x := nI 1) (off := 45) (tgt := 56) hx hb dX0_of_11 (by decide) (by decide) (by decide) (by decide) ?_
        refine lv_aload_n hx hb dX0_of_56 rfl (lv_at hl 0 rfl) ?_
        refine x_g_now hx hb hts hown hK hw dX0_of_57 ?_
        refine x_sX0_51_blower hx hb hts hown hK hw dX0_of_60 ?_
        refine lv_iload_n hx hb dX0_of_63 rfl (lv_at hl 1 rfl) ?_
        refine x_a (r := 61 + jx) hx hb hK hw xO_55 rfl (by decide) (by omega) rfl dX0_of_64 ?_
        refine lv_iconst (v := nI 1) hx hb dX0_of_65 (by decide) ?_
        refine x_l (k := 61 + jx) (j := 1) (n := 3) (v := M 0 (10 + 5 * jx + 1)) hx hb hK hw ((rbl jx (by omega)).2.1) (xL_61 (by omega)) (by decide) dX0_of_66 ?_
        exact c_rret (v := M 0 (10 + 5 * jx + 1)) (by rw [pif_t ⟨vp_in_nI h_jx (by omega), vp_in_nI (by decide) (by decide)⟩, show cl (nI 1) = 1 from nI_clamp (by decide)]; simp only [cl, k_jx]; first | done | rfl) hx hb hr rfl hlocks dX0_of_67 rfl rfl
      · refine lv_tableIn (x := nI 2) (off := 57) (tgt := 68) hx hb dX0_of_11 (by decide) (by decide) (by decide) (by decide) ?_
        refine lv_aload_n hx hb dX0_of_68 rfl (lv_at hl 0 rfl) ?_
        refine x_g_now hx hb hts hown hK hw dX0_of_69 ?_
        refine x_sX0_51_row hx hb hts hown hK hw dX0_of_72 ?_
        refine lv_iconst (v := nI 0) hx hb dX0_of_75 (by decide) ?_
        refine lv_iload_n hx hb dX0_of_76 rfl (lv_at hl 1 rfl) ?_
        refine n_iadd0 hx hb dX0_of_77 ?_
        refine x_l (k := 53) (j := jx) (n := 275) (v := M 0 (10 + 5 * jx + 2)) hx hb hK hw ((rbe jx (by omega)).1) (by decide) (by omega) dX0_of_78 ?_
        exact c_rret (v := M 0 (10 + 5 * jx + 2)) (by rw [pif_t ⟨vp_in_nI h_jx (by omega), vp_in_nI (by decide) (by decide)⟩, show cl (nI 2) = 2 from nI_clamp (by decide)]; simp only [cl, k_jx]; first | done | rfl) hx hb hr rfl hlocks dX0_of_79 rfl rfl
      · refine lv_tableIn (x := nI 3) (off := 69) (tgt := 80) hx hb dX0_of_11 (by decide) (by decide) (by decide) (by decide) ?_
        refine lv_aload_n hx hb dX0_of_80 rfl (lv_at hl 0 rfl) ?_
        refine x_g_now hx hb hts hown hK hw dX0_of_81 ?_
        refine x_sX0_51_row hx hb hts hown hK hw dX0_of_84 ?_
        refine lv_bipush (v := nI 6) hx hb dX0_of_87 (by decide) ?_
        refine lv_iload_n hx hb dX0_of_89 rfl (lv_at hl 1 rfl) ?_
        refine n_iadd hx hb dX0_of_90 ?_
        refine x_l (k := 53) (j := 6 + jx) (n := 275) (v := M 0 (10 + 5 * jx + 3)) hx hb hK hw ((rbe jx (by omega)).2) (by decide) (by omega) dX0_of_91 ?_
        exact c_rret (v := M 0 (10 + 5 * jx + 3)) (by rw [pif_t ⟨vp_in_nI h_jx (by omega), vp_in_nI (by decide) (by decide)⟩, show cl (nI 3) = 3 from nI_clamp (by decide)]; simp only [cl, k_jx]; first | done | rfl) hx hb hr rfl hlocks dX0_of_92 rfl rfl
      · refine lv_tableIn (x := nI 4) (off := 82) (tgt := 93) hx hb dX0_of_11 (by decide) (by decide) (by decide) (by decide) ?_
        refine lv_aload_n hx hb dX0_of_93 rfl (lv_at hl 0 rfl) ?_
        refine x_g_now hx hb hts hown hK hw dX0_of_94 ?_
        refine x_sX0_51_blower hx hb hts hown hK hw dX0_of_97 ?_
        refine lv_iload_n hx hb dX0_of_100 rfl (lv_at hl 1 rfl) ?_
        refine x_a (r := 61 + jx) hx hb hK hw xO_55 rfl (by decide) (by omega) rfl dX0_of_101 ?_
        refine lv_iconst (v := nI 2) hx hb dX0_of_102 (by decide) ?_
        refine x_l (k := 61 + jx) (j := 2) (n := 3) (v := M 0 (10 + 5 * jx + 4)) hx hb hK hw ((rbl jx (by omega)).2.2) (xL_61 (by omega)) (by decide) dX0_of_103 ?_
        exact c_rret (v := M 0 (10 + 5 * jx + 4)) (by rw [pif_t ⟨vp_in_nI h_jx (by omega), vp_in_nI (by decide) (by decide)⟩, show cl (nI 4) = 4 from nI_clamp (by decide)]; simp only [cl, k_jx]; first | done | rfl) hx hb hr rfl hlocks dX0_of_104 rfl rfl
    · refine lv_tableOut (tgt := 105) hx hb dX0_of_11 (by rw [vp_in_iff] at hy5; omega) (by decide) ?_
      refine lv_iconst (v := (-1)) hx hb dX0_of_105 (by decide) ?_
      exact c_rret (v := (-1)) (by rw [pif_f (fun h9 => hy5 h9.2)]) hx hb hr rfl hlocks dX0_of_106 rfl rfl
  refine lv_iconst (v := (-1)) hx hb dX0_of_8 (by decide) ?_
  exact c_rret (v := (-1)) (by rw [pif_f (fun h9 => absurd h9.1 (by with_reducible assumption))]) hx hb hr rfl hlocks dX0_of_9 rfl rfl
set_option maxHeartbeats 4000000 in
set_option maxRecDepth 100000 in
theorem met_X0_piece (l : Launch) (G : gG) (ad : Nat → Nat) (sz : Nat) (X Z : Nat → Nat → Int32) (T : Nat → Nat → Option Nat) (M : Nat → Nat → Int32) (nb nk nx np h nu ns ne nt : Nat) (hR : RS X 51 (M 0) nb nk nx np h nu ns ne nt) (x y : Int32) : Met l yX0_piece (ws_ yX0_piece cX0_piece 3 (some .int)) ({ frames := 2, cells := 0, slots := 0, locals := 43 } : Room) (cP G [.ref (ad 0), .int x, .int y] (xH G ad X Z T sz)) (cR (some (.int (pif (vp_in x np) (pif (vp_in y 4) (M 0 (150 + 10 * cl x + cl y)) (pif (vp_in (y - nI 10) nb) (M 0 (150 + 10 * cl x + 4 + cl (y - nI 10))) (-1))) (-1))))) 0 0 (fun _ => False) := by
  refine c_start (by decide) (Nat.le_of_ble_eq_true rfl) ?_
  intro p e s m below meth c hx hb hr hlocks hml hown hts hB hK ls hl
  have hz := hB.2.2
  have hw := XS.of hB
  have hl : lv_has ls 3 [(0, .ref (ad 0)), (1, .int x), (2, .int y)] := hl
  have hR0 := hR
  obtain ⟨⟨rnb, mnb, hnb⟩, ⟨rnk, mnk, hnk⟩, ⟨rnx, mnx, hnx⟩, rtx, ⟨rns, mns, hns⟩, ⟨rne, mne, hne⟩, ⟨rnt, mnt, hnt⟩, ⟨rnp, mnp, hnp⟩, ⟨rh, mh, hh⟩, ⟨rnu, mnu, hnu⟩, rbl, rbe, rgi, rki, rse, rto, rpi, rbu, rkd, rva, rst⟩ := hR
  change X 52 0 = _ at rnb; change X 52 1 = _ at rnk; change X 52 2 = _ at rnx; change X 52 3 = _ at rtx; change X 52 4 = _ at rns; change X 52 5 = _ at rne; change X 52 6 = _ at rnt; change X 53 112 = _ at rnp; change X 53 113 = _ at rh; change X 53 114 = _ at rnu
  refine lv_aload_n hx hb dX0_piece_0 rfl (lv_at hl 0 rfl) ?_
  refine lv_iload_n hx hb dX0_piece_1 rfl (lv_at hl 1 rfl) ?_
  refine c_read (va_runV (As := [.int x]) (rest := []) ⟨hx, hb, hml, hown, hts⟩ (met_X0_isPiece l G ad sz X Z T x np rnp (by omega)) (cv_X0_X0_isPiece hts ⟨Nat.le_of_ble_eq_true rfl, Nat.le_of_ble_eq_true rfl⟩) (cP.preV hK hw.1 (hw.1.recv hK)) rfl rfl hl.1 rfl (lv_room (Nat.le_of_ble_eq_true rfl)) dX0_piece_2 ⟨by first | exact Nat.zero_le _ | omega | decide, by first | exact Nat.zero_le _ | omega | decide⟩) ?_
  refine b_if_ne (tgt := 10) hx hb dX0_piece_5 (by decide) (fun c_1 => ?_) (fun c_1 => ?_)
  · obtain ⟨jx, h_jx, rfl⟩ := vp_in_of c_1 (by omega)
    have k_jx : (nI jx).toNatClampNeg = jx := nI_clamp (by omega)
    refine lv_iload_n hx hb dX0_piece_10 rfl (lv_at hl 2 rfl) ?_
    refine lv_iconst (v := nI 0) hx hb dX0_piece_11 (by decide) ?_
    refine lv_iconst (v := nI 3) hx hb dX0_piece_12 (by decide) ?_
    refine c_read (va_runS (As := [.int y, .int (nI 0), .int (nI 3)]) (rest := []) ⟨hx, hb, hml, hown, hts⟩ (met_X0_in l G y (nI 0) (nI 3)) (cs_X0_X0_in hts ⟨Nat.le_of_ble_eq_true rfl, Nat.le_of_ble_eq_true rfl⟩) (cP.pre hK trivial) rfl rfl hl.1 rfl (lv_room (Nat.le_of_ble_eq_true rfl)) dX0_piece_13 ⟨by first | exact Nat.zero_le _ | omega | decide, by first | exact Nat.zero_le _ | omega | decide⟩) ?_
    refine b_if_eq (tgt := 26) hx hb dX0_piece_16 (by decide) (fun c_2 => ?_) (fun c_2 => ?_)
    · refine lv_aload_n hx hb dX0_piece_26 rfl (lv_at hl 0 rfl) ?_
      refine lv_iload_n hx hb dX0_piece_27 rfl (lv_at hl 2 rfl) ?_
      refine lv_bipush (v := nI 10) hx hb dX0_piece_28 (by decide) ?_
      refine lv_isub hx hb dX0_piece_30 ?_
      refine c_read (va_runV (As := [.int (y - (nI 10))]) (rest := []) ⟨hx, hb, hml, hown, hts⟩ (met_X0_isBlower l G ad sz X Z T (y - (nI 10)) nb rnb (by omega)) (cv_X0_X0_isBlower hts ⟨Nat.le_of_ble_eq_true rfl, Nat.le_of_ble_eq_true rfl⟩) (cP.preV hK hw.1 (hw.1.recv hK)) rfl rfl hl.1 rfl (lv_room (Nat.le_of_ble_eq_true rfl)) dX0_piece_31 ⟨by first | exact Nat.zero_le _ | omega | decide, by first | exact Nat.zero_le _ | omega | decide⟩) ?_
      refine b_if_eq (tgt := 51) hx hb dX0_piece_34 (by decide) (fun c_3 => ?_) (fun c_3 => ?_)
      · refine lv_iconst (v := (-1)) hx hb dX0_piece_51 (by decide) ?_
        exact c_rret (v := (-1)) (by rw [pif_t (vp_in_nI h_jx (by omega)), pif_f (fun h9 => c_2 ((in_const (n := 3) (by decide)).mpr h9)), pif_f (by with_reducible assumption)]) hx hb hr rfl hlocks dX0_piece_52 rfl rfl
      obtain ⟨jz, h_jz, ez⟩ := vp_in_of c_3 (by omega)
      have k_jz : (nI jz).toNatClampNeg = jz := nI_clamp (by omega)
      refine lv_aload_n hx hb dX0_piece_37 rfl (lv_at hl 0 rfl) ?_
      refine lv_iload_n hx hb dX0_piece_38 rfl (lv_at hl 1 rfl) ?_
      refine lv_iconst (v := nI 4) hx hb dX0_piece_39 (by decide) ?_
      refine lv_iload_n hx hb dX0_piece_40 rfl (lv_at hl 2 rfl) ?_
      refine lv_iadd hx hb dX0_piece_41 ?_
      refine lv_bipush (v := nI 10) hx hb dX0_piece_42 (by decide) ?_
      refine lv_isub hx hb dX0_piece_44 ?_
      rw [show nI 4 + y - nI 10 = nI (4 + jz) by rw [← nI_add, ← ez]; exact int_swap]
      refine c_read (va_runV (As := [.int (nI jx), .int (nI (4 + jz))]) (rest := []) ⟨hx, hb, hml, hown, hts⟩ (met_X0_ofPiece l G ad sz X Z T jx (4 + jz) (M 0 (150 + 10 * jx + 4 + jz)) (by omega) (pc_at rpi (i := 10 * jx + (4 + jz)) (by omega) (by omega) (by omega))) (cv_X0_X0_ofPiece hts ⟨Nat.le_of_ble_eq_true rfl, Nat.le_of_ble_eq_true rfl⟩) (cP.preV hK hw.1 (hw.1.recv hK)) rfl rfl hl.1 rfl (lv_room (Nat.le_of_ble_eq_true rfl)) dX0_piece_45 ⟨by first | exact Nat.zero_le _ | omega | decide, by first | exact Nat.zero_le _ | omega | decide⟩) ?_
      refine lv_goto (tgt := 52) hx hb dX0_piece_48 (by decide) ?_
      exact c_rret (v := M 0 (150 + 10 * jx + 4 + jz)) (by rw [pif_t (vp_in_nI h_jx (by omega)), pif_f (fun h9 => c_2 ((in_const (n := 3) (by decide)).mpr h9)), pif_t (by rw [ez]; exact vp_in_nI h_jz (by omega)), ez]; simp only [cl, k_jx, k_jz]) hx hb hr rfl hlocks dX0_piece_52 rfl rfl
    obtain ⟨jy, h_jy, rfl⟩ := vp_in_of ((in_const (n := 3) (by decide)).mp c_2) (by omega)
    have k_jy : (nI jy).toNatClampNeg = jy := nI_clamp (by omega)
    refine lv_aload_n hx hb dX0_piece_19 rfl (lv_at hl 0 rfl) ?_
    refine lv_iload_n hx hb dX0_piece_20 rfl (lv_at hl 1 rfl) ?_
    refine lv_iload_n hx hb dX0_piece_21 rfl (lv_at hl 2 rfl) ?_
    refine c_read (va_runV (As := [.int (nI jx), .int (nI jy)]) (rest := []) ⟨hx, hb, hml, hown, hts⟩ (met_X0_ofPiece l G ad sz X Z T jx jy (M 0 (150 + 10 * jx + jy)) (by omega) (pc_at rpi (i := 10 * jx + jy) (by omega) (by omega) (by omega))) (cv_X0_X0_ofPiece hts ⟨Nat.le_of_ble_eq_true rfl, Nat.le_of_ble_eq_true rfl⟩) (cP.preV hK hw.1 (hw.1.recv hK)) rfl rfl hl.1 rfl (lv_room (Nat.le_of_ble_eq_true rfl)) dX0_piece_22 ⟨by first | exact Nat.zero_le _ | omega | decide, by first | exact Nat.zero_le _ | omega | decide⟩) ?_
    exact c_rret (v := M 0 (150 + 10 * jx + jy)) (by rw [pif_t (vp_in_nI h_jx (by omega)), pif_t (vp_in_nI h_jy (by decide))]; simp only [cl, k_jx, k_jy]) hx hb hr rfl hlocks dX0_piece_25 rfl rfl
  refine lv_iconst (v := (-1)) hx hb dX0_piece_8 (by decide) ?_
  exact c_rret (v := (-1)) (by rw [pif_f (by with_reducible assumption)]) hx hb hr rfl hlocks dX0_piece_9 rfl rfl
set_option maxHeartbeats 4000000 in
set_option maxRecDepth 100000 in
theorem met_X0_bubble (l : Launch) (G : gG) (ad : Nat → Nat) (sz : Nat) (X Z : Nat → Nat → Int32) (T : Nat → Nat → Option Nat) (M : Nat → Nat → Int32) (nb nk nx np h nu ns ne nt : Nat) (hR : RS X 51 (M 0) nb nk nx np h nu ns ne nt) (x y : Int32) : Met l yX0_bubble (ws_ yX0_bubble cX0_bubble 3 (some .int)) ({ frames := 1, cells := 0, slots := 0, locals := 22 } : Room) (cP G [.ref (ad 0), .int x, .int y] (xH G ad X Z T sz)) (cR (some (.int (pif (x = (-1)) (nI nu) (pif (vp_in x nu ∧ vp_in y 4) (M 0 (250 + 4 * cl x + cl y)) (-1)))))) 0 0 (fun _ => False) := by
  refine c_start (by decide) (Nat.le_of_ble_eq_true rfl) ?_
  intro p e s m below meth c hx hb hr hlocks hml hown hts hB hK ls hl
  have hz := hB.2.2
  have hw := XS.of hB
  have hl : lv_has ls 3 [(0, .ref (ad 0)), (1, .int x), (2, .int y)] := hl
  have hR0 := hR
  obtain ⟨⟨rnb, mnb, hnb⟩, ⟨rnk, mnk, hnk⟩, ⟨rnx, mnx, hnx⟩, rtx, ⟨rns, mns, hns⟩, ⟨rne, mne, hne⟩, ⟨rnt, mnt, hnt⟩, ⟨rnp, mnp, hnp⟩, ⟨rh, mh, hh⟩, ⟨rnu, mnu, hnu⟩, rbl, rbe, rgi, rki, rse, rto, rpi, rbu, rkd, rva, rst⟩ := hR
  change X 52 0 = _ at rnb; change X 52 1 = _ at rnk; change X 52 2 = _ at rnx; change X 52 3 = _ at rtx; change X 52 4 = _ at rns; change X 52 5 = _ at rne; change X 52 6 = _ at rnt; change X 53 112 = _ at rnp; change X 53 113 = _ at rh; change X 53 114 = _ at rnu
  refine lv_iload_n hx hb dX0_bubble_0 rfl (lv_at hl 1 rfl) ?_
  refine lv_iconst (v := (-1)) hx hb dX0_bubble_1 (by decide) ?_
  refine lv_icmp_ne (tgt := 16) hx hb dX0_bubble_2 (by decide) (fun c_1 => ?_) (fun c_1 => ?_)
  · refine lv_iload_n hx hb dX0_bubble_16 rfl (lv_at hl 1 rfl) ?_
    refine lv_iconst (v := nI 0) hx hb dX0_bubble_17 (by decide) ?_
    refine lv_aload_n hx hb dX0_bubble_18 rfl (lv_at hl 0 rfl) ?_
    refine x_g_now hx hb hts hown hK hw dX0_bubble_19 ?_
    refine x_sX0_51_row hx hb hts hown hK hw dX0_bubble_22 ?_
    refine lv_bipush (v := nI 114) hx hb dX0_bubble_25 (by decide) ?_
    refine x_l (k := 53) (j := 114) (n := 275) (v := nI nu) hx hb hK hw rnu (by decide) (by decide) dX0_bubble_27 ?_
    refine lv_iconst (v := nI 1) hx hb dX0_bubble_28 (by decide) ?_
    refine lv_isub hx hb dX0_bubble_29 ?_
    refine c_read (va_runS (As := [.int x, .int (nI 0), .int ((nI nu) - (nI 1))]) (rest := []) ⟨hx, hb, hml, hown, hts⟩ (met_X0_in l G x (nI 0) ((nI nu) - (nI 1))) (cs_X0_X0_in hts ⟨Nat.le_of_ble_eq_true rfl, Nat.le_of_ble_eq_true rfl⟩) (cP.pre hK trivial) rfl rfl hl.1 rfl (lv_room (Nat.le_of_ble_eq_true rfl)) dX0_bubble_30 ⟨by first | exact Nat.zero_le _ | omega | decide, by first | exact Nat.zero_le _ | omega | decide⟩) ?_
    refine b_if_eq (tgt := 64) hx hb dX0_bubble_33 (by decide) (fun c_2 => ?_) (fun c_2 => ?_)
    · refine lv_iconst (v := (-1)) hx hb dX0_bubble_64 (by decide) ?_
      exact c_rret (v := (-1)) (by first | rw [pif_t (by with_reducible assumption)] | (rw [pif_f (by with_reducible assumption), pif_t ⟨vp_in_nI h_jx (by omega), vp_in_nI h_jy (by decide)⟩]; simp only [cl, k_jx, k_jy]) | rw [pif_f (by with_reducible assumption), pif_f (fun h9 => c_2 ((in_vp (by omega)).mpr h9.1))]) hx hb hr rfl hlocks dX0_bubble_65 rfl rfl
    obtain ⟨jx, h_jx, rfl⟩ := vp_in_of ((in_vp (by omega)).mp c_2) (by omega)
    have k_jx : (nI jx).toNatClampNeg = jx := nI_clamp (by omega)
    refine lv_iload_n hx hb dX0_bubble_36 rfl (lv_at hl 2 rfl) ?_
    refine lv_iconst (v := nI 0) hx hb dX0_bubble_37 (by decide) ?_
    refine lv_iconst (v := nI 3) hx hb dX0_bubble_38 (by decide) ?_
    refine c_read (va_runS (As := [.int y, .int (nI 0), .int (nI 3)]) (rest := []) ⟨hx, hb, hml, hown, hts⟩ (met_X0_in l G y (nI 0) (nI 3)) (cs_X0_X0_in hts ⟨Nat.le_of_ble_eq_true rfl, Nat.le_of_ble_eq_true rfl⟩) (cP.pre hK trivial) rfl rfl hl.1 rfl (lv_room (Nat.le_of_ble_eq_true rfl)) dX0_bubble_39 ⟨by first | exact Nat.zero_le _ | omega | decide, by first | exact Nat.zero_le _ | omega | decide⟩) ?_
    refine b_if_eq (tgt := 64) hx hb dX0_bubble_42 (by decide) (fun c_3 => ?_) (fun c_3 => ?_)
    · refine lv_iconst (v := (-1)) hx hb dX0_bubble_64 (by decide) ?_
      exact c_rret (v := (-1)) (by first | rw [pif_t (by with_reducible assumption)] | (rw [pif_f (by with_reducible assumption), pif_t ⟨vp_in_nI h_jx (by omega), vp_in_nI h_jy (by decide)⟩]; simp only [cl, k_jx, k_jy]) | rw [pif_f (by with_reducible assumption), pif_f (fun h9 => c_3 ((in_const (n := 3) (by decide)).mpr h9.2))]) hx hb hr rfl hlocks dX0_bubble_65 rfl rfl
    obtain ⟨jy, h_jy, rfl⟩ := vp_in_of ((in_const (n := 3) (by decide)).mp c_3) (by omega)
    have k_jy : (nI jy).toNatClampNeg = jy := nI_clamp (by omega)
    refine lv_aload_n hx hb dX0_bubble_45 rfl (lv_at hl 0 rfl) ?_
    refine x_g_now hx hb hts hown hK hw dX0_bubble_46 ?_
    refine x_sX0_51_row hx hb hts hown hK hw dX0_bubble_49 ?_
    refine lv_bipush (v := nI 115) hx hb dX0_bubble_52 (by decide) ?_
    refine lv_iconst (v := nI 4) hx hb dX0_bubble_54 (by decide) ?_
    refine lv_iload_n hx hb dX0_bubble_55 rfl (lv_at hl 1 rfl) ?_
    refine n_imul hx hb dX0_bubble_56 ?_
    refine n_iadd hx hb dX0_bubble_57 ?_
    refine lv_iload_n hx hb dX0_bubble_58 rfl (lv_at hl 2 rfl) ?_
    refine n_iadd hx hb dX0_bubble_59 ?_
    refine x_l (k := 53) (j := 115 + 4 * jx + jy) (n := 275) (v := M 0 (250 + 4 * jx + jy)) hx hb hK hw (bu_at rbu (i := 4 * jx + jy) (by omega) (by omega) (by omega)) (by decide) (by omega) dX0_bubble_60 ?_
    refine lv_goto (tgt := 65) hx hb dX0_bubble_61 (by decide) ?_
    exact c_rret (v := M 0 (250 + 4 * jx + jy)) (by first | rw [pif_t (by with_reducible assumption)] | (rw [pif_f (by with_reducible assumption), pif_t ⟨vp_in_nI h_jx (by omega), vp_in_nI h_jy (by decide)⟩]; simp only [cl, k_jx, k_jy]) | rw [pif_f (by with_reducible assumption), pif_f (fun h9 => c_3 ((in_const (n := 3) (by decide)).mpr h9.2))]) hx hb hr rfl hlocks dX0_bubble_65 rfl rfl
  refine lv_aload_n hx hb dX0_bubble_5 rfl (lv_at hl 0 rfl) ?_
  refine x_g_now hx hb hts hown hK hw dX0_bubble_6 ?_
  refine x_sX0_51_row hx hb hts hown hK hw dX0_bubble_9 ?_
  refine lv_bipush (v := nI 114) hx hb dX0_bubble_12 (by decide) ?_
  refine x_l (k := 53) (j := 114) (n := 275) (v := nI nu) hx hb hK hw rnu (by decide) (by decide) dX0_bubble_14 ?_
  exact c_rret (v := nI nu) (by first | rw [pif_t (by with_reducible assumption)] | (rw [pif_f (by with_reducible assumption), pif_t ⟨vp_in_nI h_jx (by omega), vp_in_nI h_jy (by decide)⟩]; simp only [cl, k_jx, k_jy]) | rw [pif_f (by with_reducible assumption), pif_f (fun h9 => c_1 ((in_vp (by omega)).mpr h9.1))]) hx hb hr rfl hlocks dX0_bubble_15 rfl rfl
set_option maxHeartbeats 4000000 in
set_option maxRecDepth 100000 in
theorem met_X0_about (l : Launch) (G : gG) (ad : Nat → Nat) (sz : Nat) (X Z : Nat → Nat → Int32) (T : Nat → Nat → Option Nat) (M : Nat → Nat → Int32) (nb nk nx np h nu ns ne nt : Nat) (hR : RS X 51 (M 0) nb nk nx np h nu ns ne nt) (htp : X 0 3 = M 4 0) (x : Int32) : Met l yX0_about (ws_ yX0_about cX0_about 2 (some .int)) ({ frames := 2, cells := 0, slots := 0, locals := 43 } : Room) (cP G [.ref (ad 0), .int x] (xH G ad X Z T sz)) (cR (some (.int (mAbout M nk x)))) 0 0 (fun _ => False) := by
  refine c_start (by decide) (Nat.le_of_ble_eq_true rfl) ?_
  intro p e s m below meth c hx hb hr hlocks hml hown hts hB hK ls hl
  have hz := hB.2.2
  have hw := XS.of hB
  have hl : lv_has ls 2 [(0, .ref (ad 0)), (1, .int x)] := hl
  have hR0 := hR
  obtain ⟨⟨rnb, mnb, hnb⟩, ⟨rnk, mnk, hnk⟩, ⟨rnx, mnx, hnx⟩, rtx, ⟨rns, mns, hns⟩, ⟨rne, mne, hne⟩, ⟨rnt, mnt, hnt⟩, ⟨rnp, mnp, hnp⟩, ⟨rh, mh, hh⟩, ⟨rnu, mnu, hnu⟩, rbl, rbe, rgi, rki, rse, rto, rpi, rbu, rkd, rva, rst⟩ := hR
  change X 52 0 = _ at rnb; change X 52 1 = _ at rnk; change X 52 2 = _ at rnx; change X 52 3 = _ at rtx; change X 52 4 = _ at rns; change X 52 5 = _ at rne; change X 52 6 = _ at rnt; change X 53 112 = _ at rnp; change X 53 113 = _ at rh; change X 53 114 = _ at rnu
  refine lv_iload_n hx hb dX0_about_0 rfl (lv_at hl 1 rfl) ?_
  by_cases hy : vp_in x 10
  · obtain ⟨jx, h_jx, rfl⟩ := vp_in_of hy (by decide)
    obtain rfl | rfl | rfl | rfl | rfl | rfl | rfl | rfl | rfl | rfl : jx = 0 ∨ jx = 1 ∨ jx = 2 ∨ jx = 3 ∨ jx = 4 ∨ jx = 5 ∨ jx = 6 ∨ jx = 7 ∨ jx = 8 ∨ jx = 9 := by omega
    · refine lv_tableIn (x := nI 0) (off := 55) (tgt := 56) hx hb dX0_about_1 (by decide) (by decide) (by decide) (by decide) ?_
      refine lv_aload_n hx hb dX0_about_56 rfl (lv_at hl 0 rfl) ?_
      refine x_g_now hx hb hts hown hK hw dX0_about_57 ?_
      refine x_sX0_51_n hx hb hts hown hK hw dX0_about_60 ?_
      refine lv_iconst (v := nI 0) hx hb dX0_about_63 (by decide) ?_
      refine x_l (k := 52) (j := 0) (n := 7) (v := nI nb) hx hb hK hw rnb (by decide) (by decide) dX0_about_64 ?_
      exact c_rret (v := nI nb) (mnb.symm.trans (about_lt hnk (by decide)).symm) hx hb hr rfl hlocks dX0_about_65 rfl rfl
    · refine lv_tableIn (x := nI 1) (off := 65) (tgt := 66) hx hb dX0_about_1 (by decide) (by decide) (by decide) (by decide) ?_
      refine lv_aload_n hx hb dX0_about_66 rfl (lv_at hl 0 rfl) ?_
      refine x_g_now hx hb hts hown hK hw dX0_about_67 ?_
      refine x_sX0_51_n hx hb hts hown hK hw dX0_about_70 ?_
      refine lv_iconst (v := nI 1) hx hb dX0_about_73 (by decide) ?_
      refine x_l (k := 52) (j := 1) (n := 7) (v := nI nk) hx hb hK hw rnk (by decide) (by decide) dX0_about_74 ?_
      exact c_rret (v := nI nk) (mnk.symm.trans (about_lt hnk (by decide)).symm) hx hb hr rfl hlocks dX0_about_75 rfl rfl
    · refine lv_tableIn (x := nI 2) (off := 75) (tgt := 76) hx hb dX0_about_1 (by decide) (by decide) (by decide) (by decide) ?_
      refine lv_aload_n hx hb dX0_about_76 rfl (lv_at hl 0 rfl) ?_
      refine x_g_now hx hb hts hown hK hw dX0_about_77 ?_
      refine x_sX0_51_row hx hb hts hown hK hw dX0_about_80 ?_
      refine lv_bipush (v := nI 112) hx hb dX0_about_83 (by decide) ?_
      refine x_l (k := 53) (j := 112) (n := 275) (v := nI np) hx hb hK hw rnp (by decide) (by decide) dX0_about_85 ?_
      exact c_rret (v := nI np) (mnp.symm.trans (about_lt hnk (by decide)).symm) hx hb hr rfl hlocks dX0_about_86 rfl rfl
    · refine lv_tableIn (x := nI 3) (off := 86) (tgt := 87) hx hb dX0_about_1 (by decide) (by decide) (by decide) (by decide) ?_
      refine lv_aload_n hx hb dX0_about_87 rfl (lv_at hl 0 rfl) ?_
      refine c_read (va_runV (As := []) (rest := []) ⟨hx, hb, hml, hown, hts⟩ (met_X0_hour l G ad sz X Z T (nI h) rh) (cv_X0_X0_hour hts ⟨Nat.le_of_ble_eq_true rfl, Nat.le_of_ble_eq_true rfl⟩) (cP.preV hK hw.1 (hw.1.recv hK)) rfl rfl hl.1 rfl (lv_room (Nat.le_of_ble_eq_true rfl)) dX0_about_88 ⟨by first | exact Nat.zero_le _ | omega | decide, by first | exact Nat.zero_le _ | omega | decide⟩) ?_
      exact c_rret (v := nI h) (mh.symm.trans (about_lt hnk (by decide)).symm) hx hb hr rfl hlocks dX0_about_91 rfl rfl
    · refine lv_tableIn (x := nI 4) (off := 91) (tgt := 92) hx hb dX0_about_1 (by decide) (by decide) (by decide) (by decide) ?_
      refine lv_aload_n hx hb dX0_about_92 rfl (lv_at hl 0 rfl) ?_
      refine x_g_now hx hb hts hown hK hw dX0_about_93 ?_
      refine x_sX0_51_n hx hb hts hown hK hw dX0_about_96 ?_
      refine lv_iconst (v := nI 2) hx hb dX0_about_99 (by decide) ?_
      refine x_l (k := 52) (j := 2) (n := 7) (v := nI nx) hx hb hK hw rnx (by decide) (by decide) dX0_about_100 ?_
      exact c_rret (v := nI nx) (mnx.symm.trans (about_lt hnk (by decide)).symm) hx hb hr rfl hlocks dX0_about_101 rfl rfl
    · refine lv_tableIn (x := nI 5) (off := 101) (tgt := 102) hx hb dX0_about_1 (by decide) (by decide) (by decide) (by decide) ?_
      refine lv_aload_n hx hb dX0_about_102 rfl (lv_at hl 0 rfl) ?_
      refine x_g_now hx hb hts hown hK hw dX0_about_103 ?_
      refine x_sX0_51_n hx hb hts hown hK hw dX0_about_106 ?_
      refine lv_iconst (v := nI 3) hx hb dX0_about_109 (by decide) ?_
      refine x_l (k := 52) (j := 3) (n := 7) (v := M 0 5) hx hb hK hw rtx (by decide) (by decide) dX0_about_110 ?_
      exact c_rret (v := M 0 5) ((about_lt hnk (by decide)).symm) hx hb hr rfl hlocks dX0_about_111 rfl rfl
    · refine lv_tableIn (x := nI 6) (off := 111) (tgt := 112) hx hb dX0_about_1 (by decide) (by decide) (by decide) (by decide) ?_
      refine lv_aload_n hx hb dX0_about_112 rfl (lv_at hl 0 rfl) ?_
      refine x_g_now hx hb hts hown hK hw dX0_about_113 ?_
      refine x_sX0_51_n hx hb hts hown hK hw dX0_about_116 ?_
      refine lv_iconst (v := nI 4) hx hb dX0_about_119 (by decide) ?_
      refine x_l (k := 52) (j := 4) (n := 7) (v := nI ns) hx hb hK hw rns (by decide) (by decide) dX0_about_120 ?_
      exact c_rret (v := nI ns) (mns.symm.trans (about_lt hnk (by decide)).symm) hx hb hr rfl hlocks dX0_about_121 rfl rfl
    · refine lv_tableIn (x := nI 7) (off := 121) (tgt := 122) hx hb dX0_about_1 (by decide) (by decide) (by decide) (by decide) ?_
      refine lv_aload_n hx hb dX0_about_122 rfl (lv_at hl 0 rfl) ?_
      refine x_g_now hx hb hts hown hK hw dX0_about_123 ?_
      refine x_sX0_51_n hx hb hts hown hK hw dX0_about_126 ?_
      refine lv_iconst (v := nI 5) hx hb dX0_about_129 (by decide) ?_
      refine x_l (k := 52) (j := 5) (n := 7) (v := nI ne) hx hb hK hw rne (by decide) (by decide) dX0_about_130 ?_
      exact c_rret (v := nI ne) (mne.symm.trans (about_lt hnk (by decide)).symm) hx hb hr rfl hlocks dX0_about_131 rfl rfl
    · refine lv_tableIn (x := nI 8) (off := 131) (tgt := 132) hx hb dX0_about_1 (by decide) (by decide) (by decide) (by decide) ?_
      refine lv_aload_n hx hb dX0_about_132 rfl (lv_at hl 0 rfl) ?_
      refine x_g_now hx hb hts hown hK hw dX0_about_133 ?_
      refine x_sX0_51_n hx hb hts hown hK hw dX0_about_136 ?_
      refine lv_bipush (v := nI 6) hx hb dX0_about_139 (by decide) ?_
      refine x_l (k := 52) (j := 6) (n := 7) (v := nI nt) hx hb hK hw rnt (by decide) (by decide) dX0_about_141 ?_
      exact c_rret (v := nI nt) (mnt.symm.trans (about_lt hnk (by decide)).symm) hx hb hr rfl hlocks dX0_about_142 rfl rfl
    · refine lv_tableIn (x := nI 9) (off := 142) (tgt := 143) hx hb dX0_about_1 (by decide) (by decide) (by decide) (by decide) ?_
      refine lv_aload_n hx hb dX0_about_143 rfl (lv_at hl 0 rfl) ?_
      refine x_g_taped hx hb hts hown hK hw dX0_about_144 ?_
      exact c_rret (v := X 0 3) (htp.trans (about_9 hnk).symm) hx hb hr rfl hlocks dX0_about_147 rfl rfl
  · refine lv_tableOut (tgt := 148) hx hb dX0_about_1 (by rw [vp_in_iff] at hy; omega) (by decide) ?_
    refine lv_aload_n hx hb dX0_about_148 rfl (lv_at hl 0 rfl) ?_
    refine lv_iload_n hx hb dX0_about_149 rfl (lv_at hl 1 rfl) ?_
    refine lv_bipush (v := nI 10) hx hb dX0_about_150 (by decide) ?_
    refine lv_isub hx hb dX0_about_152 ?_
    refine c_read (va_runV (As := [.int (x - (nI 10))]) (rest := []) ⟨hx, hb, hml, hown, hts⟩ (met_X0_isKind l G ad sz X Z T (x - (nI 10)) nk rnk (by omega)) (cv_X0_X0_isKind hts ⟨Nat.le_of_ble_eq_true rfl, Nat.le_of_ble_eq_true rfl⟩) (cP.preV hK hw.1 (hw.1.recv hK)) rfl rfl hl.1 rfl (lv_room (Nat.le_of_ble_eq_true rfl)) dX0_about_153 ⟨by first | exact Nat.zero_le _ | omega | decide, by first | exact Nat.zero_le _ | omega | decide⟩) ?_
    refine b_if_eq (tgt := 174) hx hb dX0_about_156 (by decide) (fun c_1 => ?_) (fun c_1 => ?_)
    · refine lv_aload_n hx hb dX0_about_174 rfl (lv_at hl 0 rfl) ?_
      refine lv_iload_n hx hb dX0_about_175 rfl (lv_at hl 1 rfl) ?_
      refine lv_bipush (v := nI 20) hx hb dX0_about_176 (by decide) ?_
      refine lv_isub hx hb dX0_about_178 ?_
      refine c_read (va_runV (As := [.int (x - (nI 20))]) (rest := []) ⟨hx, hb, hml, hown, hts⟩ (met_X0_isKind l G ad sz X Z T (x - (nI 20)) nk rnk (by omega)) (cv_X0_X0_isKind hts ⟨Nat.le_of_ble_eq_true rfl, Nat.le_of_ble_eq_true rfl⟩) (cP.preV hK hw.1 (hw.1.recv hK)) rfl rfl hl.1 rfl (lv_room (Nat.le_of_ble_eq_true rfl)) dX0_about_179 ⟨by first | exact Nat.zero_le _ | omega | decide, by first | exact Nat.zero_le _ | omega | decide⟩) ?_
      refine b_if_eq (tgt := 220) hx hb dX0_about_182 (by decide) (fun c_2 => ?_) (fun c_2 => ?_)
      · refine lv_bipush (v := (-2)) hx hb dX0_about_220 (by decide) ?_
        exact c_rret (v := (-2)) ((about_no hnk hy (by with_reducible assumption) (by with_reducible assumption)).symm) hx hb hr rfl hlocks dX0_about_222 rfl rfl
      obtain ⟨j20, h_j20, e20⟩ := vp_in_of c_2 (by omega)
      refine lv_bipush (v := nI 100) hx hb dX0_about_185 (by decide) ?_
      refine lv_aload_n hx hb dX0_about_187 rfl (lv_at hl 0 rfl) ?_
      refine x_g_now hx hb hts hown hK hw dX0_about_188 ?_
      refine x_sX0_51_kind hx hb hts hown hK hw dX0_about_191 ?_
      refine lv_iload_n hx hb dX0_about_194 rfl (lv_at hl 1 rfl) ?_
      refine lv_bipush (v := nI 20) hx hb dX0_about_195 (by decide) ?_
      refine lv_isub hx hb dX0_about_197 ?_
      rw [e20]
      refine x_a (r := 67 + j20) hx hb hK hw xO_56 rfl (by decide) (by omega) rfl dX0_about_198 ?_
      refine lv_iconst (v := nI 0) hx hb dX0_about_199 (by decide) ?_
      refine x_l (k := 67 + j20) (j := 0) (n := 3) (v := M 0 (40 + 3 * j20)) hx hb hK hw ((rki j20 (by omega)).1) (xL_67 (by omega)) (by decide) dX0_about_200 ?_
      refine lv_imul hx hb dX0_about_201 ?_
      refine lv_aload_n hx hb dX0_about_202 rfl (lv_at hl 0 rfl) ?_
      refine x_g_now hx hb hts hown hK hw dX0_about_203 ?_
      refine x_sX0_51_kind hx hb hts hown hK hw dX0_about_206 ?_
      refine lv_iload_n hx hb dX0_about_209 rfl (lv_at hl 1 rfl) ?_
      refine lv_bipush (v := nI 20) hx hb dX0_about_210 (by decide) ?_
      refine lv_isub hx hb dX0_about_212 ?_
      rw [e20]
      refine x_a (r := 67 + j20) hx hb hK hw xO_56 rfl (by decide) (by omega) rfl dX0_about_213 ?_
      refine lv_iconst (v := nI 1) hx hb dX0_about_214 (by decide) ?_
      refine x_l (k := 67 + j20) (j := 1) (n := 3) (v := M 0 (40 + 3 * j20 + 1)) hx hb hK hw ((rki j20 (by omega)).2.1) (xL_67 (by omega)) (by decide) dX0_about_215 ?_
      refine lv_iadd hx hb dX0_about_216 ?_
      refine lv_goto (tgt := 222) hx hb dX0_about_217 (by decide) ?_
      exact c_rret (v := ((nI 100) * (M 0 (40 + 3 * j20))) + (M 0 (40 + 3 * j20 + 1))) ((about_w hnk h_j20).symm.trans (by rw [← sub_back e20])) hx hb hr rfl hlocks dX0_about_222 rfl rfl
    obtain ⟨j10, h_j10, e10⟩ := vp_in_of c_1 (by omega)
    refine lv_aload_n hx hb dX0_about_159 rfl (lv_at hl 0 rfl) ?_
    refine x_g_now hx hb hts hown hK hw dX0_about_160 ?_
    refine x_sX0_51_kind hx hb hts hown hK hw dX0_about_163 ?_
    refine lv_iload_n hx hb dX0_about_166 rfl (lv_at hl 1 rfl) ?_
    refine lv_bipush (v := nI 10) hx hb dX0_about_167 (by decide) ?_
    refine lv_isub hx hb dX0_about_169 ?_
    rw [e10]
    refine x_a (r := 67 + j10) hx hb hK hw xO_56 rfl (by decide) (by omega) rfl dX0_about_170 ?_
    refine lv_iconst (v := nI 2) hx hb dX0_about_171 (by decide) ?_
    refine x_l (k := 67 + j10) (j := 2) (n := 3) (v := M 0 (40 + 3 * j10 + 2)) hx hb hK hw ((rki j10 (by omega)).2.2) (xL_67 (by omega)) (by decide) dX0_about_172 ?_
    exact c_rret (v := M 0 (40 + 3 * j10 + 2)) ((about_k hnk h_j10).symm.trans (by rw [← sub_back e10])) hx hb hr rfl hlocks dX0_about_173 rfl rfl
set_option maxHeartbeats 4000000 in
set_option maxRecDepth 100000 in
theorem met_X0_coughs (l : Launch) (G : gG) (ad : Nat → Nat) (sz : Nat) (X Z : Nat → Nat → Int32) (T : Nat → Nat → Option Nat) (M : Nat → Nat → Int32) (nb nk nx np h nu ns ne nt : Nat) (hR : RS X 51 (M 0) nb nk nx np h nu ns ne nt) (x y z w : Int32) : Met l yX0_coughs (ws_ yX0_coughs cX0_coughs 9 (some .int)) ({ frames := 2, cells := 0, slots := 0, locals := 43 } : Room) (cP G [.ref (ad 0), .int x, .int y, .int z, .int w] (xH G ad X Z T sz)) (cR (some (.int (mCough nb x y z w)))) 0 0 (fun _ => False) := by
  refine c_start (by decide) (Nat.le_of_ble_eq_true rfl) ?_
  intro p e s m below meth c hx hb hr hlocks hml hown hts hB hK ls hl
  have hz := hB.2.2
  have hw := XS.of hB
  have hl : lv_has ls 9 [(0, .ref (ad 0)), (1, .int x), (2, .int y), (3, .int z), (4, .int w)] := hl
  have hR0 := hR
  obtain ⟨⟨rnb, mnb, hnb⟩, ⟨rnk, mnk, hnk⟩, ⟨rnx, mnx, hnx⟩, rtx, ⟨rns, mns, hns⟩, ⟨rne, mne, hne⟩, ⟨rnt, mnt, hnt⟩, ⟨rnp, mnp, hnp⟩, ⟨rh, mh, hh⟩, ⟨rnu, mnu, hnu⟩, rbl, rbe, rgi, rki, rse, rto, rpi, rbu, rkd, rva, rst⟩ := hR
  change X 52 0 = _ at rnb; change X 52 1 = _ at rnk; change X 52 2 = _ at rnx; change X 52 3 = _ at rtx; change X 52 4 = _ at rns; change X 52 5 = _ at rne; change X 52 6 = _ at rnt; change X 53 112 = _ at rnp; change X 53 113 = _ at rh; change X 53 114 = _ at rnu
  refine lv_iload_n hx hb dX0_coughs_0 rfl (lv_at hl 1 rfl) ?_
  refine lv_iconst (v := nI 0) hx hb dX0_coughs_1 (by decide) ?_
  refine lv_sipush (v := nI 9999) hx hb dX0_coughs_2 (by decide) ?_
  refine c_read (va_runS (As := [.int x, .int (nI 0), .int (nI 9999)]) (rest := []) ⟨hx, hb, hml, hown, hts⟩ (met_X0_in l G x (nI 0) (nI 9999)) (cs_X0_X0_in hts ⟨Nat.le_of_ble_eq_true rfl, Nat.le_of_ble_eq_true rfl⟩) (cP.pre hK trivial) rfl rfl hl.1 rfl (lv_room (Nat.le_of_ble_eq_true rfl)) dX0_coughs_5 ⟨by first | exact Nat.zero_le _ | omega | decide, by first | exact Nat.zero_le _ | omega | decide⟩) ?_
  refine b_if_eq (tgt := 40) hx hb dX0_coughs_8 (by decide) (fun c_1 => ?_) (fun c_1 => ?_)
  · refine lv_iconst (v := (-1)) hx hb dX0_coughs_40 (by decide) ?_
    exact c_rret (v := (-1)) (by unfold mCough; rw [pif_f (fun h9 => by first | exact absurd h9.1 (by with_reducible assumption) | exact absurd h9.2.1 (by with_reducible assumption) | exact absurd h9.2.2.1 (by with_reducible assumption) | exact absurd h9.2.2.2 (by with_reducible assumption))]) hx hb hr rfl hlocks dX0_coughs_41 rfl rfl
  refine lv_iload_n hx hb dX0_coughs_11 rfl (lv_at hl 2 rfl) ?_
  refine lv_iconst (v := nI 1) hx hb dX0_coughs_12 (by decide) ?_
  refine lv_bipush (v := nI 30) hx hb dX0_coughs_13 (by decide) ?_
  refine c_read (va_runS (As := [.int y, .int (nI 1), .int (nI 30)]) (rest := []) ⟨hx, hb, hml, hown, hts⟩ (met_X0_in l G y (nI 1) (nI 30)) (cs_X0_X0_in hts ⟨Nat.le_of_ble_eq_true rfl, Nat.le_of_ble_eq_true rfl⟩) (cP.pre hK trivial) rfl rfl hl.1 rfl (lv_room (Nat.le_of_ble_eq_true rfl)) dX0_coughs_15 ⟨by first | exact Nat.zero_le _ | omega | decide, by first | exact Nat.zero_le _ | omega | decide⟩) ?_
  refine b_if_eq (tgt := 40) hx hb dX0_coughs_18 (by decide) (fun c_2 => ?_) (fun c_2 => ?_)
  · refine lv_iconst (v := (-1)) hx hb dX0_coughs_40 (by decide) ?_
    exact c_rret (v := (-1)) (by unfold mCough; rw [pif_f (fun h9 => by first | exact absurd h9.1 (by with_reducible assumption) | exact absurd h9.2.1 (by with_reducible assumption) | exact absurd h9.2.2.1 (by with_reducible assumption) | exact absurd h9.2.2.2 (by with_reducible assumption))]) hx hb hr rfl hlocks dX0_coughs_41 rfl rfl
  obtain ⟨jy, h_jy, rfl⟩ := in_rng (by omega) (by omega) c_2
  have k_jy : (nI jy).toNatClampNeg = jy := nI_clamp (by omega)
  refine lv_iload_n hx hb dX0_coughs_21 rfl (lv_at hl 3 rfl) ?_
  refine lv_iconst (v := nI 1) hx hb dX0_coughs_22 (by decide) ?_
  refine lv_bipush (v := nI 10) hx hb dX0_coughs_23 (by decide) ?_
  refine c_read (va_runS (As := [.int z, .int (nI 1), .int (nI 10)]) (rest := []) ⟨hx, hb, hml, hown, hts⟩ (met_X0_in l G z (nI 1) (nI 10)) (cs_X0_X0_in hts ⟨Nat.le_of_ble_eq_true rfl, Nat.le_of_ble_eq_true rfl⟩) (cP.pre hK trivial) rfl rfl hl.1 rfl (lv_room (Nat.le_of_ble_eq_true rfl)) dX0_coughs_25 ⟨by first | exact Nat.zero_le _ | omega | decide, by first | exact Nat.zero_le _ | omega | decide⟩) ?_
  refine b_if_eq (tgt := 40) hx hb dX0_coughs_28 (by decide) (fun c_3 => ?_) (fun c_3 => ?_)
  · refine lv_iconst (v := (-1)) hx hb dX0_coughs_40 (by decide) ?_
    exact c_rret (v := (-1)) (by unfold mCough; rw [pif_f (fun h9 => by first | exact absurd h9.1 (by with_reducible assumption) | exact absurd h9.2.1 (by with_reducible assumption) | exact absurd h9.2.2.1 (by with_reducible assumption) | exact absurd h9.2.2.2 (by with_reducible assumption))]) hx hb hr rfl hlocks dX0_coughs_41 rfl rfl
  refine lv_aload_n hx hb dX0_coughs_31 rfl (lv_at hl 0 rfl) ?_
  refine lv_iload hx hb dX0_coughs_32 (lv_at hl 4 rfl) ?_
  refine c_read (va_runV (As := [.int w]) (rest := []) ⟨hx, hb, hml, hown, hts⟩ (met_X0_isBlower l G ad sz X Z T w nb rnb (by omega)) (cv_X0_X0_isBlower hts ⟨Nat.le_of_ble_eq_true rfl, Nat.le_of_ble_eq_true rfl⟩) (cP.preV hK hw.1 (hw.1.recv hK)) rfl rfl hl.1 rfl (lv_room (Nat.le_of_ble_eq_true rfl)) dX0_coughs_34 ⟨by first | exact Nat.zero_le _ | omega | decide, by first | exact Nat.zero_le _ | omega | decide⟩) ?_
  refine b_if_ne (tgt := 42) hx hb dX0_coughs_37 (by decide) (fun c_4 => ?_) (fun c_4 => ?_)
  · obtain ⟨jw, h_jw, rfl⟩ := vp_in_of c_4 (by omega)
    have k_jw : (nI jw).toNatClampNeg = jw := nI_clamp (by omega)
    refine lv_iload_n hx hb dX0_coughs_42 rfl (lv_at hl 1 rfl) ?_
    refine lv_bipush (v := nI 7) hx hb dX0_coughs_43 (by decide) ?_
    refine lv_imul hx hb dX0_coughs_45 ?_
    refine lv_iconst (v := nI 5) hx hb dX0_coughs_46 (by decide) ?_
    refine lv_iadd hx hb dX0_coughs_47 ?_
    refine lv_istore (lv' := [(5, .int ((x * (nI 7)) + (nI 5))), (0, .ref (ad 0)), (1, .int x), (2, .int (nI jy)), (3, .int z), (4, .int (nI jw))]) hx hb dX0_coughs_48 hl (by decide) rfl (fun ls hl => ?_)
    refine lv_iconst (v := nI 0) hx hb dX0_coughs_50 (by decide) ?_
    refine lv_istore (lv' := [(6, .int (nI 0)), (5, .int ((x * (nI 7)) + (nI 5))), (0, .ref (ad 0)), (1, .int x), (2, .int (nI jy)), (3, .int z), (4, .int (nI jw))]) hx hb dX0_coughs_51 hl (by decide) rfl (fun ls hl => ?_)
    refine lv_iconst (v := nI 0) hx hb dX0_coughs_53 (by decide) ?_
    refine lv_istore (lv' := [(7, .int (nI 0)), (6, .int (nI 0)), (5, .int ((x * (nI 7)) + (nI 5))), (0, .ref (ad 0)), (1, .int x), (2, .int (nI jy)), (3, .int z), (4, .int (nI jw))]) hx hb dX0_coughs_54 hl (by decide) rfl (fun ls hl => ?_)
    have L56_5 : ∀ (fuel : Nat) (hq9 : Nat) (u : Int32) (lost : Int32), jy - hq9 < fuel → (hq9 ≤ jy) → (it (mCoughF nb jw z) (jy - hq9) hq9 (u, lost) = it (mCoughF nb jw z) (jy - 0) 0 (x * nI 7 + nI 5, nI 0)) → ∀ (ls : Array Slot), lv_has ls 9 [(0, .ref (ad 0)), (1, .int x), (2, .int (nI jy)), (3, .int z), (4, .int (nI jw)), (5, .int u), (6, .int lost), (7, .int (nI hq9))] → W p l e ({ frames := 2, cells := 0, slots := 0, locals := 43 } : Room) s m ([.ref (ad 0), .int x, .int (nI jy), .int z, .int (nI jw)] : List Value).toArray below meth c s.heap [] 0 0 (MQ below (cR (some (.int (mCough nb x (nI jy) z (nI jw))))) ([.ref (ad 0), .int x, .int (nI jy), .int z, .int (nI jw)] : List Value).toArray s 0 0 (fun _ => False)) (F0 m 56 ls []) := by
      intro fuel
      induction fuel with
      | zero => intro hq9 u lost hf; exact absurd hf (Nat.not_lt_zero _)
      | succ fuel ih =>
        intro hq9 u lost hf hi_h hq ls hl
        have ih56 := ih
        refine lv_iload hx hb dX0_coughs_56 (lv_at hl 7 rfl) ?_
        refine lv_iload_n hx hb dX0_coughs_58 rfl (lv_at hl 2 rfl) ?_
        refine n_icmp_ge (tgt := 132) hx hb dX0_coughs_59 (by decide) (by omega) (by omega) (fun c_6 => ?_) (fun c_6 => ?_)
        · refine lv_iload hx hb dX0_coughs_132 (lv_at hl 6 rfl) ?_
          exact c_rret (v := lost) (by unfold mCough; rw [pif_t ⟨by with_reducible assumption, by first | with_reducible assumption | exact rng_in (by omega) h_jy, by with_reducible assumption, by first | with_reducible assumption | exact vp_in_nI h_jw (by omega)⟩, show cl (nI jw) = jw from k_jw, show cl (nI jy) = jy from k_jy, ← hq, it_z (by omega)]) hx hb hr rfl hlocks dX0_coughs_134 rfl rfl
        refine lv_iconst (v := nI 0) hx hb dX0_coughs_62 (by decide) ?_
        refine lv_istore (lv' := [(8, .int (nI 0)), (0, .ref (ad 0)), (1, .int x), (2, .int (nI jy)), (3, .int z), (4, .int (nI jw)), (5, .int u), (6, .int lost), (7, .int (nI hq9))]) hx hb dX0_coughs_63 hl (by decide) rfl (fun ls hl => ?_)
        have L65_7 : ∀ (fuel : Nat) (b : Nat) (u1 : Int32) (lost1 : Int32), nb - b < fuel → (b ≤ nb) → (it (fun b st => (mCoughX st.1, mCough1 b jw z st.1 st.2)) (nb - b) b (u1, lost1) = mCoughF nb jw z hq9 (u, lost)) → ∀ (ls : Array Slot), lv_has ls 9 [(0, .ref (ad 0)), (1, .int x), (2, .int (nI jy)), (3, .int z), (4, .int (nI jw)), (5, .int u1), (6, .int lost1), (7, .int (nI hq9)), (8, .int (nI b))] → W p l e ({ frames := 2, cells := 0, slots := 0, locals := 43 } : Room) s m ([.ref (ad 0), .int x, .int (nI jy), .int z, .int (nI jw)] : List Value).toArray below meth c s.heap [] 0 0 (MQ below (cR (some (.int (mCough nb x (nI jy) z (nI jw))))) ([.ref (ad 0), .int x, .int (nI jy), .int z, .int (nI jw)] : List Value).toArray s 0 0 (fun _ => False)) (F0 m 65 ls []) := by
          intro fuel
          induction fuel with
          | zero => intro b u1 lost1 hf; exact absurd hf (Nat.not_lt_zero _)
          | succ fuel ih =>
            intro b u1 lost1 hf hi_b hqb ls hl
            have ih65 := ih
            refine lv_iload hx hb dX0_coughs_65 (lv_at hl 8 rfl) ?_
            refine lv_aload_n hx hb dX0_coughs_67 rfl (lv_at hl 0 rfl) ?_
            refine x_g_now hx hb hts hown hK hw dX0_coughs_68 ?_
            refine x_sX0_51_n hx hb hts hown hK hw dX0_coughs_71 ?_
            refine lv_iconst (v := nI 0) hx hb dX0_coughs_74 (by decide) ?_
            refine x_l (k := 52) (j := 0) (n := 7) (v := nI nb) hx hb hK hw rnb (by decide) (by decide) dX0_coughs_75 ?_
            refine n_icmp_ge (tgt := 126) hx hb dX0_coughs_76 (by decide) (by omega) (by omega) (fun c_8 => ?_) (fun c_8 => ?_)
            · have hz9 : (u1, lost1) = mCoughF nb jw z hq9 (u, lost) := (it_z (by omega)).symm.trans hqb
              refine lv_iinc (v := nI (hq9 + 1)) (lv' := [(7, .int (nI (hq9 + 1))), (0, .ref (ad 0)), (1, .int x), (2, .int (nI jy)), (3, .int z), (4, .int (nI jw)), (5, .int u1), (6, .int lost1), (8, .int (nI b))]) hx hb dX0_coughs_126 hl (k := 7) rfl (n_inc hq9 1) (by decide) rfl (fun ls hl => ?_)
              refine lv_goto (tgt := 56) hx hb dX0_coughs_129 (by decide) ?_
              exact ih56 (hq9 + 1) u1 lost1 (by omega) (by first | assumption | omega | rfl) (by rw [hz9]; exact (it_s (by omega)).symm.trans hq) ls (lv_sub hl [1, 2, 3, 4, 5, 6, 7, 0] rfl)
            refine lv_iload hx hb dX0_coughs_79 (lv_at hl 6 rfl) ?_
            refine lv_iload hx hb dX0_coughs_81 (lv_at hl 8 rfl) ?_
            refine lv_iload hx hb dX0_coughs_83 (lv_at hl 4 rfl) ?_
            refine n_icmp_ne (tgt := 101) hx hb dX0_coughs_85 (by decide) (by omega) (by omega) (fun c_9 => ?_) (fun c_9 => ?_)
            · refine lv_iconst (v := nI 0) hx hb dX0_coughs_101 (by decide) ?_
              refine lv_iadd hx hb dX0_coughs_102 ?_
              refine lv_istore (lv' := [(6, .int (lost1 + (nI 0))), (0, .ref (ad 0)), (1, .int x), (2, .int (nI jy)), (3, .int z), (4, .int (nI jw)), (5, .int u1), (7, .int (nI hq9)), (8, .int (nI b))]) hx hb dX0_coughs_103 hl (by decide) rfl (fun ls hl => ?_)
              refine lv_iload hx hb dX0_coughs_105 (lv_at hl 6 rfl) ?_
              refine lv_sipush (v := nI 181) hx hb dX0_coughs_107 (by decide) ?_
              refine lv_imul hx hb dX0_coughs_110 ?_
              refine lv_bipush (v := nI 37) hx hb dX0_coughs_111 (by decide) ?_
              refine lv_iadd hx hb dX0_coughs_113 ?_
              refine lv_sipush (v := nI 30103) hx hb dX0_coughs_114 (by decide) ?_
              refine lv_irem hx hb dX0_coughs_117 (by decide) ?_
              refine lv_istore (lv' := [(5, .int (((u1 * (nI 181)) + (nI 37)) - ((u1 * (nI 181)) + (nI 37)) / (nI 30103) * (nI 30103))), (6, .int (lost1 + (nI 0))), (0, .ref (ad 0)), (1, .int x), (2, .int (nI jy)), (3, .int z), (4, .int (nI jw)), (7, .int (nI hq9)), (8, .int (nI b))]) hx hb dX0_coughs_118 hl (by decide) rfl (fun ls hl => ?_)
              refine lv_iinc (v := nI (b + 1)) (lv' := [(8, .int (nI (b + 1))), (5, .int (((u1 * (nI 181)) + (nI 37)) - ((u1 * (nI 181)) + (nI 37)) / (nI 30103) * (nI 30103))), (6, .int (lost1 + (nI 0))), (0, .ref (ad 0)), (1, .int x), (2, .int (nI jy)), (3, .int z), (4, .int (nI jw)), (7, .int (nI hq9))]) hx hb dX0_coughs_120 hl (k := 8) rfl (n_inc b 1) (by decide) rfl (fun ls hl => ?_)
              refine lv_goto (tgt := 65) hx hb dX0_coughs_123 (by decide) ?_
              exact ih65 (b + 1) (((u1 * (nI 181)) + (nI 37)) - ((u1 * (nI 181)) + (nI 37)) / (nI 30103) * (nI 30103)) (lost1 + (nI 0)) (by omega) (by first | assumption | omega | rfl) (by refine Eq.trans ?_ ((it_s (by omega)).symm.trans hqb); congr 1; unfold mCough1; first | (rw [pif_t ⟨by with_reducible assumption, by first | with_reducible assumption | exact Int32.not_le.mp (by with_reducible assumption)⟩]; rfl) | (rw [pif_f (fun h9 => by first | exact absurd h9.1 (by with_reducible assumption) | exact absurd h9.2 (by with_reducible assumption) | exact absurd h9.2 (Int32.not_lt.mpr (by with_reducible assumption)))]; rfl)) ls (lv_sub hl [3, 4, 5, 6, 7, 1, 2, 8, 0] rfl)
            refine lv_iload hx hb dX0_coughs_88 (lv_at hl 5 rfl) ?_
            refine lv_bipush (v := nI 10) hx hb dX0_coughs_90 (by decide) ?_
            refine lv_irem hx hb dX0_coughs_92 (by decide) ?_
            refine lv_iload_n hx hb dX0_coughs_93 rfl (lv_at hl 3 rfl) ?_
            refine lv_icmp_ge (tgt := 101) hx hb dX0_coughs_94 (by decide) (fun c_10 => ?_) (fun c_10 => ?_)
            · refine lv_iconst (v := nI 0) hx hb dX0_coughs_101 (by decide) ?_
              refine lv_iadd hx hb dX0_coughs_102 ?_
              refine lv_istore (lv' := [(6, .int (lost1 + (nI 0))), (0, .ref (ad 0)), (1, .int x), (2, .int (nI jy)), (3, .int z), (4, .int (nI jw)), (5, .int u1), (7, .int (nI hq9)), (8, .int (nI b))]) hx hb dX0_coughs_103 hl (by decide) rfl (fun ls hl => ?_)
              refine lv_iload hx hb dX0_coughs_105 (lv_at hl 6 rfl) ?_
              refine lv_sipush (v := nI 181) hx hb dX0_coughs_107 (by decide) ?_
              refine lv_imul hx hb dX0_coughs_110 ?_
              refine lv_bipush (v := nI 37) hx hb dX0_coughs_111 (by decide) ?_
              refine lv_iadd hx hb dX0_coughs_113 ?_
              refine lv_sipush (v := nI 30103) hx hb dX0_coughs_114 (by decide) ?_
              refine lv_irem hx hb dX0_coughs_117 (by decide) ?_
              refine lv_istore (lv' := [(5, .int (((u1 * (nI 181)) + (nI 37)) - ((u1 * (nI 181)) + (nI 37)) / (nI 30103) * (nI 30103))), (6, .int (lost1 + (nI 0))), (0, .ref (ad 0)), (1, .int x), (2, .int (nI jy)), (3, .int z), (4, .int (nI jw)), (7, .int (nI hq9)), (8, .int (nI b))]) hx hb dX0_coughs_118 hl (by decide) rfl (fun ls hl => ?_)
              refine lv_iinc (v := nI (b + 1)) (lv' := [(8, .int (nI (b + 1))), (5, .int (((u1 * (nI 181)) + (nI 37)) - ((u1 * (nI 181)) + (nI 37)) / (nI 30103) * (nI 30103))), (6, .int (lost1 + (nI 0))), (0, .ref (ad 0)), (1, .int x), (2, .int (nI jy)), (3, .int z), (4, .int (nI jw)), (7, .int (nI hq9))]) hx hb dX0_coughs_120 hl (k := 8) rfl (n_inc b 1) (by decide) rfl (fun ls hl => ?_)
              refine lv_goto (tgt := 65) hx hb dX0_coughs_123 (by decide) ?_
              exact ih65 (b + 1) (((u1 * (nI 181)) + (nI 37)) - ((u1 * (nI 181)) + (nI 37)) / (nI 30103) * (nI 30103)) (lost1 + (nI 0)) (by omega) (by first | assumption | omega | rfl) (by refine Eq.trans ?_ ((it_s (by omega)).symm.trans hqb); congr 1; unfold mCough1; first | (rw [pif_t ⟨by with_reducible assumption, by first | with_reducible assumption | exact Int32.not_le.mp (by with_reducible assumption)⟩]; rfl) | (rw [pif_f (fun h9 => by first | exact absurd h9.1 (by with_reducible assumption) | exact absurd h9.2 (by with_reducible assumption) | exact absurd h9.2 (Int32.not_lt.mpr (by with_reducible assumption)))]; rfl)) ls (lv_sub hl [3, 4, 5, 6, 7, 1, 2, 8, 0] rfl)
            refine lv_iconst (v := nI 1) hx hb dX0_coughs_97 (by decide) ?_
            refine lv_goto (tgt := 102) hx hb dX0_coughs_98 (by decide) ?_
            refine lv_iadd hx hb dX0_coughs_102 ?_
            refine lv_istore (lv' := [(6, .int (lost1 + (nI 1))), (0, .ref (ad 0)), (1, .int x), (2, .int (nI jy)), (3, .int z), (4, .int (nI jw)), (5, .int u1), (7, .int (nI hq9)), (8, .int (nI b))]) hx hb dX0_coughs_103 hl (by decide) rfl (fun ls hl => ?_)
            refine lv_iload hx hb dX0_coughs_105 (lv_at hl 6 rfl) ?_
            refine lv_sipush (v := nI 181) hx hb dX0_coughs_107 (by decide) ?_
            refine lv_imul hx hb dX0_coughs_110 ?_
            refine lv_bipush (v := nI 37) hx hb dX0_coughs_111 (by decide) ?_
            refine lv_iadd hx hb dX0_coughs_113 ?_
            refine lv_sipush (v := nI 30103) hx hb dX0_coughs_114 (by decide) ?_
            refine lv_irem hx hb dX0_coughs_117 (by decide) ?_
            refine lv_istore (lv' := [(5, .int (((u1 * (nI 181)) + (nI 37)) - ((u1 * (nI 181)) + (nI 37)) / (nI 30103) * (nI 30103))), (6, .int (lost1 + (nI 1))), (0, .ref (ad 0)), (1, .int x), (2, .int (nI jy)), (3, .int z), (4, .int (nI jw)), (7, .int (nI hq9)), (8, .int (nI b))]) hx hb dX0_coughs_118 hl (by decide) rfl (fun ls hl => ?_)
            refine lv_iinc (v := nI (b + 1)) (lv' := [(8, .int (nI (b + 1))), (5, .int (((u1 * (nI 181)) + (nI 37)) - ((u1 * (nI 181)) + (nI 37)) / (nI 30103) * (nI 30103))), (6, .int (lost1 + (nI 1))), (0, .ref (ad 0)), (1, .int x), (2, .int (nI jy)), (3, .int z), (4, .int (nI jw)), (7, .int (nI hq9))]) hx hb dX0_coughs_120 hl (k := 8) rfl (n_inc b 1) (by decide) rfl (fun ls hl => ?_)
            refine lv_goto (tgt := 65) hx hb dX0_coughs_123 (by decide) ?_
            exact ih65 (b + 1) (((u1 * (nI 181)) + (nI 37)) - ((u1 * (nI 181)) + (nI 37)) / (nI 30103) * (nI 30103)) (lost1 + (nI 1)) (by omega) (by first | assumption | omega | rfl) (by refine Eq.trans ?_ ((it_s (by omega)).symm.trans hqb); congr 1; unfold mCough1; first | (rw [pif_t ⟨by with_reducible assumption, by first | with_reducible assumption | exact Int32.not_le.mp (by with_reducible assumption)⟩]; rfl) | (rw [pif_f (fun h9 => by first | exact absurd h9.1 (by with_reducible assumption) | exact absurd h9.2 (by with_reducible assumption) | exact absurd h9.2 (Int32.not_lt.mpr (by with_reducible assumption)))]; rfl)) ls (lv_sub hl [3, 4, 5, 6, 7, 1, 2, 8, 0] rfl)
        exact L65_7 _ 0 u lost (Nat.lt_succ_self _) (by first | assumption | omega | rfl) rfl ls (lv_sub hl [1, 2, 3, 4, 5, 6, 7, 8, 0] rfl)
    exact L56_5 _ 0 ((x * (nI 7)) + (nI 5)) (nI 0) (Nat.lt_succ_self _) (by first | assumption | omega | rfl) rfl ls (lv_sub hl [3, 4, 5, 6, 7, 2, 1, 0] rfl)
  refine lv_iconst (v := (-1)) hx hb dX0_coughs_40 (by decide) ?_
  exact c_rret (v := (-1)) (by unfold mCough; rw [pif_f (fun h9 => by first | exact absurd h9.1 (by with_reducible assumption) | exact absurd h9.2.1 (by with_reducible assumption) | exact absurd h9.2.2.1 (by with_reducible assumption) | exact absurd h9.2.2.2 (by with_reducible assumption))]) hx hb hr rfl hlocks dX0_coughs_41 rfl rfl
