def xTeam (nb tm : Nat) : Prop := tm / 10 ≤ tm % 10 ∧ tm % 10 < nb
theorem in_lt {n k : Nat} (hk : k < 2 ^ 31) (h : vp_in (nI k) n) : k < n := by
  have h2 := h
  unfold vp_in at h2
  rw [nI_clamp hk] at h2
  omega
set_option maxHeartbeats 4000000 in
set_option maxRecDepth 100000 in
theorem met_X0_isTeam (l : Launch) (G : gG) (ad : Nat → Nat) (sz : Nat) (X Z : Nat → Nat → Int32) (T : Nat → Nat → Option Nat) (M : Nat → Nat → Int32) (nb nk nx np h nu ns ne nt : Nat) (hR : RS X 51 (M 0) nb nk nx np h nu ns ne nt) (tm : Nat) (htm : tm < 100) : Met l yX0_isTeam (ws_ yX0_isTeam cX0_isTeam 2 (some .boolean)) ({ frames := 2, cells := 0, slots := 0, locals := 43 } : Room) (cP G [.ref (ad 0), .int (nI tm)] (xH G ad X Z T sz)) (cR (some (.int (bI (xTeam nb tm))))) 0 0 (fun _ => False) := by
  refine c_start (by decide) (Nat.le_of_ble_eq_true rfl) ?_
  intro p e s m below meth c hx hb hr hlocks hml hown hts hB hK ls hl
  have hz := hB.2.2
  have hw := XS.of hB
  have hl : lv_has ls 2 [(0, .ref (ad 0)), (1, .int (nI tm))] := hl
  have hR0 := hR
  obtain ⟨⟨rnb, mnb, hnb⟩, ⟨rnk, mnk, hnk⟩, ⟨rnx, mnx, hnx⟩, rtx, ⟨rns, mns, hns⟩, ⟨rne, mne, hne⟩, ⟨rnt, mnt, hnt⟩, ⟨rnp, mnp, hnp⟩, ⟨rh, mh, hh⟩, ⟨rnu, mnu, hnu⟩, rbl, rbe, rgi, rki, rse, rto, rpi, rbu, rkd, rva, rst⟩ := hR
  change X 52 0 = _ at rnb; change X 52 1 = _ at rnk; change X 52 2 = _ at rnx; change X 52 3 = _ at rtx; change X 52 4 = _ at rns; change X 52 5 = _ at rne; change X 52 6 = _ at rnt; change X 53 112 = _ at rnp; change X 53 113 = _ at rh; change X 53 114 = _ at rnu
  refine lv_aload_n hx hb dX0_isTeam_0 rfl (lv_at hl 0 rfl) ?_
  refine lv_iload_n hx hb dX0_isTeam_1 rfl (lv_at hl 1 rfl) ?_
  refine lv_bipush (v := nI 10) hx hb dX0_isTeam_2 (by decide) ?_
  refine n_idiv hx hb (by omega) (by decide) (by decide) dX0_isTeam_4 ?_
  refine c_read (va_runV (As := [.int (nI (tm / 10))]) (rest := []) ⟨hx, hb, hml, hown, hts⟩ (met_X0_isBlower l G ad sz X Z T (nI (tm / 10)) nb rnb (by omega)) (cv_X0_X0_isBlower hts ⟨Nat.le_of_ble_eq_true rfl, Nat.le_of_ble_eq_true rfl⟩) (cP.preV hK hw.1 (hw.1.recv hK)) rfl rfl hl.1 rfl (lv_room (Nat.le_of_ble_eq_true rfl)) dX0_isTeam_5 ⟨by first | exact Nat.zero_le _ | omega | decide, by first | exact Nat.zero_le _ | omega | decide⟩) ?_
  refine b_if_eq (tgt := 37) hx hb dX0_isTeam_8 (by decide) (fun c_1 => ?_) (fun c_1 => ?_)
  · refine lv_iconst (v := nI 0) hx hb dX0_isTeam_37 (by decide) ?_
    exact c_rret (v := nI 0) (by first | exact (bI_t ⟨by omega, in_lt (by omega) c_2⟩).symm | exact (bI_f (fun h9 : xTeam nb tm => by have h8 := h9.1; have h7 := h9.2; first | omega | exact c_1 (vp_in_nI (by omega) (by omega)) | exact c_2 (vp_in_nI (by omega) (by omega)))).symm) hx hb hr rfl hlocks dX0_isTeam_38 rfl rfl
  refine lv_aload_n hx hb dX0_isTeam_11 rfl (lv_at hl 0 rfl) ?_
  refine lv_iload_n hx hb dX0_isTeam_12 rfl (lv_at hl 1 rfl) ?_
  refine lv_bipush (v := nI 10) hx hb dX0_isTeam_13 (by decide) ?_
  refine n_irem hx hb (by omega) (by decide) (by decide) dX0_isTeam_15 ?_
  refine c_read (va_runV (As := [.int (nI (tm % 10))]) (rest := []) ⟨hx, hb, hml, hown, hts⟩ (met_X0_isBlower l G ad sz X Z T (nI (tm % 10)) nb rnb (by omega)) (cv_X0_X0_isBlower hts ⟨Nat.le_of_ble_eq_true rfl, Nat.le_of_ble_eq_true rfl⟩) (cP.preV hK hw.1 (hw.1.recv hK)) rfl rfl hl.1 rfl (lv_room (Nat.le_of_ble_eq_true rfl)) dX0_isTeam_16 ⟨by first | exact Nat.zero_le _ | omega | decide, by first | exact Nat.zero_le _ | omega | decide⟩) ?_
  refine b_if_eq (tgt := 37) hx hb dX0_isTeam_19 (by decide) (fun c_2 => ?_) (fun c_2 => ?_)
  · refine lv_iconst (v := nI 0) hx hb dX0_isTeam_37 (by decide) ?_
    exact c_rret (v := nI 0) (by first | exact (bI_t ⟨by omega, in_lt (by omega) c_2⟩).symm | exact (bI_f (fun h9 : xTeam nb tm => by have h8 := h9.1; have h7 := h9.2; first | omega | exact c_1 (vp_in_nI (by omega) (by omega)) | exact c_2 (vp_in_nI (by omega) (by omega)))).symm) hx hb hr rfl hlocks dX0_isTeam_38 rfl rfl
  refine lv_iload_n hx hb dX0_isTeam_22 rfl (lv_at hl 1 rfl) ?_
  refine lv_bipush (v := nI 10) hx hb dX0_isTeam_23 (by decide) ?_
  refine n_idiv hx hb (by omega) (by decide) (by decide) dX0_isTeam_25 ?_
  refine lv_iload_n hx hb dX0_isTeam_26 rfl (lv_at hl 1 rfl) ?_
  refine lv_bipush (v := nI 10) hx hb dX0_isTeam_27 (by decide) ?_
  refine n_irem hx hb (by omega) (by decide) (by decide) dX0_isTeam_29 ?_
  refine n_icmp_gt (tgt := 37) hx hb dX0_isTeam_30 (by decide) (by omega) (by omega) (fun c_3 => ?_) (fun c_3 => ?_)
  · refine lv_iconst (v := nI 0) hx hb dX0_isTeam_37 (by decide) ?_
    exact c_rret (v := nI 0) (by first | exact (bI_t ⟨by omega, in_lt (by omega) c_2⟩).symm | exact (bI_f (fun h9 : xTeam nb tm => by have h8 := h9.1; have h7 := h9.2; first | omega | exact c_1 (vp_in_nI (by omega) (by omega)) | exact c_2 (vp_in_nI (by omega) (by omega)))).symm) hx hb hr rfl hlocks dX0_isTeam_38 rfl rfl
  refine lv_iconst (v := nI 1) hx hb dX0_isTeam_33 (by decide) ?_
  refine lv_goto (tgt := 38) hx hb dX0_isTeam_34 (by decide) ?_
  exact c_rret (v := nI 1) (by first | exact (bI_t ⟨by omega, in_lt (by omega) c_2⟩).symm | exact (bI_f (fun h9 : xTeam nb tm => by have h8 := h9.1; have h7 := h9.2; first | omega | exact c_1 (vp_in_nI (by omega) (by omega)) | exact c_2 (vp_in_nI (by omega) (by omega)))).symm) hx hb hr rfl hlocks dX0_isTeam_38 rfl rfl
noncomputable def xFr (tx : kT) (h t : Nat) (rest : Int32) : Int32 := pif (mSmoke tx (nI (h + t)) < rest) (mSmoke tx (nI (h + t))) rest
noncomputable def xFi (M : Nat → Nat → Int32) (a : Nat) (f : Int32) : Int32 := pif (M 0 (10 + 5 * a) < f) (M 0 (10 + 5 * a)) f
noncomputable def xSe (M : Nat → Nat → Int32) (a b : Nat) (f : Int32) : Int32 := pif (a = b) (nI 0) (pif (M 0 (10 + 5 * b) < f - xFi M a f) (M 0 (10 + 5 * b)) (f - xFi M a f))
noncomputable def xVo (M : Nat → Nat → Int32) (a : Nat) (x : Int32) : Int32 := pif (x ≤ 0) (nI 0) (nI 1 <<< (M 0 (10 + 5 * a + 1) &&& 31))
noncomputable def xR1 (tx : kT) (M : Nat → Nat → Int32) (h a b t : Nat) (rest : Int32) : Int32 := rest - (xFi M a (xFr tx h t rest) + xSe M a b (xFr tx h t rest))
noncomputable def xV1 (tx : kT) (M : Nat → Nat → Int32) (h a b t : Nat) (rest vo : Int32) : Int32 := vo ||| (xVo M a (xFi M a (xFr tx h t rest)) ||| xVo M b (xSe M a b (xFr tx h t rest)))
noncomputable def xK1 (tx : kT) (M : Nat → Nat → Int32) (h a b t : Nat) (rest co : Int32) : Int32 := co + (xFi M a (xFr tx h t rest) * mCost tx M a (nI (h + t)) + xSe M a b (xFr tx h t rest) * mCost tx M b (nI (h + t)))
noncomputable def xLay (tx : kT) (M : Nat → Nat → Int32) (h a b : Nat) : Nat → Nat → Int32 → Int32 → Int32 → Option (Nat × Int32 × Int32)
  | 0, _, _, _, _ => none
  | n + 1, t, rest, vo, co => pif (xR1 tx M h a b t rest ≤ 0) (some (t, xV1 tx M h a b t rest vo, xK1 tx M h a b t rest co)) (xLay tx M h a b n (t + 1) (xR1 tx M h a b t rest) (xV1 tx M h a b t rest vo) (xK1 tx M h a b t rest co))
theorem xLay_s {tx : kT} {M : Nat → Nat → Int32} {h a b e t : Nat} {rest vo co : Int32} (hh : t < e) : xLay tx M h a b (e - t) t rest vo co = pif (xR1 tx M h a b t rest ≤ 0) (some (t, xV1 tx M h a b t rest vo, xK1 tx M h a b t rest co)) (xLay tx M h a b (e - (t + 1)) (t + 1) (xR1 tx M h a b t rest) (xV1 tx M h a b t rest vo) (xK1 tx M h a b t rest co)) := by
  rw [show e - t = (e - (t + 1)) + 1 by omega]
  rfl
theorem xLay_z {tx : kT} {M : Nat → Nat → Int32} {h a b e t : Nat} {rest vo co : Int32} (hh : e ≤ t) : xLay tx M h a b (e - t) t rest vo co = none := by
  rw [show e - t = 0 by omega]
  rfl
noncomputable def xLayR (tx : kT) (M : Nat → Nat → Int32) (h k tm f e1 : Nat) : Option (Nat × Int32 × Int32) := xLay tx M h (tm / 10) (tm % 10) (e1 - f) f (M 0 (40 + 3 * k)) (nI 0) (nI 0)
noncomputable def xLE (r : Option (Nat × Int32 × Int32)) (asks : Int32) : Int32 := match r with
  | none => -1
  | some q => pif (asks &&& (q.2.1 ^^^ (-1)) = 0) (nI q.1) (-1)
noncomputable def xLG (r : Option (Nat × Int32 × Int32)) (worth old : Int32) : Int32 := match r with
  | none => old
  | some q => worth - q.2.2
set_option maxHeartbeats 4000000 in
set_option maxRecDepth 100000 in
theorem met_X0_laysWork (l : Launch) (G : gG) (ad : Nat → Nat) (sz : Nat) (X Z : Nat → Nat → Int32) (T : Nat → Nat → Option Nat) (M : Nat → Nat → Int32) (nb nk nx np h nu ns ne nt : Nat) (hR : RS X 51 (M 0) nb nk nx np h nu ns ne nt) (tx : kT) (htx : mTx M tx) (wk tm f k e1 : Nat) (hwk : wk < 4) (htm : xTeam nb tm) (htm2 : tm < 100) (hk : k < nk) (hfe : f < e1) (he : e1 ≤ 24) (hz6 : Z 6 wk = nI k) (hz16 : Z 0 16 = nI e1) : Met l yX0_laysWork (ws_ yX0_laysWork cX0_laysWork 14 none) ({ frames := 107, cells := 0, slots := 0, locals := 6446 } : Room) (cP G [.ref (ad 0), .int (nI wk), .int (nI tm), .int (nI f)] (fun H => xH G ad X Z T sz H ∧ aTx G (xOld ad sz) X T tx H)) (cQ none (fun H => ∃ Z9, (Z9 (435 + 60 * wk + tm) f = xLE (xLayR tx M h k tm f e1) (M 0 (40 + 3 * k + 1)) ∧ Z9 (195 + 60 * wk + tm) f = xLG (xLayR tx M h k tm f e1) (M 0 (40 + 3 * k + 2)) (Z (195 + 60 * wk + tm) f) ∧ ∀ k9 j9, k9 ≠ 2 → ¬ (k9 = (435 + 60 * wk + tm) ∧ j9 = f) → ¬ (k9 = (195 + 60 * wk + tm) ∧ j9 = f) → Z9 k9 j9 = Z k9 j9) ∧ xH G ad X Z9 T sz H) (xA ad sz)) 0 0 (xA ad sz) := by
  refine c_start (by decide) (Nat.le_of_ble_eq_true rfl) ?_
  intro p e s m below meth c hx hb hr hlocks hml hown hts hB hK ls hl
  obtain ⟨hB, hE⟩ := hB
  have hz := hB.2.2
  have hw := XS.of hB
  have hl : lv_has ls 14 [(0, .ref (ad 0)), (1, .int (nI wk)), (2, .int (nI tm)), (3, .int (nI f))] := hl
  have hR0 := hR
  obtain ⟨⟨rnb, mnb, hnb⟩, ⟨rnk, mnk, hnk⟩, ⟨rnx, mnx, hnx⟩, rtx, ⟨rns, mns, hns⟩, ⟨rne, mne, hne⟩, ⟨rnt, mnt, hnt⟩, ⟨rnp, mnp, hnp⟩, ⟨rh, mh, hh⟩, ⟨rnu, mnu, hnu⟩, rbl, rbe, rgi, rki, rse, rto, rpi, rbu, rkd, rva, rst⟩ := hR
  change X 52 0 = _ at rnb; change X 52 1 = _ at rnk; change X 52 2 = _ at rnx; change X 52 3 = _ at rtx; change X 52 4 = _ at rns; change X 52 5 = _ at rne; change X 52 6 = _ at rnt; change X 53 112 = _ at rnp; change X 53 113 = _ at rh; change X 53 114 = _ at rnu
  obtain ⟨htm0, htm1⟩ := htm
  refine lv_aload_n hx hb dX0_laysWork_0 rfl (lv_at hl 0 rfl) ?_
  refine x_g_now hx hb hts hown hK hw dX0_laysWork_1 ?_
  refine x_sX0_51_kind hx hb hts hown hK hw dX0_laysWork_4 ?_
  refine lv_aload_n hx hb dX0_laysWork_7 rfl (lv_at hl 0 rfl) ?_
  refine x_g_work hx hb hts hown hK hw dX0_laysWork_8 ?_
  refine lv_iload_n hx hb dX0_laysWork_11 rfl (lv_at hl 1 rfl) ?_
  refine z_l (k := 6) (j := wk) (n := 4) (v := nI k) hx hb hK hw hz6 (by decide) (by omega) dX0_laysWork_12 ?_
  refine x_a (r := 67 + k) hx hb hK hw xO_56 rfl (by decide) (by omega) rfl dX0_laysWork_13 ?_
  refine lv_astore (lv' := [(4, .ref (ad (67 + k))), (0, .ref (ad 0)), (1, .int (nI wk)), (2, .int (nI tm)), (3, .int (nI f))]) hx hb dX0_laysWork_14 hl (by decide) rfl (fun ls hl => ?_)
  refine lv_aload hx hb dX0_laysWork_16 (lv_at hl 0 rfl) ?_
  refine lv_iconst (v := nI 0) hx hb dX0_laysWork_18 (by decide) ?_
  refine x_l (k := 67 + k) (j := 0) (n := 3) (v := M 0 (40 + 3 * k)) hx hb hK hw ((rki k (by omega)).1) (xL_67 (by omega)) (by decide) dX0_laysWork_19 ?_
  refine lv_istore (lv' := [(5, .int (M 0 (40 + 3 * k))), (4, .ref (ad (67 + k))), (0, .ref (ad 0)), (1, .int (nI wk)), (2, .int (nI tm)), (3, .int (nI f))]) hx hb dX0_laysWork_20 hl (by decide) rfl (fun ls hl => ?_)
  refine lv_iconst (v := nI 0) hx hb dX0_laysWork_22 (by decide) ?_
  refine lv_istore (lv' := [(6, .int (nI 0)), (5, .int (M 0 (40 + 3 * k))), (4, .ref (ad (67 + k))), (0, .ref (ad 0)), (1, .int (nI wk)), (2, .int (nI tm)), (3, .int (nI f))]) hx hb dX0_laysWork_23 hl (by decide) rfl (fun ls hl => ?_)
  refine lv_iconst (v := nI 0) hx hb dX0_laysWork_25 (by decide) ?_
  refine lv_istore (lv' := [(7, .int (nI 0)), (6, .int (nI 0)), (5, .int (M 0 (40 + 3 * k))), (4, .ref (ad (67 + k))), (0, .ref (ad 0)), (1, .int (nI wk)), (2, .int (nI tm)), (3, .int (nI f))]) hx hb dX0_laysWork_26 hl (by decide) rfl (fun ls hl => ?_)
  refine lv_iload_n hx hb dX0_laysWork_28 rfl (lv_at hl 6 rfl) ?_
  refine lv_bipush (v := nI 10) hx hb dX0_laysWork_29 (by decide) ?_
  refine n_idiv hx hb (by omega) (by decide) (by decide) dX0_laysWork_31 ?_
  refine lv_istore (lv' := [(8, .int (nI (tm / 10))), (7, .int (nI 0)), (6, .int (nI 0)), (5, .int (M 0 (40 + 3 * k))), (4, .ref (ad (67 + k))), (0, .ref (ad 0)), (1, .int (nI wk)), (2, .int (nI tm)), (3, .int (nI f))]) hx hb dX0_laysWork_32 hl (by decide) rfl (fun ls hl => ?_)
  refine lv_iload_n hx hb dX0_laysWork_34 rfl (lv_at hl 7 rfl) ?_
  refine lv_bipush (v := nI 10) hx hb dX0_laysWork_35 (by decide) ?_
  refine n_irem hx hb (by omega) (by decide) (by decide) dX0_laysWork_37 ?_
  refine lv_istore (lv' := [(9, .int (nI (tm % 10))), (8, .int (nI (tm / 10))), (7, .int (nI 0)), (6, .int (nI 0)), (5, .int (M 0 (40 + 3 * k))), (4, .ref (ad (67 + k))), (0, .ref (ad 0)), (1, .int (nI wk)), (2, .int (nI tm)), (3, .int (nI f))]) hx hb dX0_laysWork_38 hl (by decide) rfl (fun ls hl => ?_)
  refine lv_aload_n hx hb dX0_laysWork_40 rfl (lv_at hl 6 rfl) ?_
  refine x_g_endIn hx hb hts hown hK hw dX0_laysWork_41 ?_
  refine lv_iload_n hx hb dX0_laysWork_44 rfl (lv_at hl 7 rfl) ?_
  refine x_a (r := 15 + wk) hx hb hK hw xO_5 rfl (by decide) (by omega) rfl dX0_laysWork_45 ?_
  refine lv_iload_n hx hb dX0_laysWork_46 rfl (lv_at hl 8 rfl) ?_
  refine x_a (r := 435 + 60 * wk + tm) hx hb hK hw (xO_15 (by omega)) rfl (by decide) (by omega) rfl dX0_laysWork_47 ?_
  refine lv_iload_n hx hb dX0_laysWork_48 rfl (lv_at hl 9 rfl) ?_
  refine lv_iconst (v := (-1)) hx hb dX0_laysWork_49 (by decide) ?_
  refine z_s (k := 435 + 60 * wk + tm) (j := f) (n := 24) hx hb hK hw (zM_435 (by omega) (by omega)) (by omega) dX0_laysWork_50 (fun H locs hw => ?_)
  refine lv_iload_n hx hb dX0_laysWork_51 rfl (lv_at hl 9 rfl) ?_
  refine lv_istore (lv' := [(10, .int (nI f)), (9, .int (nI (tm % 10))), (8, .int (nI (tm / 10))), (7, .int (nI 0)), (6, .int (nI 0)), (5, .int (M 0 (40 + 3 * k))), (4, .ref (ad (67 + k))), (0, .ref (ad 0)), (1, .int (nI wk)), (2, .int (nI tm)), (3, .int (nI f))]) hx hb dX0_laysWork_52 hl (by decide) rfl (fun ls hl => ?_)
  have L_54 : ∀ (fuel : Nat) (t : Nat) (rest : Int32) (vo : Int32) (co : Int32) (Za : Nat → Nat → Int32), e1 - t < fuel → (f ≤ t) → (t ≤ e1) → (xLay tx M h (tm / 10) (tm % 10) (e1 - t) t rest vo co = xLayR tx M h k tm f e1) → (∀ k9, k9 ≠ 2 → Za k9 = up2 Z (435 + 60 * wk + tm) f (-1) k9) → ∀ (H : Heap) (locs : List Loc), XS G ad sz s.heap X Za T H locs → ∀ (ls : Array Slot), lv_has ls 14 [(0, .ref (ad 0)), (1, .int (nI wk)), (2, .int (nI tm)), (3, .int (nI f)), (4, .ref (ad (67 + k))), (5, .int rest), (6, .int vo), (7, .int co), (8, .int (nI (tm / 10))), (9, .int (nI (tm % 10))), (10, .int (nI t))] → W p l e ({ frames := 107, cells := 0, slots := 0, locals := 6446 } : Room) s m ([.ref (ad 0), .int (nI wk), .int (nI tm), .int (nI f)] : List Value).toArray below meth c H locs 0 0 (MQ below (cQ none (fun H => ∃ Z9, (Z9 (435 + 60 * wk + tm) f = xLE (xLayR tx M h k tm f e1) (M 0 (40 + 3 * k + 1)) ∧ Z9 (195 + 60 * wk + tm) f = xLG (xLayR tx M h k tm f e1) (M 0 (40 + 3 * k + 2)) (Z (195 + 60 * wk + tm) f) ∧ ∀ k9 j9, k9 ≠ 2 → ¬ (k9 = (435 + 60 * wk + tm) ∧ j9 = f) → ¬ (k9 = (195 + 60 * wk + tm) ∧ j9 = f) → Z9 k9 j9 = Z k9 j9) ∧ xH G ad X Z9 T sz H) (xA ad sz)) ([.ref (ad 0), .int (nI wk), .int (nI tm), .int (nI f)] : List Value).toArray s 0 0 (xA ad sz)) (F0 m 54 ls []) := by
    intro fuel
    induction fuel with
    | zero => intro t rest vo co Za hf; exact absurd hf (Nat.not_lt_zero _)
    | succ fuel ih =>
      intro t rest vo co Za hf hft hte hq hza H locs hw ls hl
      have ih54 := ih
      refine lv_iload hx hb dX0_laysWork_54 (lv_at hl 10 rfl) ?_
      refine lv_aload_n hx hb dX0_laysWork_56 rfl (lv_at hl 0 rfl) ?_
      refine x_g_hours hx hb hts hown hK hw dX0_laysWork_57 ?_
      rw [show Za 0 16 = nI e1 from (congrFun (hza _ (by decide)) 16).trans ((up2_ne (Or.inl (by omega))).trans hz16)]
      refine n_icmp_ge (tgt := 289) hx hb dX0_laysWork_60 (by decide) (by omega) (by omega) (fun c_1 => ?_) (fun c_1 => ?_)
      · have hR1 : xLayR tx M h k tm f e1 = none := by rw [← hq, xLay_z (by omega)]
        exact c_vret hx hb hr hlocks ⟨_, ⟨(by rw [hR1]; exact ((congrFun (hza _ (by omega)) f).trans up2_at)), (by rw [hR1]; exact ((congrFun (hza _ (by omega)) f).trans ((up2_ne (Or.inl (by omega))).trans rfl))), (fun k9 j9 h9 h8 h7 => (congrFun ((hza k9 h9)) j9).trans (up2_ne (by rcases Nat.decEq k9 (435 + 60 * wk + tm) with q | q; (exact Or.inl q); (exact Or.inr (fun q2 => h8 ⟨q, q2⟩)))))⟩, xH.to rfl rfl rfl hw.1⟩ hw.2.1 dX0_laysWork_289
      refine lv_iload hx hb dX0_laysWork_63 (lv_at hl 5 rfl) ?_
      refine lv_aload_n hx hb dX0_laysWork_65 rfl (lv_at hl 0 rfl) ?_
      refine lv_aload_n hx hb dX0_laysWork_66 rfl (lv_at hl 0 rfl) ?_
      refine c_read (va_runV (As := []) (rest := [.ref (ad 0), .int rest]) ⟨hx, hb, hml, hown, hts⟩ (met_X0_hour l G ad sz X Za T (nI h) rh) (cv_X0_X0_hour hts ⟨Nat.le_of_ble_eq_true rfl, Nat.le_of_ble_eq_true rfl⟩) (cP.preV hK hw.1 (hw.1.recv hK)) rfl rfl hl.1 rfl (lv_room (Nat.le_of_ble_eq_true rfl)) dX0_laysWork_67 ⟨by first | exact Nat.zero_le _ | omega | decide, by first | exact Nat.zero_le _ | omega | decide⟩) ?_
      refine lv_iload hx hb dX0_laysWork_70 (lv_at hl 10 rfl) ?_
      refine n_iadd hx hb dX0_laysWork_72 ?_
      refine c_call (va_runV (As := [.int (nI (h + t))]) (rest := [.int rest]) ⟨hx, hb, hml, hown, hts⟩ (met_X0_smokeIn l G ad sz X Za T M tx htx (nI (h + t))) (cv_X0_X0_smokeIn hts ⟨Nat.le_of_ble_eq_true rfl, Nat.le_of_ble_eq_true rfl⟩) (cP.preV hK ⟨hw.1, (aTx.kept rfl (fun q h9 => h9.keep hw.2.1 hz) (fun q h9 => h9) hE)⟩ (hw.1.recv hK)) rfl rfl hl.1 rfl (lv_room (Nat.le_of_ble_eq_true rfl)) dX0_laysWork_73 ⟨by first | exact Nat.zero_le _ | omega | decide, by first | exact Nat.zero_le _ | omega | decide⟩) hw.2.1 (fun q _ h => h) (fun q h => h) (fun H locs hw _ _ hS => ?_)
      obtain ⟨Z1, hkz1, hw⟩ := hw
      replace hw := XS.mk hw hS hz
      refine c_mmin (x := rest) (y := (mSmoke tx (nI (h + t)))) hx hb (hml.trans hl.1.symm) hown (hts _ q988) (hts _ q440) (hts _ q109) (hts _ q441) (Nat.le_of_ble_eq_true rfl) (Nat.le_trans (Nat.add_le_add_right (show (([] : List Value).map fun v => v.category).sum ≤ 20 from Nat.le_of_ble_eq_true rfl) 13) (Nat.le_of_ble_eq_true rfl)) (Nat.le_of_ble_eq_true rfl) (Nat.le_of_ble_eq_true rfl) dX0_laysWork_76 ?_
      refine lv_istore (lv' := [(11, .int (xFr tx h t rest)), (0, .ref (ad 0)), (1, .int (nI wk)), (2, .int (nI tm)), (3, .int (nI f)), (4, .ref (ad (67 + k))), (5, .int rest), (6, .int vo), (7, .int co), (8, .int (nI (tm / 10))), (9, .int (nI (tm % 10))), (10, .int (nI t))]) hx hb dX0_laysWork_79 hl (by decide) rfl (fun ls hl => ?_)
      refine lv_iload hx hb dX0_laysWork_81 (lv_at hl 0 rfl) ?_
      refine lv_aload_n hx hb dX0_laysWork_83 rfl (lv_at hl 1 rfl) ?_
      refine x_g_now hx hb hts hown hK hw dX0_laysWork_84 ?_
      refine x_sX0_51_blower hx hb hts hown hK hw dX0_laysWork_87 ?_
      refine lv_iload hx hb dX0_laysWork_90 (lv_at hl 9 rfl) ?_
      refine x_a (r := 61 + (tm / 10)) hx hb hK hw xO_55 rfl (by decide) (by omega) rfl dX0_laysWork_92 ?_
      refine lv_iconst (v := nI 0) hx hb dX0_laysWork_93 (by decide) ?_
      refine x_l (k := 61 + (tm / 10)) (j := 0) (n := 3) (v := M 0 (10 + 5 * (tm / 10))) hx hb hK hw ((rbl (tm / 10) (by omega)).1) (xL_61 (by omega)) (by decide) dX0_laysWork_94 ?_
      refine c_mmin (x := (xFr tx h t rest)) (y := (M 0 (10 + 5 * (tm / 10)))) hx hb (hml.trans hl.1.symm) hown (hts _ q988) (hts _ q440) (hts _ q109) (hts _ q441) (Nat.le_of_ble_eq_true rfl) (Nat.le_trans (Nat.add_le_add_right (show (([] : List Value).map fun v => v.category).sum ≤ 20 from Nat.le_of_ble_eq_true rfl) 13) (Nat.le_of_ble_eq_true rfl)) (Nat.le_of_ble_eq_true rfl) (Nat.le_of_ble_eq_true rfl) dX0_laysWork_95 ?_
      refine lv_istore (lv' := [(12, .int (xFi M (tm / 10) (xFr tx h t rest))), (11, .int (xFr tx h t rest)), (0, .ref (ad 0)), (1, .int (nI wk)), (2, .int (nI tm)), (3, .int (nI f)), (4, .ref (ad (67 + k))), (5, .int rest), (6, .int vo), (7, .int co), (8, .int (nI (tm / 10))), (9, .int (nI (tm % 10))), (10, .int (nI t))]) hx hb dX0_laysWork_98 hl (by decide) rfl (fun ls hl => ?_)
      have J_131 : ∀ (v1 : Int32), (v1 = xSe M (tm / 10) (tm % 10) (xFr tx h t rest)) → ∀ (H : Heap) (locs : List Loc), XS G ad sz s.heap X Z1 T H locs → ∀ (ls : Array Slot), lv_has ls 14 [(12, .int (xFi M (tm / 10) (xFr tx h t rest))), (11, .int (xFr tx h t rest)), (0, .ref (ad 0)), (1, .int (nI wk)), (2, .int (nI tm)), (3, .int (nI f)), (4, .ref (ad (67 + k))), (5, .int rest), (6, .int vo), (7, .int co), (8, .int (nI (tm / 10))), (9, .int (nI (tm % 10))), (10, .int (nI t))] → W p l e ({ frames := 107, cells := 0, slots := 0, locals := 6446 } : Room) s m ([.ref (ad 0), .int (nI wk), .int (nI tm), .int (nI f)] : List Value).toArray below meth c H locs 0 0 (MQ below (cQ none (fun H => ∃ Z9, (Z9 (435 + 60 * wk + tm) f = xLE (xLayR tx M h k tm f e1) (M 0 (40 + 3 * k + 1)) ∧ Z9 (195 + 60 * wk + tm) f = xLG (xLayR tx M h k tm f e1) (M 0 (40 + 3 * k + 2)) (Z (195 + 60 * wk + tm) f) ∧ ∀ k9 j9, k9 ≠ 2 → ¬ (k9 = (435 + 60 * wk + tm) ∧ j9 = f) → ¬ (k9 = (195 + 60 * wk + tm) ∧ j9 = f) → Z9 k9 j9 = Z k9 j9) ∧ xH G ad X Z9 T sz H) (xA ad sz)) ([.ref (ad 0), .int (nI wk), .int (nI tm), .int (nI f)] : List Value).toArray s 0 0 (xA ad sz)) (F0 m 131 ls [.int v1]) := by
        intro v1 h_v1 H locs hw ls hl
        subst h_v1
        refine lv_istore (lv' := [(13, .int (xSe M (tm / 10) (tm % 10) (xFr tx h t rest))), (12, .int (xFi M (tm / 10) (xFr tx h t rest))), (11, .int (xFr tx h t rest)), (0, .ref (ad 0)), (1, .int (nI wk)), (2, .int (nI tm)), (3, .int (nI f)), (4, .ref (ad (67 + k))), (5, .int rest), (6, .int vo), (7, .int co), (8, .int (nI (tm / 10))), (9, .int (nI (tm % 10))), (10, .int (nI t))]) hx hb dX0_laysWork_131 hl (by decide) rfl (fun ls hl => ?_)
        have J_158 : ∀ (v2 : Int32), (v2 = xVo M (tm / 10) (xFi M (tm / 10) (xFr tx h t rest))) → ∀ (H : Heap) (locs : List Loc), XS G ad sz s.heap X Z1 T H locs → ∀ (ls : Array Slot), lv_has ls 14 [(13, .int (xSe M (tm / 10) (tm % 10) (xFr tx h t rest))), (12, .int (xFi M (tm / 10) (xFr tx h t rest))), (11, .int (xFr tx h t rest)), (0, .ref (ad 0)), (1, .int (nI wk)), (2, .int (nI tm)), (3, .int (nI f)), (4, .ref (ad (67 + k))), (5, .int rest), (6, .int vo), (7, .int co), (8, .int (nI (tm / 10))), (9, .int (nI (tm % 10))), (10, .int (nI t))] → W p l e ({ frames := 107, cells := 0, slots := 0, locals := 6446 } : Room) s m ([.ref (ad 0), .int (nI wk), .int (nI tm), .int (nI f)] : List Value).toArray below meth c H locs 0 0 (MQ below (cQ none (fun H => ∃ Z9, (Z9 (435 + 60 * wk + tm) f = xLE (xLayR tx M h k tm f e1) (M 0 (40 + 3 * k + 1)) ∧ Z9 (195 + 60 * wk + tm) f = xLG (xLayR tx M h k tm f e1) (M 0 (40 + 3 * k + 2)) (Z (195 + 60 * wk + tm) f) ∧ ∀ k9 j9, k9 ≠ 2 → ¬ (k9 = (435 + 60 * wk + tm) ∧ j9 = f) → ¬ (k9 = (195 + 60 * wk + tm) ∧ j9 = f) → Z9 k9 j9 = Z k9 j9) ∧ xH G ad X Z9 T sz H) (xA ad sz)) ([.ref (ad 0), .int (nI wk), .int (nI tm), .int (nI f)] : List Value).toArray s 0 0 (xA ad sz)) (F0 m 158 ls [.int v2, .int vo]) := by
          intro v2 h_v2 H locs hw ls hl
          subst h_v2
          have J_181 : ∀ (v3 : Int32), (v3 = xVo M (tm % 10) (xSe M (tm / 10) (tm % 10) (xFr tx h t rest))) → ∀ (H : Heap) (locs : List Loc), XS G ad sz s.heap X Z1 T H locs → ∀ (ls : Array Slot), lv_has ls 14 [(13, .int (xSe M (tm / 10) (tm % 10) (xFr tx h t rest))), (12, .int (xFi M (tm / 10) (xFr tx h t rest))), (11, .int (xFr tx h t rest)), (0, .ref (ad 0)), (1, .int (nI wk)), (2, .int (nI tm)), (3, .int (nI f)), (4, .ref (ad (67 + k))), (5, .int rest), (6, .int vo), (7, .int co), (8, .int (nI (tm / 10))), (9, .int (nI (tm % 10))), (10, .int (nI t))] → W p l e ({ frames := 107, cells := 0, slots := 0, locals := 6446 } : Room) s m ([.ref (ad 0), .int (nI wk), .int (nI tm), .int (nI f)] : List Value).toArray below meth c H locs 0 0 (MQ below (cQ none (fun H => ∃ Z9, (Z9 (435 + 60 * wk + tm) f = xLE (xLayR tx M h k tm f e1) (M 0 (40 + 3 * k + 1)) ∧ Z9 (195 + 60 * wk + tm) f = xLG (xLayR tx M h k tm f e1) (M 0 (40 + 3 * k + 2)) (Z (195 + 60 * wk + tm) f) ∧ ∀ k9 j9, k9 ≠ 2 → ¬ (k9 = (435 + 60 * wk + tm) ∧ j9 = f) → ¬ (k9 = (195 + 60 * wk + tm) ∧ j9 = f) → Z9 k9 j9 = Z k9 j9) ∧ xH G ad X Z9 T sz H) (xA ad sz)) ([.ref (ad 0), .int (nI wk), .int (nI tm), .int (nI f)] : List Value).toArray s 0 0 (xA ad sz)) (F0 m 181 ls [.int v3, .int (xVo M (tm / 10) (xFi M (tm / 10) (xFr tx h t rest))), .int vo]) := by
            intro v3 h_v3 H locs hw ls hl
            subst h_v3
            refine lv_ior hx hb dX0_laysWork_181 ?_
            refine lv_ior hx hb dX0_laysWork_182 ?_
            refine lv_istore (lv' := [(6, .int (vo ||| ((xVo M (tm / 10) (xFi M (tm / 10) (xFr tx h t rest))) ||| (xVo M (tm % 10) (xSe M (tm / 10) (tm % 10) (xFr tx h t rest)))))), (13, .int (xSe M (tm / 10) (tm % 10) (xFr tx h t rest))), (12, .int (xFi M (tm / 10) (xFr tx h t rest))), (11, .int (xFr tx h t rest)), (0, .ref (ad 0)), (1, .int (nI wk)), (2, .int (nI tm)), (3, .int (nI f)), (4, .ref (ad (67 + k))), (5, .int rest), (7, .int co), (8, .int (nI (tm / 10))), (9, .int (nI (tm % 10))), (10, .int (nI t))]) hx hb dX0_laysWork_183 hl (by decide) rfl (fun ls hl => ?_)
            replace hl : lv_has ls 14 [(6, .int (xV1 tx M h (tm / 10) (tm % 10) t rest vo)), (13, .int (xSe M (tm / 10) (tm % 10) (xFr tx h t rest))), (12, .int (xFi M (tm / 10) (xFr tx h t rest))), (11, .int (xFr tx h t rest)), (0, .ref (ad 0)), (1, .int (nI wk)), (2, .int (nI tm)), (3, .int (nI f)), (4, .ref (ad (67 + k))), (5, .int rest), (7, .int co), (8, .int (nI (tm / 10))), (9, .int (nI (tm % 10))), (10, .int (nI t))] := hl
            refine lv_iload hx hb dX0_laysWork_185 (lv_at hl 10 rfl) ?_
            refine lv_iload hx hb dX0_laysWork_187 (lv_at hl 2 rfl) ?_
            refine lv_aload_n hx hb dX0_laysWork_189 rfl (lv_at hl 4 rfl) ?_
            refine lv_iload hx hb dX0_laysWork_190 (lv_at hl 11 rfl) ?_
            refine lv_aload_n hx hb dX0_laysWork_192 rfl (lv_at hl 4 rfl) ?_
            refine c_read (va_runV (As := []) (rest := [.int (nI (tm / 10)), .ref (ad 0), .int (xFi M (tm / 10) (xFr tx h t rest)), .int co]) ⟨hx, hb, hml, hown, hts⟩ (met_X0_hour l G ad sz X Z1 T (nI h) rh) (cv_X0_X0_hour hts ⟨Nat.le_of_ble_eq_true rfl, Nat.le_of_ble_eq_true rfl⟩) (cP.preV hK hw.1 (hw.1.recv hK)) rfl rfl hl.1 rfl (lv_room (Nat.le_of_ble_eq_true rfl)) dX0_laysWork_193 ⟨by first | exact Nat.zero_le _ | omega | decide, by first | exact Nat.zero_le _ | omega | decide⟩) ?_
            refine lv_iload hx hb dX0_laysWork_196 (lv_at hl 13 rfl) ?_
            refine n_iadd hx hb dX0_laysWork_198 ?_
            refine c_call (va_runV (As := [.int (nI (tm / 10)), .int (nI (h + t))]) (rest := [.int (xFi M (tm / 10) (xFr tx h t rest)), .int co]) ⟨hx, hb, hml, hown, hts⟩ (met_X0_costOf l G ad sz X Z1 T M tx htx (tm / 10) (by omega) ((rbl (tm / 10) (by omega)).1) ((rbl (tm / 10) (by omega)).2.1) ((rbe (tm / 10) (by omega)).1) (nI (h + t))) (cv_X0_X0_costOf hts ⟨Nat.le_of_ble_eq_true rfl, Nat.le_of_ble_eq_true rfl⟩) (cP.preV hK ⟨hw.1, (aTx.kept rfl (fun q h9 => h9.keep hw.2.1 hz) (fun q h9 => h9) hE)⟩ (hw.1.recv hK)) rfl rfl hl.1 rfl (lv_room (Nat.le_of_ble_eq_true rfl)) dX0_laysWork_199 ⟨by first | exact Nat.zero_le _ | omega | decide, by first | exact Nat.zero_le _ | omega | decide⟩) hw.2.1 (fun q _ h => h) (fun q h => h) (fun H locs hw _ _ hS => ?_)
            obtain ⟨Z2, hkz2, hw⟩ := hw
            replace hw := XS.mk hw hS hz
            refine lv_imul hx hb dX0_laysWork_202 ?_
            refine lv_iload hx hb dX0_laysWork_203 (lv_at hl 1 rfl) ?_
            refine lv_aload_n hx hb dX0_laysWork_205 rfl (lv_at hl 4 rfl) ?_
            refine lv_iload hx hb dX0_laysWork_206 (lv_at hl 12 rfl) ?_
            refine lv_aload_n hx hb dX0_laysWork_208 rfl (lv_at hl 4 rfl) ?_
            refine c_read (va_runV (As := []) (rest := [.int (nI (tm % 10)), .ref (ad 0), .int (xSe M (tm / 10) (tm % 10) (xFr tx h t rest)), .int ((xFi M (tm / 10) (xFr tx h t rest)) * (mCost tx M (tm / 10) (nI (h + t)))), .int co]) ⟨hx, hb, hml, hown, hts⟩ (met_X0_hour l G ad sz X Z2 T (nI h) rh) (cv_X0_X0_hour hts ⟨Nat.le_of_ble_eq_true rfl, Nat.le_of_ble_eq_true rfl⟩) (cP.preV hK hw.1 (hw.1.recv hK)) rfl rfl hl.1 rfl (lv_room (Nat.le_of_ble_eq_true rfl)) dX0_laysWork_209 ⟨by first | exact Nat.zero_le _ | omega | decide, by first | exact Nat.zero_le _ | omega | decide⟩) ?_
            refine lv_iload hx hb dX0_laysWork_212 (lv_at hl 13 rfl) ?_
            refine n_iadd hx hb dX0_laysWork_214 ?_
            refine c_call (va_runV (As := [.int (nI (tm % 10)), .int (nI (h + t))]) (rest := [.int (xSe M (tm / 10) (tm % 10) (xFr tx h t rest)), .int ((xFi M (tm / 10) (xFr tx h t rest)) * (mCost tx M (tm / 10) (nI (h + t)))), .int co]) ⟨hx, hb, hml, hown, hts⟩ (met_X0_costOf l G ad sz X Z2 T M tx htx (tm % 10) (by omega) ((rbl (tm % 10) (by omega)).1) ((rbl (tm % 10) (by omega)).2.1) ((rbe (tm % 10) (by omega)).1) (nI (h + t))) (cv_X0_X0_costOf hts ⟨Nat.le_of_ble_eq_true rfl, Nat.le_of_ble_eq_true rfl⟩) (cP.preV hK ⟨hw.1, (aTx.kept rfl (fun q h9 => h9.keep hw.2.1 hz) (fun q h9 => h9) hE)⟩ (hw.1.recv hK)) rfl rfl hl.1 rfl (lv_room (Nat.le_of_ble_eq_true rfl)) dX0_laysWork_215 ⟨by first | exact Nat.zero_le _ | omega | decide, by first | exact Nat.zero_le _ | omega | decide⟩) hw.2.1 (fun q _ h => h) (fun q h => h) (fun H locs hw _ _ hS => ?_)
            obtain ⟨Z3, hkz3, hw⟩ := hw
            replace hw := XS.mk hw hS hz
            refine lv_imul hx hb dX0_laysWork_218 ?_
            refine lv_iadd hx hb dX0_laysWork_219 ?_
            refine lv_iadd hx hb dX0_laysWork_220 ?_
            refine lv_istore (lv' := [(7, .int (co + (((xFi M (tm / 10) (xFr tx h t rest)) * (mCost tx M (tm / 10) (nI (h + t)))) + ((xSe M (tm / 10) (tm % 10) (xFr tx h t rest)) * (mCost tx M (tm % 10) (nI (h + t))))))), (6, .int (xV1 tx M h (tm / 10) (tm % 10) t rest vo)), (13, .int (xSe M (tm / 10) (tm % 10) (xFr tx h t rest))), (12, .int (xFi M (tm / 10) (xFr tx h t rest))), (11, .int (xFr tx h t rest)), (0, .ref (ad 0)), (1, .int (nI wk)), (2, .int (nI tm)), (3, .int (nI f)), (4, .ref (ad (67 + k))), (5, .int rest), (8, .int (nI (tm / 10))), (9, .int (nI (tm % 10))), (10, .int (nI t))]) hx hb dX0_laysWork_221 hl (by decide) rfl (fun ls hl => ?_)
            replace hl : lv_has ls 14 [(7, .int (xK1 tx M h (tm / 10) (tm % 10) t rest co)), (6, .int (xV1 tx M h (tm / 10) (tm % 10) t rest vo)), (13, .int (xSe M (tm / 10) (tm % 10) (xFr tx h t rest))), (12, .int (xFi M (tm / 10) (xFr tx h t rest))), (11, .int (xFr tx h t rest)), (0, .ref (ad 0)), (1, .int (nI wk)), (2, .int (nI tm)), (3, .int (nI f)), (4, .ref (ad (67 + k))), (5, .int rest), (8, .int (nI (tm / 10))), (9, .int (nI (tm % 10))), (10, .int (nI t))] := hl
            refine lv_iload hx hb dX0_laysWork_223 (lv_at hl 10 rfl) ?_
            refine lv_iload hx hb dX0_laysWork_225 (lv_at hl 3 rfl) ?_
            refine lv_iload hx hb dX0_laysWork_227 (lv_at hl 2 rfl) ?_
            refine lv_iadd hx hb dX0_laysWork_229 ?_
            refine lv_isub hx hb dX0_laysWork_230 ?_
            refine lv_istore (lv' := [(5, .int (rest - ((xFi M (tm / 10) (xFr tx h t rest)) + (xSe M (tm / 10) (tm % 10) (xFr tx h t rest))))), (7, .int (xK1 tx M h (tm / 10) (tm % 10) t rest co)), (6, .int (xV1 tx M h (tm / 10) (tm % 10) t rest vo)), (13, .int (xSe M (tm / 10) (tm % 10) (xFr tx h t rest))), (12, .int (xFi M (tm / 10) (xFr tx h t rest))), (11, .int (xFr tx h t rest)), (0, .ref (ad 0)), (1, .int (nI wk)), (2, .int (nI tm)), (3, .int (nI f)), (4, .ref (ad (67 + k))), (8, .int (nI (tm / 10))), (9, .int (nI (tm % 10))), (10, .int (nI t))]) hx hb dX0_laysWork_231 hl (by decide) rfl (fun ls hl => ?_)
            replace hl : lv_has ls 14 [(5, .int (xR1 tx M h (tm / 10) (tm % 10) t rest)), (7, .int (xK1 tx M h (tm / 10) (tm % 10) t rest co)), (6, .int (xV1 tx M h (tm / 10) (tm % 10) t rest vo)), (13, .int (xSe M (tm / 10) (tm % 10) (xFr tx h t rest))), (12, .int (xFi M (tm / 10) (xFr tx h t rest))), (11, .int (xFr tx h t rest)), (0, .ref (ad 0)), (1, .int (nI wk)), (2, .int (nI tm)), (3, .int (nI f)), (4, .ref (ad (67 + k))), (8, .int (nI (tm / 10))), (9, .int (nI (tm % 10))), (10, .int (nI t))] := hl
            refine lv_iload hx hb dX0_laysWork_233 (lv_at hl 0 rfl) ?_
            refine lv_if_le (tgt := 241) hx hb dX0_laysWork_235 (by decide) (fun c_2 => ?_) (fun c_2 => ?_)
            · have hR1 : xLayR tx M h k tm f e1 = some (t, xV1 tx M h (tm / 10) (tm % 10) t rest vo, xK1 tx M h (tm / 10) (tm % 10) t rest co) := by rw [← hq, xLay_s (by omega), pif_t c_2]
              refine lv_aload hx hb dX0_laysWork_241 (lv_at hl 10 rfl) ?_
              refine lv_iconst (v := nI 1) hx hb dX0_laysWork_243 (by decide) ?_
              refine x_l (k := 67 + k) (j := 1) (n := 3) (v := M 0 (40 + 3 * k + 1)) hx hb hK hw ((rki k (by omega)).2.1) (xL_67 (by omega)) (by decide) dX0_laysWork_244 ?_
              refine lv_iload hx hb dX0_laysWork_245 (lv_at hl 2 rfl) ?_
              refine lv_iconst (v := (-1)) hx hb dX0_laysWork_247 (by decide) ?_
              refine lv_ixor hx hb dX0_laysWork_248 ?_
              refine lv_iand hx hb dX0_laysWork_249 ?_
              refine lv_if_ne (tgt := 265) hx hb dX0_laysWork_250 (by decide) (fun c_3 => ?_) (fun c_3 => ?_)
              · refine lv_aload_n hx hb dX0_laysWork_265 rfl (lv_at hl 6 rfl) ?_
                refine x_g_gain hx hb hts hown hK hw dX0_laysWork_266 ?_
                refine lv_iload_n hx hb dX0_laysWork_269 rfl (lv_at hl 7 rfl) ?_
                refine x_a (r := 11 + wk) hx hb hK hw xO_4 rfl (by decide) (by omega) rfl dX0_laysWork_270 ?_
                refine lv_iload_n hx hb dX0_laysWork_271 rfl (lv_at hl 8 rfl) ?_
                refine x_a (r := 195 + 60 * wk + tm) hx hb hK hw (xO_11 (by omega)) rfl (by decide) (by omega) rfl dX0_laysWork_272 ?_
                refine lv_iload_n hx hb dX0_laysWork_273 rfl (lv_at hl 9 rfl) ?_
                refine lv_aload hx hb dX0_laysWork_274 (lv_at hl 10 rfl) ?_
                refine lv_iconst (v := nI 2) hx hb dX0_laysWork_276 (by decide) ?_
                refine x_l (k := 67 + k) (j := 2) (n := 3) (v := M 0 (40 + 3 * k + 2)) hx hb hK hw ((rki k (by omega)).2.2) (xL_67 (by omega)) (by decide) dX0_laysWork_277 ?_
                refine lv_iload hx hb dX0_laysWork_278 (lv_at hl 1 rfl) ?_
                refine lv_isub hx hb dX0_laysWork_280 ?_
                refine z_s (k := 195 + 60 * wk + tm) (j := f) (n := 24) hx hb hK hw (zM_195 (by omega) (by omega)) (by omega) dX0_laysWork_281 (fun H locs hw => ?_)
                exact c_vret hx hb hr hlocks ⟨_, ⟨(by rw [hR1]; show _ = pif _ _ _; (first | rw [pif_t (by with_reducible assumption)] | rw [pif_f (by with_reducible assumption)]); exact ((up2_ne (Or.inl (by omega))).trans ((congrFun (hkz3 _ (by omega)) f).trans ((congrFun (hkz2 _ (by omega)) f).trans ((congrFun (hkz1 _ (by omega)) f).trans ((congrFun (hza _ (by omega)) f).trans up2_at)))))), (by rw [hR1]; exact up2_at), (fun k9 j9 h9 h8 h7 => (up2_ne (by rcases Nat.decEq k9 (195 + 60 * wk + tm) with q | q; (exact Or.inl q); (exact Or.inr (fun q2 => h7 ⟨q, q2⟩)))).trans ((congrFun ((((hkz3 k9 h9).trans ((hkz2 k9 h9).trans ((hkz1 k9 h9).trans rfl)))).trans (hza k9 h9)) j9).trans (up2_ne (by rcases Nat.decEq k9 (435 + 60 * wk + tm) with q | q; (exact Or.inl q); (exact Or.inr (fun q2 => h8 ⟨q, q2⟩))))))⟩, xH.to rfl rfl rfl hw.1⟩ hw.2.1 dX0_laysWork_282
              refine lv_aload_n hx hb dX0_laysWork_253 rfl (lv_at hl 6 rfl) ?_
              refine x_g_endIn hx hb hts hown hK hw dX0_laysWork_254 ?_
              refine lv_iload_n hx hb dX0_laysWork_257 rfl (lv_at hl 7 rfl) ?_
              refine x_a (r := 15 + wk) hx hb hK hw xO_5 rfl (by decide) (by omega) rfl dX0_laysWork_258 ?_
              refine lv_iload_n hx hb dX0_laysWork_259 rfl (lv_at hl 8 rfl) ?_
              refine x_a (r := 435 + 60 * wk + tm) hx hb hK hw (xO_15 (by omega)) rfl (by decide) (by omega) rfl dX0_laysWork_260 ?_
              refine lv_iload_n hx hb dX0_laysWork_261 rfl (lv_at hl 9 rfl) ?_
              refine lv_iload hx hb dX0_laysWork_262 (lv_at hl 13 rfl) ?_
              refine z_s (k := 435 + 60 * wk + tm) (j := f) (n := 24) hx hb hK hw (zM_435 (by omega) (by omega)) (by omega) dX0_laysWork_264 (fun H locs hw => ?_)
              refine lv_aload_n hx hb dX0_laysWork_265 rfl (lv_at hl 6 rfl) ?_
              refine x_g_gain hx hb hts hown hK hw dX0_laysWork_266 ?_
              refine lv_iload_n hx hb dX0_laysWork_269 rfl (lv_at hl 7 rfl) ?_
              refine x_a (r := 11 + wk) hx hb hK hw xO_4 rfl (by decide) (by omega) rfl dX0_laysWork_270 ?_
              refine lv_iload_n hx hb dX0_laysWork_271 rfl (lv_at hl 8 rfl) ?_
              refine x_a (r := 195 + 60 * wk + tm) hx hb hK hw (xO_11 (by omega)) rfl (by decide) (by omega) rfl dX0_laysWork_272 ?_
              refine lv_iload_n hx hb dX0_laysWork_273 rfl (lv_at hl 9 rfl) ?_
              refine lv_aload hx hb dX0_laysWork_274 (lv_at hl 10 rfl) ?_
              refine lv_iconst (v := nI 2) hx hb dX0_laysWork_276 (by decide) ?_
              refine x_l (k := 67 + k) (j := 2) (n := 3) (v := M 0 (40 + 3 * k + 2)) hx hb hK hw ((rki k (by omega)).2.2) (xL_67 (by omega)) (by decide) dX0_laysWork_277 ?_
              refine lv_iload hx hb dX0_laysWork_278 (lv_at hl 1 rfl) ?_
              refine lv_isub hx hb dX0_laysWork_280 ?_
              refine z_s (k := 195 + 60 * wk + tm) (j := f) (n := 24) hx hb hK hw (zM_195 (by omega) (by omega)) (by omega) dX0_laysWork_281 (fun H locs hw => ?_)
              exact c_vret hx hb hr hlocks ⟨_, ⟨(by rw [hR1]; show _ = pif _ _ _; (first | rw [pif_t (by with_reducible assumption)] | rw [pif_f (by with_reducible assumption)]); exact ((up2_ne (Or.inl (by omega))).trans up2_at)), (by rw [hR1]; exact up2_at), (fun k9 j9 h9 h8 h7 => (up2_ne (by rcases Nat.decEq k9 (195 + 60 * wk + tm) with q | q; (exact Or.inl q); (exact Or.inr (fun q2 => h7 ⟨q, q2⟩)))).trans ((up2_ne (by rcases Nat.decEq k9 (435 + 60 * wk + tm) with q | q; (exact Or.inl q); (exact Or.inr (fun q2 => h8 ⟨q, q2⟩)))).trans ((congrFun ((((hkz3 k9 h9).trans ((hkz2 k9 h9).trans ((hkz1 k9 h9).trans rfl)))).trans (hza k9 h9)) j9).trans (up2_ne (by rcases Nat.decEq k9 (435 + 60 * wk + tm) with q | q; (exact Or.inl q); (exact Or.inr (fun q2 => h8 ⟨q, q2⟩)))))))⟩, xH.to rfl rfl rfl hw.1⟩ hw.2.1 dX0_laysWork_282
            refine lv_goto (tgt := 283) hx hb dX0_laysWork_238 (by decide) ?_
            refine lv_iinc (v := nI (t + 1)) (lv' := [(10, .int (nI (t + 1))), (5, .int (xR1 tx M h (tm / 10) (tm % 10) t rest)), (7, .int (xK1 tx M h (tm / 10) (tm % 10) t rest co)), (6, .int (xV1 tx M h (tm / 10) (tm % 10) t rest vo)), (13, .int (xSe M (tm / 10) (tm % 10) (xFr tx h t rest))), (12, .int (xFi M (tm / 10) (xFr tx h t rest))), (11, .int (xFr tx h t rest)), (0, .ref (ad 0)), (1, .int (nI wk)), (2, .int (nI tm)), (3, .int (nI f)), (4, .ref (ad (67 + k))), (8, .int (nI (tm / 10))), (9, .int (nI (tm % 10)))]) hx hb dX0_laysWork_283 hl (k := 13) rfl (n_inc t 1) (by decide) rfl (fun ls hl => ?_)
            refine lv_goto (tgt := 54) hx hb dX0_laysWork_286 (by decide) ?_
            exact ih54 (t + 1) (xR1 tx M h (tm / 10) (tm % 10) t rest) (xV1 tx M h (tm / 10) (tm % 10) t rest vo) (xK1 tx M h (tm / 10) (tm % 10) t rest co) Z3 (by omega) (by first | assumption | omega | rfl) (by first | assumption | omega | rfl) (((xLay_s (show t < e1 by omega)).trans (pif_f c_2)).symm.trans hq) (fun k9 h9 => (((hkz3 k9 h9).trans ((hkz2 k9 h9).trans ((hkz1 k9 h9).trans rfl)))).trans (hza k9 h9)) _ _ hw ls (lv_sub hl [7, 8, 9, 10, 11, 1, 3, 2, 12, 13, 0] rfl)
          refine lv_iload hx hb dX0_laysWork_158 (lv_at hl 0 rfl) ?_
          refine lv_if_le (tgt := 180) hx hb dX0_laysWork_160 (by decide) (fun c_4 => ?_) (fun c_4 => ?_)
          · refine lv_iconst (v := nI 0) hx hb dX0_laysWork_180 (by decide) ?_
            exact J_181 (nI 0)  (by unfold xVo; first | exact (pif_t (by with_reducible assumption)).symm | exact (pif_f (by with_reducible assumption)).symm) _ _ hw ls (lv_sub hl [0, 1, 2, 3, 4, 5, 6, 7, 8, 9, 10, 11, 12, 13] rfl)
          refine lv_iconst (v := nI 1) hx hb dX0_laysWork_163 (by decide) ?_
          refine lv_aload_n hx hb dX0_laysWork_164 rfl (lv_at hl 3 rfl) ?_
          refine x_g_now hx hb hts hown hK hw dX0_laysWork_165 ?_
          refine x_sX0_51_blower hx hb hts hown hK hw dX0_laysWork_168 ?_
          refine lv_iload hx hb dX0_laysWork_171 (lv_at hl 12 rfl) ?_
          refine x_a (r := 61 + (tm % 10)) hx hb hK hw xO_55 rfl (by decide) (by omega) rfl dX0_laysWork_173 ?_
          refine lv_iconst (v := nI 1) hx hb dX0_laysWork_174 (by decide) ?_
          refine x_l (k := 61 + (tm % 10)) (j := 1) (n := 3) (v := M 0 (10 + 5 * (tm % 10) + 1)) hx hb hK hw ((rbl (tm % 10) (by omega)).2.1) (xL_61 (by omega)) (by decide) dX0_laysWork_175 ?_
          refine lv_ishl hx hb dX0_laysWork_176 ?_
          refine lv_goto (tgt := 181) hx hb dX0_laysWork_177 (by decide) ?_
          exact J_181 ((nI 1) <<< ((M 0 (10 + 5 * (tm % 10) + 1)) &&& 31))  (by unfold xVo; first | exact (pif_t (by with_reducible assumption)).symm | exact (pif_f (by with_reducible assumption)).symm) _ _ hw ls (lv_sub hl [0, 1, 2, 3, 4, 5, 6, 7, 8, 9, 10, 11, 12, 13] rfl)
        refine lv_iload hx hb dX0_laysWork_133 (lv_at hl 9 rfl) ?_
        refine lv_iload hx hb dX0_laysWork_135 (lv_at hl 1 rfl) ?_
        refine lv_if_le (tgt := 157) hx hb dX0_laysWork_137 (by decide) (fun c_5 => ?_) (fun c_5 => ?_)
        · refine lv_iconst (v := nI 0) hx hb dX0_laysWork_157 (by decide) ?_
          exact J_158 (nI 0)  (by unfold xVo; first | exact (pif_t (by with_reducible assumption)).symm | exact (pif_f (by with_reducible assumption)).symm) _ _ hw ls (lv_sub hl [0, 1, 2, 3, 4, 5, 6, 7, 8, 9, 10, 11, 12, 13] rfl)
        refine lv_iconst (v := nI 1) hx hb dX0_laysWork_140 (by decide) ?_
        refine lv_aload_n hx hb dX0_laysWork_141 rfl (lv_at hl 3 rfl) ?_
        refine x_g_now hx hb hts hown hK hw dX0_laysWork_142 ?_
        refine x_sX0_51_blower hx hb hts hown hK hw dX0_laysWork_145 ?_
        refine lv_iload hx hb dX0_laysWork_148 (lv_at hl 11 rfl) ?_
        refine x_a (r := 61 + (tm / 10)) hx hb hK hw xO_55 rfl (by decide) (by omega) rfl dX0_laysWork_150 ?_
        refine lv_iconst (v := nI 1) hx hb dX0_laysWork_151 (by decide) ?_
        refine x_l (k := 61 + (tm / 10)) (j := 1) (n := 3) (v := M 0 (10 + 5 * (tm / 10) + 1)) hx hb hK hw ((rbl (tm / 10) (by omega)).2.1) (xL_61 (by omega)) (by decide) dX0_laysWork_152 ?_
        refine lv_ishl hx hb dX0_laysWork_153 ?_
        refine lv_goto (tgt := 158) hx hb dX0_laysWork_154 (by decide) ?_
        exact J_158 ((nI 1) <<< ((M 0 (10 + 5 * (tm / 10) + 1)) &&& 31))  (by unfold xVo; first | exact (pif_t (by with_reducible assumption)).symm | exact (pif_f (by with_reducible assumption)).symm) _ _ hw ls (lv_sub hl [0, 1, 2, 3, 4, 5, 6, 7, 8, 9, 10, 11, 12, 13] rfl)
      refine lv_iload hx hb dX0_laysWork_100 (lv_at hl 10 rfl) ?_
      refine lv_iload hx hb dX0_laysWork_102 (lv_at hl 11 rfl) ?_
      refine n_icmp_ne (tgt := 111) hx hb dX0_laysWork_104 (by decide) (by omega) (by omega) (fun c_6 => ?_) (fun c_6 => ?_)
      · refine lv_iload hx hb dX0_laysWork_111 (lv_at hl 1 rfl) ?_
        refine lv_iload hx hb dX0_laysWork_113 (lv_at hl 0 rfl) ?_
        refine lv_isub hx hb dX0_laysWork_115 ?_
        refine lv_aload_n hx hb dX0_laysWork_116 rfl (lv_at hl 2 rfl) ?_
        refine x_g_now hx hb hts hown hK hw dX0_laysWork_117 ?_
        refine x_sX0_51_blower hx hb hts hown hK hw dX0_laysWork_120 ?_
        refine lv_iload hx hb dX0_laysWork_123 (lv_at hl 11 rfl) ?_
        refine x_a (r := 61 + (tm % 10)) hx hb hK hw xO_55 rfl (by decide) (by omega) rfl dX0_laysWork_125 ?_
        refine lv_iconst (v := nI 0) hx hb dX0_laysWork_126 (by decide) ?_
        refine x_l (k := 61 + (tm % 10)) (j := 0) (n := 3) (v := M 0 (10 + 5 * (tm % 10))) hx hb hK hw ((rbl (tm % 10) (by omega)).1) (xL_61 (by omega)) (by decide) dX0_laysWork_127 ?_
        refine c_mmin (x := ((xFr tx h t rest) - (xFi M (tm / 10) (xFr tx h t rest)))) (y := (M 0 (10 + 5 * (tm % 10)))) hx hb (hml.trans hl.1.symm) hown (hts _ q988) (hts _ q440) (hts _ q109) (hts _ q441) (Nat.le_of_ble_eq_true rfl) (Nat.le_trans (Nat.add_le_add_right (show (([] : List Value).map fun v => v.category).sum ≤ 20 from Nat.le_of_ble_eq_true rfl) 13) (Nat.le_of_ble_eq_true rfl)) (Nat.le_of_ble_eq_true rfl) (Nat.le_of_ble_eq_true rfl) dX0_laysWork_128 ?_
        exact J_131 (pif ((M 0 (10 + 5 * (tm % 10))) < ((xFr tx h t rest) - (xFi M (tm / 10) (xFr tx h t rest)))) (M 0 (10 + 5 * (tm % 10))) ((xFr tx h t rest) - (xFi M (tm / 10) (xFr tx h t rest))))  (by unfold xSe; first | exact (pif_t (by with_reducible assumption)).symm | exact (pif_f (by with_reducible assumption)).symm) _ _ hw ls (lv_sub hl [0, 1, 2, 3, 4, 5, 6, 7, 8, 9, 10, 11, 12] rfl)
      refine lv_iconst (v := nI 0) hx hb dX0_laysWork_107 (by decide) ?_
      refine lv_goto (tgt := 131) hx hb dX0_laysWork_108 (by decide) ?_
      exact J_131 (nI 0)  (by unfold xSe; first | exact (pif_t (by with_reducible assumption)).symm | exact (pif_f (by with_reducible assumption)).symm) _ _ hw ls (lv_sub hl [0, 1, 2, 3, 4, 5, 6, 7, 8, 9, 10, 11, 12] rfl)
  exact L_54 _ f (M 0 (40 + 3 * k)) (nI 0) (nI 0) (up2 Z (435 + 60 * wk + tm) f (-1)) (Nat.lt_succ_self _) (by first | assumption | omega | rfl) (by first | assumption | omega | rfl) rfl (fun _ _ => rfl) _ _ hw ls (lv_sub hl [7, 8, 9, 10, 6, 5, 4, 3, 2, 1, 0] rfl)
