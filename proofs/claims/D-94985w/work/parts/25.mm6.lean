def mTellPut (M : Nat → Nat → Int32) (nt : Nat) (x y z w : Int32) : Nat → Nat → Int32 := up2 (up2 (up2 (up2 (up2 M 0 (70 + 4 * nt) x) 0 (70 + 4 * nt + 1) y) 0 (70 + 4 * nt + 2) z) 0 (70 + 4 * nt + 3) w) 0 8 (nI (nt + 1))
def mTellOk (nb nt : Nat) (x y z w : Int32) : Prop := vp_in x nb ∧ (nI 0 ≤ y ∧ y ≤ nI 9) ∧ (nI 1 ≤ z ∧ z ≤ nI 9) ∧ vp_in w 1000 ∧ ¬ nt = 20
def mSeenOk (ne : Nat) (x : Int32) : Prop := (nI 0 ≤ x ∧ x ≤ nI 40) ∧ ¬ ne = 8
noncomputable def mAbout (M : Nat → Nat → Int32) (nk : Nat) (x : Int32) : Int32 := pif (nI 10 ≤ x ∧ x ≤ nI (9 + nk)) (M 0 (40 + 3 * (cl x - 10) + 2)) (pif (nI 20 ≤ x ∧ x ≤ nI (19 + nk)) (nI 100 * M 0 (40 + 3 * (cl x - 20)) + M 0 (40 + 3 * (cl x - 20) + 1)) (pif (nI 0 ≤ x ∧ x ≤ nI 8) (M 0 (cl x)) (pif (x = nI 9) (M 4 0) (-2))))
theorem mCpy_ne {M : Nat → Nat → Int32} {sr dt n k j : Nat} (h : k ≠ dt) : mCpy M sr dt n k j = M k j := by
  unfold mCpy
  exact if_neg (fun q => h q.1)
theorem mCpy_eq {M : Nat → Nat → Int32} {sr dt n j : Nat} (h : j < n) : mCpy M sr dt n dt j = M sr j := by
  unfold mCpy
  exact if_pos ⟨rfl, h⟩
def mCoughOk (nb : Nat) (x y z w : Int32) : Prop := (nI 0 ≤ x ∧ x ≤ nI 9999) ∧ (nI 1 ≤ y ∧ y ≤ nI 30) ∧ (nI 1 ≤ z ∧ z ≤ nI 10) ∧ vp_in w nb
noncomputable def mTold (M : Nat → Nat → Int32) (x nt : Nat) : Int32 := it (fun e t => t + pif (M 0 (70 + 4 * e) = M 0 x ∧ M 0 (70 + 4 * e + 1) = M 0 (x + 1) ∧ M 0 (70 + 4 * e + 3) = M 0 (x + 3)) (M 0 (70 + 4 * e + 2)) (nI 0)) (nt - 0) 0 (nI 0)
noncomputable def mBlown (M : Nat → Nat → Int32) (x nu : Nat) (t0 : Int32) : Int32 := it (fun e t => t - pif (M 0 (250 + 4 * e + 1) = M 0 x ∧ M 0 (250 + 4 * e) = M 0 (x + 1) ∧ M 0 (250 + 4 * e + 3) = M 0 (x + 3)) (M 0 (250 + 4 * e + 2)) (nI 0)) (nu - 0) 0 t0
noncomputable def mLiars (M : Nat → Nat → Int32) (nt nu : Nat) : Int32 := it (fun k g => g ||| pif (mBlown M (70 + 4 * k) nu (mTold M (70 + 4 * k) nt) ≤ 0) (nI 0) (nI 1 <<< (M 0 (70 + 4 * k) &&& 31))) (nt - 0) 0 (nI 0)
noncomputable def mMost (M : Nat → Nat → Int32) (ne : Nat) : Int32 := it (fun k g => pif (M 0 (60 + k) ≤ g) g (M 0 (60 + k))) (ne - 0) 0 (nI 0)
def mHas (x : Int32) (b : Nat) : Prop := (x >>> (nI b &&& 31)) &&& nI 1 = nI 1
noncomputable def mAll (M : Nat → Nat → Int32) (x : Int32) (nb : Nat) : Int32 := it (fun b g => g + pif (mHas x b) (M 0 (10 + 5 * b)) (nI 0)) (nb - 0) 0 (nI 0)
def mCanBe (M : Nat → Nat → Int32) (x : Int32) (nb ne : Nat) : Prop := ¬ mAll M x nb < mMost M ne ∧ ∀ b, b < nb → nI 1 < mBits x → mHas x b → mAll M x nb - M 0 (10 + 5 * b) < mMost M ne
set_option maxHeartbeats 4000000 in
set_option maxRecDepth 100000 in
theorem met_X2_piece (l : Launch) (G : gG) (ad : Nat → Nat) (M Z : Nat → Nat → Int32) (V : Nat → Nat → Int64) (x y : Int32) (np : Nat) (ep : M 0 2 = nI np) (hp : np ≤ 10) (nb : Nat) (en : M 0 0 = nI nb) (hn : nb ≤ 6) : Met l yX2_piece (ws_ yX2_piece cX2_piece 3 (some .int)) ({ frames := 2, cells := 0, slots := 0, locals := 43 } : Room) (cP G [.ref (ad 0), .int x, .int y] (mH G ad M Z V)) (cR (some (.int (pif (vp_in x np) (pif (vp_in y 4) (M 0 (150 + 10 * cl x + cl y)) (pif (vp_in (y - nI 10) nb) (M 0 (150 + 10 * cl x + 4 + cl (y - nI 10))) (-1))) (-1))))) 0 0 (fun _ => False) := by
  refine c_start (by decide) (Nat.le_of_ble_eq_true rfl) ?_
  intro p e s m below meth c hx hb hr hlocks hml hown hts hB hK ls hl
  have hw := MS.of hB
  have hl : lv_has ls 3 [(0, .ref (ad 0)), (1, .int x), (2, .int y)] := hl
  refine lv_aload_n hx hb dX2_piece_0 rfl (lv_at hl 0 rfl) ?_
  refine lv_iload_n hx hb dX2_piece_1 rfl (lv_at hl 1 rfl) ?_
  refine c_read (va_runV (As := [.int x]) (rest := []) ⟨hx, hb, hml, hown, hts⟩ (met_X2_isPiece l G ad M Z V x np ep (by omega)) (cv_X2_X2_isPiece hts ⟨Nat.le_of_ble_eq_true rfl, Nat.le_of_ble_eq_true rfl⟩) (cP.preV hK hw.1 (hw.1.recv hK)) rfl rfl hl.1 rfl (lv_room (Nat.le_of_ble_eq_true rfl)) dX2_piece_2 ⟨by first | exact Nat.zero_le _ | omega | decide, by first | exact Nat.zero_le _ | omega | decide⟩) ?_
  refine b_if_ne (tgt := 10) hx hb dX2_piece_5 (by decide) (fun c_1 => ?_) (fun c_1 => ?_)
  · obtain ⟨jx, h_jx, rfl⟩ := vp_in_of c_1 (by omega)
    have k_jx : (nI jx).toNatClampNeg = jx := nI_clamp (by omega)
    refine lv_iload_n hx hb dX2_piece_10 rfl (lv_at hl 2 rfl) ?_
    refine lv_iconst (v := nI 0) hx hb dX2_piece_11 (by decide) ?_
    refine lv_iconst (v := nI 3) hx hb dX2_piece_12 (by decide) ?_
    refine c_read (va_runS (As := [.int y, .int (nI 0), .int (nI 3)]) (rest := []) ⟨hx, hb, hml, hown, hts⟩ (met_X2_isIn l G y (nI 0) (nI 3)) (cs_X2_X2_isIn hts ⟨Nat.le_of_ble_eq_true rfl, Nat.le_of_ble_eq_true rfl⟩) (cP.pre hK trivial) rfl rfl hl.1 rfl (lv_room (Nat.le_of_ble_eq_true rfl)) dX2_piece_13 ⟨by first | exact Nat.zero_le _ | omega | decide, by first | exact Nat.zero_le _ | omega | decide⟩) ?_
    refine b_if_eq (tgt := 31) hx hb dX2_piece_16 (by decide) (fun c_2 => ?_) (fun c_2 => ?_)
    · refine lv_aload_n hx hb dX2_piece_31 rfl (lv_at hl 0 rfl) ?_
      refine lv_iload_n hx hb dX2_piece_32 rfl (lv_at hl 2 rfl) ?_
      refine lv_bipush (v := nI 10) hx hb dX2_piece_33 (by decide) ?_
      refine lv_isub hx hb dX2_piece_35 ?_
      refine c_read (va_runV (As := [.int (y - (nI 10))]) (rest := []) ⟨hx, hb, hml, hown, hts⟩ (met_X2_isBlower l G ad M Z V (y - (nI 10)) nb en (by omega)) (cv_X2_X2_isBlower hts ⟨Nat.le_of_ble_eq_true rfl, Nat.le_of_ble_eq_true rfl⟩) (cP.preV hK hw.1 (hw.1.recv hK)) rfl rfl hl.1 rfl (lv_room (Nat.le_of_ble_eq_true rfl)) dX2_piece_36 ⟨by first | exact Nat.zero_le _ | omega | decide, by first | exact Nat.zero_le _ | omega | decide⟩) ?_
      refine b_if_eq (tgt := 54) hx hb dX2_piece_39 (by decide) (fun c_3 => ?_) (fun c_3 => ?_)
      · refine lv_iconst (v := (-1)) hx hb dX2_piece_54 (by decide) ?_
        exact c_rret (v := (-1)) (by rw [pif_t (by assumption), pif_f (fun h9 => c_2 ((in_const (n := 3) (by decide)).mpr h9)), pif_f (by assumption)]) hx hb hr rfl hlocks dX2_piece_55 rfl rfl
      obtain ⟨jz, h_jz, ez⟩ := vp_in_of c_3 (by omega)
      have k_jz : (nI jz).toNatClampNeg = jz := nI_clamp (by omega)
      refine lv_aload_n hx hb dX2_piece_42 rfl (lv_at hl 0 rfl) ?_
      refine lv_iload_n hx hb dX2_piece_43 rfl (lv_at hl 1 rfl) ?_
      refine lv_iload_n hx hb dX2_piece_44 rfl (lv_at hl 2 rfl) ?_
      refine lv_bipush (v := nI 10) hx hb dX2_piece_45 (by decide) ?_
      refine lv_isub hx hb dX2_piece_47 ?_
      rw [ez]
      refine c_read (va_runV (As := [.int (nI jx), .int (nI jz)]) (rest := []) ⟨hx, hb, hml, hown, hts⟩ (met_X2_gave l G ad M Z V jx jz (M 0 (150 + 10 * jx + 4 + jz)) (by omega) rfl) (cv_X2_X2_gave hts ⟨Nat.le_of_ble_eq_true rfl, Nat.le_of_ble_eq_true rfl⟩) (cP.preV hK hw.1 (hw.1.recv hK)) rfl rfl hl.1 rfl (lv_room (Nat.le_of_ble_eq_true rfl)) dX2_piece_48 ⟨by first | exact Nat.zero_le _ | omega | decide, by first | exact Nat.zero_le _ | omega | decide⟩) ?_
      refine lv_goto (tgt := 55) hx hb dX2_piece_51 (by decide) ?_
      exact c_rret (v := M 0 (150 + 10 * jx + 4 + jz)) (by rw [pif_t (by assumption), pif_f (fun h9 => c_2 ((in_const (n := 3) (by decide)).mpr h9)), pif_t (by first | assumption | exact vp_in_nI h_jz (by omega))]; simp only [cl, k_jx, ez, k_jz]) hx hb hr rfl hlocks dX2_piece_55 rfl rfl
    obtain ⟨jy, h_jy, rfl⟩ := vp_in_of ((in_const (n := 3) (by decide)).mp c_2) (by omega)
    have k_jy : (nI jy).toNatClampNeg = jy := nI_clamp (by omega)
    refine lv_aload_n hx hb dX2_piece_19 rfl (lv_at hl 0 rfl) ?_
    refine m_g_a hx hb hts hown hK hw dX2_piece_20 ?_
    refine lv_iload_n hx hb dX2_piece_23 rfl (lv_at hl 1 rfl) ?_
    refine c_read (va_runS (As := [.int (nI jx)]) (rest := [.ref (ad 1)]) ⟨hx, hb, hml, hown, hts⟩ (met_X2_pieceAt l G jx) (cs_X2_X2_pieceAt hts ⟨Nat.le_of_ble_eq_true rfl, Nat.le_of_ble_eq_true rfl⟩) (cP.pre hK trivial) rfl rfl hl.1 rfl (lv_room (Nat.le_of_ble_eq_true rfl)) dX2_piece_24 ⟨by first | exact Nat.zero_le _ | omega | decide, by first | exact Nat.zero_le _ | omega | decide⟩) ?_
    refine lv_iload_n hx hb dX2_piece_27 rfl (lv_at hl 2 rfl) ?_
    refine n_iadd hx hb dX2_piece_28 ?_
    refine m_l_a (j := 150 + 10 * jx + jy) (v := M 0 (150 + 10 * jx + jy)) hx hb hK hw rfl (by omega) dX2_piece_29 ?_
    exact c_rret (v := M 0 (150 + 10 * jx + jy)) (by rw [pif_t (by assumption), pif_t (vp_in_nI h_jy (by decide))]; simp only [cl, k_jx, k_jy]) hx hb hr rfl hlocks dX2_piece_30 rfl rfl
  refine lv_iconst (v := (-1)) hx hb dX2_piece_8 (by decide) ?_
  exact c_rret (v := (-1)) (by rw [pif_f (by assumption)]) hx hb hr rfl hlocks dX2_piece_9 rfl rfl
set_option maxHeartbeats 4000000 in
set_option maxRecDepth 100000 in
theorem met_X2_bubble (l : Launch) (G : gG) (ad : Nat → Nat) (M Z : Nat → Nat → Int32) (V : Nat → Nat → Int64) (x y : Int32) (nu : Nat) (eu : M 0 9 = nI nu) (hu : nu ≤ 40) : Met l yX2_bubble (ws_ yX2_bubble cX2_bubble 3 (some .int)) ({ frames := 1, cells := 0, slots := 0, locals := 22 } : Room) (cP G [.ref (ad 0), .int x, .int y] (mH G ad M Z V)) (cR (some (.int (pif (x = (-1)) (nI nu) (pif (vp_in x nu ∧ vp_in y 4) (M 0 (250 + 4 * cl x + cl y)) (-1)))))) 0 0 (fun _ => False) := by
  refine c_start (by decide) (Nat.le_of_ble_eq_true rfl) ?_
  intro p e s m below meth c hx hb hr hlocks hml hown hts hB hK ls hl
  have hw := MS.of hB
  have hl : lv_has ls 3 [(0, .ref (ad 0)), (1, .int x), (2, .int y)] := hl
  refine lv_iload_n hx hb dX2_bubble_0 rfl (lv_at hl 1 rfl) ?_
  refine lv_iconst (v := (-1)) hx hb dX2_bubble_1 (by decide) ?_
  refine lv_icmp_ne (tgt := 13) hx hb dX2_bubble_2 (by decide) (fun c_1 => ?_) (fun c_1 => ?_)
  · refine lv_iload_n hx hb dX2_bubble_13 rfl (lv_at hl 1 rfl) ?_
    refine lv_iconst (v := nI 0) hx hb dX2_bubble_14 (by decide) ?_
    refine lv_aload_n hx hb dX2_bubble_15 rfl (lv_at hl 0 rfl) ?_
    refine m_g_a hx hb hts hown hK hw dX2_bubble_16 ?_
    refine lv_bipush (v := nI 9) hx hb dX2_bubble_19 (by decide) ?_
    refine m_l_a (j := 9) (v := nI nu) hx hb hK hw eu (by decide) dX2_bubble_21 ?_
    refine lv_iconst (v := nI 1) hx hb dX2_bubble_22 (by decide) ?_
    refine lv_isub hx hb dX2_bubble_23 ?_
    refine c_read (va_runS (As := [.int x, .int (nI 0), .int ((nI nu) - (nI 1))]) (rest := []) ⟨hx, hb, hml, hown, hts⟩ (met_X2_isIn l G x (nI 0) ((nI nu) - (nI 1))) (cs_X2_X2_isIn hts ⟨Nat.le_of_ble_eq_true rfl, Nat.le_of_ble_eq_true rfl⟩) (cP.pre hK trivial) rfl rfl hl.1 rfl (lv_room (Nat.le_of_ble_eq_true rfl)) dX2_bubble_24 ⟨by first | exact Nat.zero_le _ | omega | decide, by first | exact Nat.zero_le _ | omega | decide⟩) ?_
    refine b_if_eq (tgt := 56) hx hb dX2_bubble_27 (by decide) (fun c_2 => ?_) (fun c_2 => ?_)
    · refine lv_iconst (v := (-1)) hx hb dX2_bubble_56 (by decide) ?_
      exact c_rret (v := (-1)) (by first | rw [pif_t (by assumption)] | (rw [pif_f (by assumption), pif_t ⟨vp_in_nI h_jx (by omega), vp_in_nI h_jy (by decide)⟩]; simp only [cl, k_jx, k_jy]) | rw [pif_f (by assumption), pif_f (fun h9 => c_2 ((in_vp (by omega)).mpr h9.1))]) hx hb hr rfl hlocks dX2_bubble_57 rfl rfl
    obtain ⟨jx, h_jx, rfl⟩ := vp_in_of ((in_vp (by omega)).mp c_2) (by omega)
    have k_jx : (nI jx).toNatClampNeg = jx := nI_clamp (by omega)
    refine lv_iload_n hx hb dX2_bubble_30 rfl (lv_at hl 2 rfl) ?_
    refine lv_iconst (v := nI 0) hx hb dX2_bubble_31 (by decide) ?_
    refine lv_iconst (v := nI 3) hx hb dX2_bubble_32 (by decide) ?_
    refine c_read (va_runS (As := [.int y, .int (nI 0), .int (nI 3)]) (rest := []) ⟨hx, hb, hml, hown, hts⟩ (met_X2_isIn l G y (nI 0) (nI 3)) (cs_X2_X2_isIn hts ⟨Nat.le_of_ble_eq_true rfl, Nat.le_of_ble_eq_true rfl⟩) (cP.pre hK trivial) rfl rfl hl.1 rfl (lv_room (Nat.le_of_ble_eq_true rfl)) dX2_bubble_33 ⟨by first | exact Nat.zero_le _ | omega | decide, by first | exact Nat.zero_le _ | omega | decide⟩) ?_
    refine b_if_eq (tgt := 56) hx hb dX2_bubble_36 (by decide) (fun c_3 => ?_) (fun c_3 => ?_)
    · refine lv_iconst (v := (-1)) hx hb dX2_bubble_56 (by decide) ?_
      exact c_rret (v := (-1)) (by first | rw [pif_t (by assumption)] | (rw [pif_f (by assumption), pif_t ⟨vp_in_nI h_jx (by omega), vp_in_nI h_jy (by decide)⟩]; simp only [cl, k_jx, k_jy]) | rw [pif_f (by assumption), pif_f (fun h9 => c_3 ((in_const (n := 3) (by decide)).mpr h9.2))]) hx hb hr rfl hlocks dX2_bubble_57 rfl rfl
    obtain ⟨jy, h_jy, rfl⟩ := vp_in_of ((in_const (n := 3) (by decide)).mp c_3) (by omega)
    have k_jy : (nI jy).toNatClampNeg = jy := nI_clamp (by omega)
    refine lv_aload_n hx hb dX2_bubble_39 rfl (lv_at hl 0 rfl) ?_
    refine m_g_a hx hb hts hown hK hw dX2_bubble_40 ?_
    refine lv_sipush (v := nI 250) hx hb dX2_bubble_43 (by decide) ?_
    refine lv_iconst (v := nI 4) hx hb dX2_bubble_46 (by decide) ?_
    refine lv_iload_n hx hb dX2_bubble_47 rfl (lv_at hl 1 rfl) ?_
    refine n_imul hx hb dX2_bubble_48 ?_
    refine n_iadd hx hb dX2_bubble_49 ?_
    refine lv_iload_n hx hb dX2_bubble_50 rfl (lv_at hl 2 rfl) ?_
    refine n_iadd hx hb dX2_bubble_51 ?_
    refine m_l_a (j := 250 + 4 * jx + jy) (v := M 0 (250 + 4 * jx + jy)) hx hb hK hw rfl (by omega) dX2_bubble_52 ?_
    refine lv_goto (tgt := 57) hx hb dX2_bubble_53 (by decide) ?_
    exact c_rret (v := M 0 (250 + 4 * jx + jy)) (by first | rw [pif_t (by assumption)] | (rw [pif_f (by assumption), pif_t ⟨vp_in_nI h_jx (by omega), vp_in_nI h_jy (by decide)⟩]; simp only [cl, k_jx, k_jy]) | rw [pif_f (by assumption), pif_f (fun h9 => c_3 ((in_const (n := 3) (by decide)).mpr h9.2))]) hx hb hr rfl hlocks dX2_bubble_57 rfl rfl
  refine lv_aload_n hx hb dX2_bubble_5 rfl (lv_at hl 0 rfl) ?_
  refine m_g_a hx hb hts hown hK hw dX2_bubble_6 ?_
  refine lv_bipush (v := nI 9) hx hb dX2_bubble_9 (by decide) ?_
  refine m_l_a (j := 9) (v := nI nu) hx hb hK hw eu (by decide) dX2_bubble_11 ?_
  exact c_rret (v := nI nu) (by first | rw [pif_t (by assumption)] | (rw [pif_f (by assumption), pif_t ⟨vp_in_nI h_jx (by omega), vp_in_nI h_jy (by decide)⟩]; simp only [cl, k_jx, k_jy]) | rw [pif_f (by assumption), pif_f (fun h9 => c_1 ((in_vp (by omega)).mpr h9.1))]) hx hb hr rfl hlocks dX2_bubble_12 rfl rfl
set_option maxHeartbeats 4000000 in
set_option maxRecDepth 100000 in
theorem met_X2_seen (l : Launch) (G : gG) (ad : Nat → Nat) (M Z : Nat → Nat → Int32) (V : Nat → Nat → Int64) (x : Int32) (ne : Nat) (ee : M 0 7 = nI ne) (he : ne ≤ 8) : Met l yX2_seen (ws_ yX2_seen cX2_seen 2 (some .int)) ({ frames := 1, cells := 0, slots := 0, locals := 22 } : Room) (cP G [.ref (ad 0), .int x] (mH G ad M Z V)) (cQ (some (.int (pif (x = (-1)) (nI 0) (pif (mSeenOk ne x) (nI (ne + 1)) (-2))))) (mH G ad (pif (x = (-1)) (up2 M 0 7 (nI 0)) (pif (mSeenOk ne x) (up2 (up2 M 0 (60 + ne) x) 0 7 (nI (ne + 1))) M)) Z V) (mA ad)) 0 0 (mA ad) := by
  refine c_start (by decide) (Nat.le_of_ble_eq_true rfl) ?_
  intro p e s m below meth c hx hb hr hlocks hml hown hts hB hK ls hl
  have hw := MS.of hB
  have hl : lv_has ls 2 [(0, .ref (ad 0)), (1, .int x)] := hl
  refine lv_iload_n hx hb dX2_seen_0 rfl (lv_at hl 1 rfl) ?_
  refine lv_iconst (v := (-1)) hx hb dX2_seen_1 (by decide) ?_
  refine lv_icmp_ne (tgt := 15) hx hb dX2_seen_2 (by decide) (fun c_1 => ?_) (fun c_1 => ?_)
  · refine lv_iload_n hx hb dX2_seen_15 rfl (lv_at hl 1 rfl) ?_
    refine lv_iconst (v := nI 0) hx hb dX2_seen_16 (by decide) ?_
    refine lv_bipush (v := nI 40) hx hb dX2_seen_17 (by decide) ?_
    refine c_read (va_runS (As := [.int x, .int (nI 0), .int (nI 40)]) (rest := []) ⟨hx, hb, hml, hown, hts⟩ (met_X2_isIn l G x (nI 0) (nI 40)) (cs_X2_X2_isIn hts ⟨Nat.le_of_ble_eq_true rfl, Nat.le_of_ble_eq_true rfl⟩) (cP.pre hK trivial) rfl rfl hl.1 rfl (lv_room (Nat.le_of_ble_eq_true rfl)) dX2_seen_19 ⟨by first | exact Nat.zero_le _ | omega | decide, by first | exact Nat.zero_le _ | omega | decide⟩) ?_
    refine b_if_eq (tgt := 37) hx hb dX2_seen_22 (by decide) (fun c_2 => ?_) (fun c_2 => ?_)
    · refine lv_bipush (v := (-2)) hx hb dX2_seen_37 (by decide) ?_
      exact c_iret (v := (-2)) (by first | rw [pif_t (by assumption)] | rw [pif_f (by assumption), pif_t ⟨by assumption, by assumption⟩] | rw [pif_f (by assumption), pif_f (fun h9 => by first | exact absurd h9.1 (by assumption) | exact absurd (by assumption) h9.2)]) hx hb hr rfl hlocks (mH.to (by first | rw [pif_t (by assumption)] | rw [pif_f (by assumption), pif_t ⟨by assumption, by assumption⟩] | rw [pif_f (by assumption), pif_f (fun h9 => by first | exact absurd h9.1 (by assumption) | exact absurd (by assumption) h9.2)]) rfl rfl hw.1) hw.2 dX2_seen_39
    refine lv_aload_n hx hb dX2_seen_25 rfl (lv_at hl 0 rfl) ?_
    refine m_g_a hx hb hts hown hK hw dX2_seen_26 ?_
    refine lv_bipush (v := nI 7) hx hb dX2_seen_29 (by decide) ?_
    refine m_l_a (j := 7) (v := nI ne) hx hb hK hw ee (by decide) dX2_seen_31 ?_
    refine lv_bipush (v := nI 8) hx hb dX2_seen_32 (by decide) ?_
    refine n_icmp_ne (tgt := 40) hx hb dX2_seen_34 (by decide) (by omega) (by decide) (fun c_3 => ?_) (fun c_3 => ?_)
    · refine lv_aload_n hx hb dX2_seen_40 rfl (lv_at hl 0 rfl) ?_
      refine m_g_a hx hb hts hown hK hw dX2_seen_41 ?_
      refine lv_bipush (v := nI 60) hx hb dX2_seen_44 (by decide) ?_
      refine lv_aload_n hx hb dX2_seen_46 rfl (lv_at hl 0 rfl) ?_
      refine m_g_a hx hb hts hown hK hw dX2_seen_47 ?_
      refine lv_bipush (v := nI 7) hx hb dX2_seen_50 (by decide) ?_
      refine m_l_a (j := 7) (v := nI ne) hx hb hK hw ee (by decide) dX2_seen_52 ?_
      refine n_iadd hx hb dX2_seen_53 ?_
      refine lv_iload_n hx hb dX2_seen_54 rfl (lv_at hl 1 rfl) ?_
      refine m_s_a (j := 60 + ne) hx hb hK hw (by omega) dX2_seen_55 (fun H locs hw => ?_)
      refine lv_aload_n hx hb dX2_seen_56 rfl (lv_at hl 0 rfl) ?_
      refine m_g_a hx hb hts hown hK hw dX2_seen_57 ?_
      refine lv_bipush (v := nI 7) hx hb dX2_seen_60 (by decide) ?_
      refine lv_dup2_11 hx hb dX2_seen_62 rfl rfl ?_
      refine m_l_a (j := 7) (v := nI ne) hx hb hK hw ((up2_ne (Or.inr (by omega))).trans ee) (by decide) dX2_seen_63 ?_
      refine lv_iconst (v := nI 1) hx hb dX2_seen_64 (by decide) ?_
      refine n_iadd hx hb dX2_seen_65 ?_
      refine m_s_a (j := 7) hx hb hK hw (by decide) dX2_seen_66 (fun H locs hw => ?_)
      refine lv_aload_n hx hb dX2_seen_67 rfl (lv_at hl 0 rfl) ?_
      refine m_g_a hx hb hts hown hK hw dX2_seen_68 ?_
      refine lv_bipush (v := nI 7) hx hb dX2_seen_71 (by decide) ?_
      refine m_l_a (j := 7) (v := nI (ne + 1)) hx hb hK hw up2_at (by decide) dX2_seen_73 ?_
      exact c_iret (v := nI (ne + 1)) (by first | rw [pif_t (by assumption)] | rw [pif_f (by assumption), pif_t ⟨by assumption, by assumption⟩] | rw [pif_f (by assumption), pif_f (fun h9 => by first | exact absurd h9.1 (by assumption) | exact absurd (by assumption) h9.2)]) hx hb hr rfl hlocks (mH.to (by first | rw [pif_t (by assumption)] | rw [pif_f (by assumption), pif_t ⟨by assumption, by assumption⟩] | rw [pif_f (by assumption), pif_f (fun h9 => by first | exact absurd h9.1 (by assumption) | exact absurd (by assumption) h9.2)]) rfl rfl hw.1) hw.2 dX2_seen_74
    refine lv_bipush (v := (-2)) hx hb dX2_seen_37 (by decide) ?_
    exact c_iret (v := (-2)) (by first | rw [pif_t (by assumption)] | rw [pif_f (by assumption), pif_t ⟨by assumption, by assumption⟩] | rw [pif_f (by assumption), pif_f (fun h9 => by first | exact absurd h9.1 (by assumption) | exact absurd (by assumption) h9.2)]) hx hb hr rfl hlocks (mH.to (by first | rw [pif_t (by assumption)] | rw [pif_f (by assumption), pif_t ⟨by assumption, by assumption⟩] | rw [pif_f (by assumption), pif_f (fun h9 => by first | exact absurd h9.1 (by assumption) | exact absurd (by assumption) h9.2)]) rfl rfl hw.1) hw.2 dX2_seen_39
  refine lv_aload_n hx hb dX2_seen_5 rfl (lv_at hl 0 rfl) ?_
  refine m_g_a hx hb hts hown hK hw dX2_seen_6 ?_
  refine lv_bipush (v := nI 7) hx hb dX2_seen_9 (by decide) ?_
  refine lv_iconst (v := nI 0) hx hb dX2_seen_11 (by decide) ?_
  refine m_s_a (j := 7) hx hb hK hw (by decide) dX2_seen_12 (fun H locs hw => ?_)
  refine lv_iconst (v := nI 0) hx hb dX2_seen_13 (by decide) ?_
  exact c_iret (v := nI 0) (by first | rw [pif_t (by assumption)] | rw [pif_f (by assumption), pif_t ⟨by assumption, by assumption⟩] | rw [pif_f (by assumption), pif_f (fun h9 => by first | exact absurd h9.1 (by assumption) | exact absurd (by assumption) h9.2)]) hx hb hr rfl hlocks (mH.to (by first | rw [pif_t (by assumption)] | rw [pif_f (by assumption), pif_t ⟨by assumption, by assumption⟩] | rw [pif_f (by assumption), pif_f (fun h9 => by first | exact absurd h9.1 (by assumption) | exact absurd (by assumption) h9.2)]) rfl rfl hw.1) hw.2 dX2_seen_14
set_option maxHeartbeats 4000000 in
set_option maxRecDepth 100000 in
theorem met_X2_tell (l : Launch) (G : gG) (ad : Nat → Nat) (M Z : Nat → Nat → Int32) (V : Nat → Nat → Int64) (x y z v : Int32) (nb : Nat) (en : M 0 0 = nI nb) (hn : nb ≤ 6) (nt : Nat) (et : M 0 8 = nI nt) (ht : nt ≤ 20) : Met l yX2_tell (ws_ yX2_tell cX2_tell 6 (some .int)) ({ frames := 2, cells := 0, slots := 0, locals := 43 } : Room) (cP G [.ref (ad 0), .int x, .int y, .int z, .int v] (mH G ad M Z V)) (cQ (some (.int (pif (mTellOk nb nt x y z v) (nI (nt + 1)) (-1)))) (mH G ad (pif (mTellOk nb nt x y z v) (mTellPut M nt x y z v) M) Z V) (mA ad)) 0 0 (mA ad) := by
  refine c_start (by decide) (Nat.le_of_ble_eq_true rfl) ?_
  intro p e s m below meth c hx hb hr hlocks hml hown hts hB hK ls hl
  have hw := MS.of hB
  have hl : lv_has ls 6 [(0, .ref (ad 0)), (1, .int x), (2, .int y), (3, .int z), (4, .int v)] := hl
  refine lv_aload_n hx hb dX2_tell_0 rfl (lv_at hl 0 rfl) ?_
  refine lv_iload_n hx hb dX2_tell_1 rfl (lv_at hl 1 rfl) ?_
  refine c_read (va_runV (As := [.int x]) (rest := []) ⟨hx, hb, hml, hown, hts⟩ (met_X2_isBlower l G ad M Z V x nb en (by omega)) (cv_X2_X2_isBlower hts ⟨Nat.le_of_ble_eq_true rfl, Nat.le_of_ble_eq_true rfl⟩) (cP.preV hK hw.1 (hw.1.recv hK)) rfl rfl hl.1 rfl (lv_room (Nat.le_of_ble_eq_true rfl)) dX2_tell_2 ⟨by first | exact Nat.zero_le _ | omega | decide, by first | exact Nat.zero_le _ | omega | decide⟩) ?_
  refine b_if_eq (tgt := 48) hx hb dX2_tell_5 (by decide) (fun c_1 => ?_) (fun c_1 => ?_)
  · refine lv_iconst (v := (-1)) hx hb dX2_tell_48 (by decide) ?_
    exact c_iret (v := (-1)) (by first | (rw [pif_t ⟨by assumption, by assumption, by assumption, by assumption, by assumption⟩]; first | done | rfl) | rw [pif_f (fun h9 => by first | exact absurd h9.1 (by assumption) | exact absurd h9.2.1 (by assumption) | exact absurd h9.2.2.1 (by assumption) | exact absurd h9.2.2.2.1 (by assumption) | exact absurd (by assumption) h9.2.2.2.2)]) hx hb hr rfl hlocks (mH.to (by first | (rw [pif_t ⟨by assumption, by assumption, by assumption, by assumption, by assumption⟩]; first | done | rfl) | rw [pif_f (fun h9 => by first | exact absurd h9.1 (by assumption) | exact absurd h9.2.1 (by assumption) | exact absurd h9.2.2.1 (by assumption) | exact absurd h9.2.2.2.1 (by assumption) | exact absurd (by assumption) h9.2.2.2.2)]) rfl rfl hw.1) hw.2 dX2_tell_49
  obtain ⟨jx, h_jx, rfl⟩ := vp_in_of c_1 (by omega)
  have k_jx : (nI jx).toNatClampNeg = jx := nI_clamp (by omega)
  refine lv_iload_n hx hb dX2_tell_8 rfl (lv_at hl 2 rfl) ?_
  refine lv_iconst (v := nI 0) hx hb dX2_tell_9 (by decide) ?_
  refine lv_bipush (v := nI 9) hx hb dX2_tell_10 (by decide) ?_
  refine c_read (va_runS (As := [.int y, .int (nI 0), .int (nI 9)]) (rest := []) ⟨hx, hb, hml, hown, hts⟩ (met_X2_isIn l G y (nI 0) (nI 9)) (cs_X2_X2_isIn hts ⟨Nat.le_of_ble_eq_true rfl, Nat.le_of_ble_eq_true rfl⟩) (cP.pre hK trivial) rfl rfl hl.1 rfl (lv_room (Nat.le_of_ble_eq_true rfl)) dX2_tell_12 ⟨by first | exact Nat.zero_le _ | omega | decide, by first | exact Nat.zero_le _ | omega | decide⟩) ?_
  refine b_if_eq (tgt := 48) hx hb dX2_tell_15 (by decide) (fun c_2 => ?_) (fun c_2 => ?_)
  · refine lv_iconst (v := (-1)) hx hb dX2_tell_48 (by decide) ?_
    exact c_iret (v := (-1)) (by first | (rw [pif_t ⟨by assumption, by assumption, by assumption, by assumption, by assumption⟩]; first | done | rfl) | rw [pif_f (fun h9 => by first | exact absurd h9.1 (by assumption) | exact absurd h9.2.1 (by assumption) | exact absurd h9.2.2.1 (by assumption) | exact absurd h9.2.2.2.1 (by assumption) | exact absurd (by assumption) h9.2.2.2.2)]) hx hb hr rfl hlocks (mH.to (by first | (rw [pif_t ⟨by assumption, by assumption, by assumption, by assumption, by assumption⟩]; first | done | rfl) | rw [pif_f (fun h9 => by first | exact absurd h9.1 (by assumption) | exact absurd h9.2.1 (by assumption) | exact absurd h9.2.2.1 (by assumption) | exact absurd h9.2.2.2.1 (by assumption) | exact absurd (by assumption) h9.2.2.2.2)]) rfl rfl hw.1) hw.2 dX2_tell_49
  refine lv_iload_n hx hb dX2_tell_18 rfl (lv_at hl 3 rfl) ?_
  refine lv_iconst (v := nI 1) hx hb dX2_tell_19 (by decide) ?_
  refine lv_bipush (v := nI 9) hx hb dX2_tell_20 (by decide) ?_
  refine c_read (va_runS (As := [.int z, .int (nI 1), .int (nI 9)]) (rest := []) ⟨hx, hb, hml, hown, hts⟩ (met_X2_isIn l G z (nI 1) (nI 9)) (cs_X2_X2_isIn hts ⟨Nat.le_of_ble_eq_true rfl, Nat.le_of_ble_eq_true rfl⟩) (cP.pre hK trivial) rfl rfl hl.1 rfl (lv_room (Nat.le_of_ble_eq_true rfl)) dX2_tell_22 ⟨by first | exact Nat.zero_le _ | omega | decide, by first | exact Nat.zero_le _ | omega | decide⟩) ?_
  refine b_if_eq (tgt := 48) hx hb dX2_tell_25 (by decide) (fun c_3 => ?_) (fun c_3 => ?_)
  · refine lv_iconst (v := (-1)) hx hb dX2_tell_48 (by decide) ?_
    exact c_iret (v := (-1)) (by first | (rw [pif_t ⟨by assumption, by assumption, by assumption, by assumption, by assumption⟩]; first | done | rfl) | rw [pif_f (fun h9 => by first | exact absurd h9.1 (by assumption) | exact absurd h9.2.1 (by assumption) | exact absurd h9.2.2.1 (by assumption) | exact absurd h9.2.2.2.1 (by assumption) | exact absurd (by assumption) h9.2.2.2.2)]) hx hb hr rfl hlocks (mH.to (by first | (rw [pif_t ⟨by assumption, by assumption, by assumption, by assumption, by assumption⟩]; first | done | rfl) | rw [pif_f (fun h9 => by first | exact absurd h9.1 (by assumption) | exact absurd h9.2.1 (by assumption) | exact absurd h9.2.2.1 (by assumption) | exact absurd h9.2.2.2.1 (by assumption) | exact absurd (by assumption) h9.2.2.2.2)]) rfl rfl hw.1) hw.2 dX2_tell_49
  refine lv_iload hx hb dX2_tell_28 (lv_at hl 4 rfl) ?_
  refine c_read (va_runS (As := [.int v]) (rest := []) ⟨hx, hb, hml, hown, hts⟩ (met_X2_isHour l G v) (cs_X2_X2_isHour hts ⟨Nat.le_of_ble_eq_true rfl, Nat.le_of_ble_eq_true rfl⟩) (cP.pre hK trivial) rfl rfl hl.1 rfl (lv_room (Nat.le_of_ble_eq_true rfl)) dX2_tell_30 ⟨by first | exact Nat.zero_le _ | omega | decide, by first | exact Nat.zero_le _ | omega | decide⟩) ?_
  refine b_if_eq (tgt := 48) hx hb dX2_tell_33 (by decide) (fun c_4 => ?_) (fun c_4 => ?_)
  · refine lv_iconst (v := (-1)) hx hb dX2_tell_48 (by decide) ?_
    exact c_iret (v := (-1)) (by first | (rw [pif_t ⟨by assumption, by assumption, by assumption, by assumption, by assumption⟩]; first | done | rfl) | rw [pif_f (fun h9 => by first | exact absurd h9.1 (by assumption) | exact absurd h9.2.1 (by assumption) | exact absurd h9.2.2.1 (by assumption) | exact absurd h9.2.2.2.1 (by assumption) | exact absurd (by assumption) h9.2.2.2.2)]) hx hb hr rfl hlocks (mH.to (by first | (rw [pif_t ⟨by assumption, by assumption, by assumption, by assumption, by assumption⟩]; first | done | rfl) | rw [pif_f (fun h9 => by first | exact absurd h9.1 (by assumption) | exact absurd h9.2.1 (by assumption) | exact absurd h9.2.2.1 (by assumption) | exact absurd h9.2.2.2.1 (by assumption) | exact absurd (by assumption) h9.2.2.2.2)]) rfl rfl hw.1) hw.2 dX2_tell_49
  obtain ⟨jv, h_jv, rfl⟩ := vp_in_of c_4 (by omega)
  have k_jv : (nI jv).toNatClampNeg = jv := nI_clamp (by omega)
  refine lv_aload_n hx hb dX2_tell_36 rfl (lv_at hl 0 rfl) ?_
  refine m_g_a hx hb hts hown hK hw dX2_tell_37 ?_
  refine lv_bipush (v := nI 8) hx hb dX2_tell_40 (by decide) ?_
  refine m_l_a (j := 8) (v := nI nt) hx hb hK hw et (by decide) dX2_tell_42 ?_
  refine lv_bipush (v := nI 20) hx hb dX2_tell_43 (by decide) ?_
  refine n_icmp_ne (tgt := 50) hx hb dX2_tell_45 (by decide) (by omega) (by decide) (fun c_5 => ?_) (fun c_5 => ?_)
  · refine lv_bipush (v := nI 70) hx hb dX2_tell_50 (by decide) ?_
    refine lv_iconst (v := nI 4) hx hb dX2_tell_52 (by decide) ?_
    refine lv_aload_n hx hb dX2_tell_53 rfl (lv_at hl 0 rfl) ?_
    refine m_g_a hx hb hts hown hK hw dX2_tell_54 ?_
    refine lv_bipush (v := nI 8) hx hb dX2_tell_57 (by decide) ?_
    refine m_l_a (j := 8) (v := nI nt) hx hb hK hw et (by decide) dX2_tell_59 ?_
    refine n_imul hx hb dX2_tell_60 ?_
    refine n_iadd hx hb dX2_tell_61 ?_
    refine lv_istore (lv' := [(5, .int (nI (70 + 4 * nt))), (0, .ref (ad 0)), (1, .int (nI jx)), (2, .int y), (3, .int z), (4, .int (nI jv))]) hx hb dX2_tell_62 hl (by decide) rfl (fun ls hl => ?_)
    refine lv_aload_n hx hb dX2_tell_64 rfl (lv_at hl 1 rfl) ?_
    refine m_g_a hx hb hts hown hK hw dX2_tell_65 ?_
    refine lv_iload hx hb dX2_tell_68 (lv_at hl 0 rfl) ?_
    refine lv_iload_n hx hb dX2_tell_70 rfl (lv_at hl 2 rfl) ?_
    refine m_s_a (j := 70 + 4 * nt) hx hb hK hw (by omega) dX2_tell_71 (fun H locs hw => ?_)
    refine lv_aload_n hx hb dX2_tell_72 rfl (lv_at hl 1 rfl) ?_
    refine m_g_a hx hb hts hown hK hw dX2_tell_73 ?_
    refine lv_iload hx hb dX2_tell_76 (lv_at hl 0 rfl) ?_
    refine lv_iconst (v := nI 1) hx hb dX2_tell_78 (by decide) ?_
    refine n_iadd hx hb dX2_tell_79 ?_
    refine lv_iload_n hx hb dX2_tell_80 rfl (lv_at hl 3 rfl) ?_
    refine m_s_a (j := 70 + 4 * nt + 1) hx hb hK hw (by omega) dX2_tell_81 (fun H locs hw => ?_)
    refine lv_aload_n hx hb dX2_tell_82 rfl (lv_at hl 1 rfl) ?_
    refine m_g_a hx hb hts hown hK hw dX2_tell_83 ?_
    refine lv_iload hx hb dX2_tell_86 (lv_at hl 0 rfl) ?_
    refine lv_iconst (v := nI 2) hx hb dX2_tell_88 (by decide) ?_
    refine n_iadd hx hb dX2_tell_89 ?_
    refine lv_iload_n hx hb dX2_tell_90 rfl (lv_at hl 4 rfl) ?_
    refine m_s_a (j := 70 + 4 * nt + 2) hx hb hK hw (by omega) dX2_tell_91 (fun H locs hw => ?_)
    refine lv_aload_n hx hb dX2_tell_92 rfl (lv_at hl 1 rfl) ?_
    refine m_g_a hx hb hts hown hK hw dX2_tell_93 ?_
    refine lv_iload hx hb dX2_tell_96 (lv_at hl 0 rfl) ?_
    refine lv_iconst (v := nI 3) hx hb dX2_tell_98 (by decide) ?_
    refine n_iadd hx hb dX2_tell_99 ?_
    refine lv_iload hx hb dX2_tell_100 (lv_at hl 5 rfl) ?_
    refine m_s_a (j := 70 + 4 * nt + 3) hx hb hK hw (by omega) dX2_tell_102 (fun H locs hw => ?_)
    refine lv_aload_n hx hb dX2_tell_103 rfl (lv_at hl 1 rfl) ?_
    refine m_g_a hx hb hts hown hK hw dX2_tell_104 ?_
    refine lv_bipush (v := nI 8) hx hb dX2_tell_107 (by decide) ?_
    refine lv_dup2_11 hx hb dX2_tell_109 rfl rfl ?_
    refine m_l_a (j := 8) (v := nI nt) hx hb hK hw ((up2_ne (Or.inr (by omega))).trans ((up2_ne (Or.inr (by omega))).trans ((up2_ne (Or.inr (by omega))).trans ((up2_ne (Or.inr (by omega))).trans et)))) (by decide) dX2_tell_110 ?_
    refine lv_iconst (v := nI 1) hx hb dX2_tell_111 (by decide) ?_
    refine n_iadd hx hb dX2_tell_112 ?_
    refine m_s_a (j := 8) hx hb hK hw (by decide) dX2_tell_113 (fun H locs hw => ?_)
    refine lv_aload_n hx hb dX2_tell_114 rfl (lv_at hl 1 rfl) ?_
    refine m_g_a hx hb hts hown hK hw dX2_tell_115 ?_
    refine lv_bipush (v := nI 8) hx hb dX2_tell_118 (by decide) ?_
    refine m_l_a (j := 8) (v := nI (nt + 1)) hx hb hK hw up2_at (by decide) dX2_tell_120 ?_
    exact c_iret (v := nI (nt + 1)) (by first | (rw [pif_t ⟨by assumption, by assumption, by assumption, by assumption, by assumption⟩]; first | done | rfl) | rw [pif_f (fun h9 => by first | exact absurd h9.1 (by assumption) | exact absurd h9.2.1 (by assumption) | exact absurd h9.2.2.1 (by assumption) | exact absurd h9.2.2.2.1 (by assumption) | exact absurd (by assumption) h9.2.2.2.2)]) hx hb hr rfl hlocks (mH.to (by first | (rw [pif_t ⟨by assumption, by assumption, by assumption, by assumption, by assumption⟩]; first | done | rfl) | rw [pif_f (fun h9 => by first | exact absurd h9.1 (by assumption) | exact absurd h9.2.1 (by assumption) | exact absurd h9.2.2.1 (by assumption) | exact absurd h9.2.2.2.1 (by assumption) | exact absurd (by assumption) h9.2.2.2.2)]) rfl rfl hw.1) hw.2 dX2_tell_121
  refine lv_iconst (v := (-1)) hx hb dX2_tell_48 (by decide) ?_
  exact c_iret (v := (-1)) (by first | (rw [pif_t ⟨by assumption, by assumption, by assumption, by assumption, by assumption⟩]; first | done | rfl) | rw [pif_f (fun h9 => by first | exact absurd h9.1 (by assumption) | exact absurd h9.2.1 (by assumption) | exact absurd h9.2.2.1 (by assumption) | exact absurd h9.2.2.2.1 (by assumption) | exact absurd (by assumption) h9.2.2.2.2)]) hx hb hr rfl hlocks (mH.to (by first | (rw [pif_t ⟨by assumption, by assumption, by assumption, by assumption, by assumption⟩]; first | done | rfl) | rw [pif_f (fun h9 => by first | exact absurd h9.1 (by assumption) | exact absurd h9.2.1 (by assumption) | exact absurd h9.2.2.1 (by assumption) | exact absurd h9.2.2.2.1 (by assumption) | exact absurd (by assumption) h9.2.2.2.2)]) rfl rfl hw.1) hw.2 dX2_tell_49
set_option maxHeartbeats 4000000 in
set_option maxRecDepth 100000 in
theorem met_X2_image (l : Launch) (G : gG) (ad : Nat → Nat) (M Z : Nat → Nat → Int32) (V : Nat → Nat → Int64) : Met l yX2_image (ws_ yX2_image cX2_image 1 (some .int)) ({ frames := 1, cells := 0, slots := 0, locals := 22 } : Room) (cP G [.ref (ad 0)] (mH G ad M Z V)) (cQ (some (.int (M 0 3))) (mH G ad (mCpy M 0 1 3890) Z V) (mA ad)) 0 0 (mA ad) := by
  refine c_start (by decide) (Nat.le_of_ble_eq_true rfl) ?_
  intro p e s m below meth c hx hb hr hlocks hml hown hts hB hK ls hl
  have hw := MS.of hB
  have hl : lv_has ls 1 [(0, .ref (ad 0))] := hl
  refine lv_aload_n hx hb dX2_image_0 rfl (lv_at hl 0 rfl) ?_
  refine m_g_a hx hb hts hown hK hw dX2_image_1 ?_
  refine lv_aload_n hx hb dX2_image_4 rfl (lv_at hl 0 rfl) ?_
  refine m_g_image hx hb hts hown hK hw dX2_image_5 ?_
  refine c_call (va_runS (As := [.ref (ad 1), .ref (ad 2)]) (rest := []) ⟨hx, hb, hml, hown, hts⟩ (met_X2_copy_a l G ad M Z V) (cs_X2_X2_copy hts ⟨Nat.le_of_ble_eq_true rfl, Nat.le_of_ble_eq_true rfl⟩) (cP.pre hK hw.1) rfl rfl hl.1 rfl (lv_room (Nat.le_of_ble_eq_true rfl)) dX2_image_8 ⟨by first | exact Nat.zero_le _ | omega | decide, by first | exact Nat.zero_le _ | omega | decide⟩) hw.2 (fun q _ h => h) (fun q h => h) (fun H locs hw _ _ hS => ?_)
  replace hw := MS.mk hw hS
  refine lv_aload_n hx hb dX2_image_11 rfl (lv_at hl 0 rfl) ?_
  refine m_g_a hx hb hts hown hK hw dX2_image_12 ?_
  refine lv_iconst (v := nI 3) hx hb dX2_image_15 (by decide) ?_
  refine m_l_a (j := 3) (v := M 0 3) hx hb hK hw ((mCpy_ne (by decide)).trans rfl) (by decide) dX2_image_16 ?_
  exact c_iret (v := M 0 3) (by first | rfl | simp [pif_true, pif_false]) hx hb hr rfl hlocks (mH.to (by first | rfl | simp [pif_true, pif_false]) rfl rfl hw.1) hw.2 dX2_image_17
set_option maxHeartbeats 4000000 in
set_option maxRecDepth 100000 in
theorem met_X2_back (l : Launch) (G : gG) (ad : Nat → Nat) (M Z : Nat → Nat → Int32) (V : Nat → Nat → Int64) : Met l yX2_back (ws_ yX2_back cX2_back 1 (some .int)) ({ frames := 1, cells := 0, slots := 0, locals := 22 } : Room) (cP G [.ref (ad 0)] (mH G ad M Z V)) (cQ (some (.int (M 1 3))) (mH G ad (mCpy M 1 0 3890) Z V) (mA ad)) 0 0 (mA ad) := by
  refine c_start (by decide) (Nat.le_of_ble_eq_true rfl) ?_
  intro p e s m below meth c hx hb hr hlocks hml hown hts hB hK ls hl
  have hw := MS.of hB
  have hl : lv_has ls 1 [(0, .ref (ad 0))] := hl
  refine lv_aload_n hx hb dX2_back_0 rfl (lv_at hl 0 rfl) ?_
  refine m_g_image hx hb hts hown hK hw dX2_back_1 ?_
  refine lv_aload_n hx hb dX2_back_4 rfl (lv_at hl 0 rfl) ?_
  refine m_g_a hx hb hts hown hK hw dX2_back_5 ?_
  refine c_call (va_runS (As := [.ref (ad 2), .ref (ad 1)]) (rest := []) ⟨hx, hb, hml, hown, hts⟩ (met_X2_copy_image l G ad M Z V) (cs_X2_X2_copy hts ⟨Nat.le_of_ble_eq_true rfl, Nat.le_of_ble_eq_true rfl⟩) (cP.pre hK hw.1) rfl rfl hl.1 rfl (lv_room (Nat.le_of_ble_eq_true rfl)) dX2_back_8 ⟨by first | exact Nat.zero_le _ | omega | decide, by first | exact Nat.zero_le _ | omega | decide⟩) hw.2 (fun q _ h => h) (fun q h => h) (fun H locs hw _ _ hS => ?_)
  replace hw := MS.mk hw hS
  refine lv_aload_n hx hb dX2_back_11 rfl (lv_at hl 0 rfl) ?_
  refine m_g_a hx hb hts hown hK hw dX2_back_12 ?_
  refine lv_iconst (v := nI 3) hx hb dX2_back_15 (by decide) ?_
  refine m_l_a (j := 3) (v := M 1 3) hx hb hK hw (mCpy_eq (by decide)) (by decide) dX2_back_16 ?_
  exact c_iret (v := M 1 3) (by first | rfl | simp [pif_true, pif_false]) hx hb hr rfl hlocks (mH.to (by first | rfl | simp [pif_true, pif_false]) rfl rfl hw.1) hw.2 dX2_back_17
set_option maxHeartbeats 4000000 in
set_option maxRecDepth 100000 in
theorem met_X2_about (l : Launch) (G : gG) (ad : Nat → Nat) (M Z : Nat → Nat → Int32) (V : Nat → Nat → Int64) (x : Int32) (nk : Nat) (ek : M 0 1 = nI nk) (hk : nk ≤ 6) : Met l yX2_about (ws_ yX2_about cX2_about 2 (some .int)) ({ frames := 1, cells := 0, slots := 0, locals := 22 } : Room) (cP G [.ref (ad 0), .int x] (mH G ad M Z V)) (cR (some (.int (mAbout M nk x)))) 0 0 (fun _ => False) := by
  refine c_start (by decide) (Nat.le_of_ble_eq_true rfl) ?_
  intro p e s m below meth c hx hb hr hlocks hml hown hts hB hK ls hl
  have hw := MS.of hB
  have hl : lv_has ls 2 [(0, .ref (ad 0)), (1, .int x)] := hl
  refine lv_iload_n hx hb dX2_about_0 rfl (lv_at hl 1 rfl) ?_
  refine lv_bipush (v := nI 10) hx hb dX2_about_1 (by decide) ?_
  refine lv_bipush (v := nI 9) hx hb dX2_about_3 (by decide) ?_
  refine lv_aload_n hx hb dX2_about_5 rfl (lv_at hl 0 rfl) ?_
  refine m_g_a hx hb hts hown hK hw dX2_about_6 ?_
  refine lv_iconst (v := nI 1) hx hb dX2_about_9 (by decide) ?_
  refine m_l_a (j := 1) (v := nI nk) hx hb hK hw ek (by decide) dX2_about_10 ?_
  refine n_iadd hx hb dX2_about_11 ?_
  refine c_read (va_runS (As := [.int x, .int (nI 10), .int (nI (9 + nk))]) (rest := []) ⟨hx, hb, hml, hown, hts⟩ (met_X2_isIn l G x (nI 10) (nI (9 + nk))) (cs_X2_X2_isIn hts ⟨Nat.le_of_ble_eq_true rfl, Nat.le_of_ble_eq_true rfl⟩) (cP.pre hK trivial) rfl rfl hl.1 rfl (lv_room (Nat.le_of_ble_eq_true rfl)) dX2_about_12 ⟨by first | exact Nat.zero_le _ | omega | decide, by first | exact Nat.zero_le _ | omega | decide⟩) ?_
  refine b_if_eq (tgt := 35) hx hb dX2_about_15 (by decide) (fun c_1 => ?_) (fun c_1 => ?_)
  · refine lv_iload_n hx hb dX2_about_35 rfl (lv_at hl 1 rfl) ?_
    refine lv_bipush (v := nI 20) hx hb dX2_about_36 (by decide) ?_
    refine lv_bipush (v := nI 19) hx hb dX2_about_38 (by decide) ?_
    refine lv_aload_n hx hb dX2_about_40 rfl (lv_at hl 0 rfl) ?_
    refine m_g_a hx hb hts hown hK hw dX2_about_41 ?_
    refine lv_iconst (v := nI 1) hx hb dX2_about_44 (by decide) ?_
    refine m_l_a (j := 1) (v := nI nk) hx hb hK hw ek (by decide) dX2_about_45 ?_
    refine n_iadd hx hb dX2_about_46 ?_
    refine c_read (va_runS (As := [.int x, .int (nI 20), .int (nI (19 + nk))]) (rest := []) ⟨hx, hb, hml, hown, hts⟩ (met_X2_isIn l G x (nI 20) (nI (19 + nk))) (cs_X2_X2_isIn hts ⟨Nat.le_of_ble_eq_true rfl, Nat.le_of_ble_eq_true rfl⟩) (cP.pre hK trivial) rfl rfl hl.1 rfl (lv_room (Nat.le_of_ble_eq_true rfl)) dX2_about_47 ⟨by first | exact Nat.zero_le _ | omega | decide, by first | exact Nat.zero_le _ | omega | decide⟩) ?_
    refine b_if_eq (tgt := 88) hx hb dX2_about_50 (by decide) (fun c_2 => ?_) (fun c_2 => ?_)
    · refine lv_iload_n hx hb dX2_about_88 rfl (lv_at hl 1 rfl) ?_
      refine lv_iconst (v := nI 0) hx hb dX2_about_89 (by decide) ?_
      refine lv_bipush (v := nI 8) hx hb dX2_about_90 (by decide) ?_
      refine c_read (va_runS (As := [.int x, .int (nI 0), .int (nI 8)]) (rest := []) ⟨hx, hb, hml, hown, hts⟩ (met_X2_isIn l G x (nI 0) (nI 8)) (cs_X2_X2_isIn hts ⟨Nat.le_of_ble_eq_true rfl, Nat.le_of_ble_eq_true rfl⟩) (cP.pre hK trivial) rfl rfl hl.1 rfl (lv_room (Nat.le_of_ble_eq_true rfl)) dX2_about_92 ⟨by first | exact Nat.zero_le _ | omega | decide, by first | exact Nat.zero_le _ | omega | decide⟩) ?_
      refine b_if_eq (tgt := 107) hx hb dX2_about_95 (by decide) (fun c_3 => ?_) (fun c_3 => ?_)
      · refine lv_iload_n hx hb dX2_about_107 rfl (lv_at hl 1 rfl) ?_
        refine lv_bipush (v := nI 9) hx hb dX2_about_108 (by decide) ?_
        refine lv_icmp_ne (tgt := 120) hx hb dX2_about_110 (by decide) (fun c_4 => ?_) (fun c_4 => ?_)
        · refine lv_bipush (v := (-2)) hx hb dX2_about_120 (by decide) ?_
          exact c_rret (v := (-2)) (by unfold mAbout; rw [pif_f (by assumption), pif_f (by assumption), pif_f (by assumption)]; first | rw [pif_t (by assumption)] | rw [pif_f (by assumption)]) hx hb hr rfl hlocks dX2_about_122 rfl rfl
        refine lv_aload_n hx hb dX2_about_113 rfl (lv_at hl 0 rfl) ?_
        refine m_g_taped hx hb hts hown hK hw dX2_about_114 ?_
        refine lv_goto (tgt := 122) hx hb dX2_about_117 (by decide) ?_
        exact c_rret (v := M 4 0) (by unfold mAbout; rw [pif_f (by assumption), pif_f (by assumption), pif_f (by assumption)]; first | rw [pif_t (by assumption)] | rw [pif_f (by assumption)]) hx hb hr rfl hlocks dX2_about_122 rfl rfl
      obtain ⟨j3, h_j3, rfl⟩ := in_rng (by omega) (by omega) c_3
      have k_j3 : (nI j3).toNatClampNeg = j3 := nI_clamp (by omega)
      refine lv_aload_n hx hb dX2_about_98 rfl (lv_at hl 0 rfl) ?_
      refine m_g_a hx hb hts hown hK hw dX2_about_99 ?_
      refine lv_iload_n hx hb dX2_about_102 rfl (lv_at hl 1 rfl) ?_
      refine m_l_a (j := j3) (v := M 0 j3) hx hb hK hw rfl (by omega) dX2_about_103 ?_
      refine lv_goto (tgt := 122) hx hb dX2_about_104 (by decide) ?_
      exact c_rret (v := M 0 j3) (by unfold mAbout; rw [pif_f (by assumption), pif_f (by assumption), pif_t (by first | assumption | exact rng_in (by omega) h_j3)]; simp only [cl, k_j3]) hx hb hr rfl hlocks dX2_about_122 rfl rfl
    obtain ⟨j2, h_j2, rfl⟩ := in_rng (by omega) (by omega) c_2
    have k_j2 : (nI j2).toNatClampNeg = j2 := nI_clamp (by omega)
    refine lv_bipush (v := nI 100) hx hb dX2_about_53 (by decide) ?_
    refine lv_aload_n hx hb dX2_about_55 rfl (lv_at hl 0 rfl) ?_
    refine m_g_a hx hb hts hown hK hw dX2_about_56 ?_
    refine lv_bipush (v := nI 40) hx hb dX2_about_59 (by decide) ?_
    refine lv_iconst (v := nI 3) hx hb dX2_about_61 (by decide) ?_
    refine lv_iload_n hx hb dX2_about_62 rfl (lv_at hl 1 rfl) ?_
    refine lv_bipush (v := nI 20) hx hb dX2_about_63 (by decide) ?_
    refine n_isub hx hb (by omega) dX2_about_65 ?_
    refine n_imul hx hb dX2_about_66 ?_
    refine n_iadd hx hb dX2_about_67 ?_
    refine m_l_a (j := 40 + (3 * (j2 - 20))) (v := M 0 (40 + (3 * (j2 - 20)))) hx hb hK hw rfl (by omega) dX2_about_68 ?_
    refine lv_imul hx hb dX2_about_69 ?_
    refine lv_aload_n hx hb dX2_about_70 rfl (lv_at hl 0 rfl) ?_
    refine m_g_a hx hb hts hown hK hw dX2_about_71 ?_
    refine lv_bipush (v := nI 40) hx hb dX2_about_74 (by decide) ?_
    refine lv_iconst (v := nI 3) hx hb dX2_about_76 (by decide) ?_
    refine lv_iload_n hx hb dX2_about_77 rfl (lv_at hl 1 rfl) ?_
    refine lv_bipush (v := nI 20) hx hb dX2_about_78 (by decide) ?_
    refine n_isub hx hb (by omega) dX2_about_80 ?_
    refine n_imul hx hb dX2_about_81 ?_
    refine n_iadd hx hb dX2_about_82 ?_
    refine lv_iconst (v := nI 1) hx hb dX2_about_83 (by decide) ?_
    refine n_iadd hx hb dX2_about_84 ?_
    refine m_l_a (j := 40 + (3 * (j2 - 20)) + 1) (v := M 0 (40 + (3 * (j2 - 20)) + 1)) hx hb hK hw rfl (by omega) dX2_about_85 ?_
    refine lv_iadd hx hb dX2_about_86 ?_
    exact c_rret (v := ((nI 100) * (M 0 (40 + (3 * (j2 - 20))))) + (M 0 (40 + (3 * (j2 - 20)) + 1))) (by unfold mAbout; rw [pif_f (by assumption), pif_t (by first | assumption | exact rng_in (by omega) h_j2)]; simp only [cl, k_j2]) hx hb hr rfl hlocks dX2_about_87 rfl rfl
  obtain ⟨j1, h_j1, rfl⟩ := in_rng (by omega) (by omega) c_1
  have k_j1 : (nI j1).toNatClampNeg = j1 := nI_clamp (by omega)
  refine lv_aload_n hx hb dX2_about_18 rfl (lv_at hl 0 rfl) ?_
  refine m_g_a hx hb hts hown hK hw dX2_about_19 ?_
  refine lv_bipush (v := nI 40) hx hb dX2_about_22 (by decide) ?_
  refine lv_iconst (v := nI 3) hx hb dX2_about_24 (by decide) ?_
  refine lv_iload_n hx hb dX2_about_25 rfl (lv_at hl 1 rfl) ?_
  refine lv_bipush (v := nI 10) hx hb dX2_about_26 (by decide) ?_
  refine n_isub hx hb (by omega) dX2_about_28 ?_
  refine n_imul hx hb dX2_about_29 ?_
  refine n_iadd hx hb dX2_about_30 ?_
  refine lv_iconst (v := nI 2) hx hb dX2_about_31 (by decide) ?_
  refine n_iadd hx hb dX2_about_32 ?_
  refine m_l_a (j := 40 + (3 * (j1 - 10)) + 2) (v := M 0 (40 + (3 * (j1 - 10)) + 2)) hx hb hK hw rfl (by omega) dX2_about_33 ?_
  exact c_rret (v := M 0 (40 + (3 * (j1 - 10)) + 2)) (by unfold mAbout; rw [pif_t (by first | assumption | exact rng_in (by omega) h_j1)]; simp only [cl, k_j1]) hx hb hr rfl hlocks dX2_about_34 rfl rfl
set_option maxHeartbeats 4000000 in
set_option maxRecDepth 100000 in
theorem met_X2_isTeam (l : Launch) (G : gG) (ad : Nat → Nat) (M Z : Nat → Nat → Int32) (V : Nat → Nat → Int64) (t : Nat) (ht : t < 100) (nb : Nat) (en : M 0 0 = nI nb) (hn : nb ≤ 6) : Met l yX2_isTeam (ws_ yX2_isTeam cX2_isTeam 2 (some .boolean)) ({ frames := 0, cells := 0, slots := 0, locals := 0 } : Room) (cP G [.ref (ad 0), .int (nI t)] (mH G ad M Z V)) (cR (some (.int (bI (t / 10 ≤ t % 10 ∧ t % 10 < nb))))) 0 0 (fun _ => False) := by
  refine c_start (by decide) (Nat.le_of_ble_eq_true rfl) ?_
  intro p e s m below meth c hx hb hr hlocks hml hown hts hB hK ls hl
  have hw := MS.of hB
  have hl : lv_has ls 2 [(0, .ref (ad 0)), (1, .int (nI t))] := hl
  refine lv_iload_n hx hb dX2_isTeam_0 rfl (lv_at hl 1 rfl) ?_
  refine lv_bipush (v := nI 10) hx hb dX2_isTeam_1 (by decide) ?_
  refine n_idiv hx hb (by omega) (by decide) (by decide) dX2_isTeam_3 ?_
  refine lv_iload_n hx hb dX2_isTeam_4 rfl (lv_at hl 1 rfl) ?_
  refine lv_bipush (v := nI 10) hx hb dX2_isTeam_5 (by decide) ?_
  refine n_irem hx hb (by omega) (by decide) (by decide) dX2_isTeam_7 ?_
  refine n_icmp_gt (tgt := 28) hx hb dX2_isTeam_8 (by decide) (by omega) (by omega) (fun c_1 => ?_) (fun c_1 => ?_)
  · refine lv_iconst (v := nI 0) hx hb dX2_isTeam_28 (by decide) ?_
    exact c_rret (v := nI 0) ((bI_f (by simp [c_1, Nat.not_le.mpr c_1])).symm) hx hb hr rfl hlocks dX2_isTeam_29 rfl rfl
  refine lv_iload_n hx hb dX2_isTeam_11 rfl (lv_at hl 1 rfl) ?_
  refine lv_bipush (v := nI 10) hx hb dX2_isTeam_12 (by decide) ?_
  refine n_irem hx hb (by omega) (by decide) (by decide) dX2_isTeam_14 ?_
  refine lv_aload_n hx hb dX2_isTeam_15 rfl (lv_at hl 0 rfl) ?_
  refine m_g_a hx hb hts hown hK hw dX2_isTeam_16 ?_
  refine lv_iconst (v := nI 0) hx hb dX2_isTeam_19 (by decide) ?_
  refine m_l_a (j := 0) (v := nI nb) hx hb hK hw en (by decide) dX2_isTeam_20 ?_
  refine n_icmp_ge (tgt := 28) hx hb dX2_isTeam_21 (by decide) (by omega) (by omega) (fun c_2 => ?_) (fun c_2 => ?_)
  · refine lv_iconst (v := nI 0) hx hb dX2_isTeam_28 (by decide) ?_
    exact c_rret (v := nI 0) ((bI_f (by simp [c_1, Nat.not_lt.mpr c_1, c_2, Nat.not_lt.mpr c_2])).symm) hx hb hr rfl hlocks dX2_isTeam_29 rfl rfl
  refine lv_iconst (v := nI 1) hx hb dX2_isTeam_24 (by decide) ?_
  refine lv_goto (tgt := 29) hx hb dX2_isTeam_25 (by decide) ?_
  exact c_rret (v := nI 1) ((bI_t (by simp [c_1, Nat.not_lt.mpr c_1, c_2, Nat.not_le.mpr c_2])).symm) hx hb hr rfl hlocks dX2_isTeam_29 rfl rfl
set_option maxHeartbeats 4000000 in
set_option maxRecDepth 100000 in
theorem met_X2_liars (l : Launch) (G : gG) (ad : Nat → Nat) (M Z : Nat → Nat → Int32) (V : Nat → Nat → Int64) (nt : Nat) (et : M 0 8 = nI nt) (ht : nt ≤ 20) (nu : Nat) (eu : M 0 9 = nI nu) (hu : nu ≤ 40) : Met l yX2_liars (ws_ yX2_liars cX2_liars 7 (some .int)) ({ frames := 0, cells := 0, slots := 0, locals := 0 } : Room) (cP G [.ref (ad 0)] (mH G ad M Z V)) (cR (some (.int (mLiars M nt nu)))) 0 0 (fun _ => False) := by
  refine c_start (by decide) (Nat.le_of_ble_eq_true rfl) ?_
  intro p e s m below meth c hx hb hr hlocks hml hown hts hB hK ls hl
  have hw := MS.of hB
  have hl : lv_has ls 7 [(0, .ref (ad 0))] := hl
  refine lv_iconst (v := nI 0) hx hb dX2_liars_0 (by decide) ?_
  refine lv_istore_n (lv' := [(1, .int (nI 0)), (0, .ref (ad 0))]) hx hb dX2_liars_1 rfl hl (by decide) rfl (fun ls hl => ?_)
  refine lv_iconst (v := nI 0) hx hb dX2_liars_2 (by decide) ?_
  refine lv_istore_n (lv' := [(2, .int (nI 0)), (1, .int (nI 0)), (0, .ref (ad 0))]) hx hb dX2_liars_3 rfl hl (by decide) rfl (fun ls hl => ?_)
  have L_4 : ∀ (fuel : Nat) (k : Nat) (g : Int32), nt - k < fuel → (k ≤ nt) → (it (fun k g => g ||| pif (mBlown M (70 + 4 * k) nu (mTold M (70 + 4 * k) nt) ≤ 0) (nI 0) (nI 1 <<< (M 0 (70 + 4 * k) &&& 31))) (nt - k) k g = mLiars M nt nu) → ∀ (ls : Array Slot), lv_has ls 7 [(0, .ref (ad 0)), (1, .int g), (2, .int (nI k))] → W p l e ({ frames := 0, cells := 0, slots := 0, locals := 0 } : Room) s m ([.ref (ad 0)] : List Value).toArray below meth c s.heap [] 0 0 (MQ below (cR (some (.int (mLiars M nt nu)))) ([.ref (ad 0)] : List Value).toArray s 0 0 (fun _ => False)) (F0 m 4 ls []) := by
    intro fuel
    induction fuel with
    | zero => intro k g hf; exact absurd hf (Nat.not_lt_zero _)
    | succ fuel ih =>
      intro k g hf hi_k hq_g ls hl
      have ih4 := ih
      refine lv_iload_n hx hb dX2_liars_4 rfl (lv_at hl 2 rfl) ?_
      refine lv_aload_n hx hb dX2_liars_5 rfl (lv_at hl 0 rfl) ?_
      refine m_g_a hx hb hts hown hK hw dX2_liars_6 ?_
      refine lv_bipush (v := nI 8) hx hb dX2_liars_9 (by decide) ?_
      refine m_l_a (j := 8) (v := nI nt) hx hb hK hw et (by decide) dX2_liars_11 ?_
      refine n_icmp_ge (tgt := 260) hx hb dX2_liars_12 (by decide) (by omega) (by omega) (fun c_1 => ?_) (fun c_1 => ?_)
      · refine lv_iload_n hx hb dX2_liars_260 rfl (lv_at hl 1 rfl) ?_
        exact c_rret (v := g) ((it_z (by omega)).symm.trans hq_g) hx hb hr rfl hlocks dX2_liars_261 rfl rfl
      refine lv_bipush (v := nI 70) hx hb dX2_liars_15 (by decide) ?_
      refine lv_iconst (v := nI 4) hx hb dX2_liars_17 (by decide) ?_
      refine lv_iload_n hx hb dX2_liars_18 rfl (lv_at hl 2 rfl) ?_
      refine n_imul hx hb dX2_liars_19 ?_
      refine n_iadd hx hb dX2_liars_20 ?_
      refine lv_istore_n (lv' := [(3, .int (nI (70 + 4 * k))), (0, .ref (ad 0)), (1, .int g), (2, .int (nI k))]) hx hb dX2_liars_21 rfl hl (by decide) rfl (fun ls hl => ?_)
      refine lv_iconst (v := nI 0) hx hb dX2_liars_22 (by decide) ?_
      refine lv_istore (lv' := [(4, .int (nI 0)), (3, .int (nI (70 + 4 * k))), (0, .ref (ad 0)), (1, .int g), (2, .int (nI k))]) hx hb dX2_liars_23 hl (by decide) rfl (fun ls hl => ?_)
      refine lv_iconst (v := nI 0) hx hb dX2_liars_25 (by decide) ?_
      refine lv_istore (lv' := [(5, .int (nI 0)), (4, .int (nI 0)), (3, .int (nI (70 + 4 * k))), (0, .ref (ad 0)), (1, .int g), (2, .int (nI k))]) hx hb dX2_liars_26 hl (by decide) rfl (fun ls hl => ?_)
      have L28_2 : ∀ (fuel : Nat) (e1 : Nat) (t1 : Int32), nt - e1 < fuel → (e1 ≤ nt) → (it (fun e t => t + pif (M 0 (70 + 4 * e) = M 0 (70 + 4 * k) ∧ M 0 (70 + 4 * e + 1) = M 0 (70 + 4 * k + 1) ∧ M 0 (70 + 4 * e + 3) = M 0 (70 + 4 * k + 3)) (M 0 (70 + 4 * e + 2)) (nI 0)) (nt - e1) e1 t1 = mTold M (70 + 4 * k) nt) → ∀ (ls : Array Slot), lv_has ls 7 [(0, .ref (ad 0)), (1, .int g), (2, .int (nI k)), (3, .int (nI (70 + 4 * k))), (4, .int t1), (5, .int (nI e1))] → W p l e ({ frames := 0, cells := 0, slots := 0, locals := 0 } : Room) s m ([.ref (ad 0)] : List Value).toArray below meth c s.heap [] 0 0 (MQ below (cR (some (.int (mLiars M nt nu)))) ([.ref (ad 0)] : List Value).toArray s 0 0 (fun _ => False)) (F0 m 28 ls []) := by
        intro fuel
        induction fuel with
        | zero => intro e1 t1 hf; exact absurd hf (Nat.not_lt_zero _)
        | succ fuel ih =>
          intro e1 t1 hf hi_e1 hq_t1 ls hl
          have ih28 := ih
          refine lv_iload hx hb dX2_liars_28 (lv_at hl 5 rfl) ?_
          refine lv_aload_n hx hb dX2_liars_30 rfl (lv_at hl 0 rfl) ?_
          refine m_g_a hx hb hts hown hK hw dX2_liars_31 ?_
          refine lv_bipush (v := nI 8) hx hb dX2_liars_34 (by decide) ?_
          refine m_l_a (j := 8) (v := nI nt) hx hb hK hw et (by decide) dX2_liars_36 ?_
          refine n_icmp_ge (tgt := 129) hx hb dX2_liars_37 (by decide) (by omega) (by omega) (fun c_3 => ?_) (fun c_3 => ?_)
          · obtain rfl : t1 = mTold M (70 + 4 * k) nt := (it_z (by omega)).symm.trans hq_t1
            refine lv_iconst (v := nI 0) hx hb dX2_liars_129 (by decide) ?_
            refine lv_istore (lv' := [(5, .int (nI 0)), (0, .ref (ad 0)), (1, .int g), (2, .int (nI k)), (3, .int (nI (70 + 4 * k))), (4, .int (mTold M (70 + 4 * k) nt))]) hx hb dX2_liars_130 hl (by decide) rfl (fun ls hl => ?_)
            have L132_4 : ∀ (fuel : Nat) (e2 : Nat) (t2 : Int32), nu - e2 < fuel → (e2 ≤ nu) → (it (fun e t => t - pif (M 0 (250 + 4 * e + 1) = M 0 (70 + 4 * k) ∧ M 0 (250 + 4 * e) = M 0 (70 + 4 * k + 1) ∧ M 0 (250 + 4 * e + 3) = M 0 (70 + 4 * k + 3)) (M 0 (250 + 4 * e + 2)) (nI 0)) (nu - e2) e2 t2 = mBlown M (70 + 4 * k) nu (mTold M (70 + 4 * k) nt)) → ∀ (ls : Array Slot), lv_has ls 7 [(0, .ref (ad 0)), (1, .int g), (2, .int (nI k)), (3, .int (nI (70 + 4 * k))), (4, .int t2), (5, .int (nI e2))] → W p l e ({ frames := 0, cells := 0, slots := 0, locals := 0 } : Room) s m ([.ref (ad 0)] : List Value).toArray below meth c s.heap [] 0 0 (MQ below (cR (some (.int (mLiars M nt nu)))) ([.ref (ad 0)] : List Value).toArray s 0 0 (fun _ => False)) (F0 m 132 ls []) := by
              intro fuel
              induction fuel with
              | zero => intro e2 t2 hf; exact absurd hf (Nat.not_lt_zero _)
              | succ fuel ih =>
                intro e2 t2 hf hi_e2 hq_t2 ls hl
                have ih132 := ih
                refine lv_iload hx hb dX2_liars_132 (lv_at hl 5 rfl) ?_
                refine lv_aload_n hx hb dX2_liars_134 rfl (lv_at hl 0 rfl) ?_
                refine m_g_a hx hb hts hown hK hw dX2_liars_135 ?_
                refine lv_bipush (v := nI 9) hx hb dX2_liars_138 (by decide) ?_
                refine m_l_a (j := 9) (v := nI nu) hx hb hK hw eu (by decide) dX2_liars_140 ?_
                refine n_icmp_ge (tgt := 234) hx hb dX2_liars_141 (by decide) (by omega) (by omega) (fun c_5 => ?_) (fun c_5 => ?_)
                · obtain rfl : t2 = mBlown M (70 + 4 * k) nu (mTold M (70 + 4 * k) nt) := (it_z (by omega)).symm.trans hq_t2
                  refine lv_iload_n hx hb dX2_liars_234 rfl (lv_at hl 1 rfl) ?_
                  refine lv_iload hx hb dX2_liars_235 (lv_at hl 4 rfl) ?_
                  refine lv_if_le (tgt := 251) hx hb dX2_liars_237 (by decide) (fun c_6 => ?_) (fun c_6 => ?_)
                  · refine lv_iconst (v := nI 0) hx hb dX2_liars_251 (by decide) ?_
                    refine lv_ior hx hb dX2_liars_252 ?_
                    refine lv_istore_n (lv' := [(1, .int (g ||| (nI 0))), (0, .ref (ad 0)), (2, .int (nI k)), (3, .int (nI (70 + 4 * k))), (4, .int (mBlown M (70 + 4 * k) nu (mTold M (70 + 4 * k) nt))), (5, .int (nI e2))]) hx hb dX2_liars_253 rfl hl (by decide) rfl (fun ls hl => ?_)
                    refine lv_iinc (v := nI (k + 1)) (lv' := [(2, .int (nI (k + 1))), (1, .int (g ||| (nI 0))), (0, .ref (ad 0)), (3, .int (nI (70 + 4 * k))), (4, .int (mBlown M (70 + 4 * k) nu (mTold M (70 + 4 * k) nt))), (5, .int (nI e2))]) hx hb dX2_liars_254 hl (k := 2) rfl (n_inc k 1) (by decide) rfl (fun ls hl => ?_)
                    refine lv_goto (tgt := 4) hx hb dX2_liars_257 (by decide) ?_
                    exact ih4 (k + 1) (g ||| (nI 0)) (by omega) (by omega) (by refine Eq.trans ?_ ((it_s (by omega)).symm.trans hq_g); congr 1; show _ = _; first | rw [pif_t (Int32.not_lt.mp (by assumption))] | rw [pif_t (by assumption)] | rw [pif_f (by assumption)] | rw [pif_f (Int32.not_le.mpr (by assumption))]) ls (lv_sub hl [2, 1, 0] rfl)
                  refine lv_iconst (v := nI 1) hx hb dX2_liars_240 (by decide) ?_
                  refine lv_aload_n hx hb dX2_liars_241 rfl (lv_at hl 0 rfl) ?_
                  refine m_g_a hx hb hts hown hK hw dX2_liars_242 ?_
                  refine lv_iload_n hx hb dX2_liars_245 rfl (lv_at hl 3 rfl) ?_
                  refine m_l_a (j := 70 + 4 * k) (v := M 0 (70 + 4 * k)) hx hb hK hw rfl (by omega) dX2_liars_246 ?_
                  refine lv_ishl hx hb dX2_liars_247 ?_
                  refine lv_goto (tgt := 252) hx hb dX2_liars_248 (by decide) ?_
                  refine lv_ior hx hb dX2_liars_252 ?_
                  refine lv_istore_n (lv' := [(1, .int (g ||| ((nI 1) <<< ((M 0 (70 + 4 * k)) &&& 31)))), (0, .ref (ad 0)), (2, .int (nI k)), (3, .int (nI (70 + 4 * k))), (4, .int (mBlown M (70 + 4 * k) nu (mTold M (70 + 4 * k) nt))), (5, .int (nI e2))]) hx hb dX2_liars_253 rfl hl (by decide) rfl (fun ls hl => ?_)
                  refine lv_iinc (v := nI (k + 1)) (lv' := [(2, .int (nI (k + 1))), (1, .int (g ||| ((nI 1) <<< ((M 0 (70 + 4 * k)) &&& 31)))), (0, .ref (ad 0)), (3, .int (nI (70 + 4 * k))), (4, .int (mBlown M (70 + 4 * k) nu (mTold M (70 + 4 * k) nt))), (5, .int (nI e2))]) hx hb dX2_liars_254 hl (k := 2) rfl (n_inc k 1) (by decide) rfl (fun ls hl => ?_)
                  refine lv_goto (tgt := 4) hx hb dX2_liars_257 (by decide) ?_
                  exact ih4 (k + 1) (g ||| ((nI 1) <<< ((M 0 (70 + 4 * k)) &&& 31))) (by omega) (by omega) (by refine Eq.trans ?_ ((it_s (by omega)).symm.trans hq_g); congr 1; show _ = _; first | rw [pif_t (Int32.not_lt.mp (by assumption))] | rw [pif_t (by assumption)] | rw [pif_f (by assumption)] | rw [pif_f (Int32.not_le.mpr (by assumption))]) ls (lv_sub hl [2, 1, 0] rfl)
                refine lv_sipush (v := nI 250) hx hb dX2_liars_144 (by decide) ?_
                refine lv_iconst (v := nI 4) hx hb dX2_liars_147 (by decide) ?_
                refine lv_iload hx hb dX2_liars_148 (lv_at hl 5 rfl) ?_
                refine n_imul hx hb dX2_liars_150 ?_
                refine n_iadd hx hb dX2_liars_151 ?_
                refine lv_istore (lv' := [(6, .int (nI (250 + 4 * e2))), (0, .ref (ad 0)), (1, .int g), (2, .int (nI k)), (3, .int (nI (70 + 4 * k))), (4, .int t2), (5, .int (nI e2))]) hx hb dX2_liars_152 hl (by decide) rfl (fun ls hl => ?_)
                refine lv_iload hx hb dX2_liars_154 (lv_at hl 5 rfl) ?_
                refine lv_aload_n hx hb dX2_liars_156 rfl (lv_at hl 1 rfl) ?_
                refine m_g_a hx hb hts hown hK hw dX2_liars_157 ?_
                refine lv_iload hx hb dX2_liars_160 (lv_at hl 0 rfl) ?_
                refine lv_iconst (v := nI 1) hx hb dX2_liars_162 (by decide) ?_
                refine n_iadd hx hb dX2_liars_163 ?_
                refine m_l_a (j := 250 + 4 * e2 + 1) (v := M 0 (250 + 4 * e2 + 1)) hx hb hK hw rfl (by omega) dX2_liars_164 ?_
                refine lv_aload_n hx hb dX2_liars_165 rfl (lv_at hl 1 rfl) ?_
                refine m_g_a hx hb hts hown hK hw dX2_liars_166 ?_
                refine lv_iload_n hx hb dX2_liars_169 rfl (lv_at hl 4 rfl) ?_
                refine m_l_a (j := 70 + 4 * k) (v := M 0 (70 + 4 * k)) hx hb hK hw rfl (by omega) dX2_liars_170 ?_
                refine lv_icmp_ne (tgt := 224) hx hb dX2_liars_171 (by decide) (fun c_7 => ?_) (fun c_7 => ?_)
                · refine lv_iconst (v := nI 0) hx hb dX2_liars_224 (by decide) ?_
                  refine lv_isub hx hb dX2_liars_225 ?_
                  refine lv_istore (lv' := [(4, .int (t2 - (nI 0))), (6, .int (nI (250 + 4 * e2))), (0, .ref (ad 0)), (1, .int g), (2, .int (nI k)), (3, .int (nI (70 + 4 * k))), (5, .int (nI e2))]) hx hb dX2_liars_226 hl (by decide) rfl (fun ls hl => ?_)
                  refine lv_iinc (v := nI (e2 + 1)) (lv' := [(5, .int (nI (e2 + 1))), (4, .int (t2 - (nI 0))), (6, .int (nI (250 + 4 * e2))), (0, .ref (ad 0)), (1, .int g), (2, .int (nI k)), (3, .int (nI (70 + 4 * k)))]) hx hb dX2_liars_228 hl (k := 6) rfl (n_inc e2 1) (by decide) rfl (fun ls hl => ?_)
                  refine lv_goto (tgt := 132) hx hb dX2_liars_231 (by decide) ?_
                  exact ih132 (e2 + 1) (t2 - (nI 0)) (by omega) (by omega) (by refine Eq.trans ?_ ((it_s (by omega)).symm.trans hq_t2); congr 1; show _ = _; first | rw [pif_t (by first | exact ⟨by assumption, by assumption, by assumption⟩)] | rw [pif_f (fun h9 => by first | exact absurd h9.1 (by assumption) | exact absurd h9.2.1 (by assumption) | exact absurd h9.2.2 (by assumption))]) ls (lv_sub hl [3, 4, 5, 6, 1, 0] rfl)
                refine lv_aload_n hx hb dX2_liars_174 rfl (lv_at hl 1 rfl) ?_
                refine m_g_a hx hb hts hown hK hw dX2_liars_175 ?_
                refine lv_iload hx hb dX2_liars_178 (lv_at hl 0 rfl) ?_
                refine m_l_a (j := 250 + 4 * e2) (v := M 0 (250 + 4 * e2)) hx hb hK hw rfl (by omega) dX2_liars_180 ?_
                refine lv_aload_n hx hb dX2_liars_181 rfl (lv_at hl 1 rfl) ?_
                refine m_g_a hx hb hts hown hK hw dX2_liars_182 ?_
                refine lv_iload_n hx hb dX2_liars_185 rfl (lv_at hl 4 rfl) ?_
                refine lv_iconst (v := nI 1) hx hb dX2_liars_186 (by decide) ?_
                refine n_iadd hx hb dX2_liars_187 ?_
                refine m_l_a (j := 70 + 4 * k + 1) (v := M 0 (70 + 4 * k + 1)) hx hb hK hw rfl (by omega) dX2_liars_188 ?_
                refine lv_icmp_ne (tgt := 224) hx hb dX2_liars_189 (by decide) (fun c_8 => ?_) (fun c_8 => ?_)
                · refine lv_iconst (v := nI 0) hx hb dX2_liars_224 (by decide) ?_
                  refine lv_isub hx hb dX2_liars_225 ?_
                  refine lv_istore (lv' := [(4, .int (t2 - (nI 0))), (6, .int (nI (250 + 4 * e2))), (0, .ref (ad 0)), (1, .int g), (2, .int (nI k)), (3, .int (nI (70 + 4 * k))), (5, .int (nI e2))]) hx hb dX2_liars_226 hl (by decide) rfl (fun ls hl => ?_)
                  refine lv_iinc (v := nI (e2 + 1)) (lv' := [(5, .int (nI (e2 + 1))), (4, .int (t2 - (nI 0))), (6, .int (nI (250 + 4 * e2))), (0, .ref (ad 0)), (1, .int g), (2, .int (nI k)), (3, .int (nI (70 + 4 * k)))]) hx hb dX2_liars_228 hl (k := 6) rfl (n_inc e2 1) (by decide) rfl (fun ls hl => ?_)
                  refine lv_goto (tgt := 132) hx hb dX2_liars_231 (by decide) ?_
                  exact ih132 (e2 + 1) (t2 - (nI 0)) (by omega) (by omega) (by refine Eq.trans ?_ ((it_s (by omega)).symm.trans hq_t2); congr 1; show _ = _; first | rw [pif_t (by first | exact ⟨by assumption, by assumption, by assumption⟩)] | rw [pif_f (fun h9 => by first | exact absurd h9.1 (by assumption) | exact absurd h9.2.1 (by assumption) | exact absurd h9.2.2 (by assumption))]) ls (lv_sub hl [3, 4, 5, 6, 1, 0] rfl)
                refine lv_aload_n hx hb dX2_liars_192 rfl (lv_at hl 1 rfl) ?_
                refine m_g_a hx hb hts hown hK hw dX2_liars_193 ?_
                refine lv_iload hx hb dX2_liars_196 (lv_at hl 0 rfl) ?_
                refine lv_iconst (v := nI 3) hx hb dX2_liars_198 (by decide) ?_
                refine n_iadd hx hb dX2_liars_199 ?_
                refine m_l_a (j := 250 + 4 * e2 + 3) (v := M 0 (250 + 4 * e2 + 3)) hx hb hK hw rfl (by omega) dX2_liars_200 ?_
                refine lv_aload_n hx hb dX2_liars_201 rfl (lv_at hl 1 rfl) ?_
                refine m_g_a hx hb hts hown hK hw dX2_liars_202 ?_
                refine lv_iload_n hx hb dX2_liars_205 rfl (lv_at hl 4 rfl) ?_
                refine lv_iconst (v := nI 3) hx hb dX2_liars_206 (by decide) ?_
                refine n_iadd hx hb dX2_liars_207 ?_
                refine m_l_a (j := 70 + 4 * k + 3) (v := M 0 (70 + 4 * k + 3)) hx hb hK hw rfl (by omega) dX2_liars_208 ?_
                refine lv_icmp_ne (tgt := 224) hx hb dX2_liars_209 (by decide) (fun c_9 => ?_) (fun c_9 => ?_)
                · refine lv_iconst (v := nI 0) hx hb dX2_liars_224 (by decide) ?_
                  refine lv_isub hx hb dX2_liars_225 ?_
                  refine lv_istore (lv' := [(4, .int (t2 - (nI 0))), (6, .int (nI (250 + 4 * e2))), (0, .ref (ad 0)), (1, .int g), (2, .int (nI k)), (3, .int (nI (70 + 4 * k))), (5, .int (nI e2))]) hx hb dX2_liars_226 hl (by decide) rfl (fun ls hl => ?_)
                  refine lv_iinc (v := nI (e2 + 1)) (lv' := [(5, .int (nI (e2 + 1))), (4, .int (t2 - (nI 0))), (6, .int (nI (250 + 4 * e2))), (0, .ref (ad 0)), (1, .int g), (2, .int (nI k)), (3, .int (nI (70 + 4 * k)))]) hx hb dX2_liars_228 hl (k := 6) rfl (n_inc e2 1) (by decide) rfl (fun ls hl => ?_)
                  refine lv_goto (tgt := 132) hx hb dX2_liars_231 (by decide) ?_
                  exact ih132 (e2 + 1) (t2 - (nI 0)) (by omega) (by omega) (by refine Eq.trans ?_ ((it_s (by omega)).symm.trans hq_t2); congr 1; show _ = _; first | rw [pif_t (by first | exact ⟨by assumption, by assumption, by assumption⟩)] | rw [pif_f (fun h9 => by first | exact absurd h9.1 (by assumption) | exact absurd h9.2.1 (by assumption) | exact absurd h9.2.2 (by assumption))]) ls (lv_sub hl [3, 4, 5, 6, 1, 0] rfl)
                refine lv_aload_n hx hb dX2_liars_212 rfl (lv_at hl 1 rfl) ?_
                refine m_g_a hx hb hts hown hK hw dX2_liars_213 ?_
                refine lv_iload hx hb dX2_liars_216 (lv_at hl 0 rfl) ?_
                refine lv_iconst (v := nI 2) hx hb dX2_liars_218 (by decide) ?_
                refine n_iadd hx hb dX2_liars_219 ?_
                refine m_l_a (j := 250 + 4 * e2 + 2) (v := M 0 (250 + 4 * e2 + 2)) hx hb hK hw rfl (by omega) dX2_liars_220 ?_
                refine lv_goto (tgt := 225) hx hb dX2_liars_221 (by decide) ?_
                refine lv_isub hx hb dX2_liars_225 ?_
                refine lv_istore (lv' := [(4, .int (t2 - (M 0 (250 + 4 * e2 + 2)))), (6, .int (nI (250 + 4 * e2))), (0, .ref (ad 0)), (1, .int g), (2, .int (nI k)), (3, .int (nI (70 + 4 * k))), (5, .int (nI e2))]) hx hb dX2_liars_226 hl (by decide) rfl (fun ls hl => ?_)
                refine lv_iinc (v := nI (e2 + 1)) (lv' := [(5, .int (nI (e2 + 1))), (4, .int (t2 - (M 0 (250 + 4 * e2 + 2)))), (6, .int (nI (250 + 4 * e2))), (0, .ref (ad 0)), (1, .int g), (2, .int (nI k)), (3, .int (nI (70 + 4 * k)))]) hx hb dX2_liars_228 hl (k := 6) rfl (n_inc e2 1) (by decide) rfl (fun ls hl => ?_)
                refine lv_goto (tgt := 132) hx hb dX2_liars_231 (by decide) ?_
                exact ih132 (e2 + 1) (t2 - (M 0 (250 + 4 * e2 + 2))) (by omega) (by omega) (by refine Eq.trans ?_ ((it_s (by omega)).symm.trans hq_t2); congr 1; show _ = _; first | rw [pif_t (by first | exact ⟨by assumption, by assumption, by assumption⟩)] | rw [pif_f (fun h9 => by first | exact absurd h9.1 (by assumption) | exact absurd h9.2.1 (by assumption) | exact absurd h9.2.2 (by assumption))]) ls (lv_sub hl [3, 4, 5, 6, 1, 0] rfl)
            exact L132_4 _ 0 (mTold M (70 + 4 * k) nt) (Nat.lt_succ_self _) (by first | assumption | omega | rfl) rfl ls (lv_sub hl [1, 2, 3, 4, 5, 0] rfl)
          refine lv_bipush (v := nI 70) hx hb dX2_liars_40 (by decide) ?_
          refine lv_iconst (v := nI 4) hx hb dX2_liars_42 (by decide) ?_
          refine lv_iload hx hb dX2_liars_43 (lv_at hl 5 rfl) ?_
          refine n_imul hx hb dX2_liars_45 ?_
          refine n_iadd hx hb dX2_liars_46 ?_
          refine lv_istore (lv' := [(6, .int (nI (70 + 4 * e1))), (0, .ref (ad 0)), (1, .int g), (2, .int (nI k)), (3, .int (nI (70 + 4 * k))), (4, .int t1), (5, .int (nI e1))]) hx hb dX2_liars_47 hl (by decide) rfl (fun ls hl => ?_)
          refine lv_iload hx hb dX2_liars_49 (lv_at hl 5 rfl) ?_
          refine lv_aload_n hx hb dX2_liars_51 rfl (lv_at hl 1 rfl) ?_
          refine m_g_a hx hb hts hown hK hw dX2_liars_52 ?_
          refine lv_iload hx hb dX2_liars_55 (lv_at hl 0 rfl) ?_
          refine m_l_a (j := 70 + 4 * e1) (v := M 0 (70 + 4 * e1)) hx hb hK hw rfl (by omega) dX2_liars_57 ?_
          refine lv_aload_n hx hb dX2_liars_58 rfl (lv_at hl 1 rfl) ?_
          refine m_g_a hx hb hts hown hK hw dX2_liars_59 ?_
          refine lv_iload_n hx hb dX2_liars_62 rfl (lv_at hl 4 rfl) ?_
          refine m_l_a (j := 70 + 4 * k) (v := M 0 (70 + 4 * k)) hx hb hK hw rfl (by omega) dX2_liars_63 ?_
          refine lv_icmp_ne (tgt := 119) hx hb dX2_liars_64 (by decide) (fun c_10 => ?_) (fun c_10 => ?_)
          · refine lv_iconst (v := nI 0) hx hb dX2_liars_119 (by decide) ?_
            refine lv_iadd hx hb dX2_liars_120 ?_
            refine lv_istore (lv' := [(4, .int (t1 + (nI 0))), (6, .int (nI (70 + 4 * e1))), (0, .ref (ad 0)), (1, .int g), (2, .int (nI k)), (3, .int (nI (70 + 4 * k))), (5, .int (nI e1))]) hx hb dX2_liars_121 hl (by decide) rfl (fun ls hl => ?_)
            refine lv_iinc (v := nI (e1 + 1)) (lv' := [(5, .int (nI (e1 + 1))), (4, .int (t1 + (nI 0))), (6, .int (nI (70 + 4 * e1))), (0, .ref (ad 0)), (1, .int g), (2, .int (nI k)), (3, .int (nI (70 + 4 * k)))]) hx hb dX2_liars_123 hl (k := 6) rfl (n_inc e1 1) (by decide) rfl (fun ls hl => ?_)
            refine lv_goto (tgt := 28) hx hb dX2_liars_126 (by decide) ?_
            exact ih28 (e1 + 1) (t1 + (nI 0)) (by omega) (by omega) (by refine Eq.trans ?_ ((it_s (by omega)).symm.trans hq_t1); congr 1; show _ = _; first | rw [pif_t (by first | exact ⟨by assumption, by assumption, by assumption⟩)] | rw [pif_f (fun h9 => by first | exact absurd h9.1 (by assumption) | exact absurd h9.2.1 (by assumption) | exact absurd h9.2.2 (by assumption))]) ls (lv_sub hl [3, 4, 5, 6, 1, 0] rfl)
          refine lv_aload_n hx hb dX2_liars_67 rfl (lv_at hl 1 rfl) ?_
          refine m_g_a hx hb hts hown hK hw dX2_liars_68 ?_
          refine lv_iload hx hb dX2_liars_71 (lv_at hl 0 rfl) ?_
          refine lv_iconst (v := nI 1) hx hb dX2_liars_73 (by decide) ?_
          refine n_iadd hx hb dX2_liars_74 ?_
          refine m_l_a (j := 70 + 4 * e1 + 1) (v := M 0 (70 + 4 * e1 + 1)) hx hb hK hw rfl (by omega) dX2_liars_75 ?_
          refine lv_aload_n hx hb dX2_liars_76 rfl (lv_at hl 1 rfl) ?_
          refine m_g_a hx hb hts hown hK hw dX2_liars_77 ?_
          refine lv_iload_n hx hb dX2_liars_80 rfl (lv_at hl 4 rfl) ?_
          refine lv_iconst (v := nI 1) hx hb dX2_liars_81 (by decide) ?_
          refine n_iadd hx hb dX2_liars_82 ?_
          refine m_l_a (j := 70 + 4 * k + 1) (v := M 0 (70 + 4 * k + 1)) hx hb hK hw rfl (by omega) dX2_liars_83 ?_
          refine lv_icmp_ne (tgt := 119) hx hb dX2_liars_84 (by decide) (fun c_11 => ?_) (fun c_11 => ?_)
          · refine lv_iconst (v := nI 0) hx hb dX2_liars_119 (by decide) ?_
            refine lv_iadd hx hb dX2_liars_120 ?_
            refine lv_istore (lv' := [(4, .int (t1 + (nI 0))), (6, .int (nI (70 + 4 * e1))), (0, .ref (ad 0)), (1, .int g), (2, .int (nI k)), (3, .int (nI (70 + 4 * k))), (5, .int (nI e1))]) hx hb dX2_liars_121 hl (by decide) rfl (fun ls hl => ?_)
            refine lv_iinc (v := nI (e1 + 1)) (lv' := [(5, .int (nI (e1 + 1))), (4, .int (t1 + (nI 0))), (6, .int (nI (70 + 4 * e1))), (0, .ref (ad 0)), (1, .int g), (2, .int (nI k)), (3, .int (nI (70 + 4 * k)))]) hx hb dX2_liars_123 hl (k := 6) rfl (n_inc e1 1) (by decide) rfl (fun ls hl => ?_)
            refine lv_goto (tgt := 28) hx hb dX2_liars_126 (by decide) ?_
            exact ih28 (e1 + 1) (t1 + (nI 0)) (by omega) (by omega) (by refine Eq.trans ?_ ((it_s (by omega)).symm.trans hq_t1); congr 1; show _ = _; first | rw [pif_t (by first | exact ⟨by assumption, by assumption, by assumption⟩)] | rw [pif_f (fun h9 => by first | exact absurd h9.1 (by assumption) | exact absurd h9.2.1 (by assumption) | exact absurd h9.2.2 (by assumption))]) ls (lv_sub hl [3, 4, 5, 6, 1, 0] rfl)
          refine lv_aload_n hx hb dX2_liars_87 rfl (lv_at hl 1 rfl) ?_
          refine m_g_a hx hb hts hown hK hw dX2_liars_88 ?_
          refine lv_iload hx hb dX2_liars_91 (lv_at hl 0 rfl) ?_
          refine lv_iconst (v := nI 3) hx hb dX2_liars_93 (by decide) ?_
          refine n_iadd hx hb dX2_liars_94 ?_
          refine m_l_a (j := 70 + 4 * e1 + 3) (v := M 0 (70 + 4 * e1 + 3)) hx hb hK hw rfl (by omega) dX2_liars_95 ?_
          refine lv_aload_n hx hb dX2_liars_96 rfl (lv_at hl 1 rfl) ?_
          refine m_g_a hx hb hts hown hK hw dX2_liars_97 ?_
          refine lv_iload_n hx hb dX2_liars_100 rfl (lv_at hl 4 rfl) ?_
          refine lv_iconst (v := nI 3) hx hb dX2_liars_101 (by decide) ?_
          refine n_iadd hx hb dX2_liars_102 ?_
          refine m_l_a (j := 70 + 4 * k + 3) (v := M 0 (70 + 4 * k + 3)) hx hb hK hw rfl (by omega) dX2_liars_103 ?_
          refine lv_icmp_ne (tgt := 119) hx hb dX2_liars_104 (by decide) (fun c_12 => ?_) (fun c_12 => ?_)
          · refine lv_iconst (v := nI 0) hx hb dX2_liars_119 (by decide) ?_
            refine lv_iadd hx hb dX2_liars_120 ?_
            refine lv_istore (lv' := [(4, .int (t1 + (nI 0))), (6, .int (nI (70 + 4 * e1))), (0, .ref (ad 0)), (1, .int g), (2, .int (nI k)), (3, .int (nI (70 + 4 * k))), (5, .int (nI e1))]) hx hb dX2_liars_121 hl (by decide) rfl (fun ls hl => ?_)
            refine lv_iinc (v := nI (e1 + 1)) (lv' := [(5, .int (nI (e1 + 1))), (4, .int (t1 + (nI 0))), (6, .int (nI (70 + 4 * e1))), (0, .ref (ad 0)), (1, .int g), (2, .int (nI k)), (3, .int (nI (70 + 4 * k)))]) hx hb dX2_liars_123 hl (k := 6) rfl (n_inc e1 1) (by decide) rfl (fun ls hl => ?_)
            refine lv_goto (tgt := 28) hx hb dX2_liars_126 (by decide) ?_
            exact ih28 (e1 + 1) (t1 + (nI 0)) (by omega) (by omega) (by refine Eq.trans ?_ ((it_s (by omega)).symm.trans hq_t1); congr 1; show _ = _; first | rw [pif_t (by first | exact ⟨by assumption, by assumption, by assumption⟩)] | rw [pif_f (fun h9 => by first | exact absurd h9.1 (by assumption) | exact absurd h9.2.1 (by assumption) | exact absurd h9.2.2 (by assumption))]) ls (lv_sub hl [3, 4, 5, 6, 1, 0] rfl)
          refine lv_aload_n hx hb dX2_liars_107 rfl (lv_at hl 1 rfl) ?_
          refine m_g_a hx hb hts hown hK hw dX2_liars_108 ?_
          refine lv_iload hx hb dX2_liars_111 (lv_at hl 0 rfl) ?_
          refine lv_iconst (v := nI 2) hx hb dX2_liars_113 (by decide) ?_
          refine n_iadd hx hb dX2_liars_114 ?_
          refine m_l_a (j := 70 + 4 * e1 + 2) (v := M 0 (70 + 4 * e1 + 2)) hx hb hK hw rfl (by omega) dX2_liars_115 ?_
          refine lv_goto (tgt := 120) hx hb dX2_liars_116 (by decide) ?_
          refine lv_iadd hx hb dX2_liars_120 ?_
          refine lv_istore (lv' := [(4, .int (t1 + (M 0 (70 + 4 * e1 + 2)))), (6, .int (nI (70 + 4 * e1))), (0, .ref (ad 0)), (1, .int g), (2, .int (nI k)), (3, .int (nI (70 + 4 * k))), (5, .int (nI e1))]) hx hb dX2_liars_121 hl (by decide) rfl (fun ls hl => ?_)
          refine lv_iinc (v := nI (e1 + 1)) (lv' := [(5, .int (nI (e1 + 1))), (4, .int (t1 + (M 0 (70 + 4 * e1 + 2)))), (6, .int (nI (70 + 4 * e1))), (0, .ref (ad 0)), (1, .int g), (2, .int (nI k)), (3, .int (nI (70 + 4 * k)))]) hx hb dX2_liars_123 hl (k := 6) rfl (n_inc e1 1) (by decide) rfl (fun ls hl => ?_)
          refine lv_goto (tgt := 28) hx hb dX2_liars_126 (by decide) ?_
          exact ih28 (e1 + 1) (t1 + (M 0 (70 + 4 * e1 + 2))) (by omega) (by omega) (by refine Eq.trans ?_ ((it_s (by omega)).symm.trans hq_t1); congr 1; show _ = _; first | rw [pif_t (by first | exact ⟨by assumption, by assumption, by assumption⟩)] | rw [pif_f (fun h9 => by first | exact absurd h9.1 (by assumption) | exact absurd h9.2.1 (by assumption) | exact absurd h9.2.2 (by assumption))]) ls (lv_sub hl [3, 4, 5, 6, 1, 0] rfl)
      exact L28_2 _ 0 (nI 0) (Nat.lt_succ_self _) (by first | assumption | omega | rfl) rfl ls (lv_sub hl [3, 4, 5, 2, 1, 0] rfl)
  exact L_4 _ 0 (nI 0) (Nat.lt_succ_self _) (by first | assumption | omega | rfl) rfl ls (lv_sub hl [2, 1, 0] rfl)
