def mBlowOk (tx : kT) (M : Nat → Nat → Int32) (np nb nu : Nat) (x y z : Int32) : Prop := vp_in x np ∧ vp_in y nb ∧ (nI 1 ≤ z ∧ z ≤ nI 9) ∧ M 0 (150 + 10 * cl x + 1) = 0 ∧ ¬ nu = 40 ∧ ¬ M 0 (10 + 5 * cl y) < M 0 (10 + 5 * cl y + 3) + z ∧ mGiven M nb + z ≤ mSmoke tx (M 0 3) ∧ z * mCost tx M (cl y) (M 0 3) ≤ M 0 (10 + 5 * cl y + 2)
noncomputable def mBlow1 (tx : kT) (M : Nat → Nat → Int32) (nu jx jy : Nat) (z : Int32) : Nat → Nat → Int32 := (up2 (up2 (up2 (up2 (up2 (up2 (up2 (up2 (up2 (mKeepC M) 0 (10 + 5 * jy + 2) ((M 0 (10 + 5 * jy + 2)) - (z * (mCost tx M jy (M 0 3))))) 0 (10 + 5 * jy + 3) ((M 0 (10 + 5 * jy + 3)) + z)) 0 (150 + 10 * jx + 2) ((M 0 (150 + 10 * jx + 2)) + z)) 0 (150 + 10 * jx + 4 + jy) ((M 0 (150 + 10 * jx + 4 + jy)) + z)) 0 (250 + 4 * nu) (nI jx)) 0 (250 + 4 * nu + 1) (nI jy)) 0 (250 + 4 * nu + 2) z) 0 (250 + 4 * nu + 3) (M 0 3)) 0 9 (nI (nu + 1)))
noncomputable def mBlow2 (M : Nat → Nat → Int32) (nb q k : Nat) : Nat → Nat → Int32 := pif (M 0 (150 + 10 * q + 2) < M 0 (40 + 3 * k)) M (pif (M 0 (150 + 10 * q + 2) = M 0 (40 + 3 * k) ∧ (M 0 (40 + 3 * k + 1) &&& (mVoices M nb q nb ^^^ (-1))) = 0) (up2 M 0 (150 + 10 * q + 1) (nI 1)) (up2 M 0 (150 + 10 * q + 1) (nI 2)))
noncomputable def mBlow (tx : kT) (M : Nat → Nat → Int32) (np nb nu : Nat) (x y z : Int32) : Nat → Nat → Int32 := pif (mBlowOk tx M np nb nu x y z) (mBlow2 (mBlow1 tx M nu (cl x) (cl y) z) nb (cl x) (cl (mBlow1 tx M nu (cl x) (cl y) z 0 (150 + 10 * cl x)))) M
noncomputable def mBlowR (tx : kT) (M : Nat → Nat → Int32) (np nb nu : Nat) (x y z : Int32) : Int32 := pif (mBlowOk tx M np nb nu x y z) (mBlow tx M np nb nu x y z 0 (150 + 10 * cl x + 1)) (-1)
set_option maxHeartbeats 4000000 in
set_option maxRecDepth 100000 in
theorem met_X2_blow (l : Launch) (G : gG) (ad : Nat → Nat) (M Z : Nat → Nat → Int32) (V : Nat → Nat → Int64) (tx : kT) (htx : mTx M tx) (x y z : Int32) (np : Nat) (ep : M 0 2 = nI np) (hp : np ≤ 10) (nb : Nat) (en : M 0 0 = nI nb) (hn : nb ≤ 6) (nu : Nat) (eu : M 0 9 = nI nu) (hu : nu ≤ 40) (ns : Nat) (es : M 0 6 = nI ns) (hs : ns ≤ 30) (hkd : ∀ q, q < np → ∃ k, k < 6 ∧ M 0 (150 + 10 * q) = nI k) : Met l yX2_blow (ws_ yX2_blow cX2_blow 9 (some .int)) ({ frames := 5, cells := 0, slots := 0, locals := 119 } : Room) (cP G [.ref (ad 0), .int x, .int y, .int z] (mH G ad M Z V)) (cQ (some (.int (mBlowR tx M np nb nu x y z))) (fun H => ∃ Z9 V9, mH G ad (mBlow tx M np nb nu x y z) Z9 V9 H) (mA ad)) 0 0 (mA ad) := by
  refine c_start (by decide) (Nat.le_of_ble_eq_true rfl) ?_
  intro p e s m below meth c hx hb hr hlocks hml hown hts hB hK ls hl
  have hw := MS.of hB
  have hl : lv_has ls 9 [(0, .ref (ad 0)), (1, .int x), (2, .int y), (3, .int z)] := hl
  refine lv_aload_n hx hb dX2_blow_0 rfl (lv_at hl 0 rfl) ?_
  refine lv_iload_n hx hb dX2_blow_1 rfl (lv_at hl 1 rfl) ?_
  refine c_read (va_runV (As := [.int x]) (rest := []) ⟨hx, hb, hml, hown, hts⟩ (met_X2_isPiece l G ad M Z V x np ep (by omega)) (cv_X2_X2_isPiece hts ⟨Nat.le_of_ble_eq_true rfl, Nat.le_of_ble_eq_true rfl⟩) (cP.preV hK hw.1 (hw.1.recv hK)) rfl rfl hl.1 rfl (lv_room (Nat.le_of_ble_eq_true rfl)) dX2_blow_2 ⟨by first | exact Nat.zero_le _ | omega | decide, by first | exact Nat.zero_le _ | omega | decide⟩) ?_
  refine b_if_eq (tgt := 52) hx hb dX2_blow_5 (by decide) (fun c_1 => ?_) (fun c_1 => ?_)
  · refine lv_iconst (v := (-1)) hx hb dX2_blow_52 (by decide) ?_
    exact c_iret (v := (-1)) (by unfold mBlowR; rw [pif_f (fun h9 => by simp only [mBlowOk, cl] at h9; first | exact absurd h9.1 (by assumption) | exact absurd h9.2.1 (by assumption) | exact absurd h9.2.2.1 (by assumption) | exact absurd h9.2.2.2.1 (by assumption) | exact absurd (by assumption) h9.2.2.2.2.1 | exact absurd (by assumption) h9.2.2.2.2.2.1 | exact absurd h9.2.2.2.2.2.2.1 (by assumption) | exact absurd h9.2.2.2.2.2.2.2 (by assumption))]) hx hb hr rfl hlocks ⟨_, _, mH.to (by unfold mBlow; rw [pif_f (fun h9 => by simp only [mBlowOk, cl] at h9; first | exact absurd h9.1 (by assumption) | exact absurd h9.2.1 (by assumption) | exact absurd h9.2.2.1 (by assumption) | exact absurd h9.2.2.2.1 (by assumption) | exact absurd (by assumption) h9.2.2.2.2.1 | exact absurd (by assumption) h9.2.2.2.2.2.1 | exact absurd h9.2.2.2.2.2.2.1 (by assumption) | exact absurd h9.2.2.2.2.2.2.2 (by assumption))]) rfl rfl hw.1⟩ hw.2 dX2_blow_53
  obtain ⟨jx, h_jx, rfl⟩ := vp_in_of c_1 (by omega)
  have k_jx : (nI jx).toNatClampNeg = jx := nI_clamp (by omega)
  refine lv_aload_n hx hb dX2_blow_8 rfl (lv_at hl 0 rfl) ?_
  refine lv_iload_n hx hb dX2_blow_9 rfl (lv_at hl 2 rfl) ?_
  refine c_read (va_runV (As := [.int y]) (rest := []) ⟨hx, hb, hml, hown, hts⟩ (met_X2_isBlower l G ad M Z V y nb en (by omega)) (cv_X2_X2_isBlower hts ⟨Nat.le_of_ble_eq_true rfl, Nat.le_of_ble_eq_true rfl⟩) (cP.preV hK hw.1 (hw.1.recv hK)) rfl rfl hl.1 rfl (lv_room (Nat.le_of_ble_eq_true rfl)) dX2_blow_10 ⟨by first | exact Nat.zero_le _ | omega | decide, by first | exact Nat.zero_le _ | omega | decide⟩) ?_
  refine b_if_eq (tgt := 52) hx hb dX2_blow_13 (by decide) (fun c_2 => ?_) (fun c_2 => ?_)
  · refine lv_iconst (v := (-1)) hx hb dX2_blow_52 (by decide) ?_
    exact c_iret (v := (-1)) (by unfold mBlowR; rw [pif_f (fun h9 => by simp only [mBlowOk, cl, k_jx] at h9; first | exact absurd h9.1 (by assumption) | exact absurd h9.2.1 (by assumption) | exact absurd h9.2.2.1 (by assumption) | exact absurd h9.2.2.2.1 (by assumption) | exact absurd (by assumption) h9.2.2.2.2.1 | exact absurd (by assumption) h9.2.2.2.2.2.1 | exact absurd h9.2.2.2.2.2.2.1 (by assumption) | exact absurd h9.2.2.2.2.2.2.2 (by assumption))]) hx hb hr rfl hlocks ⟨_, _, mH.to (by unfold mBlow; rw [pif_f (fun h9 => by simp only [mBlowOk, cl, k_jx] at h9; first | exact absurd h9.1 (by assumption) | exact absurd h9.2.1 (by assumption) | exact absurd h9.2.2.1 (by assumption) | exact absurd h9.2.2.2.1 (by assumption) | exact absurd (by assumption) h9.2.2.2.2.1 | exact absurd (by assumption) h9.2.2.2.2.2.1 | exact absurd h9.2.2.2.2.2.2.1 (by assumption) | exact absurd h9.2.2.2.2.2.2.2 (by assumption))]) rfl rfl hw.1⟩ hw.2 dX2_blow_53
  obtain ⟨jy, h_jy, rfl⟩ := vp_in_of c_2 (by omega)
  have k_jy : (nI jy).toNatClampNeg = jy := nI_clamp (by omega)
  refine lv_iload_n hx hb dX2_blow_16 rfl (lv_at hl 3 rfl) ?_
  refine lv_iconst (v := nI 1) hx hb dX2_blow_17 (by decide) ?_
  refine lv_bipush (v := nI 9) hx hb dX2_blow_18 (by decide) ?_
  refine c_read (va_runS (As := [.int z, .int (nI 1), .int (nI 9)]) (rest := []) ⟨hx, hb, hml, hown, hts⟩ (met_X2_isIn l G z (nI 1) (nI 9)) (cs_X2_X2_isIn hts ⟨Nat.le_of_ble_eq_true rfl, Nat.le_of_ble_eq_true rfl⟩) (cP.pre hK trivial) rfl rfl hl.1 rfl (lv_room (Nat.le_of_ble_eq_true rfl)) dX2_blow_20 ⟨by first | exact Nat.zero_le _ | omega | decide, by first | exact Nat.zero_le _ | omega | decide⟩) ?_
  refine b_if_eq (tgt := 52) hx hb dX2_blow_23 (by decide) (fun c_3 => ?_) (fun c_3 => ?_)
  · refine lv_iconst (v := (-1)) hx hb dX2_blow_52 (by decide) ?_
    exact c_iret (v := (-1)) (by unfold mBlowR; rw [pif_f (fun h9 => by simp only [mBlowOk, cl, k_jx, k_jy] at h9; first | exact absurd h9.1 (by assumption) | exact absurd h9.2.1 (by assumption) | exact absurd h9.2.2.1 (by assumption) | exact absurd h9.2.2.2.1 (by assumption) | exact absurd (by assumption) h9.2.2.2.2.1 | exact absurd (by assumption) h9.2.2.2.2.2.1 | exact absurd h9.2.2.2.2.2.2.1 (by assumption) | exact absurd h9.2.2.2.2.2.2.2 (by assumption))]) hx hb hr rfl hlocks ⟨_, _, mH.to (by unfold mBlow; rw [pif_f (fun h9 => by simp only [mBlowOk, cl, k_jx, k_jy] at h9; first | exact absurd h9.1 (by assumption) | exact absurd h9.2.1 (by assumption) | exact absurd h9.2.2.1 (by assumption) | exact absurd h9.2.2.2.1 (by assumption) | exact absurd (by assumption) h9.2.2.2.2.1 | exact absurd (by assumption) h9.2.2.2.2.2.1 | exact absurd h9.2.2.2.2.2.2.1 (by assumption) | exact absurd h9.2.2.2.2.2.2.2 (by assumption))]) rfl rfl hw.1⟩ hw.2 dX2_blow_53
  refine lv_aload_n hx hb dX2_blow_26 rfl (lv_at hl 0 rfl) ?_
  refine m_g_a hx hb hts hown hK hw dX2_blow_27 ?_
  refine lv_iload_n hx hb dX2_blow_30 rfl (lv_at hl 1 rfl) ?_
  refine c_read (va_runS (As := [.int (nI jx)]) (rest := [.ref (ad 1)]) ⟨hx, hb, hml, hown, hts⟩ (met_X2_pieceAt l G jx) (cs_X2_X2_pieceAt hts ⟨Nat.le_of_ble_eq_true rfl, Nat.le_of_ble_eq_true rfl⟩) (cP.pre hK trivial) rfl rfl hl.1 rfl (lv_room (Nat.le_of_ble_eq_true rfl)) dX2_blow_31 ⟨by first | exact Nat.zero_le _ | omega | decide, by first | exact Nat.zero_le _ | omega | decide⟩) ?_
  refine lv_iconst (v := nI 1) hx hb dX2_blow_34 (by decide) ?_
  refine n_iadd hx hb dX2_blow_35 ?_
  refine m_l_a (j := 150 + 10 * jx + 1) (v := M 0 (150 + 10 * jx + 1)) hx hb hK hw rfl (by omega) dX2_blow_36 ?_
  refine lv_if_ne (tgt := 52) hx hb dX2_blow_37 (by decide) (fun c_4 => ?_) (fun c_4 => ?_)
  · refine lv_iconst (v := (-1)) hx hb dX2_blow_52 (by decide) ?_
    exact c_iret (v := (-1)) (by unfold mBlowR; rw [pif_f (fun h9 => by simp only [mBlowOk, cl, k_jx, k_jy] at h9; first | exact absurd h9.1 (by assumption) | exact absurd h9.2.1 (by assumption) | exact absurd h9.2.2.1 (by assumption) | exact absurd h9.2.2.2.1 (by assumption) | exact absurd (by assumption) h9.2.2.2.2.1 | exact absurd (by assumption) h9.2.2.2.2.2.1 | exact absurd h9.2.2.2.2.2.2.1 (by assumption) | exact absurd h9.2.2.2.2.2.2.2 (by assumption))]) hx hb hr rfl hlocks ⟨_, _, mH.to (by unfold mBlow; rw [pif_f (fun h9 => by simp only [mBlowOk, cl, k_jx, k_jy] at h9; first | exact absurd h9.1 (by assumption) | exact absurd h9.2.1 (by assumption) | exact absurd h9.2.2.1 (by assumption) | exact absurd h9.2.2.2.1 (by assumption) | exact absurd (by assumption) h9.2.2.2.2.1 | exact absurd (by assumption) h9.2.2.2.2.2.1 | exact absurd h9.2.2.2.2.2.2.1 (by assumption) | exact absurd h9.2.2.2.2.2.2.2 (by assumption))]) rfl rfl hw.1⟩ hw.2 dX2_blow_53
  refine lv_aload_n hx hb dX2_blow_40 rfl (lv_at hl 0 rfl) ?_
  refine m_g_a hx hb hts hown hK hw dX2_blow_41 ?_
  refine lv_bipush (v := nI 9) hx hb dX2_blow_44 (by decide) ?_
  refine m_l_a (j := 9) (v := nI nu) hx hb hK hw eu (by decide) dX2_blow_46 ?_
  refine lv_bipush (v := nI 40) hx hb dX2_blow_47 (by decide) ?_
  refine n_icmp_ne (tgt := 54) hx hb dX2_blow_49 (by decide) (by omega) (by decide) (fun c_5 => ?_) (fun c_5 => ?_)
  · obtain ⟨k, hk6, ek⟩ := hkd jx h_jx
    refine lv_aload_n hx hb dX2_blow_54 rfl (lv_at hl 0 rfl) ?_
    refine lv_iload_n hx hb dX2_blow_55 rfl (lv_at hl 2 rfl) ?_
    refine lv_iconst (v := nI 3) hx hb dX2_blow_56 (by decide) ?_
    refine c_read (va_runV (As := [.int (nI jy), .int (nI 3)]) (rest := []) ⟨hx, hb, hml, hown, hts⟩ (met_X2_get l G ad M Z V jy 3 (M 0 (10 + 5 * jy + 3)) (by omega) rfl) (cv_X2_X2_get hts ⟨Nat.le_of_ble_eq_true rfl, Nat.le_of_ble_eq_true rfl⟩) (cP.preV hK hw.1 (hw.1.recv hK)) rfl rfl hl.1 rfl (lv_room (Nat.le_of_ble_eq_true rfl)) dX2_blow_57 ⟨by first | exact Nat.zero_le _ | omega | decide, by first | exact Nat.zero_le _ | omega | decide⟩) ?_
    refine lv_iload_n hx hb dX2_blow_60 rfl (lv_at hl 3 rfl) ?_
    refine lv_iadd hx hb dX2_blow_61 ?_
    refine lv_aload_n hx hb dX2_blow_62 rfl (lv_at hl 0 rfl) ?_
    refine lv_iload_n hx hb dX2_blow_63 rfl (lv_at hl 2 rfl) ?_
    refine lv_iconst (v := nI 0) hx hb dX2_blow_64 (by decide) ?_
    refine c_read (va_runV (As := [.int (nI jy), .int (nI 0)]) (rest := [.int ((M 0 (10 + 5 * jy + 3)) + z)]) ⟨hx, hb, hml, hown, hts⟩ (met_X2_get l G ad M Z V jy 0 (M 0 (10 + 5 * jy)) (by omega) rfl) (cv_X2_X2_get hts ⟨Nat.le_of_ble_eq_true rfl, Nat.le_of_ble_eq_true rfl⟩) (cP.preV hK hw.1 (hw.1.recv hK)) rfl rfl hl.1 rfl (lv_room (Nat.le_of_ble_eq_true rfl)) dX2_blow_65 ⟨by first | exact Nat.zero_le _ | omega | decide, by first | exact Nat.zero_le _ | omega | decide⟩) ?_
    refine lv_icmp_gt (tgt := 90) hx hb dX2_blow_68 (by decide) (fun c_6 => ?_) (fun c_6 => ?_)
    · refine lv_iconst (v := (-1)) hx hb dX2_blow_90 (by decide) ?_
      exact c_iret (v := (-1)) (by unfold mBlowR; rw [pif_f (fun h9 => by simp only [mBlowOk, cl, k_jx, k_jy] at h9; first | exact absurd h9.1 (by assumption) | exact absurd h9.2.1 (by assumption) | exact absurd h9.2.2.1 (by assumption) | exact absurd h9.2.2.2.1 (by assumption) | exact absurd (by assumption) h9.2.2.2.2.1 | exact absurd (by assumption) h9.2.2.2.2.2.1 | exact absurd h9.2.2.2.2.2.2.1 (by assumption) | exact absurd h9.2.2.2.2.2.2.2 (by assumption))]) hx hb hr rfl hlocks ⟨_, _, mH.to (by unfold mBlow; rw [pif_f (fun h9 => by simp only [mBlowOk, cl, k_jx, k_jy] at h9; first | exact absurd h9.1 (by assumption) | exact absurd h9.2.1 (by assumption) | exact absurd h9.2.2.1 (by assumption) | exact absurd h9.2.2.2.1 (by assumption) | exact absurd (by assumption) h9.2.2.2.2.1 | exact absurd (by assumption) h9.2.2.2.2.2.1 | exact absurd h9.2.2.2.2.2.2.1 (by assumption) | exact absurd h9.2.2.2.2.2.2.2 (by assumption))]) rfl rfl hw.1⟩ hw.2 dX2_blow_91
    refine lv_aload_n hx hb dX2_blow_71 rfl (lv_at hl 0 rfl) ?_
    refine c_read (va_runV (As := []) (rest := []) ⟨hx, hb, hml, hown, hts⟩ (met_X2_givenByAll l G ad M Z V nb en (by omega)) (cv_X2_X2_givenByAll hts ⟨Nat.le_of_ble_eq_true rfl, Nat.le_of_ble_eq_true rfl⟩) (cP.preV hK hw.1 (hw.1.recv hK)) rfl rfl hl.1 rfl (lv_room (Nat.le_of_ble_eq_true rfl)) dX2_blow_72 ⟨by first | exact Nat.zero_le _ | omega | decide, by first | exact Nat.zero_le _ | omega | decide⟩) ?_
    refine lv_iload_n hx hb dX2_blow_75 rfl (lv_at hl 3 rfl) ?_
    refine lv_iadd hx hb dX2_blow_76 ?_
    refine lv_aload_n hx hb dX2_blow_77 rfl (lv_at hl 0 rfl) ?_
    refine lv_aload_n hx hb dX2_blow_78 rfl (lv_at hl 0 rfl) ?_
    refine m_g_a hx hb hts hown hK hw dX2_blow_79 ?_
    refine lv_iconst (v := nI 3) hx hb dX2_blow_82 (by decide) ?_
    refine m_l_a (j := 3) (v := M 0 3) hx hb hK hw rfl (by decide) dX2_blow_83 ?_
    refine c_call (va_runV (As := [.int (M 0 3)]) (rest := [.int ((mGiven M nb) + z)]) ⟨hx, hb, hml, hown, hts⟩ (met_X2_smokeIn l G ad M Z V tx htx (M 0 3)) (cv_X2_X2_smokeIn hts ⟨Nat.le_of_ble_eq_true rfl, Nat.le_of_ble_eq_true rfl⟩) (cP.preV hK hw.1 (hw.1.recv hK)) rfl rfl hl.1 rfl (lv_room (Nat.le_of_ble_eq_true rfl)) dX2_blow_84 ⟨by first | exact Nat.zero_le _ | omega | decide, by first | exact Nat.zero_le _ | omega | decide⟩) hw.2 (fun q _ h => h) (fun q h => h) (fun H locs hw _ _ hS => ?_)
    obtain ⟨Z1, V1, hz1, hw⟩ := hw
    replace hw := MS.mk hw hS
    refine lv_icmp_le (tgt := 92) hx hb dX2_blow_87 (by decide) (fun c_7 => ?_) (fun c_7 => ?_)
    · refine lv_iload_n hx hb dX2_blow_92 rfl (lv_at hl 3 rfl) ?_
      refine lv_aload_n hx hb dX2_blow_93 rfl (lv_at hl 0 rfl) ?_
      refine lv_iload_n hx hb dX2_blow_94 rfl (lv_at hl 2 rfl) ?_
      refine lv_aload_n hx hb dX2_blow_95 rfl (lv_at hl 0 rfl) ?_
      refine m_g_a hx hb hts hown hK hw dX2_blow_96 ?_
      refine lv_iconst (v := nI 3) hx hb dX2_blow_99 (by decide) ?_
      refine m_l_a (j := 3) (v := M 0 3) hx hb hK hw rfl (by decide) dX2_blow_100 ?_
      refine c_call (va_runV (As := [.int (nI jy), .int (M 0 3)]) (rest := [.int z]) ⟨hx, hb, hml, hown, hts⟩ (met_X2_costOf l G ad M Z1 V1 tx htx jy (by omega) (M 0 3)) (cv_X2_X2_costOf hts ⟨Nat.le_of_ble_eq_true rfl, Nat.le_of_ble_eq_true rfl⟩) (cP.preV hK hw.1 (hw.1.recv hK)) rfl rfl hl.1 rfl (lv_room (Nat.le_of_ble_eq_true rfl)) dX2_blow_101 ⟨by first | exact Nat.zero_le _ | omega | decide, by first | exact Nat.zero_le _ | omega | decide⟩) hw.2 (fun q _ h => h) (fun q h => h) (fun H locs hw _ _ hS => ?_)
      obtain ⟨Z2, V2, hz2, hw⟩ := hw
      replace hw := MS.mk hw hS
      refine lv_imul hx hb dX2_blow_104 ?_
      refine lv_istore (lv' := [(4, .int (z * (mCost tx M jy (M 0 3)))), (0, .ref (ad 0)), (1, .int (nI jx)), (2, .int (nI jy)), (3, .int z)]) hx hb dX2_blow_105 hl (by decide) rfl (fun ls hl => ?_)
      refine lv_iload hx hb dX2_blow_107 (lv_at hl 0 rfl) ?_
      refine lv_aload_n hx hb dX2_blow_109 rfl (lv_at hl 1 rfl) ?_
      refine lv_iload_n hx hb dX2_blow_110 rfl (lv_at hl 3 rfl) ?_
      refine lv_iconst (v := nI 2) hx hb dX2_blow_111 (by decide) ?_
      refine c_read (va_runV (As := [.int (nI jy), .int (nI 2)]) (rest := [.int (z * (mCost tx M jy (M 0 3)))]) ⟨hx, hb, hml, hown, hts⟩ (met_X2_get l G ad M Z2 V2 jy 2 (M 0 (10 + 5 * jy + 2)) (by omega) rfl) (cv_X2_X2_get hts ⟨Nat.le_of_ble_eq_true rfl, Nat.le_of_ble_eq_true rfl⟩) (cP.preV hK hw.1 (hw.1.recv hK)) rfl rfl hl.1 rfl (lv_room (Nat.le_of_ble_eq_true rfl)) dX2_blow_112 ⟨by first | exact Nat.zero_le _ | omega | decide, by first | exact Nat.zero_le _ | omega | decide⟩) ?_
      refine lv_icmp_le (tgt := 120) hx hb dX2_blow_115 (by decide) (fun c_8 => ?_) (fun c_8 => ?_)
      · have okb : mBlowOk tx M np nb nu (nI jx) (nI jy) z := ⟨by assumption, by assumption, by assumption, by rw [show cl (nI jx) = jx from k_jx]; assumption, by assumption, by rw [show cl (nI jy) = jy from k_jy]; assumption, by assumption, by rw [show cl (nI jy) = jy from k_jy]; assumption⟩
        refine lv_aload_n hx hb dX2_blow_120 rfl (lv_at hl 1 rfl) ?_
        refine c_call (va_runV (As := []) (rest := []) ⟨hx, hb, hml, hown, hts⟩ (met_X2_keep l G ad M Z2 V2 ns es (by omega)) (cv_X2_X2_keep hts ⟨Nat.le_of_ble_eq_true rfl, Nat.le_of_ble_eq_true rfl⟩) (cP.preV hK hw.1 (hw.1.recv hK)) rfl rfl hl.1 rfl (lv_room (Nat.le_of_ble_eq_true rfl)) dX2_blow_121 ⟨by first | exact Nat.zero_le _ | omega | decide, by first | exact Nat.zero_le _ | omega | decide⟩) hw.2 (fun q _ h => h) (fun q h => h) (fun H locs hw _ _ hS => ?_)
        replace hw := MS.mk hw hS
        refine lv_aload_n hx hb dX2_blow_124 rfl (lv_at hl 1 rfl) ?_
        refine lv_iload_n hx hb dX2_blow_125 rfl (lv_at hl 3 rfl) ?_
        refine lv_iconst (v := nI 2) hx hb dX2_blow_126 (by decide) ?_
        refine lv_aload_n hx hb dX2_blow_127 rfl (lv_at hl 1 rfl) ?_
        refine lv_iload_n hx hb dX2_blow_128 rfl (lv_at hl 3 rfl) ?_
        refine lv_iconst (v := nI 2) hx hb dX2_blow_129 (by decide) ?_
        refine c_read (va_runV (As := [.int (nI jy), .int (nI 2)]) (rest := [.int (nI 2), .int (nI jy), .ref (ad 0)]) ⟨hx, hb, hml, hown, hts⟩ (met_X2_get l G ad (mKeepC M) Z2 V2 jy 2 (M 0 (10 + 5 * jy + 2)) (by omega) ((mKeepC_lo (by omega) (by omega)).trans rfl)) (cv_X2_X2_get hts ⟨Nat.le_of_ble_eq_true rfl, Nat.le_of_ble_eq_true rfl⟩) (cP.preV hK hw.1 (hw.1.recv hK)) rfl rfl hl.1 rfl (lv_room (Nat.le_of_ble_eq_true rfl)) dX2_blow_130 ⟨by first | exact Nat.zero_le _ | omega | decide, by first | exact Nat.zero_le _ | omega | decide⟩) ?_
        refine lv_iload hx hb dX2_blow_133 (lv_at hl 0 rfl) ?_
        refine lv_isub hx hb dX2_blow_135 ?_
        refine c_call (va_runV (As := [.int (nI jy), .int (nI 2), .int ((M 0 (10 + 5 * jy + 2)) - (z * (mCost tx M jy (M 0 3))))]) (rest := []) ⟨hx, hb, hml, hown, hts⟩ (met_X2_set l G ad (mKeepC M) Z2 V2 jy 2 ((M 0 (10 + 5 * jy + 2)) - (z * (mCost tx M jy (M 0 3)))) (by omega)) (cv_X2_X2_set hts ⟨Nat.le_of_ble_eq_true rfl, Nat.le_of_ble_eq_true rfl⟩) (cP.preV hK hw.1 (hw.1.recv hK)) rfl rfl hl.1 rfl (lv_room (Nat.le_of_ble_eq_true rfl)) dX2_blow_136 ⟨by first | exact Nat.zero_le _ | omega | decide, by first | exact Nat.zero_le _ | omega | decide⟩) hw.2 (fun q _ h => h) (fun q h => h) (fun H locs hw _ _ hS => ?_)
        replace hw := MS.mk hw hS
        refine lv_aload_n hx hb dX2_blow_139 rfl (lv_at hl 1 rfl) ?_
        refine lv_iload_n hx hb dX2_blow_140 rfl (lv_at hl 3 rfl) ?_
        refine lv_iconst (v := nI 3) hx hb dX2_blow_141 (by decide) ?_
        refine lv_aload_n hx hb dX2_blow_142 rfl (lv_at hl 1 rfl) ?_
        refine lv_iload_n hx hb dX2_blow_143 rfl (lv_at hl 3 rfl) ?_
        refine lv_iconst (v := nI 3) hx hb dX2_blow_144 (by decide) ?_
        refine c_read (va_runV (As := [.int (nI jy), .int (nI 3)]) (rest := [.int (nI 3), .int (nI jy), .ref (ad 0)]) ⟨hx, hb, hml, hown, hts⟩ (met_X2_get l G ad (up2 (mKeepC M) 0 (10 + 5 * jy + 2) ((M 0 (10 + 5 * jy + 2)) - (z * (mCost tx M jy (M 0 3))))) Z2 V2 jy 3 (M 0 (10 + 5 * jy + 3)) (by omega) ((up2_ne (Or.inr (by omega))).trans ((mKeepC_lo (by omega) (by omega)).trans rfl))) (cv_X2_X2_get hts ⟨Nat.le_of_ble_eq_true rfl, Nat.le_of_ble_eq_true rfl⟩) (cP.preV hK hw.1 (hw.1.recv hK)) rfl rfl hl.1 rfl (lv_room (Nat.le_of_ble_eq_true rfl)) dX2_blow_145 ⟨by first | exact Nat.zero_le _ | omega | decide, by first | exact Nat.zero_le _ | omega | decide⟩) ?_
        refine lv_iload_n hx hb dX2_blow_148 rfl (lv_at hl 4 rfl) ?_
        refine lv_iadd hx hb dX2_blow_149 ?_
        refine c_call (va_runV (As := [.int (nI jy), .int (nI 3), .int ((M 0 (10 + 5 * jy + 3)) + z)]) (rest := []) ⟨hx, hb, hml, hown, hts⟩ (met_X2_set l G ad (up2 (mKeepC M) 0 (10 + 5 * jy + 2) ((M 0 (10 + 5 * jy + 2)) - (z * (mCost tx M jy (M 0 3))))) Z2 V2 jy 3 ((M 0 (10 + 5 * jy + 3)) + z) (by omega)) (cv_X2_X2_set hts ⟨Nat.le_of_ble_eq_true rfl, Nat.le_of_ble_eq_true rfl⟩) (cP.preV hK hw.1 (hw.1.recv hK)) rfl rfl hl.1 rfl (lv_room (Nat.le_of_ble_eq_true rfl)) dX2_blow_150 ⟨by first | exact Nat.zero_le _ | omega | decide, by first | exact Nat.zero_le _ | omega | decide⟩) hw.2 (fun q _ h => h) (fun q h => h) (fun H locs hw _ _ hS => ?_)
        replace hw := MS.mk hw hS
        refine lv_iload_n hx hb dX2_blow_153 rfl (lv_at hl 2 rfl) ?_
        refine c_read (va_runS (As := [.int (nI jx)]) (rest := []) ⟨hx, hb, hml, hown, hts⟩ (met_X2_pieceAt l G jx) (cs_X2_X2_pieceAt hts ⟨Nat.le_of_ble_eq_true rfl, Nat.le_of_ble_eq_true rfl⟩) (cP.pre hK trivial) rfl rfl hl.1 rfl (lv_room (Nat.le_of_ble_eq_true rfl)) dX2_blow_154 ⟨by first | exact Nat.zero_le _ | omega | decide, by first | exact Nat.zero_le _ | omega | decide⟩) ?_
        refine lv_istore (lv' := [(5, .int (nI (150 + 10 * jx))), (4, .int (z * (mCost tx M jy (M 0 3)))), (0, .ref (ad 0)), (1, .int (nI jx)), (2, .int (nI jy)), (3, .int z)]) hx hb dX2_blow_157 hl (by decide) rfl (fun ls hl => ?_)
        refine lv_aload_n hx hb dX2_blow_159 rfl (lv_at hl 2 rfl) ?_
        refine m_g_a hx hb hts hown hK hw dX2_blow_160 ?_
        refine lv_iload hx hb dX2_blow_163 (lv_at hl 0 rfl) ?_
        refine lv_iconst (v := nI 2) hx hb dX2_blow_165 (by decide) ?_
        refine n_iadd hx hb dX2_blow_166 ?_
        refine lv_dup2_11 hx hb dX2_blow_167 rfl rfl ?_
        refine m_l_a (j := 150 + 10 * jx + 2) (v := M 0 (150 + 10 * jx + 2)) hx hb hK hw ((up2_ne (Or.inr (by omega))).trans ((up2_ne (Or.inr (by omega))).trans ((mKeepC_lo (by omega) (by omega)).trans rfl))) (by omega) dX2_blow_168 ?_
        refine lv_iload_n hx hb dX2_blow_169 rfl (lv_at hl 5 rfl) ?_
        refine lv_iadd hx hb dX2_blow_170 ?_
        refine m_s_a (j := 150 + 10 * jx + 2) hx hb hK hw (by omega) dX2_blow_171 (fun H locs hw => ?_)
        refine lv_aload_n hx hb dX2_blow_172 rfl (lv_at hl 2 rfl) ?_
        refine m_g_a hx hb hts hown hK hw dX2_blow_173 ?_
        refine lv_iload hx hb dX2_blow_176 (lv_at hl 0 rfl) ?_
        refine lv_iconst (v := nI 4) hx hb dX2_blow_178 (by decide) ?_
        refine n_iadd hx hb dX2_blow_179 ?_
        refine lv_iload_n hx hb dX2_blow_180 rfl (lv_at hl 4 rfl) ?_
        refine n_iadd hx hb dX2_blow_181 ?_
        refine lv_dup2_11 hx hb dX2_blow_182 rfl rfl ?_
        refine m_l_a (j := 150 + 10 * jx + 4 + jy) (v := M 0 (150 + 10 * jx + 4 + jy)) hx hb hK hw ((up2_ne (Or.inr (by omega))).trans ((up2_ne (Or.inr (by omega))).trans ((up2_ne (Or.inr (by omega))).trans ((mKeepC_lo (by omega) (by omega)).trans rfl)))) (by omega) dX2_blow_183 ?_
        refine lv_iload_n hx hb dX2_blow_184 rfl (lv_at hl 5 rfl) ?_
        refine lv_iadd hx hb dX2_blow_185 ?_
        refine m_s_a (j := 150 + 10 * jx + 4 + jy) hx hb hK hw (by omega) dX2_blow_186 (fun H locs hw => ?_)
        refine lv_sipush (v := nI 250) hx hb dX2_blow_187 (by decide) ?_
        refine lv_iconst (v := nI 4) hx hb dX2_blow_190 (by decide) ?_
        refine lv_aload_n hx hb dX2_blow_191 rfl (lv_at hl 2 rfl) ?_
        refine m_g_a hx hb hts hown hK hw dX2_blow_192 ?_
        refine lv_bipush (v := nI 9) hx hb dX2_blow_195 (by decide) ?_
        refine m_l_a (j := 9) (v := nI nu) hx hb hK hw ((up2_ne (Or.inr (by omega))).trans ((up2_ne (Or.inr (by omega))).trans ((up2_ne (Or.inr (by omega))).trans ((up2_ne (Or.inr (by omega))).trans ((mKeepC_lo (by omega) (by omega)).trans eu))))) (by decide) dX2_blow_197 ?_
        refine n_imul hx hb dX2_blow_198 ?_
        refine n_iadd hx hb dX2_blow_199 ?_
        refine lv_istore (lv' := [(6, .int (nI (250 + 4 * nu))), (5, .int (nI (150 + 10 * jx))), (4, .int (z * (mCost tx M jy (M 0 3)))), (0, .ref (ad 0)), (1, .int (nI jx)), (2, .int (nI jy)), (3, .int z)]) hx hb dX2_blow_200 hl (by decide) rfl (fun ls hl => ?_)
        refine lv_aload_n hx hb dX2_blow_202 rfl (lv_at hl 3 rfl) ?_
        refine m_g_a hx hb hts hown hK hw dX2_blow_203 ?_
        refine lv_iload hx hb dX2_blow_206 (lv_at hl 0 rfl) ?_
        refine lv_iload_n hx hb dX2_blow_208 rfl (lv_at hl 4 rfl) ?_
        refine m_s_a (j := 250 + 4 * nu) hx hb hK hw (by omega) dX2_blow_209 (fun H locs hw => ?_)
        refine lv_aload_n hx hb dX2_blow_210 rfl (lv_at hl 3 rfl) ?_
        refine m_g_a hx hb hts hown hK hw dX2_blow_211 ?_
        refine lv_iload hx hb dX2_blow_214 (lv_at hl 0 rfl) ?_
        refine lv_iconst (v := nI 1) hx hb dX2_blow_216 (by decide) ?_
        refine n_iadd hx hb dX2_blow_217 ?_
        refine lv_iload_n hx hb dX2_blow_218 rfl (lv_at hl 5 rfl) ?_
        refine m_s_a (j := 250 + 4 * nu + 1) hx hb hK hw (by omega) dX2_blow_219 (fun H locs hw => ?_)
        refine lv_aload_n hx hb dX2_blow_220 rfl (lv_at hl 3 rfl) ?_
        refine m_g_a hx hb hts hown hK hw dX2_blow_221 ?_
        refine lv_iload hx hb dX2_blow_224 (lv_at hl 0 rfl) ?_
        refine lv_iconst (v := nI 2) hx hb dX2_blow_226 (by decide) ?_
        refine n_iadd hx hb dX2_blow_227 ?_
        refine lv_iload_n hx hb dX2_blow_228 rfl (lv_at hl 6 rfl) ?_
        refine m_s_a (j := 250 + 4 * nu + 2) hx hb hK hw (by omega) dX2_blow_229 (fun H locs hw => ?_)
        refine lv_aload_n hx hb dX2_blow_230 rfl (lv_at hl 3 rfl) ?_
        refine m_g_a hx hb hts hown hK hw dX2_blow_231 ?_
        refine lv_iload hx hb dX2_blow_234 (lv_at hl 0 rfl) ?_
        refine lv_iconst (v := nI 3) hx hb dX2_blow_236 (by decide) ?_
        refine n_iadd hx hb dX2_blow_237 ?_
        refine lv_aload_n hx hb dX2_blow_238 rfl (lv_at hl 3 rfl) ?_
        refine m_g_a hx hb hts hown hK hw dX2_blow_239 ?_
        refine lv_iconst (v := nI 3) hx hb dX2_blow_242 (by decide) ?_
        refine m_l_a (j := 3) (v := M 0 3) hx hb hK hw ((up2_ne (Or.inr (by omega))).trans ((up2_ne (Or.inr (by omega))).trans ((up2_ne (Or.inr (by omega))).trans ((up2_ne (Or.inr (by omega))).trans ((up2_ne (Or.inr (by omega))).trans ((up2_ne (Or.inr (by omega))).trans ((up2_ne (Or.inr (by omega))).trans ((mKeepC_lo (by omega) (by omega)).trans rfl)))))))) (by decide) dX2_blow_243 ?_
        refine m_s_a (j := 250 + 4 * nu + 3) hx hb hK hw (by omega) dX2_blow_244 (fun H locs hw => ?_)
        refine lv_aload_n hx hb dX2_blow_245 rfl (lv_at hl 3 rfl) ?_
        refine m_g_a hx hb hts hown hK hw dX2_blow_246 ?_
        refine lv_bipush (v := nI 9) hx hb dX2_blow_249 (by decide) ?_
        refine lv_dup2_11 hx hb dX2_blow_251 rfl rfl ?_
        refine m_l_a (j := 9) (v := nI nu) hx hb hK hw ((up2_ne (Or.inr (by omega))).trans ((up2_ne (Or.inr (by omega))).trans ((up2_ne (Or.inr (by omega))).trans ((up2_ne (Or.inr (by omega))).trans ((up2_ne (Or.inr (by omega))).trans ((up2_ne (Or.inr (by omega))).trans ((up2_ne (Or.inr (by omega))).trans ((up2_ne (Or.inr (by omega))).trans ((mKeepC_lo (by omega) (by omega)).trans eu))))))))) (by decide) dX2_blow_252 ?_
        refine lv_iconst (v := nI 1) hx hb dX2_blow_253 (by decide) ?_
        refine n_iadd hx hb dX2_blow_254 ?_
        refine m_s_a (j := 9) hx hb hK hw (by decide) dX2_blow_255 (fun H locs hw => ?_)
        obtain ⟨M5, eM5⟩ : ∃ M9, M9 = mBlow1 tx M nu jx jy z := ⟨_, rfl⟩
        replace hw : MS G ad s.heap M5 Z2 V2 H locs := by rw [eM5]; exact hw
        have f0_M5 : M5 0 0 = nI nb := by rw [eM5]; exact (up2_ne (Or.inr (by decide))).trans ((up2_ne (Or.inr (by omega))).trans ((up2_ne (Or.inr (by omega))).trans ((up2_ne (Or.inr (by omega))).trans ((up2_ne (Or.inr (by omega))).trans ((up2_ne (Or.inr (by omega))).trans ((up2_ne (Or.inr (by omega))).trans ((up2_ne (Or.inr (by omega))).trans ((up2_ne (Or.inr (by omega))).trans ((mKeepC_lo (by omega) (by omega)).trans en)))))))))
        have f1_M5 : M5 0 (150 + 10 * jx) = nI k := by rw [eM5]; exact (up2_ne (Or.inr (by omega))).trans ((up2_ne (Or.inr (by omega))).trans ((up2_ne (Or.inr (by omega))).trans ((up2_ne (Or.inr (by omega))).trans ((up2_ne (Or.inr (by omega))).trans ((up2_ne (Or.inr (by omega))).trans ((up2_ne (Or.inr (by omega))).trans ((up2_ne (Or.inr (by omega))).trans ((up2_ne (Or.inr (by omega))).trans ((mKeepC_lo (by omega) (by omega)).trans ek)))))))))
        have htx_M5 : mTx M5 tx := by rw [eM5]; exact (mTx_congr ((up2_ne (Or.inr (by decide))).trans ((up2_ne (Or.inr (by omega))).trans ((up2_ne (Or.inr (by omega))).trans ((up2_ne (Or.inr (by omega))).trans ((up2_ne (Or.inr (by omega))).trans ((up2_ne (Or.inr (by omega))).trans ((up2_ne (Or.inr (by omega))).trans ((up2_ne (Or.inr (by omega))).trans ((up2_ne (Or.inr (by omega))).trans ((mKeepC_lo (by omega) (by omega)).trans rfl)))))))))) (funext fun j9 => (up2_ne (Or.inl (by decide))).trans ((up2_ne (Or.inl (by decide))).trans ((up2_ne (Or.inl (by decide))).trans ((up2_ne (Or.inl (by decide))).trans ((up2_ne (Or.inl (by decide))).trans ((up2_ne (Or.inl (by decide))).trans ((up2_ne (Or.inl (by decide))).trans ((up2_ne (Or.inl (by decide))).trans ((up2_ne (Or.inl (by decide))).trans ((mKeepC_k (by decide)).trans rfl)))))))))) htx)
        refine lv_aload_n hx hb dX2_blow_256 rfl (lv_at hl 3 rfl) ?_
        refine m_g_a hx hb hts hown hK hw dX2_blow_257 ?_
        have ek5 : cl (M5 0 (150 + 10 * jx)) = k := by rw [f1_M5]; exact nI_clamp (by omega)
        refine lv_bipush (v := nI 40) hx hb dX2_blow_260 (by decide) ?_
        refine lv_iconst (v := nI 3) hx hb dX2_blow_262 (by decide) ?_
        refine lv_aload_n hx hb dX2_blow_263 rfl (lv_at hl 3 rfl) ?_
        refine m_g_a hx hb hts hown hK hw dX2_blow_264 ?_
        refine lv_iload hx hb dX2_blow_267 (lv_at hl 1 rfl) ?_
        refine m_l_a (j := 150 + 10 * jx) (v := nI k) hx hb hK hw f1_M5 (by omega) dX2_blow_269 ?_
        refine n_imul hx hb dX2_blow_270 ?_
        refine n_iadd hx hb dX2_blow_271 ?_
        refine m_l_a (j := 40 + 3 * k) (v := M5 0 (40 + 3 * k)) hx hb hK hw rfl (by omega) dX2_blow_272 ?_
        refine lv_istore (lv' := [(7, .int (M5 0 (40 + 3 * k))), (6, .int (nI (250 + 4 * nu))), (5, .int (nI (150 + 10 * jx))), (4, .int (z * (mCost tx M jy (M 0 3)))), (0, .ref (ad 0)), (1, .int (nI jx)), (2, .int (nI jy)), (3, .int z)]) hx hb dX2_blow_273 hl (by decide) rfl (fun ls hl => ?_)
        refine lv_aload_n hx hb dX2_blow_275 rfl (lv_at hl 4 rfl) ?_
        refine m_g_a hx hb hts hown hK hw dX2_blow_276 ?_
        refine lv_bipush (v := nI 40) hx hb dX2_blow_279 (by decide) ?_
        refine lv_iconst (v := nI 3) hx hb dX2_blow_281 (by decide) ?_
        refine lv_aload_n hx hb dX2_blow_282 rfl (lv_at hl 4 rfl) ?_
        refine m_g_a hx hb hts hown hK hw dX2_blow_283 ?_
        refine lv_iload hx hb dX2_blow_286 (lv_at hl 2 rfl) ?_
        refine m_l_a (j := 150 + 10 * jx) (v := nI k) hx hb hK hw f1_M5 (by omega) dX2_blow_288 ?_
        refine n_imul hx hb dX2_blow_289 ?_
        refine n_iadd hx hb dX2_blow_290 ?_
        refine lv_iconst (v := nI 1) hx hb dX2_blow_291 (by decide) ?_
        refine n_iadd hx hb dX2_blow_292 ?_
        refine m_l_a (j := 40 + 3 * k + 1) (v := M5 0 (40 + 3 * k + 1)) hx hb hK hw rfl (by omega) dX2_blow_293 ?_
        refine lv_aload_n hx hb dX2_blow_294 rfl (lv_at hl 4 rfl) ?_
        refine lv_iload_n hx hb dX2_blow_295 rfl (lv_at hl 5 rfl) ?_
        refine c_read (va_runV (As := [.int (nI jx)]) (rest := [.int (M5 0 (40 + 3 * k + 1))]) ⟨hx, hb, hml, hown, hts⟩ (met_X2_voicesOf l G ad M5 Z2 V2 jx (by omega) nb f0_M5 (by omega)) (cv_X2_X2_voicesOf hts ⟨Nat.le_of_ble_eq_true rfl, Nat.le_of_ble_eq_true rfl⟩) (cP.preV hK hw.1 (hw.1.recv hK)) rfl rfl hl.1 rfl (lv_room (Nat.le_of_ble_eq_true rfl)) dX2_blow_296 ⟨by first | exact Nat.zero_le _ | omega | decide, by first | exact Nat.zero_le _ | omega | decide⟩) ?_
        refine lv_iconst (v := (-1)) hx hb dX2_blow_299 (by decide) ?_
        refine lv_ixor hx hb dX2_blow_300 ?_
        refine lv_iand hx hb dX2_blow_301 ?_
        refine lv_if_ne (tgt := 309) hx hb dX2_blow_302 (by decide) (fun c_9 => ?_) (fun c_9 => ?_)
        · refine lv_iconst (v := nI 0) hx hb dX2_blow_309 (by decide) ?_
          refine lv_istore (lv' := [(8, .int (nI 0)), (7, .int (M5 0 (40 + 3 * k))), (6, .int (nI (250 + 4 * nu))), (5, .int (nI (150 + 10 * jx))), (4, .int (z * (mCost tx M jy (M 0 3)))), (0, .ref (ad 0)), (1, .int (nI jx)), (2, .int (nI jy)), (3, .int z)]) hx hb dX2_blow_310 hl (by decide) rfl (fun ls hl => ?_)
          refine lv_aload_n hx hb dX2_blow_312 rfl (lv_at hl 5 rfl) ?_
          refine m_g_a hx hb hts hown hK hw dX2_blow_313 ?_
          refine lv_iload hx hb dX2_blow_316 (lv_at hl 3 rfl) ?_
          refine lv_iconst (v := nI 2) hx hb dX2_blow_318 (by decide) ?_
          refine n_iadd hx hb dX2_blow_319 ?_
          refine m_l_a (j := 150 + 10 * jx + 2) (v := M5 0 (150 + 10 * jx + 2)) hx hb hK hw rfl (by omega) dX2_blow_320 ?_
          refine lv_iload hx hb dX2_blow_321 (lv_at hl 1 rfl) ?_
          refine lv_icmp_lt (tgt := 359) hx hb dX2_blow_323 (by decide) (fun c_10 => ?_) (fun c_10 => ?_)
          · refine lv_aload_n hx hb dX2_blow_359 rfl (lv_at hl 5 rfl) ?_
            refine m_g_a hx hb hts hown hK hw dX2_blow_360 ?_
            refine lv_iload hx hb dX2_blow_363 (lv_at hl 3 rfl) ?_
            refine lv_iconst (v := nI 1) hx hb dX2_blow_365 (by decide) ?_
            refine n_iadd hx hb dX2_blow_366 ?_
            refine m_l_a (j := 150 + 10 * jx + 1) (v := M5 0 (150 + 10 * jx + 1)) hx hb hK hw rfl (by omega) dX2_blow_367 ?_
            exact c_iret (v := M5 0 (150 + 10 * jx + 1)) (by have hM9 := (show M5 = mBlow tx M np nb nu (nI jx) (nI jy) z from (by unfold mBlow; rw [pif_t okb, show cl (nI jx) = jx from k_jx, show cl (nI jy) = jy from k_jy, ← eM5]; unfold mBlow2; simp only [ek5]; first | rw [pif_t (by first | assumption | exact Int32.not_le.mp (by assumption))] | (rw [pif_f (by first | assumption | exact Int32.not_lt.mpr (by assumption)), pif_t ⟨by assumption, by assumption⟩]) | (rw [pif_f (by first | assumption | exact Int32.not_lt.mpr (by assumption)), pif_f (fun h9 => by first | exact absurd h9.1 (by assumption) | exact absurd h9.2 (by assumption))]))); unfold mBlowR; rw [pif_t okb, ← hM9, show cl (nI jx) = jx from k_jx]; first | done | rfl | exact up2_at.symm) hx hb hr rfl hlocks ⟨_, _, mH.to (by unfold mBlow; rw [pif_t okb, show cl (nI jx) = jx from k_jx, show cl (nI jy) = jy from k_jy, ← eM5]; unfold mBlow2; simp only [ek5]; first | rw [pif_t (by first | assumption | exact Int32.not_le.mp (by assumption))] | (rw [pif_f (by first | assumption | exact Int32.not_lt.mpr (by assumption)), pif_t ⟨by assumption, by assumption⟩]) | (rw [pif_f (by first | assumption | exact Int32.not_lt.mpr (by assumption)), pif_f (fun h9 => by first | exact absurd h9.1 (by assumption) | exact absurd h9.2 (by assumption))])) rfl rfl hw.1⟩ hw.2 dX2_blow_368
          refine lv_aload_n hx hb dX2_blow_326 rfl (lv_at hl 5 rfl) ?_
          refine m_g_a hx hb hts hown hK hw dX2_blow_327 ?_
          refine lv_iload hx hb dX2_blow_330 (lv_at hl 3 rfl) ?_
          refine lv_iconst (v := nI 1) hx hb dX2_blow_332 (by decide) ?_
          refine n_iadd hx hb dX2_blow_333 ?_
          refine lv_aload_n hx hb dX2_blow_334 rfl (lv_at hl 5 rfl) ?_
          refine m_g_a hx hb hts hown hK hw dX2_blow_335 ?_
          refine lv_iload hx hb dX2_blow_338 (lv_at hl 3 rfl) ?_
          refine lv_iconst (v := nI 2) hx hb dX2_blow_340 (by decide) ?_
          refine n_iadd hx hb dX2_blow_341 ?_
          refine m_l_a (j := 150 + 10 * jx + 2) (v := M5 0 (150 + 10 * jx + 2)) hx hb hK hw rfl (by omega) dX2_blow_342 ?_
          refine lv_iload hx hb dX2_blow_343 (lv_at hl 1 rfl) ?_
          refine lv_icmp_ne (tgt := 357) hx hb dX2_blow_345 (by decide) (fun c_11 => ?_) (fun c_11 => ?_)
          · refine lv_iconst (v := nI 2) hx hb dX2_blow_357 (by decide) ?_
            refine m_s_a (j := 150 + 10 * jx + 1) hx hb hK hw (by omega) dX2_blow_358 (fun H locs hw => ?_)
            refine lv_aload_n hx hb dX2_blow_359 rfl (lv_at hl 5 rfl) ?_
            refine m_g_a hx hb hts hown hK hw dX2_blow_360 ?_
            refine lv_iload hx hb dX2_blow_363 (lv_at hl 3 rfl) ?_
            refine lv_iconst (v := nI 1) hx hb dX2_blow_365 (by decide) ?_
            refine n_iadd hx hb dX2_blow_366 ?_
            refine m_l_a (j := 150 + 10 * jx + 1) (v := nI 2) hx hb hK hw up2_at (by omega) dX2_blow_367 ?_
            exact c_iret (v := nI 2) (by have hM9 := (show (up2 M5 0 (150 + 10 * jx + 1) (nI 2)) = mBlow tx M np nb nu (nI jx) (nI jy) z from (by unfold mBlow; rw [pif_t okb, show cl (nI jx) = jx from k_jx, show cl (nI jy) = jy from k_jy, ← eM5]; unfold mBlow2; simp only [ek5]; first | rw [pif_t (by first | assumption | exact Int32.not_le.mp (by assumption))] | (rw [pif_f (by first | assumption | exact Int32.not_lt.mpr (by assumption)), pif_t ⟨by assumption, by assumption⟩]) | (rw [pif_f (by first | assumption | exact Int32.not_lt.mpr (by assumption)), pif_f (fun h9 => by first | exact absurd h9.1 (by assumption) | exact absurd h9.2 (by assumption))]))); unfold mBlowR; rw [pif_t okb, ← hM9, show cl (nI jx) = jx from k_jx]; first | done | rfl | exact up2_at.symm) hx hb hr rfl hlocks ⟨_, _, mH.to (by unfold mBlow; rw [pif_t okb, show cl (nI jx) = jx from k_jx, show cl (nI jy) = jy from k_jy, ← eM5]; unfold mBlow2; simp only [ek5]; first | rw [pif_t (by first | assumption | exact Int32.not_le.mp (by assumption))] | (rw [pif_f (by first | assumption | exact Int32.not_lt.mpr (by assumption)), pif_t ⟨by assumption, by assumption⟩]) | (rw [pif_f (by first | assumption | exact Int32.not_lt.mpr (by assumption)), pif_f (fun h9 => by first | exact absurd h9.1 (by assumption) | exact absurd h9.2 (by assumption))])) rfl rfl hw.1⟩ hw.2 dX2_blow_368
          refine lv_iload hx hb dX2_blow_348 (lv_at hl 0 rfl) ?_
          refine n_if_eq (tgt := 357) hx hb dX2_blow_350 (by decide) (by decide) (fun _ => ?_) (fun h9 => absurd h9 (by decide))
          refine lv_iconst (v := nI 2) hx hb dX2_blow_357 (by decide) ?_
          refine m_s_a (j := 150 + 10 * jx + 1) hx hb hK hw (by omega) dX2_blow_358 (fun H locs hw => ?_)
          refine lv_aload_n hx hb dX2_blow_359 rfl (lv_at hl 5 rfl) ?_
          refine m_g_a hx hb hts hown hK hw dX2_blow_360 ?_
          refine lv_iload hx hb dX2_blow_363 (lv_at hl 3 rfl) ?_
          refine lv_iconst (v := nI 1) hx hb dX2_blow_365 (by decide) ?_
          refine n_iadd hx hb dX2_blow_366 ?_
          refine m_l_a (j := 150 + 10 * jx + 1) (v := nI 2) hx hb hK hw up2_at (by omega) dX2_blow_367 ?_
          exact c_iret (v := nI 2) (by have hM9 := (show (up2 M5 0 (150 + 10 * jx + 1) (nI 2)) = mBlow tx M np nb nu (nI jx) (nI jy) z from (by unfold mBlow; rw [pif_t okb, show cl (nI jx) = jx from k_jx, show cl (nI jy) = jy from k_jy, ← eM5]; unfold mBlow2; simp only [ek5]; first | rw [pif_t (by first | assumption | exact Int32.not_le.mp (by assumption))] | (rw [pif_f (by first | assumption | exact Int32.not_lt.mpr (by assumption)), pif_t ⟨by assumption, by assumption⟩]) | (rw [pif_f (by first | assumption | exact Int32.not_lt.mpr (by assumption)), pif_f (fun h9 => by first | exact absurd h9.1 (by assumption) | exact absurd h9.2 (by assumption))]))); unfold mBlowR; rw [pif_t okb, ← hM9, show cl (nI jx) = jx from k_jx]; first | done | rfl | exact up2_at.symm) hx hb hr rfl hlocks ⟨_, _, mH.to (by unfold mBlow; rw [pif_t okb, show cl (nI jx) = jx from k_jx, show cl (nI jy) = jy from k_jy, ← eM5]; unfold mBlow2; simp only [ek5]; first | rw [pif_t (by first | assumption | exact Int32.not_le.mp (by assumption))] | (rw [pif_f (by first | assumption | exact Int32.not_lt.mpr (by assumption)), pif_t ⟨by assumption, by assumption⟩]) | (rw [pif_f (by first | assumption | exact Int32.not_lt.mpr (by assumption)), pif_f (fun h9 => by first | exact absurd h9.1 (by assumption) | exact absurd h9.2 (by assumption))])) rfl rfl hw.1⟩ hw.2 dX2_blow_368
        refine lv_iconst (v := nI 1) hx hb dX2_blow_305 (by decide) ?_
        refine lv_goto (tgt := 310) hx hb dX2_blow_306 (by decide) ?_
        refine lv_istore (lv' := [(8, .int (nI 1)), (7, .int (M5 0 (40 + 3 * k))), (6, .int (nI (250 + 4 * nu))), (5, .int (nI (150 + 10 * jx))), (4, .int (z * (mCost tx M jy (M 0 3)))), (0, .ref (ad 0)), (1, .int (nI jx)), (2, .int (nI jy)), (3, .int z)]) hx hb dX2_blow_310 hl (by decide) rfl (fun ls hl => ?_)
        refine lv_aload_n hx hb dX2_blow_312 rfl (lv_at hl 5 rfl) ?_
        refine m_g_a hx hb hts hown hK hw dX2_blow_313 ?_
        refine lv_iload hx hb dX2_blow_316 (lv_at hl 3 rfl) ?_
        refine lv_iconst (v := nI 2) hx hb dX2_blow_318 (by decide) ?_
        refine n_iadd hx hb dX2_blow_319 ?_
        refine m_l_a (j := 150 + 10 * jx + 2) (v := M5 0 (150 + 10 * jx + 2)) hx hb hK hw rfl (by omega) dX2_blow_320 ?_
        refine lv_iload hx hb dX2_blow_321 (lv_at hl 1 rfl) ?_
        refine lv_icmp_lt (tgt := 359) hx hb dX2_blow_323 (by decide) (fun c_12 => ?_) (fun c_12 => ?_)
        · refine lv_aload_n hx hb dX2_blow_359 rfl (lv_at hl 5 rfl) ?_
          refine m_g_a hx hb hts hown hK hw dX2_blow_360 ?_
          refine lv_iload hx hb dX2_blow_363 (lv_at hl 3 rfl) ?_
          refine lv_iconst (v := nI 1) hx hb dX2_blow_365 (by decide) ?_
          refine n_iadd hx hb dX2_blow_366 ?_
          refine m_l_a (j := 150 + 10 * jx + 1) (v := M5 0 (150 + 10 * jx + 1)) hx hb hK hw rfl (by omega) dX2_blow_367 ?_
          exact c_iret (v := M5 0 (150 + 10 * jx + 1)) (by have hM9 := (show M5 = mBlow tx M np nb nu (nI jx) (nI jy) z from (by unfold mBlow; rw [pif_t okb, show cl (nI jx) = jx from k_jx, show cl (nI jy) = jy from k_jy, ← eM5]; unfold mBlow2; simp only [ek5]; first | rw [pif_t (by first | assumption | exact Int32.not_le.mp (by assumption))] | (rw [pif_f (by first | assumption | exact Int32.not_lt.mpr (by assumption)), pif_t ⟨by assumption, by assumption⟩]) | (rw [pif_f (by first | assumption | exact Int32.not_lt.mpr (by assumption)), pif_f (fun h9 => by first | exact absurd h9.1 (by assumption) | exact absurd h9.2 (by assumption))]))); unfold mBlowR; rw [pif_t okb, ← hM9, show cl (nI jx) = jx from k_jx]; first | done | rfl | exact up2_at.symm) hx hb hr rfl hlocks ⟨_, _, mH.to (by unfold mBlow; rw [pif_t okb, show cl (nI jx) = jx from k_jx, show cl (nI jy) = jy from k_jy, ← eM5]; unfold mBlow2; simp only [ek5]; first | rw [pif_t (by first | assumption | exact Int32.not_le.mp (by assumption))] | (rw [pif_f (by first | assumption | exact Int32.not_lt.mpr (by assumption)), pif_t ⟨by assumption, by assumption⟩]) | (rw [pif_f (by first | assumption | exact Int32.not_lt.mpr (by assumption)), pif_f (fun h9 => by first | exact absurd h9.1 (by assumption) | exact absurd h9.2 (by assumption))])) rfl rfl hw.1⟩ hw.2 dX2_blow_368
        refine lv_aload_n hx hb dX2_blow_326 rfl (lv_at hl 5 rfl) ?_
        refine m_g_a hx hb hts hown hK hw dX2_blow_327 ?_
        refine lv_iload hx hb dX2_blow_330 (lv_at hl 3 rfl) ?_
        refine lv_iconst (v := nI 1) hx hb dX2_blow_332 (by decide) ?_
        refine n_iadd hx hb dX2_blow_333 ?_
        refine lv_aload_n hx hb dX2_blow_334 rfl (lv_at hl 5 rfl) ?_
        refine m_g_a hx hb hts hown hK hw dX2_blow_335 ?_
        refine lv_iload hx hb dX2_blow_338 (lv_at hl 3 rfl) ?_
        refine lv_iconst (v := nI 2) hx hb dX2_blow_340 (by decide) ?_
        refine n_iadd hx hb dX2_blow_341 ?_
        refine m_l_a (j := 150 + 10 * jx + 2) (v := M5 0 (150 + 10 * jx + 2)) hx hb hK hw rfl (by omega) dX2_blow_342 ?_
        refine lv_iload hx hb dX2_blow_343 (lv_at hl 1 rfl) ?_
        refine lv_icmp_ne (tgt := 357) hx hb dX2_blow_345 (by decide) (fun c_13 => ?_) (fun c_13 => ?_)
        · refine lv_iconst (v := nI 2) hx hb dX2_blow_357 (by decide) ?_
          refine m_s_a (j := 150 + 10 * jx + 1) hx hb hK hw (by omega) dX2_blow_358 (fun H locs hw => ?_)
          refine lv_aload_n hx hb dX2_blow_359 rfl (lv_at hl 5 rfl) ?_
          refine m_g_a hx hb hts hown hK hw dX2_blow_360 ?_
          refine lv_iload hx hb dX2_blow_363 (lv_at hl 3 rfl) ?_
          refine lv_iconst (v := nI 1) hx hb dX2_blow_365 (by decide) ?_
          refine n_iadd hx hb dX2_blow_366 ?_
          refine m_l_a (j := 150 + 10 * jx + 1) (v := nI 2) hx hb hK hw up2_at (by omega) dX2_blow_367 ?_
          exact c_iret (v := nI 2) (by have hM9 := (show (up2 M5 0 (150 + 10 * jx + 1) (nI 2)) = mBlow tx M np nb nu (nI jx) (nI jy) z from (by unfold mBlow; rw [pif_t okb, show cl (nI jx) = jx from k_jx, show cl (nI jy) = jy from k_jy, ← eM5]; unfold mBlow2; simp only [ek5]; first | rw [pif_t (by first | assumption | exact Int32.not_le.mp (by assumption))] | (rw [pif_f (by first | assumption | exact Int32.not_lt.mpr (by assumption)), pif_t ⟨by assumption, by assumption⟩]) | (rw [pif_f (by first | assumption | exact Int32.not_lt.mpr (by assumption)), pif_f (fun h9 => by first | exact absurd h9.1 (by assumption) | exact absurd h9.2 (by assumption))]))); unfold mBlowR; rw [pif_t okb, ← hM9, show cl (nI jx) = jx from k_jx]; first | done | rfl | exact up2_at.symm) hx hb hr rfl hlocks ⟨_, _, mH.to (by unfold mBlow; rw [pif_t okb, show cl (nI jx) = jx from k_jx, show cl (nI jy) = jy from k_jy, ← eM5]; unfold mBlow2; simp only [ek5]; first | rw [pif_t (by first | assumption | exact Int32.not_le.mp (by assumption))] | (rw [pif_f (by first | assumption | exact Int32.not_lt.mpr (by assumption)), pif_t ⟨by assumption, by assumption⟩]) | (rw [pif_f (by first | assumption | exact Int32.not_lt.mpr (by assumption)), pif_f (fun h9 => by first | exact absurd h9.1 (by assumption) | exact absurd h9.2 (by assumption))])) rfl rfl hw.1⟩ hw.2 dX2_blow_368
        refine lv_iload hx hb dX2_blow_348 (lv_at hl 0 rfl) ?_
        refine n_if_eq (tgt := 357) hx hb dX2_blow_350 (by decide) (by decide) (fun h9 => absurd h9 (by decide)) (fun _ => ?_)
        refine lv_iconst (v := nI 1) hx hb dX2_blow_353 (by decide) ?_
        refine lv_goto (tgt := 358) hx hb dX2_blow_354 (by decide) ?_
        refine m_s_a (j := 150 + 10 * jx + 1) hx hb hK hw (by omega) dX2_blow_358 (fun H locs hw => ?_)
        refine lv_aload_n hx hb dX2_blow_359 rfl (lv_at hl 5 rfl) ?_
        refine m_g_a hx hb hts hown hK hw dX2_blow_360 ?_
        refine lv_iload hx hb dX2_blow_363 (lv_at hl 3 rfl) ?_
        refine lv_iconst (v := nI 1) hx hb dX2_blow_365 (by decide) ?_
        refine n_iadd hx hb dX2_blow_366 ?_
        refine m_l_a (j := 150 + 10 * jx + 1) (v := nI 1) hx hb hK hw up2_at (by omega) dX2_blow_367 ?_
        exact c_iret (v := nI 1) (by have hM9 := (show (up2 M5 0 (150 + 10 * jx + 1) (nI 1)) = mBlow tx M np nb nu (nI jx) (nI jy) z from (by unfold mBlow; rw [pif_t okb, show cl (nI jx) = jx from k_jx, show cl (nI jy) = jy from k_jy, ← eM5]; unfold mBlow2; simp only [ek5]; first | rw [pif_t (by first | assumption | exact Int32.not_le.mp (by assumption))] | (rw [pif_f (by first | assumption | exact Int32.not_lt.mpr (by assumption)), pif_t ⟨by assumption, by assumption⟩]) | (rw [pif_f (by first | assumption | exact Int32.not_lt.mpr (by assumption)), pif_f (fun h9 => by first | exact absurd h9.1 (by assumption) | exact absurd h9.2 (by assumption))]))); unfold mBlowR; rw [pif_t okb, ← hM9, show cl (nI jx) = jx from k_jx]; first | done | rfl | exact up2_at.symm) hx hb hr rfl hlocks ⟨_, _, mH.to (by unfold mBlow; rw [pif_t okb, show cl (nI jx) = jx from k_jx, show cl (nI jy) = jy from k_jy, ← eM5]; unfold mBlow2; simp only [ek5]; first | rw [pif_t (by first | assumption | exact Int32.not_le.mp (by assumption))] | (rw [pif_f (by first | assumption | exact Int32.not_lt.mpr (by assumption)), pif_t ⟨by assumption, by assumption⟩]) | (rw [pif_f (by first | assumption | exact Int32.not_lt.mpr (by assumption)), pif_f (fun h9 => by first | exact absurd h9.1 (by assumption) | exact absurd h9.2 (by assumption))])) rfl rfl hw.1⟩ hw.2 dX2_blow_368
      refine lv_iconst (v := (-1)) hx hb dX2_blow_118 (by decide) ?_
      exact c_iret (v := (-1)) (by unfold mBlowR; rw [pif_f (fun h9 => by simp only [mBlowOk, cl, k_jx, k_jy] at h9; first | exact absurd h9.1 (by assumption) | exact absurd h9.2.1 (by assumption) | exact absurd h9.2.2.1 (by assumption) | exact absurd h9.2.2.2.1 (by assumption) | exact absurd (by assumption) h9.2.2.2.2.1 | exact absurd (by assumption) h9.2.2.2.2.2.1 | exact absurd h9.2.2.2.2.2.2.1 (by assumption) | exact absurd h9.2.2.2.2.2.2.2 (by assumption))]) hx hb hr rfl hlocks ⟨_, _, mH.to (by unfold mBlow; rw [pif_f (fun h9 => by simp only [mBlowOk, cl, k_jx, k_jy] at h9; first | exact absurd h9.1 (by assumption) | exact absurd h9.2.1 (by assumption) | exact absurd h9.2.2.1 (by assumption) | exact absurd h9.2.2.2.1 (by assumption) | exact absurd (by assumption) h9.2.2.2.2.1 | exact absurd (by assumption) h9.2.2.2.2.2.1 | exact absurd h9.2.2.2.2.2.2.1 (by assumption) | exact absurd h9.2.2.2.2.2.2.2 (by assumption))]) rfl rfl hw.1⟩ hw.2 dX2_blow_119
    refine lv_iconst (v := (-1)) hx hb dX2_blow_90 (by decide) ?_
    exact c_iret (v := (-1)) (by unfold mBlowR; rw [pif_f (fun h9 => by simp only [mBlowOk, cl, k_jx, k_jy] at h9; first | exact absurd h9.1 (by assumption) | exact absurd h9.2.1 (by assumption) | exact absurd h9.2.2.1 (by assumption) | exact absurd h9.2.2.2.1 (by assumption) | exact absurd (by assumption) h9.2.2.2.2.1 | exact absurd (by assumption) h9.2.2.2.2.2.1 | exact absurd h9.2.2.2.2.2.2.1 (by assumption) | exact absurd h9.2.2.2.2.2.2.2 (by assumption))]) hx hb hr rfl hlocks ⟨_, _, mH.to (by unfold mBlow; rw [pif_f (fun h9 => by simp only [mBlowOk, cl, k_jx, k_jy] at h9; first | exact absurd h9.1 (by assumption) | exact absurd h9.2.1 (by assumption) | exact absurd h9.2.2.1 (by assumption) | exact absurd h9.2.2.2.1 (by assumption) | exact absurd (by assumption) h9.2.2.2.2.1 | exact absurd (by assumption) h9.2.2.2.2.2.1 | exact absurd h9.2.2.2.2.2.2.1 (by assumption) | exact absurd h9.2.2.2.2.2.2.2 (by assumption))]) rfl rfl hw.1⟩ hw.2 dX2_blow_91
  refine lv_iconst (v := (-1)) hx hb dX2_blow_52 (by decide) ?_
  exact c_iret (v := (-1)) (by unfold mBlowR; rw [pif_f (fun h9 => by simp only [mBlowOk, cl, k_jx, k_jy] at h9; first | exact absurd h9.1 (by assumption) | exact absurd h9.2.1 (by assumption) | exact absurd h9.2.2.1 (by assumption) | exact absurd h9.2.2.2.1 (by assumption) | exact absurd (by assumption) h9.2.2.2.2.1 | exact absurd (by assumption) h9.2.2.2.2.2.1 | exact absurd h9.2.2.2.2.2.2.1 (by assumption) | exact absurd h9.2.2.2.2.2.2.2 (by assumption))]) hx hb hr rfl hlocks ⟨_, _, mH.to (by unfold mBlow; rw [pif_f (fun h9 => by simp only [mBlowOk, cl, k_jx, k_jy] at h9; first | exact absurd h9.1 (by assumption) | exact absurd h9.2.1 (by assumption) | exact absurd h9.2.2.1 (by assumption) | exact absurd h9.2.2.2.1 (by assumption) | exact absurd (by assumption) h9.2.2.2.2.1 | exact absurd (by assumption) h9.2.2.2.2.2.1 | exact absurd h9.2.2.2.2.2.2.1 (by assumption) | exact absurd h9.2.2.2.2.2.2.2 (by assumption))]) rfl rfl hw.1⟩ hw.2 dX2_blow_53
