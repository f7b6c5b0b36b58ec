/-- one line of a text, played: what it answers, what it leaves -/
noncomputable def mPlayR (tx : kT) (M : Nat → Nat → Int32) (nb nk np h nu so : Nat) (x1 x2 : Int32) : Int32 :=
  if so = 4 then pif (vp_in x1 nk ∧ ¬ np = 10) (nI np) (-1) else if so = 5 then mBlowR tx M np nb nu x1 (x2 / nI 10) (x2 - x2 / nI 10 * nI 10) else if so = 6 then pif ((nI 1 ≤ x1 ∧ x1 ≤ nI 99) ∧ h + cl x1 ≤ 999) (nI (h + cl x1)) (-1) else 0
noncomputable def mPlayM (tx : kT) (M : Nat → Nat → Int32) (nb nk np h nu so : Nat) (x1 x2 : Int32) : Nat → Nat → Int32 :=
  if so = 4 then pif (vp_in x1 nk ∧ ¬ np = 10) (mBeginPut M np x1) M else if so = 5 then mBlow tx M np nb nu x1 (x2 / nI 10) (x2 - x2 / nI 10 * nI 10) else if so = 6 then pif ((nI 1 ≤ x1 ∧ x1 ≤ nI 99) ∧ h + cl x1 ≤ 999) (mLater M (cl x1)) M else M
set_option maxHeartbeats 4000000 in
set_option maxRecDepth 100000 in
theorem met_X2_isPlayed (l : Launch) (G : gG) (ad : Nat → Nat) (M Z : Nat → Nat → Int32) (V : Nat → Nat → Int64) (tx : kT) (htx : mTx M tx) (nb nk np h ns nu : Nat) (en : M 0 0 = nI nb) (hn : nb ≤ 6) (ek : M 0 1 = nI nk) (hk : nk ≤ 6) (ep : M 0 2 = nI np) (hp : np ≤ 10) (eh : M 0 3 = nI h) (hh : h ≤ 999) (es : M 0 6 = nI ns) (hs : ns ≤ 30) (eu : M 0 9 = nI nu) (hu : nu ≤ 40) (hkd : ∀ q, q < np → ∃ k, k < 6 ∧ M 0 (150 + 10 * q) = nI k) (i so : Nat) (hi : i + 2 < 2720) (hso : M 2 i = nI so) (hso7 : so < 7) : Met l yX2_isPlayed (ws_ yX2_isPlayed cX2_isPlayed 2 (some .boolean)) ({ frames := 6, cells := 0, slots := 0, locals := 147 } : Room) (cP G [.ref (ad 0), .int (nI i)] (mH G ad M Z V)) (cQ (some (.int (bI (¬ mPlayR tx M nb nk np h nu so (M 2 (i + 1)) (M 2 (i + 2)) < 0)))) (fun H => ∃ Z9 V9, mH G ad (mPlayM tx M nb nk np h nu so (M 2 (i + 1)) (M 2 (i + 2))) Z9 V9 H) (mA ad)) 0 0 (mA ad) := by
  refine c_start (by decide) (Nat.le_of_ble_eq_true rfl) ?_
  intro p e s m below meth c hx hb hr hlocks hml hown hts hB hK ls hl
  have hw := MS.of hB
  have hl : lv_has ls 2 [(0, .ref (ad 0)), (1, .int (nI i))] := hl
  refine lv_aload_n hx hb dX2_isPlayed_0 rfl (lv_at hl 0 rfl) ?_
  refine m_g_texts hx hb hts hown hK hw dX2_isPlayed_1 ?_
  refine lv_iload_n hx hb dX2_isPlayed_4 rfl (lv_at hl 1 rfl) ?_
  refine m_l_texts (j := i) (v := nI so) hx hb hK hw hso (by omega) dX2_isPlayed_5 ?_
  rcases (show so < 4 ∨ so = 4 ∨ so = 5 ∨ so = 6 by omega) with h4 | rfl | rfl | rfl
  · refine lv_tableOut (tgt := 117) hx hb dX2_isPlayed_6 (Or.inl (by rcases (show so = 0 ∨ so = 1 ∨ so = 2 ∨ so = 3 by omega) with rfl | rfl | rfl | rfl <;> decide)) (by decide) ?_
    refine lv_iconst (v := nI 1) hx hb dX2_isPlayed_117 (by decide) ?_
    exact c_iret (v := nI 1) ((bI_t (by unfold mPlayR; rw [if_neg (by omega), if_neg (by omega), if_neg (by omega)]; decide)).symm) hx hb hr rfl hlocks ⟨_, _, mH.to (by unfold mPlayM; rw [if_neg (by omega), if_neg (by omega), if_neg (by omega)]) rfl rfl hw.1⟩ hw.2 dX2_isPlayed_118
  · refine lv_tableIn (off := 26) (tgt := 32) hx hb dX2_isPlayed_6 (by decide) (by decide) rfl (by decide) ?_
    refine lv_aload_n hx hb dX2_isPlayed_32 rfl (lv_at hl 0 rfl) ?_
    refine lv_aload_n hx hb dX2_isPlayed_33 rfl (lv_at hl 0 rfl) ?_
    refine m_g_texts hx hb hts hown hK hw dX2_isPlayed_34 ?_
    refine lv_iload_n hx hb dX2_isPlayed_37 rfl (lv_at hl 1 rfl) ?_
    refine lv_iconst (v := nI 1) hx hb dX2_isPlayed_38 (by decide) ?_
    refine n_iadd hx hb dX2_isPlayed_39 ?_
    refine m_l_texts (j := i + 1) (v := M 2 (i + 1)) hx hb hK hw rfl (by omega) dX2_isPlayed_40 ?_
    refine c_call (va_runV (As := [.int (M 2 (i + 1))]) (rest := []) ⟨hx, hb, hml, hown, hts⟩ (met_X2_begin l G ad M Z V (M 2 (i + 1)) nk ek hk np ep hp ns es hs) (cv_X2_X2_begin hts ⟨Nat.le_of_ble_eq_true rfl, Nat.le_of_ble_eq_true rfl⟩) (cP.preV hK hw.1 (hw.1.recv hK)) rfl rfl hl.1 rfl (lv_room (Nat.le_of_ble_eq_true rfl)) dX2_isPlayed_41 ⟨by first | exact Nat.zero_le _ | omega | decide, by first | exact Nat.zero_le _ | omega | decide⟩) hw.2 (fun q _ h => h) (fun q h => h) (fun H locs hw _ _ hS => ?_)
    replace hw := MS.mk hw hS
    refine lv_if_lt (tgt := 51) hx hb dX2_isPlayed_44 (by decide) (fun c_1 => ?_) (fun c_1 => ?_)
    · refine lv_iconst (v := nI 0) hx hb dX2_isPlayed_51 (by decide) ?_
      exact c_iret (v := nI 0) ((bI_f (show ¬ ¬ mPlayR tx M nb nk np h nu 4 (M 2 (i + 1)) (M 2 (i + 2)) < 0 from (fun h9 => h9 c_1))).symm) hx hb hr rfl hlocks ⟨_, _, mH.to rfl rfl rfl hw.1⟩ hw.2 dX2_isPlayed_52
    refine lv_iconst (v := nI 1) hx hb dX2_isPlayed_47 (by decide) ?_
    refine lv_goto (tgt := 52) hx hb dX2_isPlayed_48 (by decide) ?_
    exact c_iret (v := nI 1) ((bI_t (show ¬ mPlayR tx M nb nk np h nu 4 (M 2 (i + 1)) (M 2 (i + 2)) < 0 from (fun h9 => c_1 h9))).symm) hx hb hr rfl hlocks ⟨_, _, mH.to rfl rfl rfl hw.1⟩ hw.2 dX2_isPlayed_52
  · refine lv_tableIn (off := 47) (tgt := 53) hx hb dX2_isPlayed_6 (by decide) (by decide) rfl (by decide) ?_
    refine lv_aload_n hx hb dX2_isPlayed_53 rfl (lv_at hl 0 rfl) ?_
    refine lv_aload_n hx hb dX2_isPlayed_54 rfl (lv_at hl 0 rfl) ?_
    refine m_g_texts hx hb hts hown hK hw dX2_isPlayed_55 ?_
    refine lv_iload_n hx hb dX2_isPlayed_58 rfl (lv_at hl 1 rfl) ?_
    refine lv_iconst (v := nI 1) hx hb dX2_isPlayed_59 (by decide) ?_
    refine n_iadd hx hb dX2_isPlayed_60 ?_
    refine m_l_texts (j := i + 1) (v := M 2 (i + 1)) hx hb hK hw rfl (by omega) dX2_isPlayed_61 ?_
    refine lv_aload_n hx hb dX2_isPlayed_62 rfl (lv_at hl 0 rfl) ?_
    refine m_g_texts hx hb hts hown hK hw dX2_isPlayed_63 ?_
    refine lv_iload_n hx hb dX2_isPlayed_66 rfl (lv_at hl 1 rfl) ?_
    refine lv_iconst (v := nI 2) hx hb dX2_isPlayed_67 (by decide) ?_
    refine n_iadd hx hb dX2_isPlayed_68 ?_
    refine m_l_texts (j := i + 2) (v := M 2 (i + 2)) hx hb hK hw rfl (by omega) dX2_isPlayed_69 ?_
    refine lv_bipush (v := nI 10) hx hb dX2_isPlayed_70 (by decide) ?_
    refine lv_idiv hx hb dX2_isPlayed_72 (by decide) ?_
    refine lv_aload_n hx hb dX2_isPlayed_73 rfl (lv_at hl 0 rfl) ?_
    refine m_g_texts hx hb hts hown hK hw dX2_isPlayed_74 ?_
    refine lv_iload_n hx hb dX2_isPlayed_77 rfl (lv_at hl 1 rfl) ?_
    refine lv_iconst (v := nI 2) hx hb dX2_isPlayed_78 (by decide) ?_
    refine n_iadd hx hb dX2_isPlayed_79 ?_
    refine m_l_texts (j := i + 2) (v := M 2 (i + 2)) hx hb hK hw rfl (by omega) dX2_isPlayed_80 ?_
    refine lv_bipush (v := nI 10) hx hb dX2_isPlayed_81 (by decide) ?_
    refine lv_irem hx hb dX2_isPlayed_83 (by decide) ?_
    refine c_call (va_runV (As := [.int (M 2 (i + 1)), .int ((M 2 (i + 2)) / (nI 10)), .int ((M 2 (i + 2)) - (M 2 (i + 2)) / (nI 10) * (nI 10))]) (rest := []) ⟨hx, hb, hml, hown, hts⟩ (met_X2_blow l G ad M Z V tx htx (M 2 (i + 1)) ((M 2 (i + 2)) / (nI 10)) ((M 2 (i + 2)) - (M 2 (i + 2)) / (nI 10) * (nI 10)) np ep hp nb en hn nu eu hu ns es hs hkd) (cv_X2_X2_blow hts ⟨Nat.le_of_ble_eq_true rfl, Nat.le_of_ble_eq_true rfl⟩) (cP.preV hK hw.1 (hw.1.recv hK)) rfl rfl hl.1 rfl (lv_room (Nat.le_of_ble_eq_true rfl)) dX2_isPlayed_84 ⟨by first | exact Nat.zero_le _ | omega | decide, by first | exact Nat.zero_le _ | omega | decide⟩) hw.2 (fun q _ h => h) (fun q h => h) (fun H locs hw _ _ hS => ?_)
    obtain ⟨Z1, V1, hw⟩ := hw
    replace hw := MS.mk hw hS
    refine lv_if_lt (tgt := 94) hx hb dX2_isPlayed_87 (by decide) (fun c_2 => ?_) (fun c_2 => ?_)
    · refine lv_iconst (v := nI 0) hx hb dX2_isPlayed_94 (by decide) ?_
      exact c_iret (v := nI 0) ((bI_f (show ¬ ¬ mPlayR tx M nb nk np h nu 5 (M 2 (i + 1)) (M 2 (i + 2)) < 0 from (fun h9 => h9 c_2))).symm) hx hb hr rfl hlocks ⟨_, _, mH.to rfl rfl rfl hw.1⟩ hw.2 dX2_isPlayed_95
    refine lv_iconst (v := nI 1) hx hb dX2_isPlayed_90 (by decide) ?_
    refine lv_goto (tgt := 95) hx hb dX2_isPlayed_91 (by decide) ?_
    exact c_iret (v := nI 1) ((bI_t (show ¬ mPlayR tx M nb nk np h nu 5 (M 2 (i + 1)) (M 2 (i + 2)) < 0 from (fun h9 => c_2 h9))).symm) hx hb hr rfl hlocks ⟨_, _, mH.to rfl rfl rfl hw.1⟩ hw.2 dX2_isPlayed_95
  refine lv_tableIn (off := 90) (tgt := 96) hx hb dX2_isPlayed_6 (by decide) (by decide) rfl (by decide) ?_
  refine lv_aload_n hx hb dX2_isPlayed_96 rfl (lv_at hl 0 rfl) ?_
  refine lv_aload_n hx hb dX2_isPlayed_97 rfl (lv_at hl 0 rfl) ?_
  refine m_g_texts hx hb hts hown hK hw dX2_isPlayed_98 ?_
  refine lv_iload_n hx hb dX2_isPlayed_101 rfl (lv_at hl 1 rfl) ?_
  refine lv_iconst (v := nI 1) hx hb dX2_isPlayed_102 (by decide) ?_
  refine n_iadd hx hb dX2_isPlayed_103 ?_
  refine m_l_texts (j := i + 1) (v := M 2 (i + 1)) hx hb hK hw rfl (by omega) dX2_isPlayed_104 ?_
  refine c_call (va_runV (As := [.int (M 2 (i + 1))]) (rest := []) ⟨hx, hb, hml, hown, hts⟩ (met_X2_later l G ad M Z V (M 2 (i + 1)) h eh hh ns es hs) (cv_X2_X2_later hts ⟨Nat.le_of_ble_eq_true rfl, Nat.le_of_ble_eq_true rfl⟩) (cP.preV hK hw.1 (hw.1.recv hK)) rfl rfl hl.1 rfl (lv_room (Nat.le_of_ble_eq_true rfl)) dX2_isPlayed_105 ⟨by first | exact Nat.zero_le _ | omega | decide, by first | exact Nat.zero_le _ | omega | decide⟩) hw.2 (fun q _ h => h) (fun q h => h) (fun H locs hw _ _ hS => ?_)
  replace hw := MS.mk hw hS
  refine lv_if_lt (tgt := 115) hx hb dX2_isPlayed_108 (by decide) (fun c_3 => ?_) (fun c_3 => ?_)
  · refine lv_iconst (v := nI 0) hx hb dX2_isPlayed_115 (by decide) ?_
    exact c_iret (v := nI 0) ((bI_f (show ¬ ¬ mPlayR tx M nb nk np h nu 6 (M 2 (i + 1)) (M 2 (i + 2)) < 0 from (fun h9 => h9 c_3))).symm) hx hb hr rfl hlocks ⟨_, _, mH.to rfl rfl rfl hw.1⟩ hw.2 dX2_isPlayed_116
  refine lv_iconst (v := nI 1) hx hb dX2_isPlayed_111 (by decide) ?_
  refine lv_goto (tgt := 116) hx hb dX2_isPlayed_112 (by decide) ?_
  exact c_iret (v := nI 1) ((bI_t (show ¬ mPlayR tx M nb nk np h nu 6 (M 2 (i + 1)) (M 2 (i + 2)) < 0 from (fun h9 => c_3 h9))).symm) hx hb hr rfl hlocks ⟨_, _, mH.to rfl rfl rfl hw.1⟩ hw.2 dX2_isPlayed_116
