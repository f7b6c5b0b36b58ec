theorem or_small : ∀ a, a < 64 → ∀ b, b < 64 → nI a ||| nI b = nI (a ||| b) := by decide +kernel
theorem sub_small : ∀ a, a < 64 → ∀ b, b < 64 → nI a &&& (nI b ^^^ (-1)) = nI (a &&& (63 ^^^ b)) := by decide +kernel
theorem has_small : ∀ a, a < 64 → ∀ k, k < 6 → ((nI a >>> (nI k &&& 31)) &&& nI 1 = nI 1 ↔ a.testBit k = true) := by decide +kernel
theorem not_small : ∀ b, b < 64 → ∀ k, k < 6 → (63 ^^^ b).testBit k = !(b.testBit k) := by decide +kernel
/-- a kind that is among kinds and not done -/
theorem has_left {kk d k : Nat} (hkk : kk < 64) (hd : d < 64) (hk : k < 6) : mHas (nI kk &&& (nI d ^^^ (-1))) k ↔ (kk.testBit k = true ∧ d.testBit k = false) := by
  unfold mHas
  rw [sub_small kk hkk d hd, has_small _ (Nat.lt_of_le_of_lt Nat.and_le_left hkk) k hk, Nat.testBit_and, not_small d hd k hk]
  cases kk.testBit k <;> cases d.testBit k <;> simp
theorem or_lt {d k : Nat} (hd : d < 64) (hk : k < 6) : d ||| 2 ^ k < 64 := Nat.or_lt_two_pow (n := 6) hd (Nat.pow_lt_pow_right (by decide) hk)
theorem or_ne {d k : Nat} (h : d.testBit k = false) : d ||| 2 ^ k ≠ d := by
  intro e
  have h2 : (d ||| 2 ^ k).testBit k = true := by rw [Nat.testBit_or, Nat.testBit_two_pow_self]; simp
  rw [e, h] at h2
  cases h2
theorem mDone_free {M : Nat → Nat → Int32} {sk ck : Nat → Int32} {k t f e : Nat} {be be' : Int32} : (mDone M sk ck k t f e be).1 = (mDone M sk ck k t f e be').1 ∧ ((mDone M sk ck k t f e be').1 → mDone M sk ck k t f e be = mDone M sk ck k t f e be') := by
  unfold mDone
  cases e - f with
  | zero => exact ⟨rfl, fun h => h.elim⟩
  | succ n => exact ⟨rfl, fun _ => rfl⟩
noncomputable def mByOk (M : Nat → Nat → Int32) (sk ck : Nat → Int32) (nb kk e1 d h ch : Nat) : Prop := mHas (nI kk &&& (nI d ^^^ (-1))) (ch / 100) ∧ (ch % 100 / 10 ≤ ch % 100 % 10 ∧ ch % 100 % 10 < nb) ∧ (mDone M sk ck (ch / 100) (ch % 100) h e1 0).1
noncomputable def mByB (M : Nat → Nat → Int32) (sk ck : Nat → Int32) (e1 h ch : Nat) : Nat := cl (mDone M sk ck (ch / 100) (ch % 100) h e1 0).2.2
noncomputable def mByI (M : Nat → Nat → Int32) (sk ck : Nat → Int32) (e1 d h ch : Nat) : Nat := 26 * (d ||| 2 ^ (ch / 100)) + mByB M sk ck e1 h ch
noncomputable def mByV (M : Nat → Nat → Int32) (sk ck lf : Nat → Int32) (nb kk e1 d h ch : Nat) : Int32 := pif (mByOk M sk ck nb kk e1 d h ch) ((mDone M sk ck (ch / 100) (ch % 100) h e1 0).2.1 + lf (mByI M sk ck e1 d h ch)) (-100000000)
theorem mByB_of {M : Nat → Nat → Int32} {sk ck : Nat → Int32} {nb kk e1 d h ch : Nat} (he : h ≤ e1) (h24 : e1 ≤ 24) (ok : mByOk M sk ck nb kk e1 d h ch) : mByB M sk ck e1 h ch ≤ e1 ∧ (mDone M sk ck (ch / 100) (ch % 100) h e1 0).2.2 = nI (mByB M sk ck e1 h ch) := by
  obtain ⟨b, h1, -, h3⟩ := mDoneL_be (e := e1) (e1 - h) h _ _ _ _ (by omega) ok.2.2
  have h3 : (mDone M sk ck (ch / 100) (ch % 100) h e1 0).2.2 = nI b := h3
  unfold mByB
  rw [h3, show cl (nI b) = b from nI_clamp (by omega)]
  exact ⟨h1, rfl⟩
set_option maxHeartbeats 4000000 in
set_option maxRecDepth 100000 in
theorem met_X2_by_2 (l : Launch) (G : gG) (ad : Nat → Nat) (M Z : Nat → Nat → Int32) (V : Nat → Nat → Int64) (d h ch kk e1 : Nat) (hd : d < 64) (hh : h ≤ e1) (he : e1 ≤ 24) (hc : ch < 600) (hkk : kk < 64) (nb : Nat) (en : M 0 0 = nI nb) (hn : nb ≤ 6) : Met l yX2_by_2 (ws_ yX2_by_2 cX2_by_2 7 (some .int)) ({ frames := 2, cells := 0, slots := 0, locals := 53 } : Room) (cP G [.ref (ad 0), .int (nI d), .int (nI h), .int (nI ch), .int (nI kk), .int (nI e1)] (mH G ad M Z V)) (cQ (some (.int (mByV M (Z 30) (Z 31) (Z 26) nb kk e1 d h ch))) (fun H => ∃ Z9 V9, ((mByOk M (Z 30) (Z 31) nb kk e1 d h ch → Z9 29 0 = nI (mByB M (Z 30) (Z 31) e1 h ch)) ∧ ∀ k9, k9 ≠ 28 → k9 ≠ 29 → Z9 k9 = Z k9) ∧ mH G ad M Z9 V9 H) (mA ad)) 0 0 (mA ad) := by
  refine c_start (by decide) (Nat.le_of_ble_eq_true rfl) ?_
  intro p e s m below meth c hx hb hr hlocks hml hown hts hB hK ls hl
  have hw := MS.of hB
  have hl : lv_has ls 7 [(0, .ref (ad 0)), (1, .int (nI d)), (2, .int (nI h)), (3, .int (nI ch)), (4, .int (nI kk)), (5, .int (nI e1))] := hl
  refine lv_iload_n hx hb dX2_by_2_0 rfl (lv_at hl 3 rfl) ?_
  refine lv_bipush (v := nI 100) hx hb dX2_by_2_1 (by decide) ?_
  refine n_idiv hx hb (by omega) (by decide) (by decide) dX2_by_2_3 ?_
  refine lv_istore (lv' := [(6, .int (nI (ch / 100))), (0, .ref (ad 0)), (1, .int (nI d)), (2, .int (nI h)), (3, .int (nI ch)), (4, .int (nI kk)), (5, .int (nI e1))]) hx hb dX2_by_2_4 hl (by decide) rfl (fun ls hl => ?_)
  refine lv_iload hx hb dX2_by_2_6 (lv_at hl 5 rfl) ?_
  refine lv_iload_n hx hb dX2_by_2_8 rfl (lv_at hl 2 rfl) ?_
  refine lv_iconst (v := (-1)) hx hb dX2_by_2_9 (by decide) ?_
  refine lv_ixor hx hb dX2_by_2_10 ?_
  refine lv_iand hx hb dX2_by_2_11 ?_
  refine lv_iload hx hb dX2_by_2_12 (lv_at hl 0 rfl) ?_
  refine c_read (va_runS (As := [.int ((nI kk) &&& ((nI d) ^^^ (-1))), .int (nI (ch / 100))]) (rest := []) ⟨hx, hb, hml, hown, hts⟩ (met_X2_has l G ((nI kk) &&& ((nI d) ^^^ (-1))) (nI (ch / 100))) (cs_X2_X2_has hts ⟨Nat.le_of_ble_eq_true rfl, Nat.le_of_ble_eq_true rfl⟩) (cP.pre hK trivial) rfl rfl hl.1 rfl (lv_room (Nat.le_of_ble_eq_true rfl)) dX2_by_2_14 ⟨by first | exact Nat.zero_le _ | omega | decide, by first | exact Nat.zero_le _ | omega | decide⟩) ?_
  refine b_if_eq (tgt := 47) hx hb dX2_by_2_17 (by decide) (fun c_1 => ?_) (fun c_1 => ?_)
  · refine lv_ldcw (v := (-100000000)) hx hb hown (hts _ q1573) dX2_by_2_47 ?_
    exact c_iret (v := (-100000000)) (by unfold mByV; rw [pif_f (fun h9 => by first | exact absurd h9.1 (by assumption) | exact absurd h9.2.1 (by assumption) | exact absurd ((mDone_free (be := Z 29 0) (be' := 0)).1.symm ▸ h9.2.2) (by assumption))]) hx hb hr rfl hlocks ⟨_, _, ⟨fun h8 => absurd h8 (fun h9 => by first | exact absurd h9.1 (by assumption) | exact absurd h9.2.1 (by assumption) | exact absurd ((mDone_free (be := Z 29 0) (be' := 0)).1.symm ▸ h9.2.2) (by assumption)), (fun _ _ _ => rfl)⟩, mH.to rfl rfl rfl hw.1⟩ hw.2 dX2_by_2_50
  refine lv_aload_n hx hb dX2_by_2_20 rfl (lv_at hl 1 rfl) ?_
  refine lv_iload_n hx hb dX2_by_2_21 rfl (lv_at hl 4 rfl) ?_
  refine lv_bipush (v := nI 100) hx hb dX2_by_2_22 (by decide) ?_
  refine n_irem hx hb (by omega) (by decide) (by decide) dX2_by_2_24 ?_
  refine c_read (va_runV (As := [.int (nI (ch % 100))]) (rest := []) ⟨hx, hb, hml, hown, hts⟩ (met_X2_isTeam l G ad M Z V (ch % 100) (by omega) nb en (by omega)) (cv_X2_X2_isTeam hts ⟨Nat.le_of_ble_eq_true rfl, Nat.le_of_ble_eq_true rfl⟩) (cP.preV hK hw.1 (hw.1.recv hK)) rfl rfl hl.1 rfl (lv_room (Nat.le_of_ble_eq_true rfl)) dX2_by_2_25 ⟨by first | exact Nat.zero_le _ | omega | decide, by first | exact Nat.zero_le _ | omega | decide⟩) ?_
  refine b_if_eq (tgt := 47) hx hb dX2_by_2_28 (by decide) (fun c_2 => ?_) (fun c_2 => ?_)
  · refine lv_ldcw (v := (-100000000)) hx hb hown (hts _ q1573) dX2_by_2_47 ?_
    exact c_iret (v := (-100000000)) (by unfold mByV; rw [pif_f (fun h9 => by first | exact absurd h9.1 (by assumption) | exact absurd h9.2.1 (by assumption) | exact absurd ((mDone_free (be := Z 29 0) (be' := 0)).1.symm ▸ h9.2.2) (by assumption))]) hx hb hr rfl hlocks ⟨_, _, ⟨fun h8 => absurd h8 (fun h9 => by first | exact absurd h9.1 (by assumption) | exact absurd h9.2.1 (by assumption) | exact absurd ((mDone_free (be := Z 29 0) (be' := 0)).1.symm ▸ h9.2.2) (by assumption)), (fun _ _ _ => rfl)⟩, mH.to rfl rfl rfl hw.1⟩ hw.2 dX2_by_2_50
  have ht5 : ch % 100 / 10 < 6 := by omega
  have ht6 : ch % 100 % 10 < 6 := by omega
  refine lv_aload_n hx hb dX2_by_2_31 rfl (lv_at hl 1 rfl) ?_
  refine lv_iload hx hb dX2_by_2_32 (lv_at hl 0 rfl) ?_
  refine lv_iload_n hx hb dX2_by_2_34 rfl (lv_at hl 4 rfl) ?_
  refine lv_bipush (v := nI 100) hx hb dX2_by_2_35 (by decide) ?_
  refine n_irem hx hb (by omega) (by decide) (by decide) dX2_by_2_37 ?_
  refine lv_iload_n hx hb dX2_by_2_38 rfl (lv_at hl 3 rfl) ?_
  refine lv_iload hx hb dX2_by_2_39 (lv_at hl 6 rfl) ?_
  refine c_call (va_runV (As := [.int (nI (ch / 100)), .int (nI (ch % 100)), .int (nI h), .int (nI e1)]) (rest := []) ⟨hx, hb, hml, hown, hts⟩ (met_X2_isDone l G ad M Z V (ch / 100) (ch % 100) h e1 (by omega) (by omega) (by omega) (by omega) (by omega) (by omega)) (cv_X2_X2_isDone hts ⟨Nat.le_of_ble_eq_true rfl, Nat.le_of_ble_eq_true rfl⟩) (cP.preV hK hw.1 (hw.1.recv hK)) rfl rfl hl.1 rfl (lv_room (Nat.le_of_ble_eq_true rfl)) dX2_by_2_41 ⟨by first | exact Nat.zero_le _ | omega | decide, by first | exact Nat.zero_le _ | omega | decide⟩) hw.2 (fun q _ h => h) (fun q h => h) (fun H locs hw _ _ hS => ?_)
  obtain ⟨Z1, V1, ⟨hg1, hbe1, hz1⟩, hw⟩ := hw
  replace hw := MS.mk hw hS
  refine b_if_ne (tgt := 51) hx hb dX2_by_2_44 (by decide) (fun c_3 => ?_) (fun c_3 => ?_)
  · have okb : mByOk M (Z 30) (Z 31) nb kk e1 d h ch := ⟨by assumption, by assumption, (mDone_free (be := Z 29 0) (be' := 0)).1 ▸ c_3⟩
    obtain ⟨hb24, hbq⟩ := mByB_of (by omega) (by omega) okb
    have hfr := (mDone_free (be := Z 29 0) (be' := 0)).2 okb.2.2
    have hg2 : Z1 28 0 = (mDone M (Z 30) (Z 31) (ch / 100) (ch % 100) h e1 0).2.1 := by rw [hg1, hfr]
    have hb2 : Z1 29 0 = nI (mByB M (Z 30) (Z 31) e1 h ch) := by rw [hbe1, hfr, hbq]
    have hor : d ||| 2 ^ (ch / 100) < 64 := or_lt (by omega) (by omega)
    refine lv_aload_n hx hb dX2_by_2_51 rfl (lv_at hl 1 rfl) ?_
    refine m_g_gain hx hb hts hown hK hw dX2_by_2_52 ?_
    rw [show Z1 28 0 = (mDone M (Z 30) (Z 31) (ch / 100) (ch % 100) h e1 0).2.1 from hg2]
    refine lv_aload_n hx hb dX2_by_2_55 rfl (lv_at hl 1 rfl) ?_
    refine m_g_left hx hb hts hown hK hw dX2_by_2_56 ?_
    refine lv_bipush (v := nI 26) hx hb dX2_by_2_59 (by decide) ?_
    refine lv_iload_n hx hb dX2_by_2_61 rfl (lv_at hl 2 rfl) ?_
    refine lv_iconst (v := nI 1) hx hb dX2_by_2_62 (by decide) ?_
    refine lv_iload hx hb dX2_by_2_63 (lv_at hl 0 rfl) ?_
    refine lv_ishl hx hb dX2_by_2_65 ?_
    rw [shl1 (ch / 100) (by omega)]
    refine lv_ior hx hb dX2_by_2_66 ?_
    rw [or_small d (by omega) _ (Nat.pow_lt_pow_right (m := ch / 100) (n := 6) (by decide) (by omega))]
    refine n_imul hx hb dX2_by_2_67 ?_
    refine lv_aload_n hx hb dX2_by_2_68 rfl (lv_at hl 1 rfl) ?_
    refine m_g_behind hx hb hts hown hK hw dX2_by_2_69 ?_
    rw [show Z1 29 0 = nI (mByB M (Z 30) (Z 31) e1 h ch) from hb2]
    refine n_iadd hx hb dX2_by_2_72 ?_
    refine m_l_left (j := 26 * (d ||| 2 ^ (ch / 100)) + mByB M (Z 30) (Z 31) e1 h ch) (v := Z 26 (26 * (d ||| 2 ^ (ch / 100)) + mByB M (Z 30) (Z 31) e1 h ch)) hx hb hK hw ((congrFun (hz1 26 (by decide) (by decide)) (26 * (d ||| 2 ^ (ch / 100)) + mByB M (Z 30) (Z 31) e1 h ch)).trans rfl) (by omega) dX2_by_2_73 ?_
    refine lv_iadd hx hb dX2_by_2_74 ?_
    exact c_iret (v := ((mDone M (Z 30) (Z 31) (ch / 100) (ch % 100) h e1 0).2.1) + (Z 26 (26 * (d ||| 2 ^ (ch / 100)) + mByB M (Z 30) (Z 31) e1 h ch))) (by unfold mByV; rw [pif_t okb]; rfl) hx hb hr rfl hlocks ⟨_, _, ⟨fun _ => hb2, hz1⟩, mH.to rfl rfl rfl hw.1⟩ hw.2 dX2_by_2_75
  refine lv_ldcw (v := (-100000000)) hx hb hown (hts _ q1573) dX2_by_2_47 ?_
  exact c_iret (v := (-100000000)) (by unfold mByV; rw [pif_f (fun h9 => by first | exact absurd h9.1 (by assumption) | exact absurd h9.2.1 (by assumption) | exact absurd ((mDone_free (be := Z 29 0) (be' := 0)).1.symm ▸ h9.2.2) (by assumption))]) hx hb hr rfl hlocks ⟨_, _, ⟨fun h8 => absurd h8 (fun h9 => by first | exact absurd h9.1 (by assumption) | exact absurd h9.2.1 (by assumption) | exact absurd ((mDone_free (be := Z 29 0) (be' := 0)).1.symm ▸ h9.2.2) (by assumption)), hz1⟩, mH.to rfl rfl rfl hw.1⟩ hw.2 dX2_by_2_50
