/-- what a call of text() leaves -/
noncomputable def txM (tp : Nat → Nat) (t tx : Nat) (M : Nat → Nat → Int32) : Nat → Nat → Int32 :=
  pif (tx = 4) M (pif ((rdt tp t (680 * tx) M).1 = 0) (up2 (up2 (up2 (up2 (rdt tp t (680 * tx) M).2.1 5 0 (nI (rdt tp t (680 * tx) M).1)) 6 0 (pif ((rdt tp t (680 * tx) M).1 = 0) (-1) (nI (lxS tp t (rdt tp t (680 * tx) M).2.2)))) 4 0 (nI 0)) 0 4 (nI (tx + 1))) (up2 (up2 (up2 (rdt tp t (680 * tx) M).2.1 5 0 (nI (rdt tp t (680 * tx) M).1)) 6 0 (pif ((rdt tp t (680 * tx) M).1 = 0) (-1) (nI (lxS tp t (rdt tp t (680 * tx) M).2.2)))) 4 0 (nI 0)))
noncomputable def txV (tp : Nat → Nat) (t tx : Nat) (M : Nat → Nat → Int32) : Int32 :=
  pif (tx = 4) (-1) (pif ((rdt tp t (680 * tx) M).1 = 0) (nI tx) (-1))
set_option maxHeartbeats 4000000 in
set_option maxRecDepth 100000 in
theorem met_X2_text (l : Launch) (G : gG) (ad : Nat → Nat) (M Z : Nat → Nat → Int32) (V : Nat → Nat → Int64) (tp : Nat → Nat) (t tx : Nat) (hT : TP tp t M) (ha : M 0 4 = nI tx) (htx : tx ≤ 4) : Met l yX2_text (ws_ yX2_text cX2_text 1 (some .int)) ({ frames := 8, cells := 0, slots := 0, locals := 182 } : Room) (cP G [.ref (ad 0)] (mH G ad M Z V)) (cQ (some (.int (txV tp t tx M))) (fun H => ∃ Z9 V9, mH G ad (txM tp t tx M) Z9 V9 H) (mA ad)) 0 0 (mA ad) := by
  refine c_start (by decide) (Nat.le_of_ble_eq_true rfl) ?_
  intro p e s m below meth c hx hb hr hlocks hml hown hts hB hK ls hl
  have hw := MS.of hB
  have hl : lv_has ls 1 [(0, .ref (ad 0))] := hl
  refine lv_aload_n hx hb dX2_text_0 rfl (lv_at hl 0 rfl) ?_
  refine m_g_a hx hb hts hown hK hw dX2_text_1 ?_
  refine lv_iconst (v := nI 4) hx hb dX2_text_4 (by decide) ?_
  refine m_l_a (j := 4) (v := nI tx) hx hb hK hw ha (by decide) dX2_text_5 ?_
  refine lv_iconst (v := nI 4) hx hb dX2_text_6 (by decide) ?_
  refine n_icmp_ne (tgt := 12) hx hb dX2_text_7 (by decide) (by omega) (by decide) (fun c_1 => ?_) (fun c_1 => ?_)
  · have htx3 : tx ≤ 3 := by omega
    refine lv_aload_n hx hb dX2_text_12 rfl (lv_at hl 0 rfl) ?_
    refine lv_aload_n hx hb dX2_text_13 rfl (lv_at hl 0 rfl) ?_
    refine c_call (va_runV (As := []) (rest := [.ref (ad 0)]) ⟨hx, hb, hml, hown, hts⟩ (met_X2_readText l G ad M Z V tp t tx hT ha (by omega)) (cv_X2_X2_readText hts ⟨Nat.le_of_ble_eq_true rfl, Nat.le_of_ble_eq_true rfl⟩) (cP.preV hK hw.1 (hw.1.recv hK)) rfl rfl hl.1 rfl (lv_room (Nat.le_of_ble_eq_true rfl)) dX2_text_14 ⟨by first | exact Nat.zero_le _ | omega | decide, by first | exact Nat.zero_le _ | omega | decide⟩) hw.2 (fun q _ h => h) (fun q h => h) (fun H locs hw _ _ hS => ?_)
    obtain ⟨Z1, V1, hpl1, hw⟩ := hw
    replace hw := MS.mk hw hS
    have hk4 : ((rdt tp t (680 * tx) M).2.1) 0 4 = nI tx := (rdt_k (Or.inl (by decide))).trans ha
    have hr6 : (rdt tp t (680 * tx) M).1 ≤ 6 := rdt_le hT
    refine m_p_fault hx hb hts hown hK hw dX2_text_17 (fun H locs hw => ?_)
    refine lv_aload_n hx hb dX2_text_20 rfl (lv_at hl 0 rfl) ?_
    refine lv_aload_n hx hb dX2_text_21 rfl (lv_at hl 0 rfl) ?_
    refine m_g_fault hx hb hts hown hK hw dX2_text_22 ?_
    rw [show (up2 ((rdt tp t (680 * tx) M).2.1) 5 0 (nI ((rdt tp t (680 * tx) M).1))) 5 0 = nI ((rdt tp t (680 * tx) M).1) from up2_at]
    refine n_if_ne (tgt := 32) hx hb dX2_text_25 (by decide) (by omega) (fun c_2 => ?_) (fun c_2 => ?_)
    · have hfp : pif ((rdt tp t (680 * tx) M).1 = 0) (-1 : Int32) (nI (lxS tp t (rdt tp t (680 * tx) M).2.2)) = nI (lxS tp t (rdt tp t (680 * tx) M).2.2) := pif_f (by omega)
      refine lv_aload_n hx hb dX2_text_32 rfl (lv_at hl 0 rfl) ?_
      refine m_g_place hx hb hts hown hK hw dX2_text_33 ?_
      rw [show Z1 8 0 = nI (lxS tp t (rdt tp t (680 * tx) M).2.2) from hpl1]
      refine m_p_faultPlace hx hb hts hown hK hw dX2_text_36 (fun H locs hw => ?_)
      refine lv_aload_n hx hb dX2_text_39 rfl (lv_at hl 0 rfl) ?_
      refine lv_iconst (v := nI 0) hx hb dX2_text_40 (by decide) ?_
      refine m_p_taped hx hb hts hown hK hw dX2_text_41 (fun H locs hw => ?_)
      refine lv_aload_n hx hb dX2_text_44 rfl (lv_at hl 0 rfl) ?_
      refine m_g_fault hx hb hts hown hK hw dX2_text_45 ?_
      rw [show (up2 (up2 (up2 ((rdt tp t (680 * tx) M).2.1) 5 0 (nI ((rdt tp t (680 * tx) M).1))) 6 0 (nI (lxS tp t (rdt tp t (680 * tx) M).2.2))) 4 0 (nI 0)) 5 0 = nI ((rdt tp t (680 * tx) M).1) from (up2_ne (Or.inl (by decide))).trans ((up2_ne (Or.inl (by decide))).trans up2_at)]
      refine n_if_eq (tgt := 53) hx hb dX2_text_48 (by decide) (by omega) (fun c_3 => ?_) (fun c_3 => ?_)
      · exfalso; omega
      refine lv_iconst (v := (-1)) hx hb dX2_text_51 (by decide) ?_
      exact c_iret (v := (-1)) (by unfold txV; rw [pif_f (by omega), pif_f (by omega)]) hx hb hr rfl hlocks ⟨_, _, mH.to (by unfold txM; rw [pif_f (by omega), pif_f (by omega), hfp]) rfl rfl hw.1⟩ hw.2 dX2_text_52
    have hfp : pif ((rdt tp t (680 * tx) M).1 = 0) (-1 : Int32) (nI (lxS tp t (rdt tp t (680 * tx) M).2.2)) = -1 := pif_t c_2
    refine lv_iconst (v := (-1)) hx hb dX2_text_28 (by decide) ?_
    refine lv_goto (tgt := 36) hx hb dX2_text_29 (by decide) ?_
    refine m_p_faultPlace hx hb hts hown hK hw dX2_text_36 (fun H locs hw => ?_)
    refine lv_aload_n hx hb dX2_text_39 rfl (lv_at hl 0 rfl) ?_
    refine lv_iconst (v := nI 0) hx hb dX2_text_40 (by decide) ?_
    refine m_p_taped hx hb hts hown hK hw dX2_text_41 (fun H locs hw => ?_)
    refine lv_aload_n hx hb dX2_text_44 rfl (lv_at hl 0 rfl) ?_
    refine m_g_fault hx hb hts hown hK hw dX2_text_45 ?_
    rw [show (up2 (up2 (up2 ((rdt tp t (680 * tx) M).2.1) 5 0 (nI ((rdt tp t (680 * tx) M).1))) 6 0 (-1)) 4 0 (nI 0)) 5 0 = nI ((rdt tp t (680 * tx) M).1) from (up2_ne (Or.inl (by decide))).trans ((up2_ne (Or.inl (by decide))).trans up2_at)]
    refine n_if_eq (tgt := 53) hx hb dX2_text_48 (by decide) (by omega) (fun c_4 => ?_) (fun c_4 => ?_)
    · refine lv_aload_n hx hb dX2_text_53 rfl (lv_at hl 0 rfl) ?_
      refine m_g_a hx hb hts hown hK hw dX2_text_54 ?_
      refine lv_iconst (v := nI 4) hx hb dX2_text_57 (by decide) ?_
      refine lv_dup2_11 hx hb dX2_text_58 rfl rfl ?_
      refine m_l_a (j := 4) (v := nI tx) hx hb hK hw ((up2_ne (Or.inl (by decide))).trans ((up2_ne (Or.inl (by decide))).trans ((up2_ne (Or.inl (by decide))).trans hk4))) (by decide) dX2_text_59 ?_
      refine lv_iconst (v := nI 1) hx hb dX2_text_60 (by decide) ?_
      refine n_iadd hx hb dX2_text_61 ?_
      refine m_s_a (j := 4) hx hb hK hw (by decide) dX2_text_62 (fun H locs hw => ?_)
      refine lv_aload_n hx hb dX2_text_63 rfl (lv_at hl 0 rfl) ?_
      refine m_g_a hx hb hts hown hK hw dX2_text_64 ?_
      refine lv_iconst (v := nI 4) hx hb dX2_text_67 (by decide) ?_
      refine m_l_a (j := 4) (v := nI (tx + 1)) hx hb hK hw up2_at (by decide) dX2_text_68 ?_
      refine lv_iconst (v := nI 1) hx hb dX2_text_69 (by decide) ?_
      refine n_isub hx hb (by omega) dX2_text_70 ?_
      exact c_iret (v := nI ((tx + 1) - 1)) (by unfold txV; rw [pif_f (by omega), pif_t (by omega)] <;> rfl) hx hb hr rfl hlocks ⟨_, _, mH.to (by unfold txM; rw [pif_f (by omega), pif_t (by omega), hfp]) rfl rfl hw.1⟩ hw.2 dX2_text_71
    exfalso; omega
  refine lv_iconst (v := (-1)) hx hb dX2_text_10 (by decide) ?_
  exact c_iret (v := (-1)) (by unfold txV; rw [pif_t (by assumption)]) hx hb hr rfl hlocks ⟨_, _, mH.to (by unfold txM; rw [pif_t (by assumption)]) rfl rfl hw.1⟩ hw.2 dX2_text_11
