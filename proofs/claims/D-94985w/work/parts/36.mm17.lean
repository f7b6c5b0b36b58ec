theorem mByV_congr {M : Nat → Nat → Int32} {sk ck lf sk' ck' lf' : Nat → Int32} {nb kk e1 d h ch : Nat} (h1 : sk = sk') (h2 : ck = ck') (h3 : mByOk M sk' ck' nb kk e1 d h ch → lf (mByI M sk' ck' e1 d h ch) = lf' (mByI M sk' ck' e1 d h ch)) : mByV M sk ck lf nb kk e1 d h ch = mByV M sk' ck' lf' nb kk e1 d h ch := by
  subst h1; subst h2
  unfold mByV
  by_cases ok : mByOk M sk ck nb kk e1 d h ch
  · rw [pif_t ok, pif_t ok, h3 ok]
  · rw [pif_f ok, pif_f ok]
theorem mByI_ne {M : Nat → Nat → Int32} {sk ck : Nat → Int32} {nb kk e1 d h ch : Nat} (hd : d < 64) (hkk : kk < 64) (hc : ch < 600) (he : h ≤ e1) (h24 : e1 ≤ 24) (ok : mByOk M sk ck nb kk e1 d h ch) : mByI M sk ck e1 d h ch ≠ 26 * d + h := by
  have h1 := (mByB_of he h24 ok).1
  have h2 := or_ne ((has_left hkk hd (by omega)).mp ok.1).2
  unfold mByI
  omega
theorem mByOk_of {M : Nat → Nat → Int32} {sk ck lf : Nat → Int32} {nb kk e1 d h ch : Nat} (h0 : ¬ mByV M sk ck lf nb kk e1 d h ch = (-100000000)) : mByOk M sk ck nb kk e1 d h ch := Classical.byContradiction fun q => h0 (pif_f q)
noncomputable def mReF (M : Nat → Nat → Int32) (sk ck lf wk : Nat → Int32) (nb kk e1 d h : Nat) (ch : Nat) (st : Int32 × Int32) : Int32 × Int32 :=
  pif (mByV M sk ck lf nb kk e1 d h ch = (-100000000)) st (pif (mByV M sk ck lf nb kk e1 d h ch < st.1 ∨ (mByV M sk ck lf nb kk e1 d h ch = st.1 ∧ ¬ wk (mByI M sk ck e1 d h ch) + nI 1 < st.2)) st (mByV M sk ck lf nb kk e1 d h ch, wk (mByI M sk ck e1 d h ch) + nI 1))
noncomputable def mReLW (M : Nat → Nat → Int32) (sk ck lf wk : Nat → Int32) (nb kk e1 d h : Nat) : Int32 × Int32 := it (mReF M sk ck lf wk nb kk e1 d h) (600 - 0) 0 (nI 0, nI 0)
noncomputable def mReck (M : Nat → Nat → Int32) (sk ck : Nat → Int32) (nb kk e1 : Nat) (st : (Nat → Int32) × (Nat → Int32)) (d h : Nat) : (Nat → Int32) × (Nat → Int32) :=
  (fun j => if j = 26 * d + h then (mReLW M sk ck st.1 st.2 nb kk e1 d h).1 else st.1 j, fun j => if j = 26 * d + h then (mReLW M sk ck st.1 st.2 nb kk e1 d h).2 else st.2 j)
set_option maxHeartbeats 4000000 in
set_option maxRecDepth 100000 in
theorem met_X2_reckon (l : Launch) (G : gG) (ad : Nat → Nat) (M Z : Nat → Nat → Int32) (V : Nat → Nat → Int64) (d h kk e1 : Nat) (hd : d < 64) (hh : h ≤ e1) (he : e1 ≤ 24) (hkk : kk < 64) (nb : Nat) (en : M 0 0 = nI nb) (hn : nb ≤ 6) : Met l yX2_reckon (ws_ yX2_reckon cX2_reckon 9 none) ({ frames := 3, cells := 0, slots := 0, locals := 79 } : Room) (cP G [.ref (ad 0), .int (nI d), .int (nI h), .int (nI kk), .int (nI e1)] (mH G ad M Z V)) (cQ none (fun H => ∃ Z9 V9, (Z9 26 = (mReck M (Z 30) (Z 31) nb kk e1 (Z 26, Z 27) d h).1 ∧ Z9 27 = (mReck M (Z 30) (Z 31) nb kk e1 (Z 26, Z 27) d h).2 ∧ ∀ k9, k9 ≠ 26 → k9 ≠ 27 → k9 ≠ 28 → k9 ≠ 29 → Z9 k9 = Z k9) ∧ mH G ad M Z9 V9 H) (mA ad)) 0 0 (mA ad) := by
  refine c_start (by decide) (Nat.le_of_ble_eq_true rfl) ?_
  intro p e s m below meth c hx hb hr hlocks hml hown hts hB hK ls hl
  have hw := MS.of hB
  have hl : lv_has ls 9 [(0, .ref (ad 0)), (1, .int (nI d)), (2, .int (nI h)), (3, .int (nI kk)), (4, .int (nI e1))] := hl
  refine lv_bipush (v := nI 26) hx hb dX2_reckon_0 (by decide) ?_
  refine lv_iload_n hx hb dX2_reckon_2 rfl (lv_at hl 1 rfl) ?_
  refine n_imul hx hb dX2_reckon_3 ?_
  refine lv_iload_n hx hb dX2_reckon_4 rfl (lv_at hl 2 rfl) ?_
  refine n_iadd hx hb dX2_reckon_5 ?_
  refine lv_istore (lv' := [(5, .int (nI (26 * d + h))), (0, .ref (ad 0)), (1, .int (nI d)), (2, .int (nI h)), (3, .int (nI kk)), (4, .int (nI e1))]) hx hb dX2_reckon_6 hl (by decide) rfl (fun ls hl => ?_)
  refine lv_aload_n hx hb dX2_reckon_8 rfl (lv_at hl 1 rfl) ?_
  refine m_g_left hx hb hts hown hK hw dX2_reckon_9 ?_
  refine lv_iload hx hb dX2_reckon_12 (lv_at hl 0 rfl) ?_
  refine lv_iconst (v := nI 0) hx hb dX2_reckon_14 (by decide) ?_
  refine m_s_left (j := 26 * d + h) hx hb hK hw (by omega) dX2_reckon_15 (fun H locs hw => ?_)
  refine lv_aload_n hx hb dX2_reckon_16 rfl (lv_at hl 1 rfl) ?_
  refine m_g_works hx hb hts hown hK hw dX2_reckon_17 ?_
  refine lv_iload hx hb dX2_reckon_20 (lv_at hl 0 rfl) ?_
  refine lv_iconst (v := nI 0) hx hb dX2_reckon_22 (by decide) ?_
  refine m_s_works (j := 26 * d + h) hx hb hK hw (by omega) dX2_reckon_23 (fun H locs hw => ?_)
  refine lv_iconst (v := nI 0) hx hb dX2_reckon_24 (by decide) ?_
  refine lv_istore (lv' := [(6, .int (nI 0)), (5, .int (nI (26 * d + h))), (0, .ref (ad 0)), (1, .int (nI d)), (2, .int (nI h)), (3, .int (nI kk)), (4, .int (nI e1))]) hx hb dX2_reckon_25 hl (by decide) rfl (fun ls hl => ?_)
  have L_27 : ∀ (fuel : Nat) (ch : Nat) (L : Int32) (W1 : Int32) (Za : Nat → Nat → Int32) (Va : Nat → Nat → Int64), 600 - ch < fuel → (ch ≤ 600) → (it (mReF M (Z 30) (Z 31) (Z 26) (Z 27) nb kk e1 d h) (600 - ch) ch (L, W1) = mReLW M (Z 30) (Z 31) (Z 26) (Z 27) nb kk e1 d h) → (Za 26 (26 * d + h) = L) → (Za 27 (26 * d + h) = W1) → (∀ j9, j9 ≠ 26 * d + h → Za 26 j9 = Z 26 j9) → (∀ j9, j9 ≠ 26 * d + h → Za 27 j9 = Z 27 j9) → (∀ k9, k9 ≠ 26 → k9 ≠ 27 → k9 ≠ 28 → k9 ≠ 29 → Za k9 = Z k9) → ∀ (H : Heap) (locs : List Loc), MS G ad s.heap M Za Va H locs → ∀ (ls : Array Slot), lv_has ls 9 [(0, .ref (ad 0)), (1, .int (nI d)), (2, .int (nI h)), (3, .int (nI kk)), (4, .int (nI e1)), (5, .int (nI (26 * d + h))), (6, .int (nI ch))] → W p l e ({ frames := 3, cells := 0, slots := 0, locals := 79 } : Room) s m ([.ref (ad 0), .int (nI d), .int (nI h), .int (nI kk), .int (nI e1)] : List Value).toArray below meth c H locs 0 0 (MQ below (cQ none (fun H => ∃ Z9 V9, (Z9 26 = (mReck M (Z 30) (Z 31) nb kk e1 (Z 26, Z 27) d h).1 ∧ Z9 27 = (mReck M (Z 30) (Z 31) nb kk e1 (Z 26, Z 27) d h).2 ∧ ∀ k9, k9 ≠ 26 → k9 ≠ 27 → k9 ≠ 28 → k9 ≠ 29 → Z9 k9 = Z k9) ∧ mH G ad M Z9 V9 H) (mA ad)) ([.ref (ad 0), .int (nI d), .int (nI h), .int (nI kk), .int (nI e1)] : List Value).toArray s 0 0 (mA ad)) (F0 m 27 ls []) := by
    intro fuel
    induction fuel with
    | zero => intro ch L W1 Za Va hf; exact absurd hf (Nat.not_lt_zero _)
    | succ fuel ih =>
      intro ch L W1 Za Va hf hch hq hL hW1 h26 h27 hz H locs hw ls hl
      have ih27 := ih
      refine lv_iload hx hb dX2_reckon_27 (lv_at hl 6 rfl) ?_
      refine lv_sipush (v := nI 600) hx hb dX2_reckon_29 (by decide) ?_
      refine n_icmp_ge (tgt := 148) hx hb dX2_reckon_32 (by decide) (by omega) (by decide) (fun c_1 => ?_) (fun c_1 => ?_)
      · exact c_vret hx hb hr hlocks ⟨_, _, ⟨by funext j9; show Za 26 j9 = if j9 = 26 * d + h then _ else _; by_cases e9 : j9 = 26 * d + h; (rw [if_pos e9, e9, hL, ← hq, it_z (by omega)]); (rw [if_neg e9]; exact h26 j9 e9), by funext j9; show Za 27 j9 = if j9 = 26 * d + h then _ else _; by_cases e9 : j9 = 26 * d + h; (rw [if_pos e9, e9, hW1, ← hq, it_z (by omega)]); (rw [if_neg e9]; exact h27 j9 e9), hz⟩, mH.to rfl rfl rfl hw.1⟩ hw.2 dX2_reckon_148
      refine lv_aload_n hx hb dX2_reckon_35 rfl (lv_at hl 0 rfl) ?_
      refine lv_iload_n hx hb dX2_reckon_36 rfl (lv_at hl 1 rfl) ?_
      refine lv_iload_n hx hb dX2_reckon_37 rfl (lv_at hl 2 rfl) ?_
      refine lv_iload hx hb dX2_reckon_38 (lv_at hl 6 rfl) ?_
      refine lv_iload_n hx hb dX2_reckon_40 rfl (lv_at hl 3 rfl) ?_
      refine lv_iload hx hb dX2_reckon_41 (lv_at hl 4 rfl) ?_
      refine c_call (va_runV (As := [.int (nI d), .int (nI h), .int (nI ch), .int (nI kk), .int (nI e1)]) (rest := []) ⟨hx, hb, hml, hown, hts⟩ (met_X2_by_2 l G ad M Za Va d h ch kk e1 (by omega) (by omega) (by omega) (by omega) (by omega) nb en (by omega)) (cv_X2_X2_by_2 hts ⟨Nat.le_of_ble_eq_true rfl, Nat.le_of_ble_eq_true rfl⟩) (cP.preV hK hw.1 (hw.1.recv hK)) rfl rfl hl.1 rfl (lv_room (Nat.le_of_ble_eq_true rfl)) dX2_reckon_43 ⟨by first | exact Nat.zero_le _ | omega | decide, by first | exact Nat.zero_le _ | omega | decide⟩) hw.2 (fun q _ h => h) (fun q h => h) (fun H locs hw _ _ hS => ?_)
      obtain ⟨Z1, V1, ⟨hb1, hz1⟩, hw⟩ := hw
      replace hw := MS.mk hw hS
      have h30 : Za 30 = Z 30 := hz 30 (by decide) (by decide) (by decide) (by decide)
      have h31 : Za 31 = Z 31 := hz 31 (by decide) (by decide) (by decide) (by decide)
      have ev : mByV M (Za 30) (Za 31) (Za 26) nb kk e1 d h ch = mByV M (Z 30) (Z 31) (Z 26) nb kk e1 d h ch := mByV_congr h30 h31 (fun ok => h26 _ (mByI_ne (by omega) (by omega) (by omega) (by omega) (by omega) ok))
      rw [ev]
      refine lv_istore (lv' := [(7, .int (mByV M (Z 30) (Z 31) (Z 26) nb kk e1 d h ch)), (0, .ref (ad 0)), (1, .int (nI d)), (2, .int (nI h)), (3, .int (nI kk)), (4, .int (nI e1)), (5, .int (nI (26 * d + h))), (6, .int (nI ch))]) hx hb dX2_reckon_46 hl (by decide) rfl (fun ls hl => ?_)
      refine lv_iload hx hb dX2_reckon_48 (lv_at hl 0 rfl) ?_
      refine lv_ldcw (v := (-100000000)) hx hb hown (hts _ q1573) dX2_reckon_50 ?_
      refine lv_icmp_ne (tgt := 59) hx hb dX2_reckon_53 (by decide) (fun c_2 => ?_) (fun c_2 => ?_)
      · have okb := mByOk_of c_2
        have okb2 : mByOk M (Za 30) (Za 31) nb kk e1 d h ch := by rw [h30, h31]; exact okb
        have hbe := hb1 okb2
        have hIne := mByI_ne (by omega) (by omega) (by omega) (by omega) (by omega) okb
        have hb24 := (mByB_of (by omega) (by omega) okb).1
        have hor : d ||| 2 ^ (ch / 100) < 64 := or_lt (by omega) (by omega)
        rw [h30, h31] at hbe
        refine lv_aload_n hx hb dX2_reckon_59 rfl (lv_at hl 1 rfl) ?_
        refine m_g_works hx hb hts hown hK hw dX2_reckon_60 ?_
        refine lv_bipush (v := nI 26) hx hb dX2_reckon_63 (by decide) ?_
        refine lv_iload_n hx hb dX2_reckon_65 rfl (lv_at hl 2 rfl) ?_
        refine lv_iconst (v := nI 1) hx hb dX2_reckon_66 (by decide) ?_
        refine lv_iload hx hb dX2_reckon_67 (lv_at hl 7 rfl) ?_
        refine lv_bipush (v := nI 100) hx hb dX2_reckon_69 (by decide) ?_
        refine n_idiv hx hb (by omega) (by decide) (by decide) dX2_reckon_71 ?_
        refine lv_ishl hx hb dX2_reckon_72 ?_
        rw [shl1 (ch / 100) (by omega)]
        refine lv_ior hx hb dX2_reckon_73 ?_
        rw [or_small d (by omega) _ (Nat.pow_lt_pow_right (m := ch / 100) (n := 6) (by decide) (by omega))]
        refine n_imul hx hb dX2_reckon_74 ?_
        refine lv_aload_n hx hb dX2_reckon_75 rfl (lv_at hl 1 rfl) ?_
        refine m_g_behind hx hb hts hown hK hw dX2_reckon_76 ?_
        rw [show Z1 29 0 = nI (mByB M (Z 30) (Z 31) e1 h ch) from hbe]
        refine n_iadd hx hb dX2_reckon_79 ?_
        refine m_l_works (j := 26 * (d ||| 2 ^ (ch / 100)) + mByB M (Z 30) (Z 31) e1 h ch) (v := Z 27 (mByI M (Z 30) (Z 31) e1 d h ch)) hx hb hK hw ((congrFun (hz1 27 (by decide) (by decide)) (26 * (d ||| 2 ^ (ch / 100)) + mByB M (Z 30) (Z 31) e1 h ch)).trans (h27 _ hIne)) (by omega) dX2_reckon_80 ?_
        refine lv_iconst (v := nI 1) hx hb dX2_reckon_81 (by decide) ?_
        refine lv_iadd hx hb dX2_reckon_82 ?_
        refine lv_istore (lv' := [(8, .int ((Z 27 (mByI M (Z 30) (Z 31) e1 d h ch)) + (nI 1))), (7, .int (mByV M (Z 30) (Z 31) (Z 26) nb kk e1 d h ch)), (0, .ref (ad 0)), (1, .int (nI d)), (2, .int (nI h)), (3, .int (nI kk)), (4, .int (nI e1)), (5, .int (nI (26 * d + h))), (6, .int (nI ch))]) hx hb dX2_reckon_83 hl (by decide) rfl (fun ls hl => ?_)
        refine lv_iload hx hb dX2_reckon_85 (lv_at hl 1 rfl) ?_
        refine lv_aload_n hx hb dX2_reckon_87 rfl (lv_at hl 2 rfl) ?_
        refine m_g_left hx hb hts hown hK hw dX2_reckon_88 ?_
        refine lv_iload hx hb dX2_reckon_91 (lv_at hl 7 rfl) ?_
        refine m_l_left (j := 26 * d + h) (v := L) hx hb hK hw ((congrFun (hz1 26 (by decide) (by decide)) (26 * d + h)).trans hL) (by omega) dX2_reckon_93 ?_
        refine lv_icmp_lt (tgt := 142) hx hb dX2_reckon_94 (by decide) (fun c_3 => ?_) (fun c_3 => ?_)
        · refine lv_iinc (v := nI (ch + 1)) (lv' := [(6, .int (nI (ch + 1))), (8, .int ((Z 27 (mByI M (Z 30) (Z 31) e1 d h ch)) + (nI 1))), (7, .int (mByV M (Z 30) (Z 31) (Z 26) nb kk e1 d h ch)), (0, .ref (ad 0)), (1, .int (nI d)), (2, .int (nI h)), (3, .int (nI kk)), (4, .int (nI e1)), (5, .int (nI (26 * d + h)))]) hx hb dX2_reckon_142 hl (k := 8) rfl (n_inc ch 1) (by decide) rfl (fun ls hl => ?_)
          refine lv_goto (tgt := 27) hx hb dX2_reckon_145 (by decide) ?_
          exact ih27 (ch + 1) L W1 Z1 V1 (by omega) (by first | assumption | omega | rfl) (((it_s (show ch < 600 by omega)).trans (congrArg (it (mReF M (Z 30) (Z 31) (Z 26) (Z 27) nb kk e1 d h) (600 - (ch + 1)) (ch + 1)) (show mReF M (Z 30) (Z 31) (Z 26) (Z 27) nb kk e1 d h ch (L, W1) = _ from (by unfold mReF; rw [pif_f c_2, pif_t (by first | exact Or.inl (by assumption) | exact Or.inr ⟨by assumption, by assumption⟩)])))).symm.trans hq) ((congrFun (hz1 26 (by decide) (by decide)) (26 * d + h)).trans hL) ((congrFun (hz1 27 (by decide) (by decide)) (26 * d + h)).trans hW1) (fun j9 h9 => by (try rw [up2_ne (Or.inl (by decide))]); (try rw [up2_ne (Or.inr h9)]); exact (congrFun (hz1 26 (by decide) (by decide)) j9).trans (h26 j9 h9)) (fun j9 h9 => by (try rw [up2_ne (Or.inr h9)]); (try rw [up2_ne (Or.inl (by decide))]); exact (congrFun (hz1 27 (by decide) (by decide)) j9).trans (h27 j9 h9)) (fun k9 h9 h8 h7 h6 => by funext j9; (try simp only [up2_eq, h9, h8, false_and, if_false]); rw [hz1 k9 h7 h6, hz k9 h9 h8 h7 h6]) _ _ hw ls (lv_sub hl [3, 4, 5, 6, 7, 8, 0] rfl)
        refine lv_iload hx hb dX2_reckon_97 (lv_at hl 1 rfl) ?_
        refine lv_aload_n hx hb dX2_reckon_99 rfl (lv_at hl 2 rfl) ?_
        refine m_g_left hx hb hts hown hK hw dX2_reckon_100 ?_
        refine lv_iload hx hb dX2_reckon_103 (lv_at hl 7 rfl) ?_
        refine m_l_left (j := 26 * d + h) (v := L) hx hb hK hw ((congrFun (hz1 26 (by decide) (by decide)) (26 * d + h)).trans hL) (by omega) dX2_reckon_105 ?_
        refine lv_icmp_ne (tgt := 124) hx hb dX2_reckon_106 (by decide) (fun c_4 => ?_) (fun c_4 => ?_)
        · refine lv_aload_n hx hb dX2_reckon_124 rfl (lv_at hl 2 rfl) ?_
          refine m_g_left hx hb hts hown hK hw dX2_reckon_125 ?_
          refine lv_iload hx hb dX2_reckon_128 (lv_at hl 7 rfl) ?_
          refine lv_iload hx hb dX2_reckon_130 (lv_at hl 1 rfl) ?_
          refine m_s_left (j := 26 * d + h) hx hb hK hw (by omega) dX2_reckon_132 (fun H locs hw => ?_)
          refine lv_aload_n hx hb dX2_reckon_133 rfl (lv_at hl 2 rfl) ?_
          refine m_g_works hx hb hts hown hK hw dX2_reckon_134 ?_
          refine lv_iload hx hb dX2_reckon_137 (lv_at hl 7 rfl) ?_
          refine lv_iload hx hb dX2_reckon_139 (lv_at hl 0 rfl) ?_
          refine m_s_works (j := 26 * d + h) hx hb hK hw (by omega) dX2_reckon_141 (fun H locs hw => ?_)
          refine lv_iinc (v := nI (ch + 1)) (lv' := [(6, .int (nI (ch + 1))), (8, .int ((Z 27 (mByI M (Z 30) (Z 31) e1 d h ch)) + (nI 1))), (7, .int (mByV M (Z 30) (Z 31) (Z 26) nb kk e1 d h ch)), (0, .ref (ad 0)), (1, .int (nI d)), (2, .int (nI h)), (3, .int (nI kk)), (4, .int (nI e1)), (5, .int (nI (26 * d + h)))]) hx hb dX2_reckon_142 hl (k := 8) rfl (n_inc ch 1) (by decide) rfl (fun ls hl => ?_)
          refine lv_goto (tgt := 27) hx hb dX2_reckon_145 (by decide) ?_
          exact ih27 (ch + 1) (mByV M (Z 30) (Z 31) (Z 26) nb kk e1 d h ch) (Z 27 (mByI M (Z 30) (Z 31) e1 d h ch) + nI 1) (up2 (up2 Z1 26 (26 * d + h) (mByV M (Z 30) (Z 31) (Z 26) nb kk e1 d h ch)) 27 (26 * d + h) ((Z 27 (mByI M (Z 30) (Z 31) e1 d h ch)) + (nI 1))) V1 (by omega) (by first | assumption | omega | rfl) (((it_s (show ch < 600 by omega)).trans (congrArg (it (mReF M (Z 30) (Z 31) (Z 26) (Z 27) nb kk e1 d h) (600 - (ch + 1)) (ch + 1)) (show mReF M (Z 30) (Z 31) (Z 26) (Z 27) nb kk e1 d h ch (L, W1) = _ from (by unfold mReF; rw [pif_f c_2, pif_f (fun h9 => by rcases h9 with h9 | ⟨h9, h8⟩ <;> first | exact absurd h9 (by assumption) | exact absurd (by assumption) h8)])))).symm.trans hq) ((up2_ne (Or.inl (by decide))).trans up2_at) up2_at (fun j9 h9 => by (try rw [up2_ne (Or.inl (by decide))]); (try rw [up2_ne (Or.inr h9)]); exact (congrFun (hz1 26 (by decide) (by decide)) j9).trans (h26 j9 h9)) (fun j9 h9 => by (try rw [up2_ne (Or.inr h9)]); (try rw [up2_ne (Or.inl (by decide))]); exact (congrFun (hz1 27 (by decide) (by decide)) j9).trans (h27 j9 h9)) (fun k9 h9 h8 h7 h6 => by funext j9; (try simp only [up2_eq, h9, h8, false_and, if_false]); rw [hz1 k9 h7 h6, hz k9 h9 h8 h7 h6]) _ _ hw ls (lv_sub hl [3, 4, 5, 6, 7, 8, 0] rfl)
        refine lv_iload hx hb dX2_reckon_109 (lv_at hl 0 rfl) ?_
        refine lv_aload_n hx hb dX2_reckon_111 rfl (lv_at hl 2 rfl) ?_
        refine m_g_works hx hb hts hown hK hw dX2_reckon_112 ?_
        refine lv_iload hx hb dX2_reckon_115 (lv_at hl 7 rfl) ?_
        refine m_l_works (j := 26 * d + h) (v := W1) hx hb hK hw ((congrFun (hz1 27 (by decide) (by decide)) (26 * d + h)).trans hW1) (by omega) dX2_reckon_117 ?_
        refine lv_icmp_lt (tgt := 124) hx hb dX2_reckon_118 (by decide) (fun c_5 => ?_) (fun c_5 => ?_)
        · refine lv_aload_n hx hb dX2_reckon_124 rfl (lv_at hl 2 rfl) ?_
          refine m_g_left hx hb hts hown hK hw dX2_reckon_125 ?_
          refine lv_iload hx hb dX2_reckon_128 (lv_at hl 7 rfl) ?_
          refine lv_iload hx hb dX2_reckon_130 (lv_at hl 1 rfl) ?_
          refine m_s_left (j := 26 * d + h) hx hb hK hw (by omega) dX2_reckon_132 (fun H locs hw => ?_)
          refine lv_aload_n hx hb dX2_reckon_133 rfl (lv_at hl 2 rfl) ?_
          refine m_g_works hx hb hts hown hK hw dX2_reckon_134 ?_
          refine lv_iload hx hb dX2_reckon_137 (lv_at hl 7 rfl) ?_
          refine lv_iload hx hb dX2_reckon_139 (lv_at hl 0 rfl) ?_
          refine m_s_works (j := 26 * d + h) hx hb hK hw (by omega) dX2_reckon_141 (fun H locs hw => ?_)
          refine lv_iinc (v := nI (ch + 1)) (lv' := [(6, .int (nI (ch + 1))), (8, .int ((Z 27 (mByI M (Z 30) (Z 31) e1 d h ch)) + (nI 1))), (7, .int (mByV M (Z 30) (Z 31) (Z 26) nb kk e1 d h ch)), (0, .ref (ad 0)), (1, .int (nI d)), (2, .int (nI h)), (3, .int (nI kk)), (4, .int (nI e1)), (5, .int (nI (26 * d + h)))]) hx hb dX2_reckon_142 hl (k := 8) rfl (n_inc ch 1) (by decide) rfl (fun ls hl => ?_)
          refine lv_goto (tgt := 27) hx hb dX2_reckon_145 (by decide) ?_
          exact ih27 (ch + 1) (mByV M (Z 30) (Z 31) (Z 26) nb kk e1 d h ch) (Z 27 (mByI M (Z 30) (Z 31) e1 d h ch) + nI 1) (up2 (up2 Z1 26 (26 * d + h) (mByV M (Z 30) (Z 31) (Z 26) nb kk e1 d h ch)) 27 (26 * d + h) ((Z 27 (mByI M (Z 30) (Z 31) e1 d h ch)) + (nI 1))) V1 (by omega) (by first | assumption | omega | rfl) (((it_s (show ch < 600 by omega)).trans (congrArg (it (mReF M (Z 30) (Z 31) (Z 26) (Z 27) nb kk e1 d h) (600 - (ch + 1)) (ch + 1)) (show mReF M (Z 30) (Z 31) (Z 26) (Z 27) nb kk e1 d h ch (L, W1) = _ from (by unfold mReF; rw [pif_f c_2, pif_f (fun h9 => by rcases h9 with h9 | ⟨h9, h8⟩ <;> first | exact absurd h9 (by assumption) | exact absurd (by assumption) h8)])))).symm.trans hq) ((up2_ne (Or.inl (by decide))).trans up2_at) up2_at (fun j9 h9 => by (try rw [up2_ne (Or.inl (by decide))]); (try rw [up2_ne (Or.inr h9)]); exact (congrFun (hz1 26 (by decide) (by decide)) j9).trans (h26 j9 h9)) (fun j9 h9 => by (try rw [up2_ne (Or.inr h9)]); (try rw [up2_ne (Or.inl (by decide))]); exact (congrFun (hz1 27 (by decide) (by decide)) j9).trans (h27 j9 h9)) (fun k9 h9 h8 h7 h6 => by funext j9; (try simp only [up2_eq, h9, h8, false_and, if_false]); rw [hz1 k9 h7 h6, hz k9 h9 h8 h7 h6]) _ _ hw ls (lv_sub hl [3, 4, 5, 6, 7, 8, 0] rfl)
        refine lv_goto (tgt := 142) hx hb dX2_reckon_121 (by decide) ?_
        refine lv_iinc (v := nI (ch + 1)) (lv' := [(6, .int (nI (ch + 1))), (8, .int ((Z 27 (mByI M (Z 30) (Z 31) e1 d h ch)) + (nI 1))), (7, .int (mByV M (Z 30) (Z 31) (Z 26) nb kk e1 d h ch)), (0, .ref (ad 0)), (1, .int (nI d)), (2, .int (nI h)), (3, .int (nI kk)), (4, .int (nI e1)), (5, .int (nI (26 * d + h)))]) hx hb dX2_reckon_142 hl (k := 8) rfl (n_inc ch 1) (by decide) rfl (fun ls hl => ?_)
        refine lv_goto (tgt := 27) hx hb dX2_reckon_145 (by decide) ?_
        exact ih27 (ch + 1) L W1 Z1 V1 (by omega) (by first | assumption | omega | rfl) (((it_s (show ch < 600 by omega)).trans (congrArg (it (mReF M (Z 30) (Z 31) (Z 26) (Z 27) nb kk e1 d h) (600 - (ch + 1)) (ch + 1)) (show mReF M (Z 30) (Z 31) (Z 26) (Z 27) nb kk e1 d h ch (L, W1) = _ from (by unfold mReF; rw [pif_f c_2, pif_t (by first | exact Or.inl (by assumption) | exact Or.inr ⟨by assumption, by assumption⟩)])))).symm.trans hq) ((congrFun (hz1 26 (by decide) (by decide)) (26 * d + h)).trans hL) ((congrFun (hz1 27 (by decide) (by decide)) (26 * d + h)).trans hW1) (fun j9 h9 => by (try rw [up2_ne (Or.inl (by decide))]); (try rw [up2_ne (Or.inr h9)]); exact (congrFun (hz1 26 (by decide) (by decide)) j9).trans (h26 j9 h9)) (fun j9 h9 => by (try rw [up2_ne (Or.inr h9)]); (try rw [up2_ne (Or.inl (by decide))]); exact (congrFun (hz1 27 (by decide) (by decide)) j9).trans (h27 j9 h9)) (fun k9 h9 h8 h7 h6 => by funext j9; (try simp only [up2_eq, h9, h8, false_and, if_false]); rw [hz1 k9 h7 h6, hz k9 h9 h8 h7 h6]) _ _ hw ls (lv_sub hl [3, 4, 5, 6, 7, 8, 0] rfl)
      refine lv_goto (tgt := 142) hx hb dX2_reckon_56 (by decide) ?_
      refine lv_iinc (v := nI (ch + 1)) (lv' := [(6, .int (nI (ch + 1))), (7, .int (mByV M (Z 30) (Z 31) (Z 26) nb kk e1 d h ch)), (0, .ref (ad 0)), (1, .int (nI d)), (2, .int (nI h)), (3, .int (nI kk)), (4, .int (nI e1)), (5, .int (nI (26 * d + h)))]) hx hb dX2_reckon_142 hl (k := 7) rfl (n_inc ch 1) (by decide) rfl (fun ls hl => ?_)
      refine lv_goto (tgt := 27) hx hb dX2_reckon_145 (by decide) ?_
      exact ih27 (ch + 1) L W1 Z1 V1 (by omega) (by first | assumption | omega | rfl) (((it_s (show ch < 600 by omega)).trans (congrArg (it (mReF M (Z 30) (Z 31) (Z 26) (Z 27) nb kk e1 d h) (600 - (ch + 1)) (ch + 1)) (show mReF M (Z 30) (Z 31) (Z 26) (Z 27) nb kk e1 d h ch (L, W1) = _ from (by unfold mReF; rw [pif_t c_2])))).symm.trans hq) ((congrFun (hz1 26 (by decide) (by decide)) (26 * d + h)).trans hL) ((congrFun (hz1 27 (by decide) (by decide)) (26 * d + h)).trans hW1) (fun j9 h9 => by (try rw [up2_ne (Or.inl (by decide))]); (try rw [up2_ne (Or.inr h9)]); exact (congrFun (hz1 26 (by decide) (by decide)) j9).trans (h26 j9 h9)) (fun j9 h9 => by (try rw [up2_ne (Or.inr h9)]); (try rw [up2_ne (Or.inl (by decide))]); exact (congrFun (hz1 27 (by decide) (by decide)) j9).trans (h27 j9 h9)) (fun k9 h9 h8 h7 h6 => by funext j9; (try simp only [up2_eq, h9, h8, false_and, if_false]); rw [hz1 k9 h7 h6, hz k9 h9 h8 h7 h6]) _ _ hw ls (lv_sub hl [2, 3, 4, 5, 6, 7, 0] rfl)
  exact L_27 _ 0 (nI 0) (nI 0) (up2 (up2 Z 26 (26 * d + h) (nI 0)) 27 (26 * d + h) (nI 0)) V (Nat.lt_succ_self _) (by first | assumption | omega | rfl) rfl ((up2_ne (Or.inl (by decide))).trans up2_at) up2_at (fun j9 h9 => (up2_ne (Or.inl (by decide))).trans (up2_ne (Or.inr h9))) (fun j9 h9 => (up2_ne (Or.inr h9)).trans (up2_ne (Or.inl (by decide)))) (fun k9 h9 h8 _ _ => by funext j9; simp only [up2_eq, h9, h8, false_and, if_false]) _ _ hw ls (lv_sub hl [2, 3, 4, 5, 6, 1, 0] rfl)
