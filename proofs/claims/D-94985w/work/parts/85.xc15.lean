noncomputable def xMin (v : Int32) : Int32 := pif (v < nI 999) v (nI 999)
noncomputable def xSellF (tx : kT) (M : Nat → Nat → Int32) (q k nb : Nat) (b : Nat) (st : (Nat → Nat → Int32) × Int32) : (Nat → Nat → Int32) × Int32 :=
  (up2 st.1 53 b (xMin (st.1 53 b + M 0 (40 + 3 * k + 2) * mShr tx M q k b / mShAll tx M q k nb)), st.2 + (xMin (st.1 53 b + M 0 (40 + 3 * k + 2) * mShr tx M q k b / mShAll tx M q k nb) - st.1 53 b))
noncomputable def xSell1 (X : Nat → Nat → Int32) (ns q : Nat) : Nat → Nat → Int32 := up2 (xKeep X ns) 53 (12 + 10 * q + 3) (nI 1)
noncomputable def xSell2 (tx : kT) (M X : Nat → Nat → Int32) (ns q k nb : Nat) : (Nat → Nat → Int32) × Int32 := pif (mShAll tx M q k nb ≤ 0) (xSell1 X ns q, nI 0) (it (xSellF tx M q k nb) (nb - 0) 0 (xSell1 X ns q, nI 0))
noncomputable def xSell (tx : kT) (M X : Nat → Nat → Int32) (np nb ns : Nat) (x : Int32) : (Nat → Nat → Int32) × Int32 := pif (mSellOk M np x) (xSell2 tx M X ns (cl x) (cl (M 0 (150 + 10 * cl x))) nb) (X, -1)
set_option maxHeartbeats 4000000 in
set_option maxRecDepth 100000 in
theorem met_X0_sell (l : Launch) (G : gG) (ad : Nat → Nat) (sz : Nat) (X Z : Nat → Nat → Int32) (T : Nat → Nat → Option Nat) (M : Nat → Nat → Int32) (nb nk nx np h nu ns ne nt : Nat) (hR : RS X 51 (M 0) nb nk nx np h nu ns ne nt) (tx : kT) (htx : mTx M tx) (x : Int32) : Met l yX0_sell (ws_ yX0_sell cX0_sell 6 (some .int)) ({ frames := 106, cells := 0, slots := 0, locals := 6424 } : Room) (cP G [.ref (ad 0), .int x] (fun H => xH G ad X Z T sz H ∧ aTx G (xOld ad sz) X T tx H)) (cQ (some (.int ((xSell tx M X np nb ns x).2))) (fun H => ∃ Z9, (∀ k9, k9 ≠ 2 → k9 ≠ 3 → Z9 k9 = Z k9) ∧ xH G ad ((xSell tx M X np nb ns x).1) Z9 T sz H) (xA ad sz)) 0 0 (xA ad sz) := by
  refine c_start (by decide) (Nat.le_of_ble_eq_true rfl) ?_
  intro p e s m below meth c hx hb hr hlocks hml hown hts hB hK ls hl
  obtain ⟨hB, hE⟩ := hB
  have hz := hB.2.2
  have hw := XS.of hB
  have hl : lv_has ls 6 [(0, .ref (ad 0)), (1, .int x)] := hl
  have hR0 := hR
  obtain ⟨⟨rnb, mnb, hnb⟩, ⟨rnk, mnk, hnk⟩, ⟨rnx, mnx, hnx⟩, rtx, ⟨rns, mns, hns⟩, ⟨rne, mne, hne⟩, ⟨rnt, mnt, hnt⟩, ⟨rnp, mnp, hnp⟩, ⟨rh, mh, hh⟩, ⟨rnu, mnu, hnu⟩, rbl, rbe, rgi, rki, rse, rto, rpi, rbu, rkd, rva, rst⟩ := hR
  change X 52 0 = _ at rnb; change X 52 1 = _ at rnk; change X 52 2 = _ at rnx; change X 52 3 = _ at rtx; change X 52 4 = _ at rns; change X 52 5 = _ at rne; change X 52 6 = _ at rnt; change X 53 112 = _ at rnp; change X 53 113 = _ at rh; change X 53 114 = _ at rnu
  refine lv_aload_n hx hb dX0_sell_0 rfl (lv_at hl 0 rfl) ?_
  refine lv_iload_n hx hb dX0_sell_1 rfl (lv_at hl 1 rfl) ?_
  refine c_read (va_runV (As := [.int x]) (rest := []) ⟨hx, hb, hml, hown, hts⟩ (met_X0_isPiece l G ad sz X Z T x np rnp (by omega)) (cv_X0_X0_isPiece hts ⟨Nat.le_of_ble_eq_true rfl, Nat.le_of_ble_eq_true rfl⟩) (cP.preV hK hw.1 (hw.1.recv hK)) rfl rfl hl.1 rfl (lv_room (Nat.le_of_ble_eq_true rfl)) dX0_sell_2 ⟨by first | exact Nat.zero_le _ | omega | decide, by first | exact Nat.zero_le _ | omega | decide⟩) ?_
  refine b_if_eq (tgt := 28) hx hb dX0_sell_5 (by decide) (fun c_1 => ?_) (fun c_1 => ?_)
  · refine lv_iconst (v := (-1)) hx hb dX0_sell_28 (by decide) ?_
    exact c_iret (v := (-1)) (by unfold xSell; rw [pif_f (fun h9 => by first | exact absurd h9.1 (by with_reducible assumption) | (have h8 := h9.2.1; simp only [cl, k_jx] at h8; exact absurd h8 (by with_reducible assumption)) | (have h8 := h9.2.2; simp only [cl, k_jx] at h8; exact absurd (by with_reducible assumption) h8))]) hx hb hr rfl hlocks ⟨_, fun _ _ _ => rfl, xH.to (by unfold xSell; rw [pif_f (fun h9 => by first | exact absurd h9.1 (by with_reducible assumption) | (have h8 := h9.2.1; simp only [cl, k_jx] at h8; exact absurd h8 (by with_reducible assumption)) | (have h8 := h9.2.2; simp only [cl, k_jx] at h8; exact absurd (by with_reducible assumption) h8))]) rfl rfl hw.1⟩ hw.2.1 dX0_sell_29
  obtain ⟨jx, h_jx, rfl⟩ := vp_in_of c_1 (by omega)
  have k_jx : (nI jx).toNatClampNeg = jx := nI_clamp (by omega)
  refine lv_aload_n hx hb dX0_sell_8 rfl (lv_at hl 0 rfl) ?_
  refine lv_iload_n hx hb dX0_sell_9 rfl (lv_at hl 1 rfl) ?_
  refine lv_iconst (v := nI 1) hx hb dX0_sell_10 (by decide) ?_
  refine c_read (va_runV (As := [.int (nI jx), .int (nI 1)]) (rest := []) ⟨hx, hb, hml, hown, hts⟩ (met_X0_ofPiece l G ad sz X Z T jx 1 (M 0 (150 + 10 * jx + 1)) (by omega) (pc_at rpi (i := 10 * jx + 1) (by omega) (by omega) (by omega))) (cv_X0_X0_ofPiece hts ⟨Nat.le_of_ble_eq_true rfl, Nat.le_of_ble_eq_true rfl⟩) (cP.preV hK hw.1 (hw.1.recv hK)) rfl rfl hl.1 rfl (lv_room (Nat.le_of_ble_eq_true rfl)) dX0_sell_11 ⟨by first | exact Nat.zero_le _ | omega | decide, by first | exact Nat.zero_le _ | omega | decide⟩) ?_
  refine lv_iconst (v := nI 1) hx hb dX0_sell_14 (by decide) ?_
  refine lv_icmp_ne (tgt := 28) hx hb dX0_sell_15 (by decide) (fun c_2 => ?_) (fun c_2 => ?_)
  · refine lv_iconst (v := (-1)) hx hb dX0_sell_28 (by decide) ?_
    exact c_iret (v := (-1)) (by unfold xSell; rw [pif_f (fun h9 => by first | exact absurd h9.1 (by with_reducible assumption) | (have h8 := h9.2.1; simp only [cl, k_jx] at h8; exact absurd h8 (by with_reducible assumption)) | (have h8 := h9.2.2; simp only [cl, k_jx] at h8; exact absurd (by with_reducible assumption) h8))]) hx hb hr rfl hlocks ⟨_, fun _ _ _ => rfl, xH.to (by unfold xSell; rw [pif_f (fun h9 => by first | exact absurd h9.1 (by with_reducible assumption) | (have h8 := h9.2.1; simp only [cl, k_jx] at h8; exact absurd h8 (by with_reducible assumption)) | (have h8 := h9.2.2; simp only [cl, k_jx] at h8; exact absurd (by with_reducible assumption) h8))]) rfl rfl hw.1⟩ hw.2.1 dX0_sell_29
  refine lv_aload_n hx hb dX0_sell_18 rfl (lv_at hl 0 rfl) ?_
  refine lv_iload_n hx hb dX0_sell_19 rfl (lv_at hl 1 rfl) ?_
  refine lv_iconst (v := nI 3) hx hb dX0_sell_20 (by decide) ?_
  refine c_read (va_runV (As := [.int (nI jx), .int (nI 3)]) (rest := []) ⟨hx, hb, hml, hown, hts⟩ (met_X0_ofPiece l G ad sz X Z T jx 3 (M 0 (150 + 10 * jx + 3)) (by omega) (pc_at rpi (i := 10 * jx + 3) (by omega) (by omega) (by omega))) (cv_X0_X0_ofPiece hts ⟨Nat.le_of_ble_eq_true rfl, Nat.le_of_ble_eq_true rfl⟩) (cP.preV hK hw.1 (hw.1.recv hK)) rfl rfl hl.1 rfl (lv_room (Nat.le_of_ble_eq_true rfl)) dX0_sell_21 ⟨by first | exact Nat.zero_le _ | omega | decide, by first | exact Nat.zero_le _ | omega | decide⟩) ?_
  refine lv_iconst (v := nI 1) hx hb dX0_sell_24 (by decide) ?_
  refine lv_icmp_ne (tgt := 30) hx hb dX0_sell_25 (by decide) (fun c_3 => ?_) (fun c_3 => ?_)
  · have hok : mSellOk M np (nI jx) := ⟨vp_in_nI h_jx (by omega), by simp only [cl, k_jx]; assumption, by simp only [cl, k_jx]; assumption⟩
    obtain ⟨k, hk9, ek⟩ := rkd jx h_jx
    have ek2 : X 53 (12 + 10 * jx) = nI k := (rpi (10 * jx) (by omega)).trans ek
    refine lv_iconst (v := nI 0) hx hb dX0_sell_30 (by decide) ?_
    refine lv_istore_n (lv' := [(2, .int (nI 0)), (0, .ref (ad 0)), (1, .int (nI jx))]) hx hb dX0_sell_31 rfl hl (by decide) rfl (fun ls hl => ?_)
    refine lv_iconst (v := nI 0) hx hb dX0_sell_32 (by decide) ?_
    refine lv_istore_n (lv' := [(3, .int (nI 0)), (2, .int (nI 0)), (0, .ref (ad 0)), (1, .int (nI jx))]) hx hb dX0_sell_33 rfl hl (by decide) rfl (fun ls hl => ?_)
    have L34_4 : ∀ (fuel : Nat) (b : Nat) (all : Int32) (Za : Nat → Nat → Int32), nb - b < fuel → (b ≤ nb) → (it (fun b g => g + mShr tx M jx k b) (nb - b) b all = mShAll tx M jx k nb) → (∀ j, j < b → Za 3 j = mShr tx M jx k j) → (∀ k9, k9 ≠ 2 → k9 ≠ 3 → Za k9 = Z k9) → ∀ (H : Heap) (locs : List Loc), XS G ad sz s.heap X Za T H locs → ∀ (ls : Array Slot), lv_has ls 6 [(0, .ref (ad 0)), (1, .int (nI jx)), (2, .int all), (3, .int (nI b))] → W p l e ({ frames := 106, cells := 0, slots := 0, locals := 6424 } : Room) s m ([.ref (ad 0), .int (nI jx)] : List Value).toArray below meth c H locs 0 0 (MQ below (cQ (some (.int ((xSell tx M X np nb ns (nI jx)).2))) (fun H => ∃ Z9, (∀ k9, k9 ≠ 2 → k9 ≠ 3 → Z9 k9 = Z k9) ∧ xH G ad ((xSell tx M X np nb ns (nI jx)).1) Z9 T sz H) (xA ad sz)) ([.ref (ad 0), .int (nI jx)] : List Value).toArray s 0 0 (xA ad sz)) (F0 m 34 ls []) := by
      intro fuel
      induction fuel with
      | zero => intro b all Za hf; exact absurd hf (Nat.not_lt_zero _)
      | succ fuel ih =>
        intro b all Za hf hi_b hal hsh hza H locs hw ls hl
        have ih34 := ih
        refine lv_iload_n hx hb dX0_sell_34 rfl (lv_at hl 3 rfl) ?_
        refine lv_aload_n hx hb dX0_sell_35 rfl (lv_at hl 0 rfl) ?_
        refine x_g_now hx hb hts hown hK hw dX0_sell_36 ?_
        refine x_sX0_51_n hx hb hts hown hK hw dX0_sell_39 ?_
        refine lv_iconst (v := nI 0) hx hb dX0_sell_42 (by decide) ?_
        refine x_l (k := 52) (j := 0) (n := 7) (v := nI nb) hx hb hK hw rnb (by decide) (by decide) dX0_sell_43 ?_
        refine n_icmp_ge (tgt := 143) hx hb dX0_sell_44 (by decide) (by omega) (by omega) (fun c_5 => ?_) (fun c_5 => ?_)
        · obtain rfl : all = mShAll tx M jx k nb := (it_z (by omega)).symm.trans hal
          refine lv_aload_n hx hb dX0_sell_143 rfl (lv_at hl 0 rfl) ?_
          refine x_g_now hx hb hts hown hK hw dX0_sell_144 ?_
          refine c_call (va_runV (As := []) (rest := []) ⟨hx, hb, hml, hown, hts⟩ (met_X1_keeps l G ad sz X Za T ns rns (by omega)) (cv_X0_X1_keeps hts ⟨Nat.le_of_ble_eq_true rfl, Nat.le_of_ble_eq_true rfl⟩) (cP.preV hK hw.1 (hw.1.recv0 hK)) rfl rfl hl.1 rfl (lv_room (Nat.le_of_ble_eq_true rfl)) dX0_sell_147 ⟨by first | exact Nat.zero_le _ | omega | decide, by first | exact Nat.zero_le _ | omega | decide⟩) hw.2.1 (fun q _ h => h) (fun q h => h) (fun H locs hw _ _ hS => ?_)
          replace hw := XS.mk hw hS hz
          refine lv_aload_n hx hb dX0_sell_150 rfl (lv_at hl 0 rfl) ?_
          refine x_g_now hx hb hts hown hK hw dX0_sell_151 ?_
          refine x_sX0_51_row hx hb hts hown hK hw dX0_sell_154 ?_
          refine lv_iload_n hx hb dX0_sell_157 rfl (lv_at hl 1 rfl) ?_
          refine lv_iconst (v := nI 3) hx hb dX0_sell_158 (by decide) ?_
          refine c_read (va_runS (As := [.int (nI jx), .int (nI 3)]) (rest := [.ref (ad 53)]) ⟨hx, hb, hml, hown, hts⟩ (met_X0_at l G jx 3) (cs_X0_X0_at hts ⟨Nat.le_of_ble_eq_true rfl, Nat.le_of_ble_eq_true rfl⟩) (cP.pre hK trivial) rfl rfl hl.1 rfl (lv_room (Nat.le_of_ble_eq_true rfl)) dX0_sell_159 ⟨by first | exact Nat.zero_le _ | omega | decide, by first | exact Nat.zero_le _ | omega | decide⟩) ?_
          refine lv_iconst (v := nI 1) hx hb dX0_sell_162 (by decide) ?_
          refine x_s (k := 53) (j := 12 + 10 * jx + 3) (n := 275) hx hb hK hw (by decide) (by omega) dX0_sell_163 (fun H locs hw => ?_)
          refine lv_iconst (v := nI 0) hx hb dX0_sell_164 (by decide) ?_
          refine lv_istore_n (lv' := [(3, .int (nI 0)), (0, .ref (ad 0)), (1, .int (nI jx)), (2, .int (mShAll tx M jx k nb))]) hx hb dX0_sell_165 rfl hl (by decide) rfl (fun ls hl => ?_)
          refine lv_iconst (v := nI 0) hx hb dX0_sell_166 (by decide) ?_
          refine lv_istore (lv' := [(4, .int (nI 0)), (3, .int (nI 0)), (0, .ref (ad 0)), (1, .int (nI jx)), (2, .int (mShAll tx M jx k nb))]) hx hb dX0_sell_167 hl (by decide) rfl (fun ls hl => ?_)
          have L169_6 : ∀ (fuel : Nat) (b2 : Nat) (sum : Int32) (X2 : Nat → Nat → Int32), nb - b2 < fuel → (b2 ≤ nb) → (pif (mShAll tx M jx k nb ≤ 0) (X2, sum) (it (xSellF tx M jx k nb) (nb - b2) b2 (X2, sum)) = xSell2 tx M X ns jx k nb) → (X2 52 0 = nI nb) → (X2 53 (12 + 10 * jx) = nI k) → (X2 (67 + k) 2 = M 0 (40 + 3 * k + 2)) → (∀ j, j < nb → Za 3 j = mShr tx M jx k j) → ∀ (H : Heap) (locs : List Loc), XS G ad sz s.heap X2 Za T H locs → ∀ (ls : Array Slot), lv_has ls 6 [(0, .ref (ad 0)), (1, .int (nI jx)), (2, .int (mShAll tx M jx k nb)), (3, .int sum), (4, .int (nI b2))] → W p l e ({ frames := 106, cells := 0, slots := 0, locals := 6424 } : Room) s m ([.ref (ad 0), .int (nI jx)] : List Value).toArray below meth c H locs 0 0 (MQ below (cQ (some (.int ((xSell tx M X np nb ns (nI jx)).2))) (fun H => ∃ Z9, (∀ k9, k9 ≠ 2 → k9 ≠ 3 → Z9 k9 = Z k9) ∧ xH G ad ((xSell tx M X np nb ns (nI jx)).1) Z9 T sz H) (xA ad sz)) ([.ref (ad 0), .int (nI jx)] : List Value).toArray s 0 0 (xA ad sz)) (F0 m 169 ls []) := by
            intro fuel
            induction fuel with
            | zero => intro b2 sum X2 hf; exact absurd hf (Nat.not_lt_zero _)
            | succ fuel ih =>
              intro b2 sum X2 hf hi_b2 hR2 f0 f1 f2 f3 H locs hw ls hl
              have ih169 := ih
              refine lv_iload hx hb dX0_sell_169 (lv_at hl 4 rfl) ?_
              refine lv_aload_n hx hb dX0_sell_171 rfl (lv_at hl 0 rfl) ?_
              refine x_g_now hx hb hts hown hK hw dX0_sell_172 ?_
              refine x_sX0_51_n hx hb hts hown hK hw dX0_sell_175 ?_
              refine lv_iconst (v := nI 0) hx hb dX0_sell_178 (by decide) ?_
              refine x_l (k := 52) (j := 0) (n := 7) (v := nI nb) hx hb hK hw f0 (by decide) (by decide) dX0_sell_179 ?_
              refine n_icmp_ge (tgt := 272) hx hb dX0_sell_180 (by decide) (by omega) (by omega) (fun c_7 => ?_) (fun c_7 => ?_)
              · refine lv_iload_n hx hb dX0_sell_272 rfl (lv_at hl 3 rfl) ?_
                exact c_iret (v := sum) (by have hR3 : (X2, sum) = xSell2 tx M X ns jx k nb := (by rw [← hR2]; first | rw [pif_t (by first | with_reducible assumption | exact Int32.not_le.mp (by with_reducible assumption) | exact Int32.not_lt.mp (by with_reducible assumption) | exact Int32.not_lt.mpr (by with_reducible assumption) | exact Int32.not_le.mpr (by with_reducible assumption))] | (rw [it_z (by omega)]; by_cases h9 : mShAll tx M jx k nb ≤ 0; (rw [pif_t h9]); (rw [pif_f h9]))); unfold xSell; rw [pif_t hok, show cl (nI jx) = jx from k_jx, ek, show cl (nI k) = k from nI_clamp (by omega), ← hR3]) hx hb hr rfl hlocks ⟨_, hza, xH.to (by have hR3 : (X2, sum) = xSell2 tx M X ns jx k nb := (by rw [← hR2]; first | rw [pif_t (by first | with_reducible assumption | exact Int32.not_le.mp (by with_reducible assumption) | exact Int32.not_lt.mp (by with_reducible assumption) | exact Int32.not_lt.mpr (by with_reducible assumption) | exact Int32.not_le.mpr (by with_reducible assumption))] | (rw [it_z (by omega)]; by_cases h9 : mShAll tx M jx k nb ≤ 0; (rw [pif_t h9]); (rw [pif_f h9]))); unfold xSell; rw [pif_t hok, show cl (nI jx) = jx from k_jx, ek, show cl (nI k) = k from nI_clamp (by omega), ← hR3]) rfl rfl hw.1⟩ hw.2.1 dX0_sell_273
              refine lv_iload_n hx hb dX0_sell_183 rfl (lv_at hl 2 rfl) ?_
              refine lv_if_le (tgt := 272) hx hb dX0_sell_184 (by decide) (fun c_8 => ?_) (fun c_8 => ?_)
              · refine lv_iload_n hx hb dX0_sell_272 rfl (lv_at hl 3 rfl) ?_
                exact c_iret (v := sum) (by have hR3 : (X2, sum) = xSell2 tx M X ns jx k nb := (by rw [← hR2]; first | rw [pif_t (by first | with_reducible assumption | exact Int32.not_le.mp (by with_reducible assumption) | exact Int32.not_lt.mp (by with_reducible assumption) | exact Int32.not_lt.mpr (by with_reducible assumption) | exact Int32.not_le.mpr (by with_reducible assumption))] | (rw [it_z (by omega)]; by_cases h9 : mShAll tx M jx k nb ≤ 0; (rw [pif_t h9]); (rw [pif_f h9]))); unfold xSell; rw [pif_t hok, show cl (nI jx) = jx from k_jx, ek, show cl (nI k) = k from nI_clamp (by omega), ← hR3]) hx hb hr rfl hlocks ⟨_, hza, xH.to (by have hR3 : (X2, sum) = xSell2 tx M X ns jx k nb := (by rw [← hR2]; first | rw [pif_t (by first | with_reducible assumption | exact Int32.not_le.mp (by with_reducible assumption) | exact Int32.not_lt.mp (by with_reducible assumption) | exact Int32.not_lt.mpr (by with_reducible assumption) | exact Int32.not_le.mpr (by with_reducible assumption))] | (rw [it_z (by omega)]; by_cases h9 : mShAll tx M jx k nb ≤ 0; (rw [pif_t h9]); (rw [pif_f h9]))); unfold xSell; rw [pif_t hok, show cl (nI jx) = jx from k_jx, ek, show cl (nI k) = k from nI_clamp (by omega), ← hR3]) rfl rfl hw.1⟩ hw.2.1 dX0_sell_273
              have hall9 : ¬ mShAll tx M jx k nb ≤ 0 := c_8
              refine lv_aload_n hx hb dX0_sell_187 rfl (lv_at hl 0 rfl) ?_
              refine x_g_now hx hb hts hown hK hw dX0_sell_188 ?_
              refine x_sX0_51_row hx hb hts hown hK hw dX0_sell_191 ?_
              refine lv_iconst (v := nI 0) hx hb dX0_sell_194 (by decide) ?_
              refine lv_iload hx hb dX0_sell_195 (lv_at hl 4 rfl) ?_
              refine n_iadd0 hx hb dX0_sell_197 ?_
              refine x_l (k := 53) (j := b2) (n := 275) (v := X2 53 b2) hx hb hK hw rfl (by decide) (by omega) dX0_sell_198 ?_
              refine lv_istore (lv' := [(5, .int (X2 53 b2)), (0, .ref (ad 0)), (1, .int (nI jx)), (2, .int (mShAll tx M jx k nb)), (3, .int sum), (4, .int (nI b2))]) hx hb dX0_sell_199 hl (by decide) rfl (fun ls hl => ?_)
              refine lv_aload_n hx hb dX0_sell_201 rfl (lv_at hl 1 rfl) ?_
              refine x_g_now hx hb hts hown hK hw dX0_sell_202 ?_
              refine x_sX0_51_row hx hb hts hown hK hw dX0_sell_205 ?_
              refine lv_iconst (v := nI 0) hx hb dX0_sell_208 (by decide) ?_
              refine lv_iload hx hb dX0_sell_209 (lv_at hl 5 rfl) ?_
              refine n_iadd0 hx hb dX0_sell_211 ?_
              refine lv_sipush (v := nI 999) hx hb dX0_sell_212 (by decide) ?_
              refine lv_iload hx hb dX0_sell_215 (lv_at hl 0 rfl) ?_
              refine lv_aload_n hx hb dX0_sell_217 rfl (lv_at hl 1 rfl) ?_
              refine x_g_now hx hb hts hown hK hw dX0_sell_218 ?_
              refine x_sX0_51_kind hx hb hts hown hK hw dX0_sell_221 ?_
              refine lv_aload_n hx hb dX0_sell_224 rfl (lv_at hl 1 rfl) ?_
              refine lv_iload_n hx hb dX0_sell_225 rfl (lv_at hl 2 rfl) ?_
              refine lv_iconst (v := nI 0) hx hb dX0_sell_226 (by decide) ?_
              refine c_read (va_runV (As := [.int (nI jx), .int (nI 0)]) (rest := [.ref (ad 56), .int (X2 53 b2), .int (nI 999), .int (nI b2), .ref (ad 53)]) ⟨hx, hb, hml, hown, hts⟩ (met_X0_ofPiece l G ad sz X2 Za T jx 0 (nI k) (by omega) f1) (cv_X0_X0_ofPiece hts ⟨Nat.le_of_ble_eq_true rfl, Nat.le_of_ble_eq_true rfl⟩) (cP.preV hK hw.1 (hw.1.recv hK)) rfl rfl hl.1 rfl (lv_room (Nat.le_of_ble_eq_true rfl)) dX0_sell_227 ⟨by first | exact Nat.zero_le _ | omega | decide, by first | exact Nat.zero_le _ | omega | decide⟩) ?_
              refine x_a (r := 67 + k) hx hb hK hw xO_56 rfl (by decide) (by omega) rfl dX0_sell_230 ?_
              refine lv_iconst (v := nI 2) hx hb dX0_sell_231 (by decide) ?_
              refine x_l (k := 67 + k) (j := 2) (n := 3) (v := M 0 (40 + 3 * k + 2)) hx hb hK hw f2 (xL_67 (by omega)) (by decide) dX0_sell_232 ?_
              refine lv_aload_n hx hb dX0_sell_233 rfl (lv_at hl 1 rfl) ?_
              refine x_g_share hx hb hts hown hK hw dX0_sell_234 ?_
              refine lv_iload hx hb dX0_sell_237 (lv_at hl 5 rfl) ?_
              refine z_l (k := 3) (j := b2) (n := 6) (v := mShr tx M jx k b2) hx hb hK hw (f3 b2 (by omega)) (by decide) (by omega) dX0_sell_239 ?_
              refine lv_imul hx hb dX0_sell_240 ?_
              refine lv_iload_n hx hb dX0_sell_241 rfl (lv_at hl 3 rfl) ?_
              refine lv_idiv hx hb dX0_sell_242 (fun q9 => hall9 (by rw [q9]; exact Int32.le_refl _)) ?_
              refine lv_iadd hx hb dX0_sell_243 ?_
              refine c_mmin (x := (nI 999)) (y := ((X2 53 b2) + (((M 0 (40 + 3 * k + 2)) * (mShr tx M jx k b2)) / (mShAll tx M jx k nb)))) hx hb (hml.trans hl.1.symm) hown (hts _ q988) (hts _ q440) (hts _ q109) (hts _ q441) (Nat.le_of_ble_eq_true rfl) (Nat.le_trans (Nat.add_le_add_right (show (([.int (nI b2), .ref (ad 53)] : List Value).map fun v => v.category).sum ≤ 20 from Nat.le_of_ble_eq_true rfl) 13) (Nat.le_of_ble_eq_true rfl)) (Nat.le_of_ble_eq_true rfl) (Nat.le_of_ble_eq_true rfl) dX0_sell_244 ?_
              refine x_s (k := 53) (j := b2) (n := 275) hx hb hK hw (by decide) (by omega) dX0_sell_247 (fun H locs hw => ?_)
              refine lv_iload_n hx hb dX0_sell_248 rfl (lv_at hl 4 rfl) ?_
              refine lv_aload_n hx hb dX0_sell_249 rfl (lv_at hl 1 rfl) ?_
              refine x_g_now hx hb hts hown hK hw dX0_sell_250 ?_
              refine x_sX0_51_row hx hb hts hown hK hw dX0_sell_253 ?_
              refine lv_iconst (v := nI 0) hx hb dX0_sell_256 (by decide) ?_
              refine lv_iload hx hb dX0_sell_257 (lv_at hl 5 rfl) ?_
              refine n_iadd0 hx hb dX0_sell_259 ?_
              refine x_l (k := 53) (j := b2) (n := 275) (v := (pif (((X2 53 b2) + (((M 0 (40 + 3 * k + 2)) * (mShr tx M jx k b2)) / (mShAll tx M jx k nb))) < (nI 999)) ((X2 53 b2) + (((M 0 (40 + 3 * k + 2)) * (mShr tx M jx k b2)) / (mShAll tx M jx k nb))) (nI 999))) hx hb hK hw up2_at (by decide) (by omega) dX0_sell_260 ?_
              refine lv_iload hx hb dX0_sell_261 (lv_at hl 0 rfl) ?_
              refine lv_isub hx hb dX0_sell_263 ?_
              refine lv_iadd hx hb dX0_sell_264 ?_
              refine lv_istore_n (lv' := [(3, .int (sum + ((pif (((X2 53 b2) + (((M 0 (40 + 3 * k + 2)) * (mShr tx M jx k b2)) / (mShAll tx M jx k nb))) < (nI 999)) ((X2 53 b2) + (((M 0 (40 + 3 * k + 2)) * (mShr tx M jx k b2)) / (mShAll tx M jx k nb))) (nI 999)) - (X2 53 b2)))), (5, .int (X2 53 b2)), (0, .ref (ad 0)), (1, .int (nI jx)), (2, .int (mShAll tx M jx k nb)), (4, .int (nI b2))]) hx hb dX0_sell_265 rfl hl (by decide) rfl (fun ls hl => ?_)
              refine lv_iinc (v := nI (b2 + 1)) (lv' := [(4, .int (nI (b2 + 1))), (3, .int (sum + ((pif (((X2 53 b2) + (((M 0 (40 + 3 * k + 2)) * (mShr tx M jx k b2)) / (mShAll tx M jx k nb))) < (nI 999)) ((X2 53 b2) + (((M 0 (40 + 3 * k + 2)) * (mShr tx M jx k b2)) / (mShAll tx M jx k nb))) (nI 999)) - (X2 53 b2)))), (5, .int (X2 53 b2)), (0, .ref (ad 0)), (1, .int (nI jx)), (2, .int (mShAll tx M jx k nb))]) hx hb dX0_sell_266 hl (k := 5) rfl (n_inc b2 1) (by decide) rfl (fun ls hl => ?_)
              refine lv_goto (tgt := 169) hx hb dX0_sell_269 (by decide) ?_
              exact ih169 (b2 + 1) (sum + ((pif (((X2 53 b2) + (((M 0 (40 + 3 * k + 2)) * (mShr tx M jx k b2)) / (mShAll tx M jx k nb))) < (nI 999)) ((X2 53 b2) + (((M 0 (40 + 3 * k + 2)) * (mShr tx M jx k b2)) / (mShAll tx M jx k nb))) (nI 999)) - (X2 53 b2))) (up2 X2 53 b2 (pif (((X2 53 b2) + (((M 0 (40 + 3 * k + 2)) * (mShr tx M jx k b2)) / (mShAll tx M jx k nb))) < (nI 999)) ((X2 53 b2) + (((M 0 (40 + 3 * k + 2)) * (mShr tx M jx k b2)) / (mShAll tx M jx k nb))) (nI 999))) (by omega) (by omega) (by rw [pif_f hall9] at hR2 ⊢; rw [it_s (by omega)] at hR2; exact hR2) ((up2_ne (Or.inl (by decide))).trans f0) ((up2_ne (Or.inr (by omega))).trans f1) ((up2_ne (Or.inl (by omega))).trans f2) f3 _ _ hw ls (lv_sub hl [3, 4, 5, 1, 0] rfl)
          exact L169_6 _ 0 (nI 0) (up2 (xKeep X ns) 53 (12 + 10 * jx + 3) (nI 1)) (Nat.lt_succ_self _) (by first | assumption | omega | rfl) rfl ((up2_ne (Or.inl (by decide))).trans ((xKeep_52 (by omega) (by decide)).trans rnb)) ((up2_ne (Or.inr (by omega))).trans ((congrFun (xKeep_lo (by omega) (by omega) (by omega)) (12 + 10 * jx)).trans ek2)) ((up2_ne (Or.inl (by omega))).trans ((congrFun (xKeep_lo (by omega) (by omega) (by omega)) 2).trans ((rki k (by omega)).2.2))) (fun j h9 => hsh j (by omega)) _ _ hw ls (lv_sub hl [2, 3, 4, 1, 0] rfl)
        refine lv_aload_n hx hb dX0_sell_47 rfl (lv_at hl 0 rfl) ?_
        refine x_g_share hx hb hts hown hK hw dX0_sell_48 ?_
        refine lv_iload_n hx hb dX0_sell_51 rfl (lv_at hl 3 rfl) ?_
        refine lv_iconst (v := nI 0) hx hb dX0_sell_52 (by decide) ?_
        refine z_s (k := 3) (j := b) (n := 6) hx hb hK hw (by decide) (by omega) dX0_sell_53 (fun H locs hw => ?_)
        refine lv_aload_n hx hb dX0_sell_54 rfl (lv_at hl 0 rfl) ?_
        refine lv_iload_n hx hb dX0_sell_55 rfl (lv_at hl 1 rfl) ?_
        refine lv_iconst (v := nI 4) hx hb dX0_sell_56 (by decide) ?_
        refine lv_iload_n hx hb dX0_sell_57 rfl (lv_at hl 3 rfl) ?_
        refine n_iadd hx hb dX0_sell_58 ?_
        refine c_read (va_runV (As := [.int (nI jx), .int (nI (4 + b))]) (rest := []) ⟨hx, hb, hml, hown, hts⟩ (met_X0_ofPiece l G ad sz X (up2 Za 3 b (nI 0)) T jx (4 + b) (M 0 (150 + 10 * jx + 4 + b)) (by omega) (pc_at rpi (i := 10 * jx + (4 + b)) (by omega) (by omega) (by omega))) (cv_X0_X0_ofPiece hts ⟨Nat.le_of_ble_eq_true rfl, Nat.le_of_ble_eq_true rfl⟩) (cP.preV hK hw.1 (hw.1.recv hK)) rfl rfl hl.1 rfl (lv_room (Nat.le_of_ble_eq_true rfl)) dX0_sell_59 ⟨by first | exact Nat.zero_le _ | omega | decide, by first | exact Nat.zero_le _ | omega | decide⟩) ?_
        refine lv_if_ne (tgt := 68) hx hb dX0_sell_62 (by decide) (fun c_9 => ?_) (fun c_9 => ?_)
        · obtain ⟨g9, hg9, eg9⟩ := rva.2.2.2.2 jx b (by omega) (by omega)
          have hgp : ¬ M 0 (150 + 10 * jx + 4 + b) ≤ 0 := fun h9 => c_9 (by rw [eg9] at h9 ⊢; have := (nI_leI (show g9 < 2 ^ 31 by omega) (show 0 < 2 ^ 31 by decide)).mp (show nI g9 ≤ nI 0 from h9); rw [show g9 = 0 by omega]; rfl)
          refine lv_aload_n hx hb dX0_sell_68 rfl (lv_at hl 0 rfl) ?_
          refine x_g_names hx hb hts hown hK hw dX0_sell_69 ?_
          refine lv_iconst (v := nI 0) hx hb dX0_sell_72 (by decide) ?_
          refine lv_aload_n hx hb dX0_sell_73 rfl (lv_at hl 0 rfl) ?_
          refine c_read (va_runV (As := []) (rest := [.int (nI 0), .ref (ad 2)]) ⟨hx, hb, hml, hown, hts⟩ (met_X0_hour l G ad sz X (up2 Za 3 b (nI 0)) T (nI h) rh) (cv_X0_X0_hour hts ⟨Nat.le_of_ble_eq_true rfl, Nat.le_of_ble_eq_true rfl⟩) (cP.preV hK hw.1 (hw.1.recv hK)) rfl rfl hl.1 rfl (lv_room (Nat.le_of_ble_eq_true rfl)) dX0_sell_74 ⟨by first | exact Nat.zero_le _ | omega | decide, by first | exact Nat.zero_le _ | omega | decide⟩) ?_
          refine z_s (k := 2) (j := 0) (n := 11) hx hb hK hw (by decide) (by decide) dX0_sell_77 (fun H locs hw => ?_)
          refine lv_aload_n hx hb dX0_sell_78 rfl (lv_at hl 0 rfl) ?_
          refine lv_iload_n hx hb dX0_sell_79 rfl (lv_at hl 3 rfl) ?_
          refine c_call (va_runV (As := [.int (nI b)]) (rest := []) ⟨hx, hb, hml, hown, hts⟩ (met_X0_namesBlower l G ad sz X (up2 (up2 Za 3 b (nI 0)) 2 0 (nI h)) T b (by omega)) (cv_X0_X0_namesBlower hts ⟨Nat.le_of_ble_eq_true rfl, Nat.le_of_ble_eq_true rfl⟩) (cP.preV hK hw.1 (hw.1.recv hK)) rfl rfl hl.1 rfl (lv_room (Nat.le_of_ble_eq_true rfl)) dX0_sell_80 ⟨by first | exact Nat.zero_le _ | omega | decide, by first | exact Nat.zero_le _ | omega | decide⟩) hw.2.1 (fun q _ h => h) (fun q h => h) (fun H locs hw _ _ hS => ?_)
          replace hw := XS.mk hw hS hz
          refine lv_aload_n hx hb dX0_sell_83 rfl (lv_at hl 0 rfl) ?_
          refine lv_aload_n hx hb dX0_sell_84 rfl (lv_at hl 0 rfl) ?_
          refine lv_iload_n hx hb dX0_sell_85 rfl (lv_at hl 1 rfl) ?_
          refine lv_iconst (v := nI 0) hx hb dX0_sell_86 (by decide) ?_
          refine c_read (va_runV (As := [.int (nI jx), .int (nI 0)]) (rest := [.ref (ad 0)]) ⟨hx, hb, hml, hown, hts⟩ (met_X0_ofPiece l G ad sz X (up2 (up2 (up2 (up2 (up2 (up2 Za 3 b (nI 0)) 2 0 (nI h)) 2 1 (nI b)) 2 2 (X (61 + b) 0)) 2 3 (X (61 + b) 1)) 2 4 (X 53 b)) T jx 0 (nI k) (by omega) ek2) (cv_X0_X0_ofPiece hts ⟨Nat.le_of_ble_eq_true rfl, Nat.le_of_ble_eq_true rfl⟩) (cP.preV hK hw.1 (hw.1.recv hK)) rfl rfl hl.1 rfl (lv_room (Nat.le_of_ble_eq_true rfl)) dX0_sell_87 ⟨by first | exact Nat.zero_le _ | omega | decide, by first | exact Nat.zero_le _ | omega | decide⟩) ?_
          refine c_call (va_runV (As := [.int (nI k)]) (rest := []) ⟨hx, hb, hml, hown, hts⟩ (met_X0_namesKind l G ad sz X (up2 (up2 (up2 (up2 (up2 (up2 Za 3 b (nI 0)) 2 0 (nI h)) 2 1 (nI b)) 2 2 (X (61 + b) 0)) 2 3 (X (61 + b) 1)) 2 4 (X 53 b)) T k (by omega)) (cv_X0_X0_namesKind hts ⟨Nat.le_of_ble_eq_true rfl, Nat.le_of_ble_eq_true rfl⟩) (cP.preV hK hw.1 (hw.1.recv hK)) rfl rfl hl.1 rfl (lv_room (Nat.le_of_ble_eq_true rfl)) dX0_sell_90 ⟨by first | exact Nat.zero_le _ | omega | decide, by first | exact Nat.zero_le _ | omega | decide⟩) hw.2.1 (fun q _ h => h) (fun q h => h) (fun H locs hw _ _ hS => ?_)
          replace hw := XS.mk hw hS hz
          refine lv_aload_n hx hb dX0_sell_93 rfl (lv_at hl 0 rfl) ?_
          refine x_g_names hx hb hts hown hK hw dX0_sell_94 ?_
          refine lv_bipush (v := nI 8) hx hb dX0_sell_97 (by decide) ?_
          refine lv_aload_n hx hb dX0_sell_99 rfl (lv_at hl 0 rfl) ?_
          refine lv_iload_n hx hb dX0_sell_100 rfl (lv_at hl 1 rfl) ?_
          refine lv_iconst (v := nI 4) hx hb dX0_sell_101 (by decide) ?_
          refine lv_iload_n hx hb dX0_sell_102 rfl (lv_at hl 3 rfl) ?_
          refine n_iadd hx hb dX0_sell_103 ?_
          refine c_read (va_runV (As := [.int (nI jx), .int (nI (4 + b))]) (rest := [.int (nI 8), .ref (ad 2)]) ⟨hx, hb, hml, hown, hts⟩ (met_X0_ofPiece l G ad sz X (up2 (up2 (up2 (up2 (up2 (up2 (up2 (up2 (up2 Za 3 b (nI 0)) 2 0 (nI h)) 2 1 (nI b)) 2 2 (X (61 + b) 0)) 2 3 (X (61 + b) 1)) 2 4 (X 53 b)) 2 5 (nI k)) 2 6 (X (67 + k) 0)) 2 7 (X (67 + k) 2)) T jx (4 + b) (M 0 (150 + 10 * jx + 4 + b)) (by omega) (pc_at rpi (i := 10 * jx + (4 + b)) (by omega) (by omega) (by omega))) (cv_X0_X0_ofPiece hts ⟨Nat.le_of_ble_eq_true rfl, Nat.le_of_ble_eq_true rfl⟩) (cP.preV hK hw.1 (hw.1.recv hK)) rfl rfl hl.1 rfl (lv_room (Nat.le_of_ble_eq_true rfl)) dX0_sell_104 ⟨by first | exact Nat.zero_le _ | omega | decide, by first | exact Nat.zero_le _ | omega | decide⟩) ?_
          refine z_s (k := 2) (j := 8) (n := 11) hx hb hK hw (by decide) (by decide) dX0_sell_107 (fun H locs hw => ?_)
          refine lv_aload_n hx hb dX0_sell_108 rfl (lv_at hl 0 rfl) ?_
          refine x_g_share hx hb hts hown hK hw dX0_sell_109 ?_
          refine lv_iload_n hx hb dX0_sell_112 rfl (lv_at hl 3 rfl) ?_
          refine lv_aload_n hx hb dX0_sell_113 rfl (lv_at hl 0 rfl) ?_
          refine lv_iconst (v := nI 3) hx hb dX0_sell_114 (by decide) ?_
          refine lv_bipush (v := nI 99) hx hb dX0_sell_115 (by decide) ?_
          refine lv_aload_n hx hb dX0_sell_117 rfl (lv_at hl 0 rfl) ?_
          refine x_g_names hx hb hts hown hK hw dX0_sell_118 ?_
          refine lv_bipush (v := nI 8) hx hb dX0_sell_121 (by decide) ?_
          refine z_l (k := 2) (j := 8) (n := 11) (v := M 0 (150 + 10 * jx + 4 + b)) hx hb hK hw up2_at (by decide) (by decide) dX0_sell_123 ?_
          refine c_read (va_runV (As := [.int (nI 3), .int (nI 99), .int (M 0 (150 + 10 * jx + 4 + b))]) (rest := [.int (nI b), .ref (ad 3)]) ⟨hx, hb, hml, hown, hts⟩ (met_X0_asks l G ad sz X (up2 (up2 (up2 (up2 (up2 (up2 (up2 (up2 (up2 (up2 Za 3 b (nI 0)) 2 0 (nI h)) 2 1 (nI b)) 2 2 (X (61 + b) 0)) 2 3 (X (61 + b) 1)) 2 4 (X 53 b)) 2 5 (nI k)) 2 6 (X (67 + k) 0)) 2 7 (X (67 + k) 2)) 2 8 (M 0 (150 + 10 * jx + 4 + b))) T tx 3 99 (by decide) (by decide) (M 0 (150 + 10 * jx + 4 + b))) (cv_X0_X0_asks hts ⟨Nat.le_of_ble_eq_true rfl, Nat.le_of_ble_eq_true rfl⟩) (cP.preV hK ⟨hw.1, (aTx.kept rfl (fun q h9 => h9.keep hw.2.1 hz) (fun q h9 => h9) hE)⟩ (hw.1.recv hK)) rfl rfl hl.1 rfl (lv_room (Nat.le_of_ble_eq_true rfl)) dX0_sell_124 ⟨by first | exact Nat.zero_le _ | omega | decide, by first | exact Nat.zero_le _ | omega | decide⟩) ?_
          have hv9 : mShr tx M jx k b = mSumT tx ((up2 (up2 (up2 (up2 (up2 (up2 (up2 (up2 (up2 (up2 Za 3 b (nI 0)) 2 0 (nI h)) 2 1 (nI b)) 2 2 (X (61 + b) 0)) 2 3 (X (61 + b) 1)) 2 4 (X 53 b)) 2 5 (nI k)) 2 6 (X (67 + k) 0)) 2 7 (X (67 + k) 2)) 2 8 (M 0 (150 + 10 * jx + 4 + b))) 2) 3 (nI 99) (M 0 (150 + 10 * jx + 4 + b)) := by unfold mShr; rw [pif_f hgp]; exact (xShare_eq htx (((up2_ne (Or.inr (by decide))).trans ((up2_ne (Or.inr (by decide))).trans ((up2_ne (Or.inr (by decide))).trans ((up2_ne (Or.inr (by decide))).trans ((up2_ne (Or.inr (by decide))).trans ((up2_ne (Or.inr (by decide))).trans ((up2_ne (Or.inr (by decide))).trans ((up2_ne (Or.inr (by decide))).trans up2_at)))))))) |>.trans mh.symm) ((up2_ne (Or.inr (by decide))).trans ((up2_ne (Or.inr (by decide))).trans ((up2_ne (Or.inr (by decide))).trans ((up2_ne (Or.inr (by decide))).trans ((up2_ne (Or.inr (by decide))).trans ((up2_ne (Or.inr (by decide))).trans ((up2_ne (Or.inr (by decide))).trans up2_at))))))) ((((up2_ne (Or.inr (by decide))).trans ((up2_ne (Or.inr (by decide))).trans ((up2_ne (Or.inr (by decide))).trans ((up2_ne (Or.inr (by decide))).trans ((up2_ne (Or.inr (by decide))).trans ((up2_ne (Or.inr (by decide))).trans up2_at))))))).trans (rbl b (by omega)).1) ((((up2_ne (Or.inr (by decide))).trans ((up2_ne (Or.inr (by decide))).trans ((up2_ne (Or.inr (by decide))).trans ((up2_ne (Or.inr (by decide))).trans ((up2_ne (Or.inr (by decide))).trans up2_at)))))).trans (rbl b (by omega)).2.1) ((((up2_ne (Or.inr (by decide))).trans ((up2_ne (Or.inr (by decide))).trans ((up2_ne (Or.inr (by decide))).trans ((up2_ne (Or.inr (by decide))).trans up2_at))))).trans (rbe b (by omega)).1) ((up2_ne (Or.inr (by decide))).trans ((up2_ne (Or.inr (by decide))).trans ((up2_ne (Or.inr (by decide))).trans up2_at))) ((((up2_ne (Or.inr (by decide))).trans ((up2_ne (Or.inr (by decide))).trans up2_at))).trans (rki k (by omega)).1) ((((up2_ne (Or.inr (by decide))).trans up2_at)).trans (rki k (by omega)).2.2) up2_at rfl).symm
          refine z_s (k := 3) (j := b) (n := 6) hx hb hK hw (by decide) (by omega) dX0_sell_127 (fun H locs hw => ?_)
          refine lv_iload_n hx hb dX0_sell_128 rfl (lv_at hl 2 rfl) ?_
          refine lv_aload_n hx hb dX0_sell_129 rfl (lv_at hl 0 rfl) ?_
          refine x_g_share hx hb hts hown hK hw dX0_sell_130 ?_
          refine lv_iload_n hx hb dX0_sell_133 rfl (lv_at hl 3 rfl) ?_
          refine z_l (k := 3) (j := b) (n := 6) (v := mSumT tx ((up2 (up2 (up2 (up2 (up2 (up2 (up2 (up2 (up2 (up2 Za 3 b (nI 0)) 2 0 (nI h)) 2 1 (nI b)) 2 2 (X (61 + b) 0)) 2 3 (X (61 + b) 1)) 2 4 (X 53 b)) 2 5 (nI k)) 2 6 (X (67 + k) 0)) 2 7 (X (67 + k) 2)) 2 8 (M 0 (150 + 10 * jx + 4 + b))) 2) 3 (nI 99) (M 0 (150 + 10 * jx + 4 + b))) hx hb hK hw up2_at (by decide) (by omega) dX0_sell_134 ?_
          refine lv_iadd hx hb dX0_sell_135 ?_
          refine lv_istore_n (lv' := [(2, .int (all + (mSumT tx ((up2 (up2 (up2 (up2 (up2 (up2 (up2 (up2 (up2 (up2 Za 3 b (nI 0)) 2 0 (nI h)) 2 1 (nI b)) 2 2 (X (61 + b) 0)) 2 3 (X (61 + b) 1)) 2 4 (X 53 b)) 2 5 (nI k)) 2 6 (X (67 + k) 0)) 2 7 (X (67 + k) 2)) 2 8 (M 0 (150 + 10 * jx + 4 + b))) 2) 3 (nI 99) (M 0 (150 + 10 * jx + 4 + b))))), (0, .ref (ad 0)), (1, .int (nI jx)), (3, .int (nI b))]) hx hb dX0_sell_136 rfl hl (by decide) rfl (fun ls hl => ?_)
          refine lv_iinc (v := nI (b + 1)) (lv' := [(3, .int (nI (b + 1))), (2, .int (all + (mSumT tx ((up2 (up2 (up2 (up2 (up2 (up2 (up2 (up2 (up2 (up2 Za 3 b (nI 0)) 2 0 (nI h)) 2 1 (nI b)) 2 2 (X (61 + b) 0)) 2 3 (X (61 + b) 1)) 2 4 (X 53 b)) 2 5 (nI k)) 2 6 (X (67 + k) 0)) 2 7 (X (67 + k) 2)) 2 8 (M 0 (150 + 10 * jx + 4 + b))) 2) 3 (nI 99) (M 0 (150 + 10 * jx + 4 + b))))), (0, .ref (ad 0)), (1, .int (nI jx))]) hx hb dX0_sell_137 hl (k := 3) rfl (n_inc b 1) (by decide) rfl (fun ls hl => ?_)
          refine lv_goto (tgt := 34) hx hb dX0_sell_140 (by decide) ?_
          exact ih34 (b + 1) (all + (mSumT tx ((up2 (up2 (up2 (up2 (up2 (up2 (up2 (up2 (up2 (up2 Za 3 b (nI 0)) 2 0 (nI h)) 2 1 (nI b)) 2 2 (X (61 + b) 0)) 2 3 (X (61 + b) 1)) 2 4 (X 53 b)) 2 5 (nI k)) 2 6 (X (67 + k) 0)) 2 7 (X (67 + k) 2)) 2 8 (M 0 (150 + 10 * jx + 4 + b))) 2) 3 (nI 99) (M 0 (150 + 10 * jx + 4 + b)))) (up2 (up2 (up2 (up2 (up2 (up2 (up2 (up2 (up2 (up2 (up2 Za 3 b (nI 0)) 2 0 (nI h)) 2 1 (nI b)) 2 2 (X (61 + b) 0)) 2 3 (X (61 + b) 1)) 2 4 (X 53 b)) 2 5 (nI k)) 2 6 (X (67 + k) 0)) 2 7 (X (67 + k) 2)) 2 8 (M 0 (150 + 10 * jx + 4 + b))) 3 b (mSumT tx ((up2 (up2 (up2 (up2 (up2 (up2 (up2 (up2 (up2 (up2 Za 3 b (nI 0)) 2 0 (nI h)) 2 1 (nI b)) 2 2 (X (61 + b) 0)) 2 3 (X (61 + b) 1)) 2 4 (X 53 b)) 2 5 (nI k)) 2 6 (X (67 + k) 0)) 2 7 (X (67 + k) 2)) 2 8 (M 0 (150 + 10 * jx + 4 + b))) 2) 3 (nI 99) (M 0 (150 + 10 * jx + 4 + b)))) (by omega) (by omega) (by refine Eq.trans ?_ ((it_s (by omega)).symm.trans hal); congr 1; show _ = all + mShr tx M jx k b; rw [hv9]) (fun j h9 => by by_cases e9 : j = b; (subst e9; rw [up2_at]; exact hv9.symm); (rw [up2_ne (Or.inr e9)]; rw [up2_ne (Or.inl (by decide)), up2_ne (Or.inl (by decide)), up2_ne (Or.inl (by decide)), up2_ne (Or.inl (by decide)), up2_ne (Or.inl (by decide)), up2_ne (Or.inl (by decide)), up2_ne (Or.inl (by decide)), up2_ne (Or.inl (by decide)), up2_ne (Or.inl (by decide)), up2_ne (Or.inr e9)]; exact hsh j (by omega))) (fun k9 h9 h8 => (up2_row h8).trans ((up2_row h9).trans ((up2_row h9).trans ((up2_row h9).trans ((up2_row h9).trans ((up2_row h9).trans ((up2_row h9).trans ((up2_row h9).trans ((up2_row h9).trans ((up2_row h9).trans ((up2_row h8).trans (hza k9 h9 h8)))))))))))) _ _ hw ls (lv_sub hl [2, 3, 1, 0] rfl)
        refine lv_goto (tgt := 137) hx hb dX0_sell_65 (by decide) ?_
        refine lv_iinc (v := nI (b + 1)) (lv' := [(3, .int (nI (b + 1))), (0, .ref (ad 0)), (1, .int (nI jx)), (2, .int all)]) hx hb dX0_sell_137 hl (k := 3) rfl (n_inc b 1) (by decide) rfl (fun ls hl => ?_)
        refine lv_goto (tgt := 34) hx hb dX0_sell_140 (by decide) ?_
        exact ih34 (b + 1) all (up2 Za 3 b (nI 0)) (by omega) (by omega) (by refine Eq.trans ?_ ((it_s (by omega)).symm.trans hal); congr 1; show all = all + mShr tx M jx k b; unfold mShr; rw [pif_t (by rw [c_9]; exact Int32.le_refl _), nI_0, Int32.add_zero]) (fun j h9 => by by_cases e9 : j = b; (subst e9; rw [up2_at]; unfold mShr; rw [pif_t (by rw [c_9]; exact Int32.le_refl _)]); (rw [up2_ne (Or.inr e9)]; exact hsh j (by omega))) (fun k9 h9 h8 => (up2_row h8).trans (hza k9 h9 h8)) _ _ hw ls (lv_sub hl [1, 2, 3, 0] rfl)
    exact L34_4 _ 0 (nI 0) Z (Nat.lt_succ_self _) (by first | assumption | omega | rfl) rfl (fun _ h9 => absurd h9 (Nat.not_lt_zero _)) (fun _ _ _ => rfl) _ _ hw ls (lv_sub hl [2, 3, 1, 0] rfl)
  refine lv_iconst (v := (-1)) hx hb dX0_sell_28 (by decide) ?_
  exact c_iret (v := (-1)) (by unfold xSell; rw [pif_f (fun h9 => by first | exact absurd h9.1 (by with_reducible assumption) | (have h8 := h9.2.1; simp only [cl, k_jx] at h8; exact absurd h8 (by with_reducible assumption)) | (have h8 := h9.2.2; simp only [cl, k_jx] at h8; exact absurd (by with_reducible assumption) h8))]) hx hb hr rfl hlocks ⟨_, fun _ _ _ => rfl, xH.to (by unfold xSell; rw [pif_f (fun h9 => by first | exact absurd h9.1 (by with_reducible assumption) | (have h8 := h9.2.1; simp only [cl, k_jx] at h8; exact absurd h8 (by with_reducible assumption)) | (have h8 := h9.2.2; simp only [cl, k_jx] at h8; exact absurd (by with_reducible assumption) h8))]) rfl rfl hw.1⟩ hw.2.1 dX0_sell_29
