theorem bit_pif {v : Int32} {P : Prop} : pif (P ∧ v &&& nI 1 = nI 1) (nI 1) (nI 0) = pif P (v &&& nI 1) (nI 0) := by
  have h : v &&& nI 1 = nI 0 ∨ v &&& nI 1 = nI 1 := by
    obtain ⟨j, hj, e⟩ := pk_andE v (m := nI 1) 1 (by decide)
    obtain rfl | rfl : j = 0 ∨ j = 1 := by omega
    · exact Or.inl e
    · exact Or.inr e
  by_cases hP : P
  · rw [pif_t hP]
    rcases h with e | e
    · rw [pif_f (fun h9 => absurd (e.symm.trans h9.2) (by decide)), e]
    · rw [pif_t ⟨hP, e⟩, e]
  · rw [pif_f hP, pif_f (fun h9 => hP h9.1)]
theorem xBrittle_eq {M : Nat → Nat → Int32} {tx : kT} (htx : mTx M tx) {f : Nat → Int32} {q k nb : Nat} (h0 : f 0 = M 0 3) (h5 : f 5 = nI k) (h6 : f 6 = M 0 (40 + 3 * k)) (h7 : f 7 = M 0 (40 + 3 * k + 2)) (h9 : f 9 = mQuar M q nb) (h10 : f 10 = mMany M q nb) : mSumT tx f 2 (nI 10) (nI 0) = mBrittle tx M q k nb :=
  mSumT_congr (M := M) (by decide) htx (fun v hv => by
    have hv5 : v = 0 ∨ v = 5 ∨ v = 6 ∨ v = 7 ∨ v = 9 ∨ v = 10 := by
      rcases hv with e | ⟨-, e⟩ | ⟨e, e2, -⟩ | ⟨-, e⟩ | ⟨e, e2, -⟩ <;> omega
    unfold nmR
    obtain rfl | rfl | rfl | rfl | rfl | rfl := hv5
    · exact h0
    · exact h5
    · exact h6
    · exact h7
    · exact h9
    · exact h10)
theorem xShare_eq {M : Nat → Nat → Int32} {tx : kT} (htx : mTx M tx) {f : Nat → Int32} {q b k : Nat} {w : Int32} (h0 : f 0 = M 0 3) (h1 : f 1 = nI b) (h2 : f 2 = M 0 (10 + 5 * b)) (h3 : f 3 = M 0 (10 + 5 * b + 1)) (h4 : f 4 = M 0 (10 + 5 * b + 2)) (h5 : f 5 = nI k) (h6 : f 6 = M 0 (40 + 3 * k)) (h7 : f 7 = M 0 (40 + 3 * k + 2)) (h8 : f 8 = M 0 (150 + 10 * q + 4 + b)) (hw : w = M 0 (150 + 10 * q + 4 + b)) : mSumT tx f 3 (nI 99) w = mShare tx M q b k := by
  subst hw
  exact mSumT_congr (M := M) (by decide) htx (fun v hv => by
    have hv9 : v < 9 := by
      rcases hv with e | ⟨e, -⟩ | ⟨-, e, -⟩ | ⟨e, -⟩ | ⟨-, -, e⟩ <;> omega
    unfold nmS nmB
    obtain rfl | rfl | rfl | rfl | rfl | rfl | rfl | rfl | rfl : v = 0 ∨ v = 1 ∨ v = 2 ∨ v = 3 ∨ v = 4 ∨ v = 5 ∨ v = 6 ∨ v = 7 ∨ v = 8 := by omega
    · exact h0
    · exact h1
    · exact h2
    · exact h3
    · exact h4
    · exact h5
    · exact h6
    · exact h7
    · exact h8)
set_option maxHeartbeats 4000000 in
set_option maxRecDepth 100000 in
theorem met_X0_brittleOf (l : Launch) (G : gG) (ad : Nat → Nat) (sz : Nat) (X Z : Nat → Nat → Int32) (T : Nat → Nat → Option Nat) (M : Nat → Nat → Int32) (nb nk nx np h nu ns ne nt : Nat) (hR : RS X 51 (M 0) nb nk nx np h nu ns ne nt) (tx : kT) (htx : mTx M tx) (q k : Nat) (hq : q < np) (ek : M 0 (150 + 10 * q) = nI k) (hk : k < nk) : Met l yX0_brittleOf (ws_ yX0_brittleOf cX0_brittleOf 6 (some .int)) ({ frames := 106, cells := 0, slots := 0, locals := 6424 } : Room) (cP G [.ref (ad 0), .int (nI q)] (fun H => xH G ad X Z T sz H ∧ aTx G (xOld ad sz) X T tx H)) (cQ (some (.int (mBrittle tx M q k nb))) (fun H => ∃ Z9, (∀ k9, k9 ≠ 2 → Z9 k9 = Z k9) ∧ xH G ad X Z9 T sz H) (xA ad sz)) 0 0 (xA ad sz) := by
  refine c_start (by decide) (Nat.le_of_ble_eq_true rfl) ?_
  intro p e s m below meth c hx hb hr hlocks hml hown hts hB hK ls hl
  obtain ⟨hB, hE⟩ := hB
  have hz := hB.2.2
  have hw := XS.of hB
  have hl : lv_has ls 6 [(0, .ref (ad 0)), (1, .int (nI q))] := hl
  have hR0 := hR
  obtain ⟨⟨rnb, mnb, hnb⟩, ⟨rnk, mnk, hnk⟩, ⟨rnx, mnx, hnx⟩, rtx, ⟨rns, mns, hns⟩, ⟨rne, mne, hne⟩, ⟨rnt, mnt, hnt⟩, ⟨rnp, mnp, hnp⟩, ⟨rh, mh, hh⟩, ⟨rnu, mnu, hnu⟩, rbl, rbe, rgi, rki, rse, rto, rpi, rbu, rkd, rva, rst⟩ := hR
  change X 52 0 = _ at rnb; change X 52 1 = _ at rnk; change X 52 2 = _ at rnx; change X 52 3 = _ at rtx; change X 52 4 = _ at rns; change X 52 5 = _ at rne; change X 52 6 = _ at rnt; change X 53 112 = _ at rnp; change X 53 113 = _ at rh; change X 53 114 = _ at rnu
  have ek2 : X 53 (12 + 10 * q) = nI k := (rpi (10 * q) (by omega)).trans ek
  refine lv_iconst (v := nI 0) hx hb dX0_brittleOf_0 (by decide) ?_
  refine lv_istore_n (lv' := [(2, .int (nI 0)), (0, .ref (ad 0)), (1, .int (nI q))]) hx hb dX0_brittleOf_1 rfl hl (by decide) rfl (fun ls hl => ?_)
  refine lv_iconst (v := nI 0) hx hb dX0_brittleOf_2 (by decide) ?_
  refine lv_istore_n (lv' := [(3, .int (nI 0)), (2, .int (nI 0)), (0, .ref (ad 0)), (1, .int (nI q))]) hx hb dX0_brittleOf_3 rfl hl (by decide) rfl (fun ls hl => ?_)
  refine lv_iconst (v := nI 0) hx hb dX0_brittleOf_4 (by decide) ?_
  refine lv_istore (lv' := [(4, .int (nI 0)), (3, .int (nI 0)), (2, .int (nI 0)), (0, .ref (ad 0)), (1, .int (nI q))]) hx hb dX0_brittleOf_5 hl (by decide) rfl (fun ls hl => ?_)
  have L_7 : ∀ (fuel : Nat) (b : Nat) (g9 : Int32) (g10 : Int32), nb - b < fuel → (b ≤ nb) → (it (fun b g => pif (M 0 (150 + 10 * q + 4 + b) = 0) g (g + nI 1)) (nb - b) b g10 = mMany M q nb) → (it (fun b g => pif (M 0 (150 + 10 * q + 4 + b) = 0) g (mQuar1 M q b g)) (nb - b) b g9 = mQuar M q nb) → ∀ (ls : Array Slot), lv_has ls 6 [(0, .ref (ad 0)), (1, .int (nI q)), (2, .int g10), (3, .int g9), (4, .int (nI b))] → W p l e ({ frames := 106, cells := 0, slots := 0, locals := 6424 } : Room) s m ([.ref (ad 0), .int (nI q)] : List Value).toArray below meth c s.heap [] 0 0 (MQ below (cQ (some (.int (mBrittle tx M q k nb))) (fun H => ∃ Z9, (∀ k9, k9 ≠ 2 → Z9 k9 = Z k9) ∧ xH G ad X Z9 T sz H) (xA ad sz)) ([.ref (ad 0), .int (nI q)] : List Value).toArray s 0 0 (xA ad sz)) (F0 m 7 ls []) := by
    intro fuel
    induction fuel with
    | zero => intro b g9 g10 hf; exact absurd hf (Nat.not_lt_zero _)
    | succ fuel ih =>
      intro b g9 g10 hf hi_b hm hq2 ls hl
      have ih7 := ih
      refine lv_iload hx hb dX0_brittleOf_7 (lv_at hl 4 rfl) ?_
      refine lv_aload_n hx hb dX0_brittleOf_9 rfl (lv_at hl 0 rfl) ?_
      refine x_g_now hx hb hts hown hK hw dX0_brittleOf_10 ?_
      refine x_sX0_51_n hx hb hts hown hK hw dX0_brittleOf_13 ?_
      refine lv_iconst (v := nI 0) hx hb dX0_brittleOf_16 (by decide) ?_
      refine x_l (k := 52) (j := 0) (n := 7) (v := nI nb) hx hb hK hw rnb (by decide) (by decide) dX0_brittleOf_17 ?_
      refine n_icmp_ge (tgt := 97) hx hb dX0_brittleOf_18 (by decide) (by omega) (by omega) (fun c_1 => ?_) (fun c_1 => ?_)
      · obtain rfl : g10 = mMany M q nb := (it_z (by omega)).symm.trans hm
        obtain rfl : g9 = mQuar M q nb := (it_z (by omega)).symm.trans hq2
        refine lv_aload_n hx hb dX0_brittleOf_97 rfl (lv_at hl 0 rfl) ?_
        refine x_g_names hx hb hts hown hK hw dX0_brittleOf_98 ?_
        refine lv_iconst (v := nI 0) hx hb dX0_brittleOf_101 (by decide) ?_
        refine lv_aload_n hx hb dX0_brittleOf_102 rfl (lv_at hl 0 rfl) ?_
        refine c_read (va_runV (As := []) (rest := [.int (nI 0), .ref (ad 2)]) ⟨hx, hb, hml, hown, hts⟩ (met_X0_hour l G ad sz X Z T (nI h) rh) (cv_X0_X0_hour hts ⟨Nat.le_of_ble_eq_true rfl, Nat.le_of_ble_eq_true rfl⟩) (cP.preV hK hw.1 (hw.1.recv hK)) rfl rfl hl.1 rfl (lv_room (Nat.le_of_ble_eq_true rfl)) dX0_brittleOf_103 ⟨by first | exact Nat.zero_le _ | omega | decide, by first | exact Nat.zero_le _ | omega | decide⟩) ?_
        refine z_s (k := 2) (j := 0) (n := 11) hx hb hK hw (by decide) (by decide) dX0_brittleOf_106 (fun H locs hw => ?_)
        refine lv_aload_n hx hb dX0_brittleOf_107 rfl (lv_at hl 0 rfl) ?_
        refine lv_aload_n hx hb dX0_brittleOf_108 rfl (lv_at hl 0 rfl) ?_
        refine lv_iload_n hx hb dX0_brittleOf_109 rfl (lv_at hl 1 rfl) ?_
        refine lv_iconst (v := nI 0) hx hb dX0_brittleOf_110 (by decide) ?_
        refine c_read (va_runV (As := [.int (nI q), .int (nI 0)]) (rest := [.ref (ad 0)]) ⟨hx, hb, hml, hown, hts⟩ (met_X0_ofPiece l G ad sz X (up2 Z 2 0 (nI h)) T q 0 (nI k) (by omega) ek2) (cv_X0_X0_ofPiece hts ⟨Nat.le_of_ble_eq_true rfl, Nat.le_of_ble_eq_true rfl⟩) (cP.preV hK hw.1 (hw.1.recv hK)) rfl rfl hl.1 rfl (lv_room (Nat.le_of_ble_eq_true rfl)) dX0_brittleOf_111 ⟨by first | exact Nat.zero_le _ | omega | decide, by first | exact Nat.zero_le _ | omega | decide⟩) ?_
        refine c_call (va_runV (As := [.int (nI k)]) (rest := []) ⟨hx, hb, hml, hown, hts⟩ (met_X0_namesKind l G ad sz X (up2 Z 2 0 (nI h)) T k (by omega)) (cv_X0_X0_namesKind hts ⟨Nat.le_of_ble_eq_true rfl, Nat.le_of_ble_eq_true rfl⟩) (cP.preV hK hw.1 (hw.1.recv hK)) rfl rfl hl.1 rfl (lv_room (Nat.le_of_ble_eq_true rfl)) dX0_brittleOf_114 ⟨by first | exact Nat.zero_le _ | omega | decide, by first | exact Nat.zero_le _ | omega | decide⟩) hw.2.1 (fun q _ h => h) (fun q h => h) (fun H locs hw _ _ hS => ?_)
        replace hw := XS.mk hw hS hz
        refine lv_aload_n hx hb dX0_brittleOf_117 rfl (lv_at hl 0 rfl) ?_
        refine x_g_names hx hb hts hown hK hw dX0_brittleOf_118 ?_
        refine lv_bipush (v := nI 9) hx hb dX0_brittleOf_121 (by decide) ?_
        refine lv_iload_n hx hb dX0_brittleOf_123 rfl (lv_at hl 3 rfl) ?_
        refine z_s (k := 2) (j := 9) (n := 11) hx hb hK hw (by decide) (by decide) dX0_brittleOf_124 (fun H locs hw => ?_)
        refine lv_aload_n hx hb dX0_brittleOf_125 rfl (lv_at hl 0 rfl) ?_
        refine x_g_names hx hb hts hown hK hw dX0_brittleOf_126 ?_
        refine lv_bipush (v := nI 10) hx hb dX0_brittleOf_129 (by decide) ?_
        refine lv_iload_n hx hb dX0_brittleOf_131 rfl (lv_at hl 2 rfl) ?_
        refine z_s (k := 2) (j := 10) (n := 11) hx hb hK hw (by decide) (by decide) dX0_brittleOf_132 (fun H locs hw => ?_)
        refine lv_aload_n hx hb dX0_brittleOf_133 rfl (lv_at hl 0 rfl) ?_
        refine lv_iconst (v := nI 2) hx hb dX0_brittleOf_134 (by decide) ?_
        refine lv_bipush (v := nI 10) hx hb dX0_brittleOf_135 (by decide) ?_
        refine lv_iconst (v := nI 0) hx hb dX0_brittleOf_137 (by decide) ?_
        refine c_read (va_runV (As := [.int (nI 2), .int (nI 10), .int (nI 0)]) (rest := []) ⟨hx, hb, hml, hown, hts⟩ (met_X0_asks l G ad sz X (up2 (up2 (up2 (up2 (up2 (up2 Z 2 0 (nI h)) 2 5 (nI k)) 2 6 (X (67 + k) 0)) 2 7 (X (67 + k) 2)) 2 9 (mQuar M q nb)) 2 10 (mMany M q nb)) T tx 2 10 (by decide) (by decide) (nI 0)) (cv_X0_X0_asks hts ⟨Nat.le_of_ble_eq_true rfl, Nat.le_of_ble_eq_true rfl⟩) (cP.preV hK ⟨hw.1, (aTx.kept rfl (fun q h9 => h9.keep hw.2.1 hz) (fun q h9 => h9) hE)⟩ (hw.1.recv hK)) rfl rfl hl.1 rfl (lv_room (Nat.le_of_ble_eq_true rfl)) dX0_brittleOf_138 ⟨by first | exact Nat.zero_le _ | omega | decide, by first | exact Nat.zero_le _ | omega | decide⟩) ?_
        exact c_iret (v := mSumT tx ((up2 (up2 (up2 (up2 (up2 (up2 Z 2 0 (nI h)) 2 5 (nI k)) 2 6 (X (67 + k) 0)) 2 7 (X (67 + k) 2)) 2 9 (mQuar M q nb)) 2 10 (mMany M q nb)) 2) 2 (nI 10) (nI 0)) (xBrittle_eq htx (((up2_ne (Or.inr (by decide))).trans ((up2_ne (Or.inr (by decide))).trans ((up2_ne (Or.inr (by decide))).trans ((up2_ne (Or.inr (by decide))).trans ((up2_ne (Or.inr (by decide))).trans up2_at))))) |>.trans mh.symm) ((up2_ne (Or.inr (by decide))).trans ((up2_ne (Or.inr (by decide))).trans ((up2_ne (Or.inr (by decide))).trans ((up2_ne (Or.inr (by decide))).trans up2_at)))) ((((up2_ne (Or.inr (by decide))).trans ((up2_ne (Or.inr (by decide))).trans ((up2_ne (Or.inr (by decide))).trans up2_at)))).trans (rki k (by omega)).1) ((((up2_ne (Or.inr (by decide))).trans ((up2_ne (Or.inr (by decide))).trans up2_at))).trans (rki k (by omega)).2.2) ((up2_ne (Or.inr (by decide))).trans up2_at) up2_at) hx hb hr rfl hlocks ⟨_, fun k9 h9 => (up2_row h9).trans ((up2_row h9).trans ((up2_row h9).trans ((up2_row h9).trans ((up2_row h9).trans (up2_row h9))))), xH.to rfl rfl rfl hw.1⟩ hw.2.1 dX0_brittleOf_141
      refine lv_aload_n hx hb dX0_brittleOf_21 rfl (lv_at hl 0 rfl) ?_
      refine lv_iload_n hx hb dX0_brittleOf_22 rfl (lv_at hl 1 rfl) ?_
      refine lv_iconst (v := nI 4) hx hb dX0_brittleOf_23 (by decide) ?_
      refine lv_iload hx hb dX0_brittleOf_24 (lv_at hl 4 rfl) ?_
      refine n_iadd hx hb dX0_brittleOf_26 ?_
      refine c_read (va_runV (As := [.int (nI q), .int (nI (4 + b))]) (rest := []) ⟨hx, hb, hml, hown, hts⟩ (met_X0_ofPiece l G ad sz X Z T q (4 + b) (M 0 (150 + 10 * q + 4 + b)) (by omega) (pc_at rpi (i := 10 * q + (4 + b)) (by omega) (by omega) (by omega))) (cv_X0_X0_ofPiece hts ⟨Nat.le_of_ble_eq_true rfl, Nat.le_of_ble_eq_true rfl⟩) (cP.preV hK hw.1 (hw.1.recv hK)) rfl rfl hl.1 rfl (lv_room (Nat.le_of_ble_eq_true rfl)) dX0_brittleOf_27 ⟨by first | exact Nat.zero_le _ | omega | decide, by first | exact Nat.zero_le _ | omega | decide⟩) ?_
      refine lv_if_ne (tgt := 36) hx hb dX0_brittleOf_30 (by decide) (fun c_2 => ?_) (fun c_2 => ?_)
      · refine lv_iinc (v := g10 + Int32.ofInt 1) (lv' := [(2, .int (g10 + Int32.ofInt 1)), (0, .ref (ad 0)), (1, .int (nI q)), (3, .int g9), (4, .int (nI b))]) hx hb dX0_brittleOf_36 hl (k := 2) rfl rfl (by decide) rfl (fun ls hl => ?_)
        refine lv_iconst (v := nI 0) hx hb dX0_brittleOf_39 (by decide) ?_
        refine lv_istore (lv' := [(5, .int (nI 0)), (2, .int (g10 + Int32.ofInt 1)), (0, .ref (ad 0)), (1, .int (nI q)), (3, .int g9), (4, .int (nI b))]) hx hb dX0_brittleOf_40 hl (by decide) rfl (fun ls hl => ?_)
        have L42_3 : ∀ (fuel : Nat) (d : Nat) (g : Int32), b - d < fuel → (d ≤ b) → (it (fun d g => g + pif (0 < M 0 (150 + 10 * q + 4 + d) ∧ mHas (M 0 (10 + 5 * b + 4)) d) (nI 1) (nI 0)) (b - d) d g = mQuar1 M q b g9) → ∀ (ls : Array Slot), lv_has ls 6 [(0, .ref (ad 0)), (1, .int (nI q)), (2, .int (g10 + Int32.ofInt 1)), (3, .int g), (4, .int (nI b)), (5, .int (nI d))] → W p l e ({ frames := 106, cells := 0, slots := 0, locals := 6424 } : Room) s m ([.ref (ad 0), .int (nI q)] : List Value).toArray below meth c s.heap [] 0 0 (MQ below (cQ (some (.int (mBrittle tx M q k nb))) (fun H => ∃ Z9, (∀ k9, k9 ≠ 2 → Z9 k9 = Z k9) ∧ xH G ad X Z9 T sz H) (xA ad sz)) ([.ref (ad 0), .int (nI q)] : List Value).toArray s 0 0 (xA ad sz)) (F0 m 42 ls []) := by
          intro fuel
          induction fuel with
          | zero => intro d g hf; exact absurd hf (Nat.not_lt_zero _)
          | succ fuel ih =>
            intro d g hf hi_d hqi ls hl
            have ih42 := ih
            refine lv_iload hx hb dX0_brittleOf_42 (lv_at hl 5 rfl) ?_
            refine lv_iload hx hb dX0_brittleOf_44 (lv_at hl 4 rfl) ?_
            refine n_icmp_ge (tgt := 91) hx hb dX0_brittleOf_46 (by decide) (by omega) (by omega) (fun c_4 => ?_) (fun c_4 => ?_)
            · have hge : g = mQuar1 M q b g9 := (it_z (by omega)).symm.trans hqi
              refine lv_iinc (v := nI (b + 1)) (lv' := [(4, .int (nI (b + 1))), (0, .ref (ad 0)), (1, .int (nI q)), (2, .int (g10 + Int32.ofInt 1)), (3, .int g), (5, .int (nI d))]) hx hb dX0_brittleOf_91 hl (k := 4) rfl (n_inc b 1) (by decide) rfl (fun ls hl => ?_)
              refine lv_goto (tgt := 7) hx hb dX0_brittleOf_94 (by decide) ?_
              exact ih7 (b + 1) g (g10 + Int32.ofInt 1) (by omega) (by first | assumption | omega | rfl) (by refine Eq.trans ?_ ((it_s (by omega)).symm.trans hm); congr 1; rw [pif_f c_2]; rfl) (by refine Eq.trans ?_ ((it_s (by omega)).symm.trans hq2); congr 1; rw [pif_f c_2]; exact hge) ls (lv_sub hl [1, 2, 3, 4, 0] rfl)
            refine lv_iload_n hx hb dX0_brittleOf_49 rfl (lv_at hl 3 rfl) ?_
            refine lv_aload_n hx hb dX0_brittleOf_50 rfl (lv_at hl 0 rfl) ?_
            refine lv_iload_n hx hb dX0_brittleOf_51 rfl (lv_at hl 1 rfl) ?_
            refine lv_iconst (v := nI 4) hx hb dX0_brittleOf_52 (by decide) ?_
            refine lv_iload hx hb dX0_brittleOf_53 (lv_at hl 5 rfl) ?_
            refine n_iadd hx hb dX0_brittleOf_55 ?_
            refine c_read (va_runV (As := [.int (nI q), .int (nI (4 + d))]) (rest := [.int g]) ⟨hx, hb, hml, hown, hts⟩ (met_X0_ofPiece l G ad sz X Z T q (4 + d) (M 0 (150 + 10 * q + 4 + d)) (by omega) (pc_at rpi (i := 10 * q + (4 + d)) (by omega) (by omega) (by omega))) (cv_X0_X0_ofPiece hts ⟨Nat.le_of_ble_eq_true rfl, Nat.le_of_ble_eq_true rfl⟩) (cP.preV hK hw.1 (hw.1.recv hK)) rfl rfl hl.1 rfl (lv_room (Nat.le_of_ble_eq_true rfl)) dX0_brittleOf_56 ⟨by first | exact Nat.zero_le _ | omega | decide, by first | exact Nat.zero_le _ | omega | decide⟩) ?_
            refine lv_if_le (tgt := 82) hx hb dX0_brittleOf_59 (by decide) (fun c_5 => ?_) (fun c_5 => ?_)
            · refine lv_iconst (v := nI 0) hx hb dX0_brittleOf_82 (by decide) ?_
              refine lv_iadd hx hb dX0_brittleOf_83 ?_
              refine lv_istore_n (lv' := [(3, .int (g + (nI 0))), (0, .ref (ad 0)), (1, .int (nI q)), (2, .int (g10 + Int32.ofInt 1)), (4, .int (nI b)), (5, .int (nI d))]) hx hb dX0_brittleOf_84 rfl hl (by decide) rfl (fun ls hl => ?_)
              refine lv_iinc (v := nI (d + 1)) (lv' := [(5, .int (nI (d + 1))), (3, .int (g + (nI 0))), (0, .ref (ad 0)), (1, .int (nI q)), (2, .int (g10 + Int32.ofInt 1)), (4, .int (nI b))]) hx hb dX0_brittleOf_85 hl (k := 5) rfl (n_inc d 1) (by decide) rfl (fun ls hl => ?_)
              refine lv_goto (tgt := 42) hx hb dX0_brittleOf_88 (by decide) ?_
              exact ih42 (d + 1) (g + (nI 0)) (by omega) (by omega) (by refine Eq.trans ?_ ((it_s (by omega)).symm.trans hqi); congr 1; show _ = g + pif (0 < M 0 (150 + 10 * q + 4 + d) ∧ (M 0 (10 + 5 * b + 4) >>> (nI d &&& 31)) &&& nI 1 = nI 1) (nI 1) (nI 0); rw [bit_pif]; first | rw [pif_t (by first | with_reducible assumption | exact Int32.not_le.mp (by with_reducible assumption) | exact Int32.not_lt.mp (by with_reducible assumption) | exact Int32.not_lt.mpr (by with_reducible assumption) | exact Int32.not_le.mpr (by with_reducible assumption))] | rw [pif_f (by first | with_reducible assumption | exact Int32.not_le.mp (by with_reducible assumption) | exact Int32.not_lt.mp (by with_reducible assumption) | exact Int32.not_lt.mpr (by with_reducible assumption) | exact Int32.not_le.mpr (by with_reducible assumption))]) ls (lv_sub hl [2, 3, 4, 1, 5, 0] rfl)
            refine lv_aload_n hx hb dX0_brittleOf_62 rfl (lv_at hl 0 rfl) ?_
            refine x_g_now hx hb hts hown hK hw dX0_brittleOf_63 ?_
            refine x_sX0_51_blower hx hb hts hown hK hw dX0_brittleOf_66 ?_
            refine lv_iload hx hb dX0_brittleOf_69 (lv_at hl 4 rfl) ?_
            refine x_a (r := 61 + b) hx hb hK hw xO_55 rfl (by decide) (by omega) rfl dX0_brittleOf_71 ?_
            refine lv_iconst (v := nI 2) hx hb dX0_brittleOf_72 (by decide) ?_
            refine x_l (k := 61 + b) (j := 2) (n := 3) (v := M 0 (10 + 5 * b + 4)) hx hb hK hw ((rbl b (by omega)).2.2) (xL_61 (by omega)) (by decide) dX0_brittleOf_73 ?_
            refine lv_iload hx hb dX0_brittleOf_74 (lv_at hl 5 rfl) ?_
            refine lv_ishr hx hb dX0_brittleOf_76 ?_
            refine lv_iconst (v := nI 1) hx hb dX0_brittleOf_77 (by decide) ?_
            refine lv_iand hx hb dX0_brittleOf_78 ?_
            refine lv_goto (tgt := 83) hx hb dX0_brittleOf_79 (by decide) ?_
            refine lv_iadd hx hb dX0_brittleOf_83 ?_
            refine lv_istore_n (lv' := [(3, .int (g + (((M 0 (10 + 5 * b + 4)) >>> ((nI d) &&& 31)) &&& (nI 1)))), (0, .ref (ad 0)), (1, .int (nI q)), (2, .int (g10 + Int32.ofInt 1)), (4, .int (nI b)), (5, .int (nI d))]) hx hb dX0_brittleOf_84 rfl hl (by decide) rfl (fun ls hl => ?_)
            refine lv_iinc (v := nI (d + 1)) (lv' := [(5, .int (nI (d + 1))), (3, .int (g + (((M 0 (10 + 5 * b + 4)) >>> ((nI d) &&& 31)) &&& (nI 1)))), (0, .ref (ad 0)), (1, .int (nI q)), (2, .int (g10 + Int32.ofInt 1)), (4, .int (nI b))]) hx hb dX0_brittleOf_85 hl (k := 5) rfl (n_inc d 1) (by decide) rfl (fun ls hl => ?_)
            refine lv_goto (tgt := 42) hx hb dX0_brittleOf_88 (by decide) ?_
            exact ih42 (d + 1) (g + (((M 0 (10 + 5 * b + 4)) >>> ((nI d) &&& 31)) &&& (nI 1))) (by omega) (by omega) (by refine Eq.trans ?_ ((it_s (by omega)).symm.trans hqi); congr 1; show _ = g + pif (0 < M 0 (150 + 10 * q + 4 + d) ∧ (M 0 (10 + 5 * b + 4) >>> (nI d &&& 31)) &&& nI 1 = nI 1) (nI 1) (nI 0); rw [bit_pif]; first | rw [pif_t (by first | with_reducible assumption | exact Int32.not_le.mp (by with_reducible assumption) | exact Int32.not_lt.mp (by with_reducible assumption) | exact Int32.not_lt.mpr (by with_reducible assumption) | exact Int32.not_le.mpr (by with_reducible assumption))] | rw [pif_f (by first | with_reducible assumption | exact Int32.not_le.mp (by with_reducible assumption) | exact Int32.not_lt.mp (by with_reducible assumption) | exact Int32.not_lt.mpr (by with_reducible assumption) | exact Int32.not_le.mpr (by with_reducible assumption))]) ls (lv_sub hl [2, 3, 4, 1, 5, 0] rfl)
        exact L42_3 _ 0 g9 (Nat.lt_succ_self _) (by first | assumption | omega | rfl) rfl ls (lv_sub hl [2, 3, 1, 4, 5, 0] rfl)
      refine lv_goto (tgt := 91) hx hb dX0_brittleOf_33 (by decide) ?_
      refine lv_iinc (v := nI (b + 1)) (lv' := [(4, .int (nI (b + 1))), (0, .ref (ad 0)), (1, .int (nI q)), (2, .int g10), (3, .int g9)]) hx hb dX0_brittleOf_91 hl (k := 4) rfl (n_inc b 1) (by decide) rfl (fun ls hl => ?_)
      refine lv_goto (tgt := 7) hx hb dX0_brittleOf_94 (by decide) ?_
      exact ih7 (b + 1) g9 g10 (by omega) (by first | assumption | omega | rfl) (by refine Eq.trans ?_ ((it_s (by omega)).symm.trans hm); congr 1; rw [pif_t c_2]) (by refine Eq.trans ?_ ((it_s (by omega)).symm.trans hq2); congr 1; rw [pif_t c_2]) ls (lv_sub hl [1, 2, 3, 4, 0] rfl)
  exact L_7 _ 0 (nI 0) (nI 0) (Nat.lt_succ_self _) (by first | assumption | omega | rfl) rfl rfl ls (lv_sub hl [3, 4, 2, 1, 0] rfl)
theorem com_half {a b n : Nat} (hab : b ≤ a) (hb0 : 0 < b) (hp : a * b < 2 ^ (n + 1)) : b * (a % b) < 2 ^ n := by
  have h1 : 2 * (a % b) ≤ a := by
    have h2 := Nat.mod_lt a hb0
    have h3 := Nat.div_add_mod a b
    have h4 : 1 ≤ a / b := Nat.div_pos hab hb0
    have h5 : b * 1 ≤ b * (a / b) := Nat.mul_le_mul_left b h4
    omega
  have h6 : b * (2 * (a % b)) ≤ b * a := Nat.mul_le_mul_left b h1
  have h7 : b * (2 * (a % b)) = 2 * (b * (a % b)) := by rw [← Nat.mul_assoc, Nat.mul_comm b 2, Nat.mul_assoc]
  rw [h7, Nat.mul_comm b a] at h6
  rw [Nat.pow_succ] at hp
  omega
set_option maxHeartbeats 4000000 in
set_option maxRecDepth 100000 in
theorem met_X0_common (l : Launch) (G : gG) : ∀ (n a b : Nat) (ha : a < 2 ^ 63) (hab : b ≤ a) (hp : a * b < 2 ^ n), Met l yX0_common (ws_ yX0_common cX0_common 4 (some .long)) ({ frames := n, cells := 0, slots := 0, locals := 30 * n } : Room) (cP G [.long (lN a), .long (lN b)] (fun _ => True)) (cR (some (.long (lN (Nat.gcd a b))))) 0 0 (fun _ => False) := by
  intro n
  induction n with
  | zero =>
    intro a b ha hab hp
    have hb3 : b < 2 ^ 63 := by omega
    have hb00 : b = 0 := by
      rcases Nat.eq_zero_or_pos b with h | h
      · exact h
      · have := Nat.mul_pos (show 0 < a by omega) h
        omega
    subst hb00
    refine c_start (by decide) (Nat.le_of_ble_eq_true rfl) ?_
    intro p e s m below meth c hx hb hr hlocks hml hown hts hB hK ls hl
    have hl : lv_has ls 4 [(0, .long (lN a)), (2, .long (lN 0))] := hl
    refine lv_lload_n hx hb dX0_common_0 rfl (lv_at hl 1 rfl) ?_
    refine lv_lconst (v := lN 0) hx hb dX0_common_1 (by decide) ?_
    refine l_cmp_ne (tgt := 10) hx hb dX0_common_2 dX0_common_3 (by decide) (fun c_1 => absurd rfl c_1) (fun c_1 => ?_)
    refine lv_lload_n hx hb dX0_common_6 rfl (lv_at hl 0 rfl) ?_
    refine lv_goto (tgt := 17) hx hb dX0_common_7 (by decide) ?_
    exact c_rlret (v := lN a) (by rw [Nat.gcd_zero_right]) hx hb hr hlocks dX0_common_17 rfl rfl
  | succ n ih =>
    intro a b ha hab hp
    have hb3 : b < 2 ^ 63 := by omega
    refine c_start (by decide) (Nat.le_of_ble_eq_true rfl) ?_
    intro p e s m below meth c hx hb hr hlocks hml hown hts hB hK ls hl
    have hl : lv_has ls 4 [(0, .long (lN a)), (2, .long (lN b))] := hl
    refine lv_lload_n hx hb dX0_common_0 rfl (lv_at hl 1 rfl) ?_
    refine lv_lconst (v := lN 0) hx hb dX0_common_1 (by decide) ?_
    refine l_cmp_ne (tgt := 10) hx hb dX0_common_2 dX0_common_3 (by decide) (fun c_1 => ?_) (fun c_1 => ?_)
    · have hb0 : 0 < b := Nat.pos_of_ne_zero (fun q9 => c_1 (by rw [q9]))
      have hpp : b * (a % b) < 2 ^ n := com_half hab hb0 hp
      refine lv_lload_n hx hb dX0_common_10 rfl (lv_at hl 1 rfl) ?_
      refine lv_lload_n hx hb dX0_common_11 rfl (lv_at hl 0 rfl) ?_
      refine lv_lload_n hx hb dX0_common_12 rfl (lv_at hl 1 rfl) ?_
      refine lv_lrem hx hb dX0_common_13 (fun q9 => by have := (pk_lEQ hb3 (by decide)).mp (q9.trans (show (0 : Int64) = lN 0 from rfl)); omega) ?_
      rw [pk_lRem ha hb0 hb3]
      refine c_read (va_runS (As := [.long (lN b), .long (lN (a % b))]) (rest := []) ⟨hx, hb, hml, hown, hts⟩ (ih b (a % b) hb3 (Nat.le_of_lt (Nat.mod_lt _ hb0)) hpp) (cs_X0_X0_common hts ⟨Nat.le_refl _, by dsimp only; omega⟩) (cP.pre hK trivial) rfl rfl hl.1 rfl (lv_room (Nat.le_of_ble_eq_true rfl)) dX0_common_14 ⟨Nat.le_refl _, Nat.le_refl _⟩) ?_
      exact c_rlret (v := lN (Nat.gcd b (a % b))) (by rw [Nat.gcd_comm a b, Nat.gcd_rec b a, Nat.gcd_comm]) hx hb hr hlocks dX0_common_17 rfl rfl
    refine lv_lload_n hx hb dX0_common_6 rfl (lv_at hl 0 rfl) ?_
    refine lv_goto (tgt := 17) hx hb dX0_common_7 (by decide) ?_
    exact c_rlret (v := lN a) (by have e9 := (pk_lEQ hb3 (by decide)).mp c_1; rw [e9, Nat.gcd_zero_right]) hx hb hr hlocks dX0_common_17 rfl rfl
