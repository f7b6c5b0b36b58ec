def xCnt (kk : Nat) : Nat → Nat
  | 0 => 0
  | k + 1 => xCnt kk k + (if kk.testBit k then 1 else 0)
def xKw (kk : Nat) : Nat → Nat → Nat
  | 0, _ => 0
  | k + 1, i => if kk.testBit k = true ∧ xCnt kk k = i then k else xKw kk k i
theorem xKw_at {kk i : Nat} : ∀ n, i < xCnt kk n → xKw kk n i < n ∧ kk.testBit (xKw kk n i) = true ∧ xCnt kk (xKw kk n i) = i
  | 0, h => absurd h (Nat.not_lt_zero _)
  | n + 1, h => by
    unfold xKw
    by_cases c : kk.testBit n = true ∧ xCnt kk n = i
    · rw [if_pos c]; exact ⟨Nat.lt_succ_self _, c.1, c.2⟩
    · rw [if_neg c]
      have h2 : i < xCnt kk n := by
        unfold xCnt at h
        by_cases c2 : kk.testBit n = true
        · rw [if_pos c2] at h
          have : ¬ xCnt kk n = i := fun q => c ⟨c2, q⟩
          omega
        · rw [if_neg c2] at h; omega
      obtain ⟨q1, q2, q3⟩ := xKw_at n h2
      exact ⟨by omega, q2, q3⟩
theorem xCnt_le {kk : Nat} : ∀ n k, k ≤ n → xCnt kk k ≤ xCnt kk n
  | 0, k, h => by rw [show k = 0 by omega]; exact Nat.le_refl _
  | n + 1, k, h => by
    by_cases e : k = n + 1
    · rw [e]; exact Nat.le_refl _
    · exact Nat.le_trans (xCnt_le n k (by omega)) (Nat.le_add_right _ _)
theorem bits_cnt : ∀ kk, kk < 64 → mBits (nI kk) = nI (xCnt kk 6) := by decide +kernel
theorem xCnt6 (kk : Nat) : xCnt kk 6 ≤ 6 := by
  unfold xCnt xCnt xCnt xCnt xCnt xCnt xCnt
  repeat' split
  all_goals omega
theorem bit_tb : ∀ kk, kk < 64 → ∀ k, k < 6 → ((nI kk >>> (nI k &&& 31)) &&& nI 1 = 0 ↔ ¬ kk.testBit k = true) := by decide +kernel
theorem nmin {a b : Nat} (ha : a < 2 ^ 31) (hb : b < 2 ^ 31) : pif (nI b < nI a) (nI b) (nI a) = nI (min a b) := by
  by_cases c : b < a
  · rw [pif_t ((nI_ltI hb ha).mpr c), show min a b = b by omega]
  · rw [pif_f (fun h => c ((nI_ltI hb ha).mp h)), show min a b = a by omega]
/-- what plan answers, by the tables -/
def xPlR (Zp : Nat → Nat → Int32) (nb nw e1 : Nat) (kw : Nat → Nat) (z r : Int32) : Prop :=
  (z = (-1) → Zp 19 0 = r) ∧ (¬ z = (-1) → ∃ N ds ts ws tms, xChn Zp nb nw e1 N ds ts ws tms ∧ (z = (-2) → nI N = r) ∧ (¬ z = (-2) → (z < nI N → nI (100 * kw (ws (cl z)) + tms (cl z)) = r) ∧ (¬ z < nI N → (-1000000) = r)))
set_option maxHeartbeats 4000000 in
set_option maxRecDepth 100000 in
theorem met_X0_plan (l : Launch) (G : gG) (ad : Nat → Nat) (sz : Nat) (X Z : Nat → Nat → Int32) (T : Nat → Nat → Option Nat) (M : Nat → Nat → Int32) (nb nk nx np h nu ns ne nt : Nat) (hR : RS X 51 (M 0) nb nk nx np h nu ns ne nt) (tx : kT) (htx : mTx M tx) (x y z r : Int32) (hpl : ∀ kk jy, x = nI kk → y = nI jy → mPlanOk nk (nI kk) (nI jy) z → ∀ Z1, (∀ i tm9 t9, i < xCnt kk nk → tm9 < 60 → xTeam nb tm9 → t9 < min jy (1000 - h) → xTab tx M h (min jy (1000 - h)) (xKw kk nk) Z1 i tm9 t9) → xPlR (xPt nb (xCnt kk nk) (min jy (1000 - h)) (min jy (1000 - h) + 1) Z1) nb (xCnt kk nk) (min jy (1000 - h)) (xKw kk nk) z r) : Met l yX0_plan (ws_ yX0_plan cX0_plan 5 (some .int)) ({ frames := 109, cells := 0, slots := 0, locals := 6504 } : Room) (cP G [.ref (ad 0), .int x, .int y, .int z] (fun H => xH G ad X Z T sz H ∧ aTx G (xOld ad sz) X T tx H)) (cQ (some (.int (pif (mPlanOk nk x y z) r (-1000000)))) (fun H => ∃ Z9, xH G ad X Z9 T sz H) (xA ad sz)) 0 0 (xA ad sz) := by
  refine c_start (by decide) (Nat.le_of_ble_eq_true rfl) ?_
  intro p e s m below meth c hx hb hr hlocks hml hown hts hB hK ls hl
  obtain ⟨hB, hE⟩ := hB
  have hz := hB.2.2
  have hw := XS.of hB
  have hl : lv_has ls 5 [(0, .ref (ad 0)), (1, .int x), (2, .int y), (3, .int z)] := hl
  have hR0 := hR
  obtain ⟨⟨rnb, mnb, hnb⟩, ⟨rnk, mnk, hnk⟩, ⟨rnx, mnx, hnx⟩, rtx, ⟨rns, mns, hns⟩, ⟨rne, mne, hne⟩, ⟨rnt, mnt, hnt⟩, ⟨rnp, mnp, hnp⟩, ⟨rh, mh, hh⟩, ⟨rnu, mnu, hnu⟩, rbl, rbe, rgi, rki, rse, rto, rpi, rbu, rkd, rva, rst⟩ := hR
  change X 52 0 = _ at rnb; change X 52 1 = _ at rnk; change X 52 2 = _ at rnx; change X 52 3 = _ at rtx; change X 52 4 = _ at rns; change X 52 5 = _ at rne; change X 52 6 = _ at rnt; change X 53 112 = _ at rnp; change X 53 113 = _ at rh; change X 53 114 = _ at rnu
  have h2nk : 2 ^ nk ≤ 64 := Nat.pow_le_pow_right (n := 2) (by decide) hnk
  refine lv_iload_n hx hb dX0_plan_0 rfl (lv_at hl 1 rfl) ?_
  refine lv_iconst (v := nI 0) hx hb dX0_plan_1 (by decide) ?_
  refine lv_iconst (v := nI 1) hx hb dX0_plan_2 (by decide) ?_
  refine lv_aload_n hx hb dX0_plan_3 rfl (lv_at hl 0 rfl) ?_
  refine x_g_now hx hb hts hown hK hw dX0_plan_4 ?_
  refine x_sX0_51_n hx hb hts hown hK hw dX0_plan_7 ?_
  refine lv_iconst (v := nI 1) hx hb dX0_plan_10 (by decide) ?_
  refine x_l (k := 52) (j := 1) (n := 7) (v := nI nk) hx hb hK hw rnk (by decide) (by decide) dX0_plan_11 ?_
  refine lv_ishl hx hb dX0_plan_12 ?_
  rw [shl1 nk (by omega)]
  refine lv_iconst (v := nI 1) hx hb dX0_plan_13 (by decide) ?_
  refine lv_isub hx hb dX0_plan_14 ?_
  refine c_read (va_runS (As := [.int x, .int (nI 0), .int ((nI (2 ^ nk)) - (nI 1))]) (rest := []) ⟨hx, hb, hml, hown, hts⟩ (met_X0_in l G x (nI 0) ((nI (2 ^ nk)) - (nI 1))) (cs_X0_X0_in hts ⟨Nat.le_of_ble_eq_true rfl, Nat.le_of_ble_eq_true rfl⟩) (cP.pre hK trivial) rfl rfl hl.1 rfl (lv_room (Nat.le_of_ble_eq_true rfl)) dX0_plan_15 ⟨by first | exact Nat.zero_le _ | omega | decide, by first | exact Nat.zero_le _ | omega | decide⟩) ?_
  refine b_if_eq (tgt := 45) hx hb dX0_plan_18 (by decide) (fun c_1 => ?_) (fun c_1 => ?_)
  · refine lv_ldcw (v := (-1000000)) hx hb hown (hts _ q1058) dX0_plan_45 ?_
    exact c_iret (v := (-1000000)) (by rw [pif_f (fun h9 => by first | exact absurd ((in_vp (by omega)).mpr h9.1) (by with_reducible assumption) | exact absurd (by with_reducible assumption) h9.2.1 | exact absurd h9.2.2.1 (by with_reducible assumption) | exact absurd h9.2.2.2 (by with_reducible assumption))]) hx hb hr rfl hlocks ⟨_, xH.to rfl rfl rfl hw.1⟩ hw.2.1 dX0_plan_48
  have c1_ : vp_in x (2 ^ nk) := (in_vp (by omega)).mp c_1
  obtain ⟨kk, h_kk, rfl⟩ := vp_in_of c1_ (by omega)
  have k_kk : (nI kk).toNatClampNeg = kk := nI_clamp (by omega)
  refine lv_iload_n hx hb dX0_plan_21 rfl (lv_at hl 1 rfl) ?_
  refine c_read (va_runS (As := [.int (nI kk)]) (rest := []) ⟨hx, hb, hml, hown, hts⟩ (met_J15_bitCount l G (nI kk)) (cs_X0_J15_bitCount hts ⟨Nat.le_of_ble_eq_true rfl, Nat.le_of_ble_eq_true rfl⟩) (cP.pre hK trivial) rfl rfl hl.1 rfl (lv_room (Nat.le_of_ble_eq_true rfl)) dX0_plan_22 ⟨by first | exact Nat.zero_le _ | omega | decide, by first | exact Nat.zero_le _ | omega | decide⟩) ?_
  change W p l e _ s m _ below meth c _ _ _ _ _ (F0 m _ ls (.int (xBit (nI kk)) :: _))
  rw [xBit_eq kk (by omega)]
  refine lv_iconst (v := nI 4) hx hb dX0_plan_25 (by decide) ?_
  refine lv_icmp_gt (tgt := 45) hx hb dX0_plan_26 (by decide) (fun c_2 => ?_) (fun c_2 => ?_)
  · refine lv_ldcw (v := (-1000000)) hx hb hown (hts _ q1058) dX0_plan_45 ?_
    exact c_iret (v := (-1000000)) (by rw [pif_f (fun h9 => by first | exact absurd ((in_vp (by omega)).mpr h9.1) (by with_reducible assumption) | exact absurd (by with_reducible assumption) h9.2.1 | exact absurd h9.2.2.1 (by with_reducible assumption) | exact absurd h9.2.2.2 (by with_reducible assumption))]) hx hb hr rfl hlocks ⟨_, xH.to rfl rfl rfl hw.1⟩ hw.2.1 dX0_plan_48
  have hcn : xCnt kk 6 ≤ 4 := by
    have h9 := c_2
    rw [bits_cnt kk (by omega)] at h9
    have h8 := xCnt6 kk
    have h7 : ¬ 4 < xCnt kk 6 := fun q => h9 ((nI_ltI (by decide) (by omega)).mpr q)
    omega
  have c2_ := c_2
  refine lv_iload_n hx hb dX0_plan_29 rfl (lv_at hl 2 rfl) ?_
  refine lv_iconst (v := nI 1) hx hb dX0_plan_30 (by decide) ?_
  refine lv_bipush (v := nI 24) hx hb dX0_plan_31 (by decide) ?_
  refine c_read (va_runS (As := [.int y, .int (nI 1), .int (nI 24)]) (rest := []) ⟨hx, hb, hml, hown, hts⟩ (met_X0_in l G y (nI 1) (nI 24)) (cs_X0_X0_in hts ⟨Nat.le_of_ble_eq_true rfl, Nat.le_of_ble_eq_true rfl⟩) (cP.pre hK trivial) rfl rfl hl.1 rfl (lv_room (Nat.le_of_ble_eq_true rfl)) dX0_plan_33 ⟨by first | exact Nat.zero_le _ | omega | decide, by first | exact Nat.zero_le _ | omega | decide⟩) ?_
  refine b_if_eq (tgt := 45) hx hb dX0_plan_36 (by decide) (fun c_3 => ?_) (fun c_3 => ?_)
  · refine lv_ldcw (v := (-1000000)) hx hb hown (hts _ q1058) dX0_plan_45 ?_
    exact c_iret (v := (-1000000)) (by rw [pif_f (fun h9 => by first | exact absurd ((in_vp (by omega)).mpr h9.1) (by with_reducible assumption) | exact absurd (by with_reducible assumption) h9.2.1 | exact absurd h9.2.2.1 (by with_reducible assumption) | exact absurd h9.2.2.2 (by with_reducible assumption))]) hx hb hr rfl hlocks ⟨_, xH.to rfl rfl rfl hw.1⟩ hw.2.1 dX0_plan_48
  have c3_ : nI 1 ≤ y ∧ y ≤ nI 24 := c_3
  obtain ⟨jy, h_jy, rfl⟩ := in_rng (by omega) (by omega) c3_
  have k_jy : (nI jy).toNatClampNeg = jy := nI_clamp (by omega)
  refine lv_iload_n hx hb dX0_plan_39 rfl (lv_at hl 3 rfl) ?_
  refine lv_bipush (v := (-2)) hx hb dX0_plan_40 (by decide) ?_
  refine lv_icmp_ge (tgt := 49) hx hb dX0_plan_42 (by decide) (fun c_4 => ?_) (fun c_4 => ?_)
  · have okp : mPlanOk nk (nI kk) (nI jy) z := ⟨c1_, c2_, c3_, c_4⟩
    refine lv_aload_n hx hb dX0_plan_49 rfl (lv_at hl 0 rfl) ?_
    refine lv_iconst (v := nI 0) hx hb dX0_plan_50 (by decide) ?_
    refine x_p_works hx hb hts hown hK hw dX0_plan_51 (fun H locs hw => ?_)
    refine lv_iconst (v := nI 0) hx hb dX0_plan_54 (by decide) ?_
    refine lv_istore (lv' := [(4, .int (nI 0)), (0, .ref (ad 0)), (1, .int (nI kk)), (2, .int (nI jy)), (3, .int z)]) hx hb dX0_plan_55 hl (by decide) rfl (fun ls hl => ?_)
    have L57_5 : ∀ (fuel : Nat) (k : Nat) (Zb : Nat → Nat → Int32), nk - k < fuel → (k ≤ nk) → (Zb 0 15 = nI (xCnt kk k)) → (∀ j, j < k → kk.testBit j = true → Zb 6 (xCnt kk j) = nI j) → ∀ (H : Heap) (locs : List Loc), XS G ad sz s.heap X Zb T H locs → ∀ (ls : Array Slot), lv_has ls 5 [(0, .ref (ad 0)), (1, .int (nI kk)), (2, .int (nI jy)), (3, .int z), (4, .int (nI k))] → W p l e ({ frames := 109, cells := 0, slots := 0, locals := 6504 } : Room) s m ([.ref (ad 0), .int (nI kk), .int (nI jy), .int z] : List Value).toArray below meth c H locs 0 0 (MQ below (cQ (some (.int (pif (mPlanOk nk (nI kk) (nI jy) z) r (-1000000)))) (fun H => ∃ Z9, xH G ad X Z9 T sz H) (xA ad sz)) ([.ref (ad 0), .int (nI kk), .int (nI jy), .int z] : List Value).toArray s 0 0 (xA ad sz)) (F0 m 57 ls []) := by
      intro fuel
      induction fuel with
      | zero => intro k Zb hf; exact absurd hf (Nat.not_lt_zero _)
      | succ fuel ih =>
        intro k Zb hf hk_ h15 h6 H locs hw ls hl
        have ih57 := ih
        refine lv_iload hx hb dX0_plan_57 (lv_at hl 4 rfl) ?_
        refine lv_aload_n hx hb dX0_plan_59 rfl (lv_at hl 0 rfl) ?_
        refine x_g_now hx hb hts hown hK hw dX0_plan_60 ?_
        refine x_sX0_51_n hx hb hts hown hK hw dX0_plan_63 ?_
        refine lv_iconst (v := nI 1) hx hb dX0_plan_66 (by decide) ?_
        refine x_l (k := 52) (j := 1) (n := 7) (v := nI nk) hx hb hK hw rnk (by decide) (by decide) dX0_plan_67 ?_
        refine n_icmp_ge (tgt := 110) hx hb dX0_plan_68 (by decide) (by omega) (by omega) (fun c_6 => ?_) (fun c_6 => ?_)
        · obtain rfl : nk = k := by omega
          refine lv_aload_n hx hb dX0_plan_110 rfl (lv_at hl 0 rfl) ?_
          refine lv_iload_n hx hb dX0_plan_111 rfl (lv_at hl 2 rfl) ?_
          refine lv_sipush (v := nI 1000) hx hb dX0_plan_112 (by decide) ?_
          refine lv_aload_n hx hb dX0_plan_115 rfl (lv_at hl 0 rfl) ?_
          refine c_read (va_runV (As := []) (rest := [.int (nI 1000), .int (nI jy), .ref (ad 0)]) ⟨hx, hb, hml, hown, hts⟩ (met_X0_hour l G ad sz X Zb T (nI h) rh) (cv_X0_X0_hour hts ⟨Nat.le_of_ble_eq_true rfl, Nat.le_of_ble_eq_true rfl⟩) (cP.preV hK hw.1 (hw.1.recv hK)) rfl rfl hl.1 rfl (lv_room (Nat.le_of_ble_eq_true rfl)) dX0_plan_116 ⟨by first | exact Nat.zero_le _ | omega | decide, by first | exact Nat.zero_le _ | omega | decide⟩) ?_
          refine n_isub hx hb (by omega) dX0_plan_119 ?_
          refine c_mmin (x := (nI jy)) (y := (nI (1000 - h))) hx hb (hml.trans hl.1.symm) hown (hts _ q988) (hts _ q440) (hts _ q109) (hts _ q441) (Nat.le_of_ble_eq_true rfl) (Nat.le_trans (Nat.add_le_add_right (show (([.ref (ad 0)] : List Value).map fun v => v.category).sum ≤ 20 from Nat.le_of_ble_eq_true rfl) 13) (Nat.le_of_ble_eq_true rfl)) (Nat.le_of_ble_eq_true rfl) (Nat.le_of_ble_eq_true rfl) dX0_plan_120 ?_
          rw [nmin (by omega) (by omega)]
          refine x_p_hours hx hb hts hown hK hw dX0_plan_123 (fun H locs hw => ?_)
          refine lv_aload_n hx hb dX0_plan_126 rfl (lv_at hl 0 rfl) ?_
          have hkw9 : ∀ i, i < (xCnt kk nk) → (up2 Zb 0 16 (nI (min jy (1000 - h)))) 6 i = nI ((xKw kk nk) i) ∧ (xKw kk nk) i < nk := fun i h9 => by
            obtain ⟨q1, q2, q3⟩ := xKw_at nk h9
            have q4 := h6 _ q1 q2
            rw [q3] at q4
            exact ⟨(up2_ne (Or.inl (by decide))).trans q4, q1⟩
          have hnw9 : (xCnt kk nk) ≤ 4 := Nat.le_trans (xCnt_le 6 nk hnk) hcn
          refine c_call (va_runV (As := []) (rest := []) ⟨hx, hb, hml, hown, hts⟩ (met_X0_laysPlan l G ad sz X (up2 Zb 0 16 (nI (min jy (1000 - h)))) T M nb nk nx np h nu ns ne nt hR0 tx htx (xCnt kk nk) (min jy (1000 - h)) (xKw kk nk) hnw9 (by omega) hkw9 ((up2_ne (Or.inr (by decide))).trans h15) up2_at) (cv_X0_X0_laysPlan hts ⟨Nat.le_of_ble_eq_true rfl, Nat.le_of_ble_eq_true rfl⟩) (cP.preV hK ⟨hw.1, (aTx.kept rfl (fun q h9 => h9.keep hw.2.1 hz) (fun q h9 => h9) hE)⟩ (hw.1.recv hK)) rfl rfl hl.1 rfl (lv_room (Nat.le_of_ble_eq_true rfl)) dX0_plan_127 ⟨by first | exact Nat.zero_le _ | omega | decide, by first | exact Nat.zero_le _ | omega | decide⟩) hw.2.1 (fun q _ h => h) (fun q h => h) (fun H locs hw _ _ hS => ?_)
          obtain ⟨Z1, ⟨Y1, hT1, hF1, hW1, hZp1⟩, hw⟩ := hw
          replace hw := XS.mk hw hS hz
          have hres := hpl kk jy rfl rfl okp Y1 hT1
          rw [← hZp1] at hres
          refine lv_iload_n hx hb dX0_plan_130 rfl (lv_at hl 3 rfl) ?_
          refine lv_iconst (v := (-1)) hx hb dX0_plan_131 (by decide) ?_
          refine lv_icmp_ne (tgt := 144) hx hb dX0_plan_132 (by decide) (fun c_7 => ?_) (fun c_7 => ?_)
          · have hzm : ¬ z = (-1) := c_7
            obtain ⟨N, ds, ts, ws, tms, hch, hr1, hr2⟩ := hres.2 hzm
            refine lv_aload_n hx hb dX0_plan_144 rfl (lv_at hl 0 rfl) ?_
            have htab9 : ∀ i tm t, i < (xCnt kk nk) → tm < 60 → xTeam nb tm → t < (min jy (1000 - h)) → xEOk (Z1 (435 + 60 * i + tm) t) := fun i tm t h9 h8 h7 h6 => by
              rw [hW1 _ (by omega), (hT1 i tm t h9 h8 h7 h6).1]
              exact xLE_ok (by omega) (by omega)
            have hN4 := hch.2.2.1
            refine c_call (va_runV (As := []) (rest := []) ⟨hx, hb, hml, hown, hts⟩ (met_X0_goesPlan l G ad sz X Z1 T M nb nk nx np h nu ns ne nt hR0 (xCnt kk nk) (min jy (1000 - h)) N ds ts ws tms hnw9 (by omega) htab9 hch) (cv_X0_X0_goesPlan hts ⟨Nat.le_of_ble_eq_true rfl, Nat.le_of_ble_eq_true rfl⟩) (cP.preV hK hw.1 (hw.1.recv hK)) rfl rfl hl.1 rfl (lv_room (Nat.le_of_ble_eq_true rfl)) dX0_plan_145 ⟨by first | exact Nat.zero_le _ | omega | decide, by first | exact Nat.zero_le _ | omega | decide⟩) hw.2.1 (fun q _ h => h) (fun q h => h) (fun H locs hw _ _ hS => ?_)
            obtain ⟨Z2, ⟨hk2, hf2⟩, hw⟩ := hw
            replace hw := XS.mk hw hS hz
            refine lv_istore (lv' := [(4, .int (nI N)), (0, .ref (ad 0)), (1, .int (nI kk)), (2, .int (nI jy)), (3, .int z)]) hx hb dX0_plan_148 hl (by decide) rfl (fun ls hl => ?_)
            refine lv_iload_n hx hb dX0_plan_150 rfl (lv_at hl 4 rfl) ?_
            refine lv_bipush (v := (-2)) hx hb dX0_plan_151 (by decide) ?_
            refine lv_icmp_ne (tgt := 159) hx hb dX0_plan_153 (by decide) (fun c_8 => ?_) (fun c_8 => ?_)
            · have hz2 : ¬ z = (-2) := c_8
              refine lv_iload_n hx hb dX0_plan_159 rfl (lv_at hl 4 rfl) ?_
              refine lv_iload hx hb dX0_plan_160 (lv_at hl 0 rfl) ?_
              refine lv_icmp_ge (tgt := 184) hx hb dX0_plan_162 (by decide) (fun c_9 => ?_) (fun c_9 => ?_)
              · have hr3 := (hr2 hz2).2 (Int32.not_lt.mpr c_9)
                refine lv_ldcw (v := (-1000000)) hx hb hown (hts _ q1058) dX0_plan_184 ?_
                exact c_iret (v := (-1000000)) (by rw [pif_t okp]; exact hr3) hx hb hr rfl hlocks ⟨_, xH.to rfl rfl rfl hw.1⟩ hw.2.1 dX0_plan_187
              have hlt : z < nI N := Int32.not_le.mp c_9
              have hr3 := (hr2 hz2).1 hlt
              obtain ⟨i, hi31, rfl⟩ := nn_of okp.2.2.2 hzm hz2
              have hiN : i < N := (nI_ltI hi31 (by omega)).mp hlt
              rw [show cl (nI i) = i from nI_clamp hi31] at hr3
              have hst := hch.2.2.2.2.2 i hiN
              have hwb := hst.2.2.1
              have htb9 := hst.2.2.2.1
              have e7 : Z2 7 i = nI ((xKw kk nk) (ws i)) := (hk2 i hiN).1.trans ((congrFun (hW1 6 (by decide)) (ws i)).trans ((congrFun (hF1 6 (by decide) (by decide)) (ws i)).trans (hkw9 (ws i) hwb).1))
              have hkb := (hkw9 (ws i) hwb).2
              refine lv_bipush (v := nI 100) hx hb dX0_plan_165 (by decide) ?_
              refine lv_aload_n hx hb dX0_plan_167 rfl (lv_at hl 1 rfl) ?_
              refine x_g_kindOf hx hb hts hown hK hw dX0_plan_168 ?_
              refine lv_iload_n hx hb dX0_plan_171 rfl (lv_at hl 4 rfl) ?_
              refine z_l (k := 7) (j := i) (n := 4) (v := nI ((xKw kk nk) (ws i))) hx hb hK hw e7 (by decide) (by omega) dX0_plan_172 ?_
              refine n_imul hx hb dX0_plan_173 ?_
              refine lv_aload_n hx hb dX0_plan_174 rfl (lv_at hl 1 rfl) ?_
              refine x_g_teamOf hx hb hts hown hK hw dX0_plan_175 ?_
              refine lv_iload_n hx hb dX0_plan_178 rfl (lv_at hl 4 rfl) ?_
              refine z_l (k := 8) (j := i) (n := 4) (v := nI (tms i)) hx hb hK hw ((hk2 i hiN).2) (by decide) (by omega) dX0_plan_179 ?_
              refine n_iadd hx hb dX0_plan_180 ?_
              refine lv_goto (tgt := 187) hx hb dX0_plan_181 (by decide) ?_
              exact c_iret (v := nI (100 * ((xKw kk nk) (ws i)) + tms i)) (by rw [pif_t okp]; exact hr3) hx hb hr rfl hlocks ⟨_, xH.to rfl rfl rfl hw.1⟩ hw.2.1 dX0_plan_187
            have hr3 := hr1 c_8
            refine lv_iload hx hb dX0_plan_156 (lv_at hl 0 rfl) ?_
            exact c_iret (v := nI N) (by rw [pif_t okp]; exact hr3) hx hb hr rfl hlocks ⟨_, xH.to rfl rfl rfl hw.1⟩ hw.2.1 dX0_plan_158
          have hzm : z = (-1) := c_7
          refine lv_aload_n hx hb dX0_plan_135 rfl (lv_at hl 0 rfl) ?_
          refine x_g_most hx hb hts hown hK hw dX0_plan_136 ?_
          refine lv_iconst (v := nI 0) hx hb dX0_plan_139 (by decide) ?_
          refine x_a (r := 19) hx hb hK hw xO_9 rfl (by decide) (by decide) rfl dX0_plan_140 ?_
          refine lv_iconst (v := nI 0) hx hb dX0_plan_141 (by decide) ?_
          refine z_l (k := 19) (j := 0) (n := 25) (v := r) hx hb hK hw (hres.1 hzm) (by decide) (by decide) dX0_plan_142 ?_
          exact c_iret (v := r) (by rw [pif_t okp]) hx hb hr rfl hlocks ⟨_, xH.to rfl rfl rfl hw.1⟩ hw.2.1 dX0_plan_143
        refine lv_iload_n hx hb dX0_plan_71 rfl (lv_at hl 1 rfl) ?_
        refine lv_iload hx hb dX0_plan_72 (lv_at hl 4 rfl) ?_
        refine lv_ishr hx hb dX0_plan_74 ?_
        refine lv_iconst (v := nI 1) hx hb dX0_plan_75 (by decide) ?_
        refine lv_iand hx hb dX0_plan_76 ?_
        refine lv_if_ne (tgt := 83) hx hb dX0_plan_77 (by decide) (fun c_10 => ?_) (fun c_10 => ?_)
        · have htb : kk.testBit k = true := Decidable.not_not.mp (fun h9 => c_10 ((bit_tb kk (by omega) k (by omega)).mpr h9))
          have hc4 : xCnt kk k < 4 := by
            have h9 := xCnt_le (kk := kk) 6 (k + 1) (by omega)
            have h8 : xCnt kk (k + 1) = xCnt kk k + 1 := by show _ + _ = _; rw [if_pos htb]
            omega
          refine lv_aload_n hx hb dX0_plan_83 rfl (lv_at hl 0 rfl) ?_
          refine x_g_work hx hb hts hown hK hw dX0_plan_84 ?_
          refine lv_aload_n hx hb dX0_plan_87 rfl (lv_at hl 0 rfl) ?_
          refine x_g_works hx hb hts hown hK hw dX0_plan_88 ?_
          rw [show Zb 0 15 = nI (xCnt kk k) from h15]
          refine lv_iload hx hb dX0_plan_91 (lv_at hl 4 rfl) ?_
          refine z_s (k := 6) (j := xCnt kk k) (n := 4) hx hb hK hw (by decide) (by omega) dX0_plan_93 (fun H locs hw => ?_)
          refine lv_aload_n hx hb dX0_plan_94 rfl (lv_at hl 0 rfl) ?_
          refine lv_dup hx hb dX0_plan_95 rfl ?_
          refine x_g_works hx hb hts hown hK hw dX0_plan_96 ?_
          rw [show (up2 Zb 6 (xCnt kk k) (nI k)) 0 15 = nI (xCnt kk k) from (up2_ne (Or.inl (by decide))).trans h15]
          refine lv_iconst (v := nI 1) hx hb dX0_plan_99 (by decide) ?_
          refine n_iadd hx hb dX0_plan_100 ?_
          refine x_p_works hx hb hts hown hK hw dX0_plan_101 (fun H locs hw => ?_)
          refine lv_iinc (v := nI (k + 1)) (lv' := [(4, .int (nI (k + 1))), (0, .ref (ad 0)), (1, .int (nI kk)), (2, .int (nI jy)), (3, .int z)]) hx hb dX0_plan_104 hl (k := 4) rfl (n_inc k 1) (by decide) rfl (fun ls hl => ?_)
          refine lv_goto (tgt := 57) hx hb dX0_plan_107 (by decide) ?_
          exact ih57 (k + 1) (up2 (up2 Zb 6 (xCnt kk k) (nI k)) 0 15 (nI (xCnt kk k + 1))) (by omega) (by omega) (by rw [up2_at]; show _ = nI (xCnt kk k + _); rw [if_pos htb]) (fun j h9 h8 => (up2_ne (Or.inl (by decide))).trans (by by_cases e9 : j = k; (subst e9; exact up2_at); (have h7 := xCnt_le (kk := kk) k (j + 1) (by omega); have h5 : xCnt kk (j + 1) = xCnt kk j + 1 := (by show _ + _ = _; rw [if_pos h8]); exact (up2_ne (Or.inr (by omega))).trans (h6 j (by omega) h8)))) _ _ hw ls (lv_sub hl [1, 2, 3, 4, 0] rfl)
        have htb : ¬ kk.testBit k = true := (bit_tb kk (by omega) k (by omega)).mp c_10
        refine lv_goto (tgt := 104) hx hb dX0_plan_80 (by decide) ?_
        refine lv_iinc (v := nI (k + 1)) (lv' := [(4, .int (nI (k + 1))), (0, .ref (ad 0)), (1, .int (nI kk)), (2, .int (nI jy)), (3, .int z)]) hx hb dX0_plan_104 hl (k := 4) rfl (n_inc k 1) (by decide) rfl (fun ls hl => ?_)
        refine lv_goto (tgt := 57) hx hb dX0_plan_107 (by decide) ?_
        exact ih57 (k + 1) Zb (by omega) (by omega) (by rw [h15]; show _ = nI (xCnt kk k + _); rw [if_neg htb, Nat.add_zero]) (fun j h9 h8 => h6 j (by rcases Nat.lt_succ_iff_lt_or_eq.mp h9 with h7 | h7; (exact h7); (subst h7; exact absurd h8 htb)) h8) _ _ hw ls (lv_sub hl [1, 2, 3, 4, 0] rfl)
    exact L57_5 _ 0 (up2 Z 0 15 (nI 0)) (Nat.lt_succ_self _) (Nat.zero_le _) up2_at (fun _ h9 => absurd h9 (Nat.not_lt_zero _)) _ _ hw ls (lv_sub hl [1, 2, 3, 4, 0] rfl)
  refine lv_ldcw (v := (-1000000)) hx hb hown (hts _ q1058) dX0_plan_45 ?_
  exact c_iret (v := (-1000000)) (by rw [pif_f (fun h9 => by first | exact absurd ((in_vp (by omega)).mpr h9.1) (by with_reducible assumption) | exact absurd (by with_reducible assumption) h9.2.1 | exact absurd h9.2.2.1 (by with_reducible assumption) | exact absurd h9.2.2.2 (by with_reducible assumption))]) hx hb hr rfl hlocks ⟨_, xH.to rfl rfl rfl hw.1⟩ hw.2.1 dX0_plan_48
