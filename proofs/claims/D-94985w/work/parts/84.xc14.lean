theorem bit_has {x : Int32} {b : Nat} (h : ¬ (x >>> (nI b &&& 31)) &&& nI 1 = 0) : mHas x b := by
  obtain ⟨j, hj, e⟩ := pk_andE (x >>> (nI b &&& 31)) (m := nI 1) 1 (by decide)
  obtain rfl | rfl : j = 0 ∨ j = 1 := by omega
  · exact absurd e h
  · exact e
set_option maxHeartbeats 4000000 in
set_option maxRecDepth 100000 in
theorem met_X0_odds (l : Launch) (G : gG) (ad : Nat → Nat) (sz : Nat) (X Z : Nat → Nat → Int32) (T : Nat → Nat → Option Nat) (M : Nat → Nat → Int32) (nb nk nx np h nu ns ne nt : Nat) (hR : RS X 51 (M 0) nb nk nx np h nu ns ne nt) (tx : kT) (htx : mTx M tx) (x y : Int32) : Met l yX0_odds (ws_ yX0_odds cX0_odds 9 (some .long)) ({ frames := 107, cells := 0, slots := 0, locals := 6449 } : Room) (cP G [.ref (ad 0), .int x, .int y] (fun H => xH G ad X Z T sz H ∧ aTx G (xOld ad sz) X T tx H)) (cQ (some (.long (mOdds tx M np nb x y))) (fun H => ∃ Z9, (∀ k9, k9 ≠ 2 → Z9 k9 = Z k9) ∧ xH G ad X Z9 T sz H) (xA ad sz)) 0 0 (xA ad sz) := by
  refine c_start (by decide) (Nat.le_of_ble_eq_true rfl) ?_
  intro p e s m below meth c hx hb hr hlocks hml hown hts hB hK ls hl
  obtain ⟨hB, hE⟩ := hB
  have hz := hB.2.2
  have hw := XS.of hB
  have hl : lv_has ls 9 [(0, .ref (ad 0)), (1, .int x), (2, .int y)] := hl
  have hR0 := hR
  obtain ⟨⟨rnb, mnb, hnb⟩, ⟨rnk, mnk, hnk⟩, ⟨rnx, mnx, hnx⟩, rtx, ⟨rns, mns, hns⟩, ⟨rne, mne, hne⟩, ⟨rnt, mnt, hnt⟩, ⟨rnp, mnp, hnp⟩, ⟨rh, mh, hh⟩, ⟨rnu, mnu, hnu⟩, rbl, rbe, rgi, rki, rse, rto, rpi, rbu, rkd, rva, rst⟩ := hR
  change X 52 0 = _ at rnb; change X 52 1 = _ at rnk; change X 52 2 = _ at rnx; change X 52 3 = _ at rtx; change X 52 4 = _ at rns; change X 52 5 = _ at rne; change X 52 6 = _ at rnt; change X 53 112 = _ at rnp; change X 53 113 = _ at rh; change X 53 114 = _ at rnu
  have h2np : 2 ^ np ≤ 1024 := Nat.pow_le_pow_right (by decide) hnp
  refine lv_iload_n hx hb dX0_odds_0 rfl (lv_at hl 1 rfl) ?_
  refine lv_iconst (v := nI 0) hx hb dX0_odds_1 (by decide) ?_
  refine lv_iconst (v := nI 1) hx hb dX0_odds_2 (by decide) ?_
  refine lv_aload_n hx hb dX0_odds_3 rfl (lv_at hl 0 rfl) ?_
  refine x_g_now hx hb hts hown hK hw dX0_odds_4 ?_
  refine x_sX0_51_row hx hb hts hown hK hw dX0_odds_7 ?_
  refine lv_bipush (v := nI 112) hx hb dX0_odds_10 (by decide) ?_
  refine x_l (k := 53) (j := 112) (n := 275) (v := nI np) hx hb hK hw rnp (by decide) (by decide) dX0_odds_12 ?_
  refine lv_ishl hx hb dX0_odds_13 ?_
  rw [shl1 np (by omega)]
  refine lv_iconst (v := nI 1) hx hb dX0_odds_14 (by decide) ?_
  refine lv_isub hx hb dX0_odds_15 ?_
  refine c_read (va_runS (As := [.int x, .int (nI 0), .int ((nI (2 ^ np)) - (nI 1))]) (rest := []) ⟨hx, hb, hml, hown, hts⟩ (met_X0_in l G x (nI 0) ((nI (2 ^ np)) - (nI 1))) (cs_X0_X0_in hts ⟨Nat.le_of_ble_eq_true rfl, Nat.le_of_ble_eq_true rfl⟩) (cP.pre hK trivial) rfl rfl hl.1 rfl (lv_room (Nat.le_of_ble_eq_true rfl)) dX0_odds_16 ⟨by first | exact Nat.zero_le _ | omega | decide, by first | exact Nat.zero_le _ | omega | decide⟩) ?_
  refine b_if_eq (tgt := 31) hx hb dX0_odds_19 (by decide) (fun c_1 => ?_) (fun c_1 => ?_)
  · refine lv_ldc2 (v := (-1)) hx hb hown (hts _ q1039) dX0_odds_31 ?_
    exact c_lret (v := (-1)) (by unfold mOdds; rw [pif_f (fun h9 => by first | exact absurd ((in_vp (by omega)).mpr h9.1) (by with_reducible assumption) | exact absurd ((in_const (n := 1) (by decide)).mpr h9.2) (by with_reducible assumption))]) hx hb hr hlocks ⟨_, fun k9 h9 => rfl, xH.to rfl rfl rfl hw.1⟩ hw.2.1 dX0_odds_34
  have c1_ := c_1
  refine lv_iload_n hx hb dX0_odds_22 rfl (lv_at hl 2 rfl) ?_
  refine lv_iconst (v := nI 0) hx hb dX0_odds_23 (by decide) ?_
  refine lv_iconst (v := nI 1) hx hb dX0_odds_24 (by decide) ?_
  refine c_read (va_runS (As := [.int y, .int (nI 0), .int (nI 1)]) (rest := []) ⟨hx, hb, hml, hown, hts⟩ (met_X0_in l G y (nI 0) (nI 1)) (cs_X0_X0_in hts ⟨Nat.le_of_ble_eq_true rfl, Nat.le_of_ble_eq_true rfl⟩) (cP.pre hK trivial) rfl rfl hl.1 rfl (lv_room (Nat.le_of_ble_eq_true rfl)) dX0_odds_25 ⟨by first | exact Nat.zero_le _ | omega | decide, by first | exact Nat.zero_le _ | omega | decide⟩) ?_
  refine b_if_ne (tgt := 35) hx hb dX0_odds_28 (by decide) (fun c_2 => ?_) (fun c_2 => ?_)
  · have c2_ := c_2
    refine lv_lconst (v := lN 1) hx hb dX0_odds_35 (by decide) ?_
    refine lv_lstore_n (lv' := [(3, .long (lN 1)), (0, .ref (ad 0)), (1, .int x), (2, .int y)]) hx hb dX0_odds_36 rfl hl (by decide) rfl (fun ls hl => ?_)
    refine lv_lconst (v := lN 1) hx hb dX0_odds_37 (by decide) ?_
    refine lv_lstore (lv' := [(5, .long (lN 1)), (3, .long (lN 1)), (0, .ref (ad 0)), (1, .int x), (2, .int y)]) hx hb dX0_odds_38 hl (by decide) rfl (fun ls hl => ?_)
    refine lv_iconst (v := nI 0) hx hb dX0_odds_40 (by decide) ?_
    refine lv_istore (lv' := [(7, .int (nI 0)), (5, .long (lN 1)), (3, .long (lN 1)), (0, .ref (ad 0)), (1, .int x), (2, .int y)]) hx hb dX0_odds_41 hl (by decide) rfl (fun ls hl => ?_)
    have L43_3 : ∀ (fuel : Nat) (q : Nat) (u : Nat) (v : Nat) (Za : Nat → Nat → Int32), np - q < fuel → (q ≤ np) → (u ≤ v) → (v ≤ 10 ^ q) → (0 < v) → (it (mOddF tx M nb x) (np - q) q (some (u, v)) = it (mOddF tx M nb x) (np - 0) 0 (some (1, 1))) → (∀ k9, k9 ≠ 2 → Za k9 = Z k9) → ∀ (H : Heap) (locs : List Loc), XS G ad sz s.heap X Za T H locs → ∀ (ls : Array Slot), lv_has ls 9 [(0, .ref (ad 0)), (1, .int x), (2, .int y), (3, .long (lN u)), (5, .long (lN v)), (7, .int (nI q))] → W p l e ({ frames := 107, cells := 0, slots := 0, locals := 6449 } : Room) s m ([.ref (ad 0), .int x, .int y] : List Value).toArray below meth c H locs 0 0 (MQ below (cQ (some (.long (mOdds tx M np nb x y))) (fun H => ∃ Z9, (∀ k9, k9 ≠ 2 → Z9 k9 = Z k9) ∧ xH G ad X Z9 T sz H) (xA ad sz)) ([.ref (ad 0), .int x, .int y] : List Value).toArray s 0 0 (xA ad sz)) (F0 m 43 ls []) := by
      intro fuel
      induction fuel with
      | zero => intro q u v Za hf; exact absurd hf (Nat.not_lt_zero _)
      | succ fuel ih =>
        intro q u v Za hf hi_q hu hv hv0 hq hza H locs hw ls hl
        have ih43 := ih
        refine lv_iload hx hb dX0_odds_43 (lv_at hl 5 rfl) ?_
        refine lv_aload_n hx hb dX0_odds_45 rfl (lv_at hl 0 rfl) ?_
        refine x_g_now hx hb hts hown hK hw dX0_odds_46 ?_
        refine x_sX0_51_row hx hb hts hown hK hw dX0_odds_49 ?_
        refine lv_bipush (v := nI 112) hx hb dX0_odds_52 (by decide) ?_
        refine x_l (k := 53) (j := 112) (n := 275) (v := nI np) hx hb hK hw rnp (by decide) (by decide) dX0_odds_54 ?_
        refine n_icmp_ge (tgt := 112) hx hb dX0_odds_55 (by decide) (by omega) (by omega) (fun c_4 => ?_) (fun c_4 => ?_)
        · have hp10 : 10 ^ q ≤ 10 ^ 10 := Nat.pow_le_pow_right (by decide) (by omega)
          have huv : u ≤ v := hu
          have hu63 : u < 2 ^ 63 := by omega
          have hv63 : v < 2 ^ 63 := by omega
          have hp67 : v * u < 2 ^ 67 := Nat.lt_of_le_of_lt (Nat.mul_le_mul (show v ≤ 10 ^ 10 by omega) (show u ≤ 10 ^ 10 by omega)) (by decide)
          have hg0 : 0 < Nat.gcd v u := Nat.gcd_pos_of_pos_left u hv0
          have hg63 : Nat.gcd v u < 2 ^ 63 := Nat.lt_of_le_of_lt (Nat.gcd_le_left u hv0) hv63
          refine lv_lload hx hb dX0_odds_112 (lv_at hl 4 rfl) ?_
          refine lv_lload_n hx hb dX0_odds_114 rfl (lv_at hl 3 rfl) ?_
          refine c_read (va_runS (As := [.long (lN v), .long (lN u)]) (rest := []) ⟨hx, hb, hml, hown, hts⟩ (met_X0_common l G 67 v u hv63 huv hp67) (cs_X0_X0_common hts ⟨Nat.le_of_ble_eq_true rfl, Nat.le_of_ble_eq_true rfl⟩) (cP.pre hK trivial) rfl rfl hl.1 rfl (lv_room (Nat.le_of_ble_eq_true rfl)) dX0_odds_115 ⟨by first | exact Nat.zero_le _ | omega | decide, by first | exact Nat.zero_le _ | omega | decide⟩) ?_
          refine lv_lstore (lv' := [(7, .long (lN (Nat.gcd v u))), (0, .ref (ad 0)), (1, .int x), (2, .int y), (3, .long (lN u)), (5, .long (lN v))]) hx hb dX0_odds_118 hl (by decide) rfl (fun ls hl => ?_)
          refine lv_iload_n hx hb dX0_odds_120 rfl (lv_at hl 3 rfl) ?_
          refine lv_if_ne (tgt := 131) hx hb dX0_odds_121 (by decide) (fun c_5 => ?_) (fun c_5 => ?_)
          · refine lv_lload hx hb dX0_odds_131 (lv_at hl 5 rfl) ?_
            refine lv_lload hx hb dX0_odds_133 (lv_at hl 0 rfl) ?_
            refine lv_ldiv hx hb dX0_odds_135 (fun q9 => by have := (pk_lEQ hg63 (by decide)).mp (q9.trans (show (0 : Int64) = lN 0 from rfl)); omega) ?_
            rw [pk_lDiv hv63 hg0 hg63]
            exact c_lret (v := lN (v / Nat.gcd v u)) (by unfold mOdds; rw [pif_t ⟨(in_vp (by omega)).mp c1_, (in_const (n := 1) (by decide)).mp c2_⟩, ← hq, it_z (by omega)]; show _ = lN (pif (y = 0) u v / Nat.gcd u v); rw [pif_f (by with_reducible assumption), Nat.gcd_comm]) hx hb hr hlocks ⟨_, fun k9 h9 => ((hza k9 h9).trans rfl), xH.to rfl rfl rfl hw.1⟩ hw.2.1 dX0_odds_136
          refine lv_lload_n hx hb dX0_odds_124 rfl (lv_at hl 4 rfl) ?_
          refine lv_lload hx hb dX0_odds_125 (lv_at hl 0 rfl) ?_
          refine lv_ldiv hx hb dX0_odds_127 (fun q9 => by have := (pk_lEQ hg63 (by decide)).mp (q9.trans (show (0 : Int64) = lN 0 from rfl)); omega) ?_
          refine lv_goto (tgt := 136) hx hb dX0_odds_128 (by decide) ?_
          rw [pk_lDiv hu63 hg0 hg63]
          exact c_lret (v := lN (u / Nat.gcd v u)) (by unfold mOdds; rw [pif_t ⟨(in_vp (by omega)).mp c1_, (in_const (n := 1) (by decide)).mp c2_⟩, ← hq, it_z (by omega)]; show _ = lN (pif (y = 0) u v / Nat.gcd u v); rw [pif_t (by with_reducible assumption), Nat.gcd_comm]) hx hb hr hlocks ⟨_, fun k9 h9 => ((hza k9 h9).trans rfl), xH.to rfl rfl rfl hw.1⟩ hw.2.1 dX0_odds_136
        have hp10 : 10 ^ q ≤ 10 ^ 9 := Nat.pow_le_pow_right (by decide) (by omega)
        refine lv_iload_n hx hb dX0_odds_58 rfl (lv_at hl 1 rfl) ?_
        refine lv_iload hx hb dX0_odds_59 (lv_at hl 5 rfl) ?_
        refine lv_ishr hx hb dX0_odds_61 ?_
        refine lv_iconst (v := nI 1) hx hb dX0_odds_62 (by decide) ?_
        refine lv_iand hx hb dX0_odds_63 ?_
        refine lv_if_ne (tgt := 70) hx hb dX0_odds_64 (by decide) (fun c_6 => ?_) (fun c_6 => ?_)
        · have hq9 : q < np := by omega
          obtain ⟨k, hk9, ek⟩ := rkd q hq9
          obtain ⟨hbr, ebr⟩ := mBr_of (tx := tx) (nb := nb) (show k < 6 by omega) ek
          have hhas : mHas x q := bit_has c_6
          refine lv_aload_n hx hb dX0_odds_70 rfl (lv_at hl 0 rfl) ?_
          refine lv_iload hx hb dX0_odds_71 (lv_at hl 5 rfl) ?_
          refine lv_iconst (v := nI 1) hx hb dX0_odds_73 (by decide) ?_
          refine c_read (va_runV (As := [.int (nI q), .int (nI 1)]) (rest := []) ⟨hx, hb, hml, hown, hts⟩ (met_X0_ofPiece l G ad sz X Za T q 1 (M 0 (150 + 10 * q + 1)) (by omega) (pc_at rpi (i := 10 * q + 1) (by omega) (by omega) (by omega))) (cv_X0_X0_ofPiece hts ⟨Nat.le_of_ble_eq_true rfl, Nat.le_of_ble_eq_true rfl⟩) (cP.preV hK hw.1 (hw.1.recv hK)) rfl rfl hl.1 rfl (lv_room (Nat.le_of_ble_eq_true rfl)) dX0_odds_74 ⟨by first | exact Nat.zero_le _ | omega | decide, by first | exact Nat.zero_le _ | omega | decide⟩) ?_
          refine lv_iconst (v := nI 1) hx hb dX0_odds_77 (by decide) ?_
          refine lv_icmp_eq (tgt := 85) hx hb dX0_odds_78 (by decide) (fun c_7 => ?_) (fun c_7 => ?_)
          · refine lv_lload_n hx hb dX0_odds_85 rfl (lv_at hl 3 rfl) ?_
            refine lv_bipush (v := nI 10) hx hb dX0_odds_86 (by decide) ?_
            refine lv_aload_n hx hb dX0_odds_88 rfl (lv_at hl 0 rfl) ?_
            refine lv_iload hx hb dX0_odds_89 (lv_at hl 5 rfl) ?_
            refine c_call (va_runV (As := [.int (nI q)]) (rest := [.int (nI 10), .long (lN u)]) ⟨hx, hb, hml, hown, hts⟩ (met_X0_brittleOf l G ad sz X Za T M nb nk nx np h nu ns ne nt hR0 tx htx q k (by omega) ek hk9) (cv_X0_X0_brittleOf hts ⟨Nat.le_of_ble_eq_true rfl, Nat.le_of_ble_eq_true rfl⟩) (cP.preV hK ⟨hw.1, (aTx.kept rfl (fun q h9 => h9.keep hw.2.1 hz) (fun q h9 => h9) hE)⟩ (hw.1.recv hK)) rfl rfl hl.1 rfl (lv_room (Nat.le_of_ble_eq_true rfl)) dX0_odds_91 ⟨by first | exact Nat.zero_le _ | omega | decide, by first | exact Nat.zero_le _ | omega | decide⟩) hw.2.1 (fun q _ h => h) (fun q h => h) (fun H locs hw _ _ hS => ?_)
            obtain ⟨Z1, hkz1, hw⟩ := hw
            replace hw := XS.mk hw hS hz
            rw [ebr]
            refine n_isub hx hb (by omega) dX0_odds_94 ?_
            refine lv_i2l (v := lN (10 - (mBr tx M nb q))) hx hb dX0_odds_95 (nI_l (by omega)) ?_
            refine lv_lmul hx hb dX0_odds_96 ?_
            rw [lN_mul]
            refine lv_lstore_n (lv' := [(3, .long (lN (u * (10 - mBr tx M nb q)))), (0, .ref (ad 0)), (1, .int x), (2, .int y), (5, .long (lN v)), (7, .int (nI q))]) hx hb dX0_odds_97 rfl hl (by decide) rfl (fun ls hl => ?_)
            refine lv_lload hx hb dX0_odds_98 (lv_at hl 4 rfl) ?_
            refine lv_ldc2 (v := lN 10) hx hb hown (hts _ q1044) dX0_odds_100 ?_
            refine lv_lmul hx hb dX0_odds_103 ?_
            rw [lN_mul]
            refine lv_lstore (lv' := [(5, .long (lN (v * 10))), (3, .long (lN (u * (10 - mBr tx M nb q)))), (0, .ref (ad 0)), (1, .int x), (2, .int y), (7, .int (nI q))]) hx hb dX0_odds_104 hl (by decide) rfl (fun ls hl => ?_)
            refine lv_iinc (v := nI (q + 1)) (lv' := [(7, .int (nI (q + 1))), (5, .long (lN (v * 10))), (3, .long (lN (u * (10 - mBr tx M nb q)))), (0, .ref (ad 0)), (1, .int x), (2, .int y)]) hx hb dX0_odds_106 hl (k := 5) rfl (n_inc q 1) (by decide) rfl (fun ls hl => ?_)
            refine lv_goto (tgt := 43) hx hb dX0_odds_109 (by decide) ?_
            exact ih43 (q + 1) (u * (10 - mBr tx M nb q)) (v * 10) Z1 (by omega) (by first | assumption | omega | rfl) (Nat.mul_le_mul hu (by omega)) (by rw [Nat.pow_succ]; omega) (by omega) (by refine Eq.trans ?_ ((it_s (by omega)).symm.trans hq); congr 1; rw [mOddF_some, pif_t hhas, pif_t c_7]) (fun k9 h9 => ((hkz1 k9 h9).trans ((hza k9 h9).trans rfl))) _ _ hw ls (lv_sub hl [3, 4, 5, 2, 1, 0] rfl)
          refine lv_ldc2 (v := (-1)) hx hb hown (hts _ q1039) dX0_odds_81 ?_
          exact c_lret (v := (-1)) (by unfold mOdds; rw [pif_t ⟨(in_vp (by omega)).mp c1_, (in_const (n := 1) (by decide)).mp c2_⟩, ← hq, it_s (by omega), mOddF_some, pif_t hhas, pif_f (by with_reducible assumption), mOdd_none]; rfl) hx hb hr hlocks ⟨_, fun k9 h9 => ((hza k9 h9).trans rfl), xH.to rfl rfl rfl hw.1⟩ hw.2.1 dX0_odds_84
        refine lv_goto (tgt := 106) hx hb dX0_odds_67 (by decide) ?_
        refine lv_iinc (v := nI (q + 1)) (lv' := [(7, .int (nI (q + 1))), (0, .ref (ad 0)), (1, .int x), (2, .int y), (3, .long (lN u)), (5, .long (lN v))]) hx hb dX0_odds_106 hl (k := 5) rfl (n_inc q 1) (by decide) rfl (fun ls hl => ?_)
        refine lv_goto (tgt := 43) hx hb dX0_odds_109 (by decide) ?_
        exact ih43 (q + 1) u v Za (by omega) (by first | assumption | omega | rfl) hu (by rw [Nat.pow_succ]; omega) hv0 (by refine Eq.trans ?_ ((it_s (by omega)).symm.trans hq); congr 1; rw [mOddF_some, pif_f (fun h9 => absurd (h9.symm.trans c_6) (by decide))]) (fun k9 h9 => ((hza k9 h9).trans rfl)) _ _ hw ls (lv_sub hl [1, 2, 3, 4, 5, 0] rfl)
    exact L43_3 _ 0 1 1 Z (Nat.lt_succ_self _) (by first | assumption | omega | rfl) (by decide) (by decide) (by decide) rfl (fun _ _ => rfl) _ _ hw ls (lv_sub hl [3, 4, 5, 2, 1, 0] rfl)
  refine lv_ldc2 (v := (-1)) hx hb hown (hts _ q1039) dX0_odds_31 ?_
  exact c_lret (v := (-1)) (by unfold mOdds; rw [pif_f (fun h9 => by first | exact absurd ((in_vp (by omega)).mpr h9.1) (by with_reducible assumption) | exact absurd ((in_const (n := 1) (by decide)).mpr h9.2) (by with_reducible assumption))]) hx hb hr hlocks ⟨_, fun k9 h9 => rfl, xH.to rfl rfl rfl hw.1⟩ hw.2.1 dX0_odds_34
