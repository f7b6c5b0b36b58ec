theorem mHeld_nat (v : Int64) {top : Nat} (ht : top < 2 ^ 31) : ∃ r, r ≤ top ∧ mHeld v (nI 0) (nI top) = nI r := by
  unfold mHeld
  by_cases h1 : v < (nI 0).toInt64
  · rw [pif_t h1]; exact ⟨0, Nat.zero_le _, rfl⟩
  · rw [pif_f h1]
    by_cases h2 : (nI top).toInt64 < v
    · rw [pif_t h2]; exact ⟨top, Nat.le_refl _, rfl⟩
    · rw [pif_f h2]
      have h3 : ¬ v < 0 := h1
      obtain ⟨k, hk, rfl⟩ := pk_lOf h3
      rw [nI_l ht, pk_lLT (by omega) hk] at h2
      exact ⟨k, by omega, lN_i k⟩
theorem mSum_nat {nm : Nat → Int32} {so top w : Nat} (ht : top < 2 ^ 31) (hw : w ≤ top) : ∀ cs : List kC, ∃ r, r ≤ top ∧ mSum nm so (nI top) (nI w) cs = nI r
  | [] => ⟨w, hw, rfl⟩
  | c :: cs => by
    unfold mSum
    split
    · exact mHeld_nat _ ht
    · exact mSum_nat ht hw cs
theorem mSumT_nat {tx : kT} {nm : Nat → Int32} {so top w : Nat} (ht : top < 2 ^ 31) (hw : w ≤ top) : ∃ r, r ≤ top ∧ mSumT tx nm so (nI top) (nI w) = nI r := by
  cases tx with
  | none => exact ⟨w, hw, rfl⟩
  | some q => exact mSum_nat ht hw q.2
noncomputable def mBr (tx : kT) (M : Nat → Nat → Int32) (nb p : Nat) : Nat := cl (mBrittle tx M p (cl (M 0 (150 + 10 * p))) nb)
theorem mBr_of {tx : kT} {M : Nat → Nat → Int32} {nb p k : Nat} (hk : k < 6) (ek : M 0 (150 + 10 * p) = nI k) : mBr tx M nb p ≤ 10 ∧ mBrittle tx M p k nb = nI (mBr tx M nb p) := by
  unfold mBr
  rw [ek, show cl (nI k) = k from nI_clamp (by omega)]
  obtain ⟨r, hr, e⟩ : ∃ r, r ≤ 10 ∧ mBrittle tx M p k nb = nI r := mSumT_nat (by decide) (by decide)
  rw [e, show cl (nI r) = r from nI_clamp (by omega)]
  exact ⟨hr, rfl⟩
noncomputable def mOddF (tx : kT) (M : Nat → Nat → Int32) (nb : Nat) (x : Int32) (p : Nat) (st : Option (Nat × Nat)) : Option (Nat × Nat) :=
  match st with
  | none => none
  | some q => pif (mHas x p) (pif (M 0 (150 + 10 * p + 1) = nI 1) (some (q.1 * (10 - mBr tx M nb p), q.2 * 10)) none) (some q)
theorem mOddF_some {tx : kT} {M : Nat → Nat → Int32} {nb : Nat} {x : Int32} {p u v : Nat} : mOddF tx M nb x p (some (u, v)) = pif (mHas x p) (pif (M 0 (150 + 10 * p + 1) = nI 1) (some (u * (10 - mBr tx M nb p), v * 10)) none) (some (u, v)) := rfl
theorem mOdd_none {tx : kT} {M : Nat → Nat → Int32} {nb : Nat} {x : Int32} : ∀ n i, it (mOddF tx M nb x) n i none = none
  | 0, i => it_0
  | n + 1, i => by rw [it_succ]; exact mOdd_none n (i + 1)
noncomputable def mOddEnd (y : Int32) (st : Option (Nat × Nat)) : Int64 := match st with
  | none => (-1)
  | some q => lN (pif (y = 0) q.1 q.2 / Nat.gcd q.1 q.2)
noncomputable def mOdds (tx : kT) (M : Nat → Nat → Int32) (np nb : Nat) (x y : Int32) : Int64 := pif (vp_in x (2 ^ np) ∧ vp_in y 2) (mOddEnd y (it (mOddF tx M nb x) (np - 0) 0 (some (1, 1)))) (-1)
set_option maxHeartbeats 4000000 in
set_option maxRecDepth 100000 in
theorem met_X2_odds (l : Launch) (G : gG) (ad : Nat → Nat) (M Z : Nat → Nat → Int32) (V : Nat → Nat → Int64) (tx : kT) (htx : mTx M tx) (x y : Int32) (np : Nat) (ep : M 0 2 = nI np) (hp : np ≤ 10) (nb : Nat) (en : M 0 0 = nI nb) (hn : nb ≤ 6) (hkd : ∀ q, q < np → ∃ k, k < 6 ∧ M 0 (150 + 10 * q) = nI k) : Met l yX2_odds (ws_ yX2_odds cX2_odds 8 (some .long)) ({ frames := 5, cells := 0, slots := 0, locals := 120 } : Room) (cP G [.ref (ad 0), .int x, .int y] (mH G ad M Z V)) (cQ (some (.long (mOdds tx M np nb x y))) (fun H => ∃ Z9 V9, mH G ad M Z9 V9 H) (mA ad)) 0 0 (mA ad) := by
  refine c_start (by decide) (Nat.le_of_ble_eq_true rfl) ?_
  intro p e s m below meth c hx hb hr hlocks hml hown hts hB hK ls hl
  have hw := MS.of hB
  have hl : lv_has ls 8 [(0, .ref (ad 0)), (1, .int x), (2, .int y)] := hl
  have h2np : 2 ^ np ≤ 1024 := Nat.pow_le_pow_right (by decide) hp
  refine lv_iload_n hx hb dX2_odds_0 rfl (lv_at hl 1 rfl) ?_
  refine lv_iconst (v := nI 0) hx hb dX2_odds_1 (by decide) ?_
  refine lv_iconst (v := nI 1) hx hb dX2_odds_2 (by decide) ?_
  refine lv_aload_n hx hb dX2_odds_3 rfl (lv_at hl 0 rfl) ?_
  refine m_g_a hx hb hts hown hK hw dX2_odds_4 ?_
  refine lv_iconst (v := nI 2) hx hb dX2_odds_7 (by decide) ?_
  refine m_l_a (j := 2) (v := nI np) hx hb hK hw ep (by decide) dX2_odds_8 ?_
  refine lv_ishl hx hb dX2_odds_9 ?_
  rw [shl1 np (by omega)]
  refine lv_iconst (v := nI 1) hx hb dX2_odds_10 (by decide) ?_
  refine lv_isub hx hb dX2_odds_11 ?_
  refine c_read (va_runS (As := [.int x, .int (nI 0), .int ((nI (2 ^ np)) - (nI 1))]) (rest := []) ⟨hx, hb, hml, hown, hts⟩ (met_X2_isIn l G x (nI 0) ((nI (2 ^ np)) - (nI 1))) (cs_X2_X2_isIn hts ⟨Nat.le_of_ble_eq_true rfl, Nat.le_of_ble_eq_true rfl⟩) (cP.pre hK trivial) rfl rfl hl.1 rfl (lv_room (Nat.le_of_ble_eq_true rfl)) dX2_odds_12 ⟨by first | exact Nat.zero_le _ | omega | decide, by first | exact Nat.zero_le _ | omega | decide⟩) ?_
  refine b_if_eq (tgt := 27) hx hb dX2_odds_15 (by decide) (fun c_1 => ?_) (fun c_1 => ?_)
  · refine lv_ldc2 (v := (-1)) hx hb hown (hts _ q1537) dX2_odds_27 ?_
    exact c_lret (v := (-1)) (by unfold mOdds; rw [pif_f (fun h9 => by first | exact absurd ((in_vp (by omega)).mpr h9.1) (by assumption) | exact absurd ((in_const (n := 1) (by decide)).mpr h9.2) (by assumption))]) hx hb hr hlocks ⟨_, _, mH.to rfl rfl rfl hw.1⟩ hw.2 dX2_odds_30
  have c1_ := c_1
  refine lv_iload_n hx hb dX2_odds_18 rfl (lv_at hl 2 rfl) ?_
  refine lv_iconst (v := nI 0) hx hb dX2_odds_19 (by decide) ?_
  refine lv_iconst (v := nI 1) hx hb dX2_odds_20 (by decide) ?_
  refine c_read (va_runS (As := [.int y, .int (nI 0), .int (nI 1)]) (rest := []) ⟨hx, hb, hml, hown, hts⟩ (met_X2_isIn l G y (nI 0) (nI 1)) (cs_X2_X2_isIn hts ⟨Nat.le_of_ble_eq_true rfl, Nat.le_of_ble_eq_true rfl⟩) (cP.pre hK trivial) rfl rfl hl.1 rfl (lv_room (Nat.le_of_ble_eq_true rfl)) dX2_odds_21 ⟨by first | exact Nat.zero_le _ | omega | decide, by first | exact Nat.zero_le _ | omega | decide⟩) ?_
  refine b_if_ne (tgt := 31) hx hb dX2_odds_24 (by decide) (fun c_2 => ?_) (fun c_2 => ?_)
  · have c2_ := c_2
    refine lv_lconst (v := lN 1) hx hb dX2_odds_31 (by decide) ?_
    refine lv_lstore_n (lv' := [(3, .long (lN 1)), (0, .ref (ad 0)), (1, .int x), (2, .int y)]) hx hb dX2_odds_32 rfl hl (by decide) rfl (fun ls hl => ?_)
    refine lv_lconst (v := lN 1) hx hb dX2_odds_33 (by decide) ?_
    refine lv_lstore (lv' := [(5, .long (lN 1)), (3, .long (lN 1)), (0, .ref (ad 0)), (1, .int x), (2, .int y)]) hx hb dX2_odds_34 hl (by decide) rfl (fun ls hl => ?_)
    refine lv_iconst (v := nI 0) hx hb dX2_odds_36 (by decide) ?_
    refine lv_istore (lv' := [(7, .int (nI 0)), (5, .long (lN 1)), (3, .long (lN 1)), (0, .ref (ad 0)), (1, .int x), (2, .int y)]) hx hb dX2_odds_37 hl (by decide) rfl (fun ls hl => ?_)
    have L39_3 : ∀ (fuel : Nat) (q : Nat) (u : Nat) (v : Nat) (Za : Nat → Nat → Int32) (Va : Nat → Nat → Int64), np - q < fuel → (q ≤ np) → (u ≤ 10 ^ q) → (v ≤ 10 ^ q) → (0 < v) → (it (mOddF tx M nb x) (np - q) q (some (u, v)) = it (mOddF tx M nb x) (np - 0) 0 (some (1, 1))) → ∀ (H : Heap) (locs : List Loc), MS G ad s.heap M Za Va H locs → ∀ (ls : Array Slot), lv_has ls 8 [(0, .ref (ad 0)), (1, .int x), (2, .int y), (3, .long (lN u)), (5, .long (lN v)), (7, .int (nI q))] → W p l e ({ frames := 5, cells := 0, slots := 0, locals := 120 } : Room) s m ([.ref (ad 0), .int x, .int y] : List Value).toArray below meth c H locs 0 0 (MQ below (cQ (some (.long (mOdds tx M np nb x y))) (fun H => ∃ Z9 V9, mH G ad M Z9 V9 H) (mA ad)) ([.ref (ad 0), .int x, .int y] : List Value).toArray s 0 0 (mA ad)) (F0 m 39 ls []) := by
      intro fuel
      induction fuel with
      | zero => intro q u v Za Va hf; exact absurd hf (Nat.not_lt_zero _)
      | succ fuel ih =>
        intro q u v Za Va hf hi_q hu hv hv0 hq H locs hw ls hl
        have ih39 := ih
        refine lv_iload hx hb dX2_odds_39 (lv_at hl 5 rfl) ?_
        refine lv_aload_n hx hb dX2_odds_41 rfl (lv_at hl 0 rfl) ?_
        refine m_g_a hx hb hts hown hK hw dX2_odds_42 ?_
        refine lv_iconst (v := nI 2) hx hb dX2_odds_45 (by decide) ?_
        refine m_l_a (j := 2) (v := nI np) hx hb hK hw ep (by decide) dX2_odds_46 ?_
        refine n_icmp_ge (tgt := 109) hx hb dX2_odds_47 (by decide) (by omega) (by omega) (fun c_4 => ?_) (fun c_4 => ?_)
        · have hp10 : 10 ^ q ≤ 10 ^ 10 := Nat.pow_le_pow_right (by decide) (by omega)
          have hu63 : u < 2 ^ 63 := by omega
          have hv63 : v < 2 ^ 63 := by omega
          have hg0 : 0 < Nat.gcd u v := Nat.gcd_pos_of_pos_right u hv0
          have hg63 : Nat.gcd u v < 2 ^ 63 := Nat.lt_of_le_of_lt (Nat.gcd_le_right u hv0) hv63
          refine lv_iload_n hx hb dX2_odds_109 rfl (lv_at hl 2 rfl) ?_
          refine lv_if_ne (tgt := 117) hx hb dX2_odds_110 (by decide) (fun c_5 => ?_) (fun c_5 => ?_)
          · refine lv_lload hx hb dX2_odds_117 (lv_at hl 4 rfl) ?_
            refine lv_lload_n hx hb dX2_odds_119 rfl (lv_at hl 3 rfl) ?_
            refine lv_lload hx hb dX2_odds_120 (lv_at hl 4 rfl) ?_
            refine c_read (va_runS (As := [.long (lN u), .long (lN v)]) (rest := [.long (lN v)]) ⟨hx, hb, hml, hown, hts⟩ (met_X2_common l G u v (by omega) (by omega)) (cs_X2_X2_common hts ⟨Nat.le_of_ble_eq_true rfl, Nat.le_of_ble_eq_true rfl⟩) (cP.pre hK trivial) rfl rfl hl.1 rfl (lv_room (Nat.le_of_ble_eq_true rfl)) dX2_odds_122 ⟨by first | exact Nat.zero_le _ | omega | decide, by first | exact Nat.zero_le _ | omega | decide⟩) ?_
            refine lv_ldiv hx hb dX2_odds_125 (fun q9 => by have := (pk_lEQ hg63 (by decide)).mp (q9.trans (show (0 : Int64) = lN 0 from rfl)); omega) ?_
            rw [pk_lDiv hv63 hg0 hg63]
            exact c_lret (v := lN (v / Nat.gcd u v)) (by unfold mOdds; rw [pif_t ⟨(in_vp (by omega)).mp c1_, (in_const (n := 1) (by decide)).mp c2_⟩, ← hq, it_z (by omega)]; show _ = lN (pif (y = 0) u v / Nat.gcd u v); rw [pif_f (by assumption)]) hx hb hr hlocks ⟨_, _, mH.to rfl rfl rfl hw.1⟩ hw.2 dX2_odds_126
          refine lv_lload_n hx hb dX2_odds_113 rfl (lv_at hl 3 rfl) ?_
          refine lv_goto (tgt := 119) hx hb dX2_odds_114 (by decide) ?_
          refine lv_lload_n hx hb dX2_odds_119 rfl (lv_at hl 3 rfl) ?_
          refine lv_lload hx hb dX2_odds_120 (lv_at hl 4 rfl) ?_
          refine c_read (va_runS (As := [.long (lN u), .long (lN v)]) (rest := [.long (lN u)]) ⟨hx, hb, hml, hown, hts⟩ (met_X2_common l G u v (by omega) (by omega)) (cs_X2_X2_common hts ⟨Nat.le_of_ble_eq_true rfl, Nat.le_of_ble_eq_true rfl⟩) (cP.pre hK trivial) rfl rfl hl.1 rfl (lv_room (Nat.le_of_ble_eq_true rfl)) dX2_odds_122 ⟨by first | exact Nat.zero_le _ | omega | decide, by first | exact Nat.zero_le _ | omega | decide⟩) ?_
          refine lv_ldiv hx hb dX2_odds_125 (fun q9 => by have := (pk_lEQ hg63 (by decide)).mp (q9.trans (show (0 : Int64) = lN 0 from rfl)); omega) ?_
          rw [pk_lDiv hu63 hg0 hg63]
          exact c_lret (v := lN (u / Nat.gcd u v)) (by unfold mOdds; rw [pif_t ⟨(in_vp (by omega)).mp c1_, (in_const (n := 1) (by decide)).mp c2_⟩, ← hq, it_z (by omega)]; show _ = lN (pif (y = 0) u v / Nat.gcd u v); rw [pif_t (by assumption)]) hx hb hr hlocks ⟨_, _, mH.to rfl rfl rfl hw.1⟩ hw.2 dX2_odds_126
        refine lv_iload_n hx hb dX2_odds_50 rfl (lv_at hl 1 rfl) ?_
        refine lv_iload hx hb dX2_odds_51 (lv_at hl 5 rfl) ?_
        have hp10 : 10 ^ q ≤ 10 ^ 9 := Nat.pow_le_pow_right (by decide) (by omega)
        refine c_read (va_runS (As := [.int x, .int (nI q)]) (rest := []) ⟨hx, hb, hml, hown, hts⟩ (met_X2_has l G x (nI q)) (cs_X2_X2_has hts ⟨Nat.le_of_ble_eq_true rfl, Nat.le_of_ble_eq_true rfl⟩) (cP.pre hK trivial) rfl rfl hl.1 rfl (lv_room (Nat.le_of_ble_eq_true rfl)) dX2_odds_53 ⟨by first | exact Nat.zero_le _ | omega | decide, by first | exact Nat.zero_le _ | omega | decide⟩) ?_
        refine b_if_ne (tgt := 62) hx hb dX2_odds_56 (by decide) (fun c_6 => ?_) (fun c_6 => ?_)
        · obtain ⟨k, hk6, ek⟩ := hkd q (by omega)
          obtain ⟨hbr, ebr⟩ := mBr_of (tx := tx) (nb := nb) hk6 ek
          refine lv_aload_n hx hb dX2_odds_62 rfl (lv_at hl 0 rfl) ?_
          refine m_g_a hx hb hts hown hK hw dX2_odds_63 ?_
          refine lv_iload hx hb dX2_odds_66 (lv_at hl 5 rfl) ?_
          refine c_read (va_runS (As := [.int (nI q)]) (rest := [.ref (ad 1)]) ⟨hx, hb, hml, hown, hts⟩ (met_X2_pieceAt l G q) (cs_X2_X2_pieceAt hts ⟨Nat.le_of_ble_eq_true rfl, Nat.le_of_ble_eq_true rfl⟩) (cP.pre hK trivial) rfl rfl hl.1 rfl (lv_room (Nat.le_of_ble_eq_true rfl)) dX2_odds_68 ⟨by first | exact Nat.zero_le _ | omega | decide, by first | exact Nat.zero_le _ | omega | decide⟩) ?_
          refine lv_iconst (v := nI 1) hx hb dX2_odds_71 (by decide) ?_
          refine n_iadd hx hb dX2_odds_72 ?_
          refine m_l_a (j := 150 + 10 * q + 1) (v := M 0 (150 + 10 * q + 1)) hx hb hK hw rfl (by omega) dX2_odds_73 ?_
          refine lv_iconst (v := nI 1) hx hb dX2_odds_74 (by decide) ?_
          refine lv_icmp_eq (tgt := 82) hx hb dX2_odds_75 (by decide) (fun c_7 => ?_) (fun c_7 => ?_)
          · refine lv_lload_n hx hb dX2_odds_82 rfl (lv_at hl 3 rfl) ?_
            refine lv_bipush (v := nI 10) hx hb dX2_odds_83 (by decide) ?_
            refine lv_aload_n hx hb dX2_odds_85 rfl (lv_at hl 0 rfl) ?_
            refine lv_iload hx hb dX2_odds_86 (lv_at hl 5 rfl) ?_
            refine c_call (va_runV (As := [.int (nI q)]) (rest := [.int (nI 10), .long (lN u)]) ⟨hx, hb, hml, hown, hts⟩ (met_X2_brittleOf l G ad M Za Va tx htx q k (by omega) (by omega) ek nb en (by omega)) (cv_X2_X2_brittleOf hts ⟨Nat.le_of_ble_eq_true rfl, Nat.le_of_ble_eq_true rfl⟩) (cP.preV hK hw.1 (hw.1.recv hK)) rfl rfl hl.1 rfl (lv_room (Nat.le_of_ble_eq_true rfl)) dX2_odds_88 ⟨by first | exact Nat.zero_le _ | omega | decide, by first | exact Nat.zero_le _ | omega | decide⟩) hw.2 (fun q _ h => h) (fun q h => h) (fun H locs hw _ _ hS => ?_)
            obtain ⟨Z1, V1, hz1, hw⟩ := hw
            replace hw := MS.mk hw hS
            rw [ebr]
            refine n_isub hx hb (by omega) dX2_odds_91 ?_
            refine lv_i2l (v := lN (10 - (mBr tx M nb q))) hx hb dX2_odds_92 (nI_l (by omega)) ?_
            refine lv_lmul hx hb dX2_odds_93 ?_
            rw [lN_mul]
            refine lv_lstore_n (lv' := [(3, .long (lN (u * (10 - mBr tx M nb q)))), (0, .ref (ad 0)), (1, .int x), (2, .int y), (5, .long (lN v)), (7, .int (nI q))]) hx hb dX2_odds_94 rfl hl (by decide) rfl (fun ls hl => ?_)
            refine lv_lload hx hb dX2_odds_95 (lv_at hl 4 rfl) ?_
            refine lv_ldc2 (v := lN 10) hx hb hown (hts _ q1545) dX2_odds_97 ?_
            refine lv_lmul hx hb dX2_odds_100 ?_
            rw [lN_mul]
            refine lv_lstore (lv' := [(5, .long (lN (v * 10))), (3, .long (lN (u * (10 - mBr tx M nb q)))), (0, .ref (ad 0)), (1, .int x), (2, .int y), (7, .int (nI q))]) hx hb dX2_odds_101 hl (by decide) rfl (fun ls hl => ?_)
            refine lv_iinc (v := nI (q + 1)) (lv' := [(7, .int (nI (q + 1))), (5, .long (lN (v * 10))), (3, .long (lN (u * (10 - mBr tx M nb q)))), (0, .ref (ad 0)), (1, .int x), (2, .int y)]) hx hb dX2_odds_103 hl (k := 5) rfl (n_inc q 1) (by decide) rfl (fun ls hl => ?_)
            refine lv_goto (tgt := 39) hx hb dX2_odds_106 (by decide) ?_
            exact ih39 (q + 1) (u * (10 - mBr tx M nb q)) (v * 10) Z1 V1 (by omega) (by first | assumption | omega | rfl) (by rw [Nat.pow_succ]; exact Nat.mul_le_mul hu (by omega)) (by rw [Nat.pow_succ]; exact Nat.mul_le_mul hv (Nat.le_refl _)) (by omega) (by refine Eq.trans ?_ ((it_s (by omega)).symm.trans hq); congr 1; rw [mOddF_some, pif_t (show mHas x q from c_6), pif_t c_7]) _ _ hw ls (lv_sub hl [3, 4, 5, 2, 1, 0] rfl)
          refine lv_ldc2 (v := (-1)) hx hb hown (hts _ q1537) dX2_odds_78 ?_
          exact c_lret (v := (-1)) (by unfold mOdds; rw [pif_t ⟨(in_vp (by omega)).mp c1_, (in_const (n := 1) (by decide)).mp c2_⟩, ← hq, it_s (by omega), mOddF_some, pif_t (show mHas x q by assumption), pif_f (by assumption), mOdd_none]; rfl) hx hb hr hlocks ⟨_, _, mH.to rfl rfl rfl hw.1⟩ hw.2 dX2_odds_81
        refine lv_goto (tgt := 103) hx hb dX2_odds_59 (by decide) ?_
        refine lv_iinc (v := nI (q + 1)) (lv' := [(7, .int (nI (q + 1))), (0, .ref (ad 0)), (1, .int x), (2, .int y), (3, .long (lN u)), (5, .long (lN v))]) hx hb dX2_odds_103 hl (k := 5) rfl (n_inc q 1) (by decide) rfl (fun ls hl => ?_)
        refine lv_goto (tgt := 39) hx hb dX2_odds_106 (by decide) ?_
        exact ih39 (q + 1) u v Za Va (by omega) (by first | assumption | omega | rfl) (by rw [Nat.pow_succ]; omega) (by rw [Nat.pow_succ]; omega) hv0 (by refine Eq.trans ?_ ((it_s (by omega)).symm.trans hq); congr 1; rw [mOddF_some, pif_f (show ¬ mHas x q from c_6)]) _ _ hw ls (lv_sub hl [1, 2, 3, 4, 5, 0] rfl)
    exact L39_3 _ 0 1 1 Z V (Nat.lt_succ_self _) (by first | assumption | omega | rfl) (by decide) (by decide) (by decide) rfl _ _ hw ls (lv_sub hl [3, 4, 5, 2, 1, 0] rfl)
  refine lv_ldc2 (v := (-1)) hx hb hown (hts _ q1537) dX2_odds_27 ?_
  exact c_lret (v := (-1)) (by unfold mOdds; rw [pif_f (fun h9 => by first | exact absurd ((in_vp (by omega)).mpr h9.1) (by assumption) | exact absurd ((in_const (n := 1) (by decide)).mpr h9.2) (by assumption))]) hx hb hr hlocks ⟨_, _, mH.to rfl rfl rfl hw.1⟩ hw.2 dX2_odds_30
