noncomputable def mClip (v : Int64) : Int64 := pif (1000000 < v) 1000000 (pif (v < -1000000) (-1000000) v)
noncomputable def mTwo (o : Nat) (x y : Int64) : Int64 := pif (o = 3) (mClip (x + y)) (pif (o = 4) (mClip (x - y)) (pif (o = 5) (mClip (x * y)) (pif (y = 0) 0 (mClip (x / y)))))
def mAsk (o : Nat) (x y : Int64) : Prop := (o = 10 ∧ x < y) ∨ (o = 11 ∧ ¬ y < x) ∨ (o = 12 ∧ y < x) ∨ (o = 13 ∧ ¬ x < y) ∨ (o = 14 ∧ x = y) ∨ (¬ o = 10 ∧ ¬ o = 11 ∧ ¬ o = 12 ∧ ¬ o = 13 ∧ ¬ o = 14 ∧ ¬ x = y)
def mGiven (M : Nat → Nat → Int32) (nb : Nat) : Int32 := sm (fun b => M 0 (10 + 5 * b + 3)) nb
noncomputable def mVoices (M : Nat → Nat → Int32) (nb q : Nat) : Nat → Int32
  | 0 => nI 0
  | b + 1 => mVoices M nb q b ||| pif (M 0 (150 + 10 * q + 4 + b) ≤ 0) (nI 0) (nI 1 <<< (M 0 (10 + 5 * b + 1) &&& 31))
noncomputable def mCough1 (b q : Nat) (k x lost : Int32) : Int32 := lost + pif (b = q ∧ x - x / nI 10 * nI 10 < k) (nI 1) (nI 0)
def mCoughX (x : Int32) : Int32 := (x * nI 181 + nI 37) - (x * nI 181 + nI 37) / nI 30103 * nI 30103
noncomputable def mCoughs (nb q : Nat) (k : Int32) (n : Nat) (st : Int32 × Int32) : Int32 × Int32 := it (fun _ st => it (fun b st => (mCoughX st.1, mCough1 b q k st.1 st.2)) nb 0 st) n 0 st
set_option maxHeartbeats 4000000 in
set_option maxRecDepth 100000 in
theorem met_X2_clip (l : Launch) (G : gG) (v : Int64) : Met l yX2_clip (ws_ yX2_clip cX2_clip 2 (some .long)) ({ frames := 0, cells := 0, slots := 0, locals := 0 } : Room) (cP G [.long v] (fun _ => True)) (cR (some (.long (mClip v)))) 0 0 (fun _ => False) := by
  refine c_start (by decide) (Nat.le_of_ble_eq_true rfl) ?_
  intro p e s m below meth c hx hb hr hlocks hml hown hts hB hK ls hl
  have hl : lv_has ls 2 [(0, .long v)] := hl
  refine lv_lload_n hx hb dX2_clip_0 rfl (lv_at hl 0 rfl) ?_
  refine lv_ldc2 (v := (1000000)) hx hb hown (hts _ q1435) dX2_clip_1 ?_
  refine l_cmp_le (tgt := 14) hx hb dX2_clip_4 dX2_clip_5 (by decide) (fun c_1 => ?_) (fun c_1 => ?_)
  · refine lv_lload_n hx hb dX2_clip_14 rfl (lv_at hl 0 rfl) ?_
    refine lv_ldc2 (v := (-1000000)) hx hb hown (hts _ q1436) dX2_clip_15 ?_
    refine l_cmp_ge (tgt := 28) hx hb dX2_clip_18 dX2_clip_19 (by decide) (fun c_2 => ?_) (fun c_2 => ?_)
    · refine lv_lload_n hx hb dX2_clip_28 rfl (lv_at hl 0 rfl) ?_
      exact c_rlret (v := v) (by first | rfl | simp [mClip, c_1, c_2, pif_true, pif_false]) hx hb hr hlocks dX2_clip_29 rfl rfl
    refine lv_ldc2 (v := (-1000000)) hx hb hown (hts _ q1436) dX2_clip_22 ?_
    refine lv_goto (tgt := 29) hx hb dX2_clip_25 (by decide) ?_
    exact c_rlret (v := (-1000000)) (by first | rfl | simp [mClip, c_1, c_2, pif_true, pif_false]) hx hb hr hlocks dX2_clip_29 rfl rfl
  refine lv_ldc2 (v := (1000000)) hx hb hown (hts _ q1435) dX2_clip_8 ?_
  refine lv_goto (tgt := 29) hx hb dX2_clip_11 (by decide) ?_
  exact c_rlret (v := (1000000)) (by first | rfl | simp [mClip, c_1, pif_true, pif_false]) hx hb hr hlocks dX2_clip_29 rfl rfl
set_option maxHeartbeats 4000000 in
set_option maxRecDepth 100000 in
theorem met_X2_two (l : Launch) (G : gG) (o : Nat) (ho : 3 ≤ o ∧ o ≤ 6) (x y : Int64) : Met l yX2_two (ws_ yX2_two cX2_two 5 (some .long)) ({ frames := 1, cells := 0, slots := 0, locals := 21 } : Room) (cP G [.int (nI o), .long x, .long y] (fun _ => True)) (cR (some (.long (mTwo o x y)))) 0 0 (fun _ => False) := by
  refine c_start (by decide) (Nat.le_of_ble_eq_true rfl) ?_
  intro p e s m below meth c hx hb hr hlocks hml hown hts hB hK ls hl
  have hl : lv_has ls 5 [(0, .int (nI o)), (1, .long x), (3, .long y)] := hl
  refine lv_iload_n hx hb dX2_two_0 rfl (lv_at hl 0 rfl) ?_
  obtain rfl | rfl | rfl | rfl : o = 3 ∨ o = 4 ∨ o = 5 ∨ o = 6 := by omega
  · refine lv_tableIn (off := 27) (tgt := 28) hx hb dX2_two_1 (by decide) (by decide) rfl (by decide) ?_
    refine lv_lload_n hx hb dX2_two_28 rfl (lv_at hl 1 rfl) ?_
    refine lv_lload_n hx hb dX2_two_29 rfl (lv_at hl 2 rfl) ?_
    refine lv_ladd hx hb dX2_two_30 ?_
    refine c_read (va_runS (As := [.long (x + y)]) (rest := []) ⟨hx, hb, hml, hown, hts⟩ (met_X2_clip l G (x + y)) (cs_X2_X2_clip hts ⟨Nat.le_of_ble_eq_true rfl, Nat.le_of_ble_eq_true rfl⟩) (cP.pre hK trivial) rfl rfl hl.1 rfl (lv_room (Nat.le_of_ble_eq_true rfl)) dX2_two_31 ⟨by first | exact Nat.zero_le _ | omega | decide, by first | exact Nat.zero_le _ | omega | decide⟩) ?_
    exact c_rlret (v := mClip (x + y)) (by unfold mTwo; rw [pif_t rfl]) hx hb hr hlocks dX2_two_34 rfl rfl
  · refine lv_tableIn (off := 34) (tgt := 35) hx hb dX2_two_1 (by decide) (by decide) rfl (by decide) ?_
    refine lv_lload_n hx hb dX2_two_35 rfl (lv_at hl 1 rfl) ?_
    refine lv_lload_n hx hb dX2_two_36 rfl (lv_at hl 2 rfl) ?_
    refine lv_lsub hx hb dX2_two_37 ?_
    refine c_read (va_runS (As := [.long (x - y)]) (rest := []) ⟨hx, hb, hml, hown, hts⟩ (met_X2_clip l G (x - y)) (cs_X2_X2_clip hts ⟨Nat.le_of_ble_eq_true rfl, Nat.le_of_ble_eq_true rfl⟩) (cP.pre hK trivial) rfl rfl hl.1 rfl (lv_room (Nat.le_of_ble_eq_true rfl)) dX2_two_38 ⟨by first | exact Nat.zero_le _ | omega | decide, by first | exact Nat.zero_le _ | omega | decide⟩) ?_
    exact c_rlret (v := mClip (x - y)) (by unfold mTwo; rw [pif_f (by decide)]; rw [pif_t rfl]) hx hb hr hlocks dX2_two_41 rfl rfl
  · refine lv_tableIn (off := 41) (tgt := 42) hx hb dX2_two_1 (by decide) (by decide) rfl (by decide) ?_
    refine lv_lload_n hx hb dX2_two_42 rfl (lv_at hl 1 rfl) ?_
    refine lv_lload_n hx hb dX2_two_43 rfl (lv_at hl 2 rfl) ?_
    refine lv_lmul hx hb dX2_two_44 ?_
    refine c_read (va_runS (As := [.long (x * y)]) (rest := []) ⟨hx, hb, hml, hown, hts⟩ (met_X2_clip l G (x * y)) (cs_X2_X2_clip hts ⟨Nat.le_of_ble_eq_true rfl, Nat.le_of_ble_eq_true rfl⟩) (cP.pre hK trivial) rfl rfl hl.1 rfl (lv_room (Nat.le_of_ble_eq_true rfl)) dX2_two_45 ⟨by first | exact Nat.zero_le _ | omega | decide, by first | exact Nat.zero_le _ | omega | decide⟩) ?_
    exact c_rlret (v := mClip (x * y)) (by unfold mTwo; rw [pif_f (by decide)]; rw [pif_f (by decide)]; rw [pif_t rfl]) hx hb hr hlocks dX2_two_48 rfl rfl
  · refine lv_tableOut (tgt := 49) hx hb dX2_two_1 (by decide) (by decide) ?_
    refine lv_lload_n hx hb dX2_two_49 rfl (lv_at hl 2 rfl) ?_
    refine lv_lconst (v := lN 0) hx hb dX2_two_50 (by decide) ?_
    refine l_cmp_ne (tgt := 59) hx hb dX2_two_51 dX2_two_52 (by decide) (fun c_1 => ?_) (fun c_1 => ?_)
    · refine lv_lload_n hx hb dX2_two_59 rfl (lv_at hl 1 rfl) ?_
      refine lv_lload_n hx hb dX2_two_60 rfl (lv_at hl 2 rfl) ?_
      refine lv_ldiv hx hb dX2_two_61 (by assumption) ?_
      refine c_read (va_runS (As := [.long (x / y)]) (rest := []) ⟨hx, hb, hml, hown, hts⟩ (met_X2_clip l G (x / y)) (cs_X2_X2_clip hts ⟨Nat.le_of_ble_eq_true rfl, Nat.le_of_ble_eq_true rfl⟩) (cP.pre hK trivial) rfl rfl hl.1 rfl (lv_room (Nat.le_of_ble_eq_true rfl)) dX2_two_62 ⟨by first | exact Nat.zero_le _ | omega | decide, by first | exact Nat.zero_le _ | omega | decide⟩) ?_
      exact c_rlret (v := mClip (x / y)) (by unfold mTwo; rw [pif_f (by decide)]; rw [pif_f (by decide)]; rw [pif_f (by decide)]; first | (rw [pif_t (by assumption)]; rfl) | rw [pif_f (by assumption)]) hx hb hr hlocks dX2_two_65 rfl rfl
    refine lv_lconst (v := lN 0) hx hb dX2_two_55 (by decide) ?_
    refine lv_goto (tgt := 65) hx hb dX2_two_56 (by decide) ?_
    exact c_rlret (v := lN 0) (by unfold mTwo; rw [pif_f (by decide)]; rw [pif_f (by decide)]; rw [pif_f (by decide)]; first | (rw [pif_t (by assumption)]; rfl) | rw [pif_f (by assumption)]) hx hb hr hlocks dX2_two_65 rfl rfl
set_option maxHeartbeats 4000000 in
set_option maxRecDepth 100000 in
theorem met_X2_isAsked (l : Launch) (G : gG) (o : Nat) (ho : o < 2 ^ 31) (x y : Int64) : Met l yX2_isAsked (ws_ yX2_isAsked cX2_isAsked 5 (some .boolean)) ({ frames := 0, cells := 0, slots := 0, locals := 0 } : Room) (cP G [.int (nI o), .long x, .long y] (fun _ => True)) (cR (some (.int (bI (mAsk o x y))))) 0 0 (fun _ => False) := by
  refine c_start (by decide) (Nat.le_of_ble_eq_true rfl) ?_
  intro p e s m below meth c hx hb hr hlocks hml hown hts hB hK ls hl
  have hl : lv_has ls 5 [(0, .int (nI o)), (1, .long x), (3, .long y)] := hl
  refine lv_iload_n hx hb dX2_isAsked_0 rfl (lv_at hl 0 rfl) ?_
  refine lv_bipush (v := nI 10) hx hb dX2_isAsked_1 (by decide) ?_
  refine n_icmp_ne (tgt := 20) hx hb dX2_isAsked_3 (by decide) (by omega) (by decide) (fun c_1 => ?_) (fun c_1 => ?_)
  · refine lv_iload_n hx hb dX2_isAsked_20 rfl (lv_at hl 0 rfl) ?_
    refine lv_bipush (v := nI 11) hx hb dX2_isAsked_21 (by decide) ?_
    refine n_icmp_ne (tgt := 40) hx hb dX2_isAsked_23 (by decide) (by omega) (by decide) (fun c_2 => ?_) (fun c_2 => ?_)
    · refine lv_iload_n hx hb dX2_isAsked_40 rfl (lv_at hl 0 rfl) ?_
      refine lv_bipush (v := nI 12) hx hb dX2_isAsked_41 (by decide) ?_
      refine n_icmp_ne (tgt := 60) hx hb dX2_isAsked_43 (by decide) (by omega) (by decide) (fun c_3 => ?_) (fun c_3 => ?_)
      · refine lv_iload_n hx hb dX2_isAsked_60 rfl (lv_at hl 0 rfl) ?_
        refine lv_bipush (v := nI 13) hx hb dX2_isAsked_61 (by decide) ?_
        refine n_icmp_ne (tgt := 80) hx hb dX2_isAsked_63 (by decide) (by omega) (by decide) (fun c_4 => ?_) (fun c_4 => ?_)
        · refine lv_iload_n hx hb dX2_isAsked_80 rfl (lv_at hl 0 rfl) ?_
          refine lv_bipush (v := nI 14) hx hb dX2_isAsked_81 (by decide) ?_
          refine n_icmp_ne (tgt := 100) hx hb dX2_isAsked_83 (by decide) (by omega) (by decide) (fun c_5 => ?_) (fun c_5 => ?_)
          · refine lv_lload_n hx hb dX2_isAsked_100 rfl (lv_at hl 1 rfl) ?_
            refine lv_lload_n hx hb dX2_isAsked_101 rfl (lv_at hl 2 rfl) ?_
            refine l_cmp_eq (tgt := 110) hx hb dX2_isAsked_102 dX2_isAsked_103 (by decide) (fun c_6 => ?_) (fun c_6 => ?_)
            · refine lv_iconst (v := nI 0) hx hb dX2_isAsked_110 (by decide) ?_
              exact c_rret (v := nI 0) ((bI_f (by simp [mAsk, c_1, c_2, c_3, c_4, c_5, c_6])).symm) hx hb hr rfl hlocks dX2_isAsked_111 rfl rfl
            refine lv_iconst (v := nI 1) hx hb dX2_isAsked_106 (by decide) ?_
            refine lv_goto (tgt := 111) hx hb dX2_isAsked_107 (by decide) ?_
            exact c_rret (v := nI 1) ((bI_t (by simp [mAsk, c_1, c_2, c_3, c_4, c_5, c_6])).symm) hx hb hr rfl hlocks dX2_isAsked_111 rfl rfl
          refine lv_lload_n hx hb dX2_isAsked_86 rfl (lv_at hl 1 rfl) ?_
          refine lv_lload_n hx hb dX2_isAsked_87 rfl (lv_at hl 2 rfl) ?_
          refine l_cmp_ne (tgt := 96) hx hb dX2_isAsked_88 dX2_isAsked_89 (by decide) (fun c_7 => ?_) (fun c_7 => ?_)
          · refine lv_iconst (v := nI 0) hx hb dX2_isAsked_96 (by decide) ?_
            refine lv_goto (tgt := 111) hx hb dX2_isAsked_97 (by decide) ?_
            exact c_rret (v := nI 0) ((bI_f (by simp [mAsk, c_1, c_2, c_3, c_4, c_5, c_7])).symm) hx hb hr rfl hlocks dX2_isAsked_111 rfl rfl
          refine lv_iconst (v := nI 1) hx hb dX2_isAsked_92 (by decide) ?_
          refine lv_goto (tgt := 111) hx hb dX2_isAsked_93 (by decide) ?_
          exact c_rret (v := nI 1) ((bI_t (by simp [mAsk, c_1, c_2, c_3, c_4, c_5, c_7])).symm) hx hb hr rfl hlocks dX2_isAsked_111 rfl rfl
        refine lv_lload_n hx hb dX2_isAsked_66 rfl (lv_at hl 1 rfl) ?_
        refine lv_lload_n hx hb dX2_isAsked_67 rfl (lv_at hl 2 rfl) ?_
        refine l_cmp_lt (tgt := 76) hx hb dX2_isAsked_68 dX2_isAsked_69 (by decide) (fun c_8 => ?_) (fun c_8 => ?_)
        · refine lv_iconst (v := nI 0) hx hb dX2_isAsked_76 (by decide) ?_
          refine lv_goto (tgt := 111) hx hb dX2_isAsked_77 (by decide) ?_
          exact c_rret (v := nI 0) ((bI_f (by simp [mAsk, c_1, c_2, c_3, c_4, c_8])).symm) hx hb hr rfl hlocks dX2_isAsked_111 rfl rfl
        refine lv_iconst (v := nI 1) hx hb dX2_isAsked_72 (by decide) ?_
        refine lv_goto (tgt := 111) hx hb dX2_isAsked_73 (by decide) ?_
        exact c_rret (v := nI 1) ((bI_t (by simp [mAsk, c_1, c_2, c_3, c_4, c_8])).symm) hx hb hr rfl hlocks dX2_isAsked_111 rfl rfl
      refine lv_lload_n hx hb dX2_isAsked_46 rfl (lv_at hl 1 rfl) ?_
      refine lv_lload_n hx hb dX2_isAsked_47 rfl (lv_at hl 2 rfl) ?_
      refine l_cmp_le (tgt := 56) hx hb dX2_isAsked_48 dX2_isAsked_49 (by decide) (fun c_9 => ?_) (fun c_9 => ?_)
      · refine lv_iconst (v := nI 0) hx hb dX2_isAsked_56 (by decide) ?_
        refine lv_goto (tgt := 111) hx hb dX2_isAsked_57 (by decide) ?_
        exact c_rret (v := nI 0) ((bI_f (by simp [mAsk, c_1, c_2, c_3, c_9])).symm) hx hb hr rfl hlocks dX2_isAsked_111 rfl rfl
      refine lv_iconst (v := nI 1) hx hb dX2_isAsked_52 (by decide) ?_
      refine lv_goto (tgt := 111) hx hb dX2_isAsked_53 (by decide) ?_
      exact c_rret (v := nI 1) ((bI_t (by simp [mAsk, c_1, c_2, c_3, c_9])).symm) hx hb hr rfl hlocks dX2_isAsked_111 rfl rfl
    refine lv_lload_n hx hb dX2_isAsked_26 rfl (lv_at hl 1 rfl) ?_
    refine lv_lload_n hx hb dX2_isAsked_27 rfl (lv_at hl 2 rfl) ?_
    refine l_cmp_gt (tgt := 36) hx hb dX2_isAsked_28 dX2_isAsked_29 (by decide) (fun c_10 => ?_) (fun c_10 => ?_)
    · refine lv_iconst (v := nI 0) hx hb dX2_isAsked_36 (by decide) ?_
      refine lv_goto (tgt := 111) hx hb dX2_isAsked_37 (by decide) ?_
      exact c_rret (v := nI 0) ((bI_f (by simp [mAsk, c_1, c_2, c_10])).symm) hx hb hr rfl hlocks dX2_isAsked_111 rfl rfl
    refine lv_iconst (v := nI 1) hx hb dX2_isAsked_32 (by decide) ?_
    refine lv_goto (tgt := 111) hx hb dX2_isAsked_33 (by decide) ?_
    exact c_rret (v := nI 1) ((bI_t (by simp [mAsk, c_1, c_2, c_10])).symm) hx hb hr rfl hlocks dX2_isAsked_111 rfl rfl
  refine lv_lload_n hx hb dX2_isAsked_6 rfl (lv_at hl 1 rfl) ?_
  refine lv_lload_n hx hb dX2_isAsked_7 rfl (lv_at hl 2 rfl) ?_
  refine l_cmp_ge (tgt := 16) hx hb dX2_isAsked_8 dX2_isAsked_9 (by decide) (fun c_11 => ?_) (fun c_11 => ?_)
  · refine lv_iconst (v := nI 0) hx hb dX2_isAsked_16 (by decide) ?_
    refine lv_goto (tgt := 111) hx hb dX2_isAsked_17 (by decide) ?_
    exact c_rret (v := nI 0) ((bI_f (by simp [mAsk, c_1, c_11])).symm) hx hb hr rfl hlocks dX2_isAsked_111 rfl rfl
  refine lv_iconst (v := nI 1) hx hb dX2_isAsked_12 (by decide) ?_
  refine lv_goto (tgt := 111) hx hb dX2_isAsked_13 (by decide) ?_
  exact c_rret (v := nI 1) ((bI_t (by simp [mAsk, c_1, c_11])).symm) hx hb hr rfl hlocks dX2_isAsked_111 rfl rfl
set_option maxHeartbeats 4000000 in
set_option maxRecDepth 100000 in
theorem met_X2_givenByAll (l : Launch) (G : gG) (ad : Nat → Nat) (M Z : Nat → Nat → Int32) (V : Nat → Nat → Int64) (nb : Nat) (en : M 0 0 = nI nb) (hn : nb ≤ 6) : Met l yX2_givenByAll (ws_ yX2_givenByAll cX2_givenByAll 3 (some .int)) ({ frames := 1, cells := 0, slots := 0, locals := 22 } : Room) (cP G [.ref (ad 0)] (mH G ad M Z V)) (cR (some (.int (mGiven M nb)))) 0 0 (fun _ => False) := by
  refine c_start (by decide) (Nat.le_of_ble_eq_true rfl) ?_
  intro p e s m below meth c hx hb hr hlocks hml hown hts hB hK ls hl
  have hw := MS.of hB
  have hl : lv_has ls 3 [(0, .ref (ad 0))] := hl
  refine lv_iconst (v := nI 0) hx hb dX2_givenByAll_0 (by decide) ?_
  refine lv_istore_n (lv' := [(1, .int (nI 0)), (0, .ref (ad 0))]) hx hb dX2_givenByAll_1 rfl hl (by decide) rfl (fun ls hl => ?_)
  refine lv_iconst (v := nI 0) hx hb dX2_givenByAll_2 (by decide) ?_
  refine lv_istore_n (lv' := [(2, .int (nI 0)), (1, .int (nI 0)), (0, .ref (ad 0))]) hx hb dX2_givenByAll_3 rfl hl (by decide) rfl (fun ls hl => ?_)
  have L_4 : ∀ (fuel : Nat) (i : Nat) (acc : Int32), nb - i < fuel → (i ≤ nb) → (acc = sm (fun b => M 0 (10 + 5 * b + 3)) i) → ∀ (ls : Array Slot), lv_has ls 3 [(0, .ref (ad 0)), (1, .int acc), (2, .int (nI i))] → W p l e ({ frames := 1, cells := 0, slots := 0, locals := 22 } : Room) s m ([.ref (ad 0)] : List Value).toArray below meth c s.heap [] 0 0 (MQ below (cR (some (.int (mGiven M nb)))) ([.ref (ad 0)] : List Value).toArray s 0 0 (fun _ => False)) (F0 m 4 ls []) := by
    intro fuel
    induction fuel with
    | zero => intro i acc hf; exact absurd hf (Nat.not_lt_zero _)
    | succ fuel ih =>
      intro i acc hf hi ha ls hl
      have ih4 := ih
      refine lv_iload_n hx hb dX2_givenByAll_4 rfl (lv_at hl 2 rfl) ?_
      refine lv_aload_n hx hb dX2_givenByAll_5 rfl (lv_at hl 0 rfl) ?_
      refine m_g_a hx hb hts hown hK hw dX2_givenByAll_6 ?_
      refine lv_iconst (v := nI 0) hx hb dX2_givenByAll_9 (by decide) ?_
      refine m_l_a (j := 0) (v := nI nb) hx hb hK hw en (by decide) dX2_givenByAll_10 ?_
      refine n_icmp_ge (tgt := 29) hx hb dX2_givenByAll_11 (by decide) (by omega) (by omega) (fun c_1 => ?_) (fun c_1 => ?_)
      · refine lv_iload_n hx hb dX2_givenByAll_29 rfl (lv_at hl 1 rfl) ?_
        exact c_rret (v := acc) (by rw [ha, show i = nb by omega]; rfl) hx hb hr rfl hlocks dX2_givenByAll_30 rfl rfl
      refine lv_iload_n hx hb dX2_givenByAll_14 rfl (lv_at hl 1 rfl) ?_
      refine lv_aload_n hx hb dX2_givenByAll_15 rfl (lv_at hl 0 rfl) ?_
      refine lv_iload_n hx hb dX2_givenByAll_16 rfl (lv_at hl 2 rfl) ?_
      refine lv_iconst (v := nI 3) hx hb dX2_givenByAll_17 (by decide) ?_
      refine c_read (va_runV (As := [.int (nI i), .int (nI 3)]) (rest := [.int acc]) ⟨hx, hb, hml, hown, hts⟩ (met_X2_get l G ad M Z V i 3 (M 0 (10 + 5 * i + 3)) (by omega) rfl) (cv_X2_X2_get hts ⟨Nat.le_of_ble_eq_true rfl, Nat.le_of_ble_eq_true rfl⟩) (cP.preV hK hw.1 (hw.1.recv hK)) rfl rfl hl.1 rfl (lv_room (Nat.le_of_ble_eq_true rfl)) dX2_givenByAll_18 ⟨by first | exact Nat.zero_le _ | omega | decide, by first | exact Nat.zero_le _ | omega | decide⟩) ?_
      refine lv_iadd hx hb dX2_givenByAll_21 ?_
      refine lv_istore_n (lv' := [(1, .int (acc + (M 0 (10 + 5 * i + 3)))), (0, .ref (ad 0)), (2, .int (nI i))]) hx hb dX2_givenByAll_22 rfl hl (by decide) rfl (fun ls hl => ?_)
      refine lv_iinc (v := nI (i + 1)) (lv' := [(2, .int (nI (i + 1))), (1, .int (acc + (M 0 (10 + 5 * i + 3)))), (0, .ref (ad 0))]) hx hb dX2_givenByAll_23 hl (k := 2) rfl (n_inc i 1) (by decide) rfl (fun ls hl => ?_)
      refine lv_goto (tgt := 4) hx hb dX2_givenByAll_26 (by decide) ?_
      exact ih4 (i + 1) (acc + (M 0 (10 + 5 * i + 3))) (by omega) (by first | assumption | omega | rfl) (by rw [ha]; rfl) ls (lv_sub hl [2, 1, 0] rfl)
  exact L_4 _ 0 (nI 0) (Nat.lt_succ_self _) (by first | assumption | omega | rfl) (by first | assumption | omega | rfl) ls (lv_sub hl [2, 1, 0] rfl)
set_option maxHeartbeats 4000000 in
set_option maxRecDepth 100000 in
theorem met_X2_voicesOf (l : Launch) (G : gG) (ad : Nat → Nat) (M Z : Nat → Nat → Int32) (V : Nat → Nat → Int64) (q : Nat) (hq : q < 10) (nb : Nat) (en : M 0 0 = nI nb) (hn : nb ≤ 6) : Met l yX2_voicesOf (ws_ yX2_voicesOf cX2_voicesOf 4 (some .int)) ({ frames := 2, cells := 0, slots := 0, locals := 42 } : Room) (cP G [.ref (ad 0), .int (nI q)] (mH G ad M Z V)) (cR (some (.int (mVoices M nb q nb)))) 0 0 (fun _ => False) := by
  refine c_start (by decide) (Nat.le_of_ble_eq_true rfl) ?_
  intro p e s m below meth c hx hb hr hlocks hml hown hts hB hK ls hl
  have hw := MS.of hB
  have hl : lv_has ls 4 [(0, .ref (ad 0)), (1, .int (nI q))] := hl
  refine lv_iconst (v := nI 0) hx hb dX2_voicesOf_0 (by decide) ?_
  refine lv_istore_n (lv' := [(2, .int (nI 0)), (0, .ref (ad 0)), (1, .int (nI q))]) hx hb dX2_voicesOf_1 rfl hl (by decide) rfl (fun ls hl => ?_)
  refine lv_iconst (v := nI 0) hx hb dX2_voicesOf_2 (by decide) ?_
  refine lv_istore_n (lv' := [(3, .int (nI 0)), (2, .int (nI 0)), (0, .ref (ad 0)), (1, .int (nI q))]) hx hb dX2_voicesOf_3 rfl hl (by decide) rfl (fun ls hl => ?_)
  have L_4 : ∀ (fuel : Nat) (i : Nat) (acc : Int32), nb - i < fuel → (i ≤ nb) → (acc = mVoices M nb q i) → ∀ (ls : Array Slot), lv_has ls 4 [(0, .ref (ad 0)), (1, .int (nI q)), (2, .int acc), (3, .int (nI i))] → W p l e ({ frames := 2, cells := 0, slots := 0, locals := 42 } : Room) s m ([.ref (ad 0), .int (nI q)] : List Value).toArray below meth c s.heap [] 0 0 (MQ below (cR (some (.int (mVoices M nb q nb)))) ([.ref (ad 0), .int (nI q)] : List Value).toArray s 0 0 (fun _ => False)) (F0 m 4 ls []) := by
    intro fuel
    induction fuel with
    | zero => intro i acc hf; exact absurd hf (Nat.not_lt_zero _)
    | succ fuel ih =>
      intro i acc hf hi ha ls hl
      have ih4 := ih
      refine lv_iload_n hx hb dX2_voicesOf_4 rfl (lv_at hl 3 rfl) ?_
      refine lv_aload_n hx hb dX2_voicesOf_5 rfl (lv_at hl 0 rfl) ?_
      refine m_g_a hx hb hts hown hK hw dX2_voicesOf_6 ?_
      refine lv_iconst (v := nI 0) hx hb dX2_voicesOf_9 (by decide) ?_
      refine m_l_a (j := 0) (v := nI nb) hx hb hK hw en (by decide) dX2_voicesOf_10 ?_
      refine n_icmp_ge (tgt := 44) hx hb dX2_voicesOf_11 (by decide) (by omega) (by omega) (fun c_1 => ?_) (fun c_1 => ?_)
      · refine lv_iload_n hx hb dX2_voicesOf_44 rfl (lv_at hl 2 rfl) ?_
        exact c_rret (v := acc) (by rw [ha, show i = nb by omega]) hx hb hr rfl hlocks dX2_voicesOf_45 rfl rfl
      refine lv_iload_n hx hb dX2_voicesOf_14 rfl (lv_at hl 2 rfl) ?_
      refine lv_aload_n hx hb dX2_voicesOf_15 rfl (lv_at hl 0 rfl) ?_
      refine lv_iload_n hx hb dX2_voicesOf_16 rfl (lv_at hl 1 rfl) ?_
      refine lv_iload_n hx hb dX2_voicesOf_17 rfl (lv_at hl 3 rfl) ?_
      refine c_read (va_runV (As := [.int (nI q), .int (nI i)]) (rest := [.int acc]) ⟨hx, hb, hml, hown, hts⟩ (met_X2_gave l G ad M Z V q i (M 0 (150 + 10 * q + 4 + i)) (by omega) rfl) (cv_X2_X2_gave hts ⟨Nat.le_of_ble_eq_true rfl, Nat.le_of_ble_eq_true rfl⟩) (cP.preV hK hw.1 (hw.1.recv hK)) rfl rfl hl.1 rfl (lv_room (Nat.le_of_ble_eq_true rfl)) dX2_voicesOf_18 ⟨by first | exact Nat.zero_le _ | omega | decide, by first | exact Nat.zero_le _ | omega | decide⟩) ?_
      refine lv_if_le (tgt := 35) hx hb dX2_voicesOf_21 (by decide) (fun c_2 => ?_) (fun c_2 => ?_)
      · refine lv_iconst (v := nI 0) hx hb dX2_voicesOf_35 (by decide) ?_
        refine lv_ior hx hb dX2_voicesOf_36 ?_
        refine lv_istore_n (lv' := [(2, .int (acc ||| (nI 0))), (0, .ref (ad 0)), (1, .int (nI q)), (3, .int (nI i))]) hx hb dX2_voicesOf_37 rfl hl (by decide) rfl (fun ls hl => ?_)
        refine lv_iinc (v := nI (i + 1)) (lv' := [(3, .int (nI (i + 1))), (2, .int (acc ||| (nI 0))), (0, .ref (ad 0)), (1, .int (nI q))]) hx hb dX2_voicesOf_38 hl (k := 3) rfl (n_inc i 1) (by decide) rfl (fun ls hl => ?_)
        refine lv_goto (tgt := 4) hx hb dX2_voicesOf_41 (by decide) ?_
        exact ih4 (i + 1) (acc ||| (nI 0)) (by omega) (by first | assumption | omega | rfl) (by rw [ha, mVoices]; first | rw [pif_t c_2] | rw [pif_f c_2]) ls (lv_sub hl [2, 3, 1, 0] rfl)
      refine lv_iconst (v := nI 1) hx hb dX2_voicesOf_24 (by decide) ?_
      refine lv_aload_n hx hb dX2_voicesOf_25 rfl (lv_at hl 0 rfl) ?_
      refine lv_iload_n hx hb dX2_voicesOf_26 rfl (lv_at hl 3 rfl) ?_
      refine lv_iconst (v := nI 1) hx hb dX2_voicesOf_27 (by decide) ?_
      refine c_read (va_runV (As := [.int (nI i), .int (nI 1)]) (rest := [.int (nI 1), .int acc]) ⟨hx, hb, hml, hown, hts⟩ (met_X2_get l G ad M Z V i 1 (M 0 (10 + 5 * i + 1)) (by omega) rfl) (cv_X2_X2_get hts ⟨Nat.le_of_ble_eq_true rfl, Nat.le_of_ble_eq_true rfl⟩) (cP.preV hK hw.1 (hw.1.recv hK)) rfl rfl hl.1 rfl (lv_room (Nat.le_of_ble_eq_true rfl)) dX2_voicesOf_28 ⟨by first | exact Nat.zero_le _ | omega | decide, by first | exact Nat.zero_le _ | omega | decide⟩) ?_
      refine lv_ishl hx hb dX2_voicesOf_31 ?_
      refine lv_goto (tgt := 36) hx hb dX2_voicesOf_32 (by decide) ?_
      refine lv_ior hx hb dX2_voicesOf_36 ?_
      refine lv_istore_n (lv' := [(2, .int (acc ||| ((nI 1) <<< ((M 0 (10 + 5 * i + 1)) &&& 31)))), (0, .ref (ad 0)), (1, .int (nI q)), (3, .int (nI i))]) hx hb dX2_voicesOf_37 rfl hl (by decide) rfl (fun ls hl => ?_)
      refine lv_iinc (v := nI (i + 1)) (lv' := [(3, .int (nI (i + 1))), (2, .int (acc ||| ((nI 1) <<< ((M 0 (10 + 5 * i + 1)) &&& 31)))), (0, .ref (ad 0)), (1, .int (nI q))]) hx hb dX2_voicesOf_38 hl (k := 3) rfl (n_inc i 1) (by decide) rfl (fun ls hl => ?_)
      refine lv_goto (tgt := 4) hx hb dX2_voicesOf_41 (by decide) ?_
      exact ih4 (i + 1) (acc ||| ((nI 1) <<< ((M 0 (10 + 5 * i + 1)) &&& 31))) (by omega) (by first | assumption | omega | rfl) (by rw [ha, mVoices]; first | rw [pif_t c_2] | rw [pif_f c_2]) ls (lv_sub hl [2, 3, 1, 0] rfl)
  exact L_4 _ 0 (nI 0) (Nat.lt_succ_self _) (by first | assumption | omega | rfl) (by first | assumption | omega | rfl) ls (lv_sub hl [2, 3, 1, 0] rfl)
set_option maxHeartbeats 4000000 in
set_option maxRecDepth 100000 in
theorem met_X2_of (l : Launch) (G : gG) (ad : Nat → Nat) (M Z : Nat → Nat → Int32) (V : Nat → Nat → Int64) (x y : Int32) (nb : Nat) (en : M 0 0 = nI nb) (hn : nb ≤ 6) : Met l yX2_of (ws_ yX2_of cX2_of 3 (some .int)) ({ frames := 2, cells := 0, slots := 0, locals := 43 } : Room) (cP G [.ref (ad 0), .int x, .int y] (mH G ad M Z V)) (cR (some (.int (pif (vp_in x nb ∧ vp_in y 5) (M 0 (10 + 5 * cl x + cl y)) (-1))))) 0 0 (fun _ => False) := by
  refine c_start (by decide) (Nat.le_of_ble_eq_true rfl) ?_
  intro p e s m below meth c hx hb hr hlocks hml hown hts hB hK ls hl
  have hw := MS.of hB
  have hl : lv_has ls 3 [(0, .ref (ad 0)), (1, .int x), (2, .int y)] := hl
  refine lv_aload_n hx hb dX2_of_0 rfl (lv_at hl 0 rfl) ?_
  refine lv_iload_n hx hb dX2_of_1 rfl (lv_at hl 1 rfl) ?_
  refine c_read (va_runV (As := [.int x]) (rest := []) ⟨hx, hb, hml, hown, hts⟩ (met_X2_isBlower l G ad M Z V x nb en (by omega)) (cv_X2_X2_isBlower hts ⟨Nat.le_of_ble_eq_true rfl, Nat.le_of_ble_eq_true rfl⟩) (cP.preV hK hw.1 (hw.1.recv hK)) rfl rfl hl.1 rfl (lv_room (Nat.le_of_ble_eq_true rfl)) dX2_of_2 ⟨by first | exact Nat.zero_le _ | omega | decide, by first | exact Nat.zero_le _ | omega | decide⟩) ?_
  refine b_if_eq (tgt := 26) hx hb dX2_of_5 (by decide) (fun c_1 => ?_) (fun c_1 => ?_)
  · refine lv_iconst (v := (-1)) hx hb dX2_of_26 (by decide) ?_
    exact c_rret (v := (-1)) (by first | (rw [pif_t ⟨by assumption, vp_in_nI h_jy (by decide)⟩]; simp only [cl, k_jx, k_jy]) | rw [pif_f (fun h9 => c_1 (by first | exact h9.1 | exact (in_const (n := 4) (by decide)).mpr h9.2))]) hx hb hr rfl hlocks dX2_of_27 rfl rfl
  obtain ⟨jx, h_jx, rfl⟩ := vp_in_of c_1 (by omega)
  have k_jx : (nI jx).toNatClampNeg = jx := nI_clamp (by omega)
  refine lv_iload_n hx hb dX2_of_8 rfl (lv_at hl 2 rfl) ?_
  refine lv_iconst (v := nI 0) hx hb dX2_of_9 (by decide) ?_
  refine lv_iconst (v := nI 4) hx hb dX2_of_10 (by decide) ?_
  refine c_read (va_runS (As := [.int y, .int (nI 0), .int (nI 4)]) (rest := []) ⟨hx, hb, hml, hown, hts⟩ (met_X2_isIn l G y (nI 0) (nI 4)) (cs_X2_X2_isIn hts ⟨Nat.le_of_ble_eq_true rfl, Nat.le_of_ble_eq_true rfl⟩) (cP.pre hK trivial) rfl rfl hl.1 rfl (lv_room (Nat.le_of_ble_eq_true rfl)) dX2_of_11 ⟨by first | exact Nat.zero_le _ | omega | decide, by first | exact Nat.zero_le _ | omega | decide⟩) ?_
  refine b_if_eq (tgt := 26) hx hb dX2_of_14 (by decide) (fun c_2 => ?_) (fun c_2 => ?_)
  · refine lv_iconst (v := (-1)) hx hb dX2_of_26 (by decide) ?_
    exact c_rret (v := (-1)) (by first | (rw [pif_t ⟨by assumption, vp_in_nI h_jy (by decide)⟩]; simp only [cl, k_jx, k_jy]) | rw [pif_f (fun h9 => c_2 (by first | exact h9.1 | exact (in_const (n := 4) (by decide)).mpr h9.2))]) hx hb hr rfl hlocks dX2_of_27 rfl rfl
  obtain ⟨jy, h_jy, rfl⟩ := vp_in_of ((in_const (n := 4) (by decide)).mp c_2) (by decide)
  have k_jy : (nI jy).toNatClampNeg = jy := nI_clamp (by omega)
  refine lv_aload_n hx hb dX2_of_17 rfl (lv_at hl 0 rfl) ?_
  refine lv_iload_n hx hb dX2_of_18 rfl (lv_at hl 1 rfl) ?_
  refine lv_iload_n hx hb dX2_of_19 rfl (lv_at hl 2 rfl) ?_
  refine c_read (va_runV (As := [.int (nI jx), .int (nI jy)]) (rest := []) ⟨hx, hb, hml, hown, hts⟩ (met_X2_get l G ad M Z V jx jy (M 0 (10 + 5 * jx + jy)) (by omega) rfl) (cv_X2_X2_get hts ⟨Nat.le_of_ble_eq_true rfl, Nat.le_of_ble_eq_true rfl⟩) (cP.preV hK hw.1 (hw.1.recv hK)) rfl rfl hl.1 rfl (lv_room (Nat.le_of_ble_eq_true rfl)) dX2_of_20 ⟨by first | exact Nat.zero_le _ | omega | decide, by first | exact Nat.zero_le _ | omega | decide⟩) ?_
  refine lv_goto (tgt := 27) hx hb dX2_of_23 (by decide) ?_
  exact c_rret (v := M 0 (10 + 5 * jx + jy)) (by first | (rw [pif_t ⟨by assumption, vp_in_nI h_jy (by decide)⟩]; simp only [cl, k_jx, k_jy]) | rw [pif_f (fun h9 => c_2 (by first | exact h9.1 | exact (in_const (n := 4) (by decide)).mpr h9.2))]) hx hb hr rfl hlocks dX2_of_27 rfl rfl
