def fgO (tp : Nat → Nat) (t p lo hi : Nat) : Nat := if lxT tp t p = 1 then (if lo ≤ lxN tp t p ∧ lxN tp t p ≤ hi then 0 else 2) else 1
theorem fgO_c (tp : Nat → Nat) (t p lo hi : Nat) : (fgO tp t p lo hi = 0 ∧ lxT tp t p = 1 ∧ lo ≤ lxN tp t p ∧ lxN tp t p ≤ hi) ∨ fgO tp t p lo hi = 1 ∨ fgO tp t p lo hi = 2 := by
  unfold fgO
  by_cases c : lxT tp t p = 1
  · rw [if_pos c]
    by_cases d : lo ≤ lxN tp t p ∧ lxN tp t p ≤ hi
    · rw [if_pos d]; exact Or.inl ⟨rfl, c, d⟩
    · rw [if_neg d]; exact Or.inr (Or.inr rfl)
  · rw [if_neg c]; exact Or.inr (Or.inl rfl)
set_option maxHeartbeats 4000000 in
set_option maxRecDepth 100000 in
theorem met_X2_sortOf (l : Launch) (G : gG) (ad : Nat → Nat) (M Z : Nat → Nat → Int32) (V : Nat → Nat → Int64) (tp : Nat → Nat) (t x0 n so p0 : Nat) (on w0 : Int32) (hT : TP tp t M) (hZ : ZC tp t x0 n so on w0 p0 Z V) (hx0 : x0 ≤ 2040) (hp0 : p0 ≤ t) : Met l yX2_sortOf (ws_ yX2_sortOf cX2_sortOf 1 (some .int)) ({ frames := 2, cells := 0, slots := 0, locals := 46 } : Room) (cP G [.ref (ad 0)] (mH G ad M Z V)) (cR (some (.int (oI (soO tp t p0))))) 0 0 (fun _ => False) := by
  refine c_start (by decide) (Nat.le_of_ble_eq_true rfl) ?_
  intro p e s m below meth c hx hb hr hlocks hml hown hts hB hK ls hl
  have hw := MS.of hB
  have hl : lv_has ls 1 [(0, .ref (ad 0))] := hl
  have hT9 := lxT_lt hT p0
  refine lv_aload_n hx hb dX2_sortOf_0 rfl (lv_at hl 0 rfl) ?_
  refine lv_bipush (v := nI 115) hx hb dX2_sortOf_1 (by decide) ?_
  refine lv_bipush (v := nI 109) hx hb dX2_sortOf_3 (by decide) ?_
  refine lv_bipush (v := nI 111) hx hb dX2_sortOf_5 (by decide) ?_
  refine lv_bipush (v := nI 107) hx hb dX2_sortOf_7 (by decide) ?_
  refine lv_bipush (v := nI 101) hx hb dX2_sortOf_9 (by decide) ?_
  refine c_read (va_runS (As := [.int (nI 115), .int (nI 109), .int (nI 111), .int (nI 107), .int (nI 101)]) (rest := [.ref (ad 0)]) ⟨hx, hb, hml, hown, hts⟩ (met_X2_w5 l G 115 109 111 107 101 (by decide) (by decide) (by decide) (by decide) (by decide)) (cs_X2_X2_w5 hts ⟨Nat.le_of_ble_eq_true rfl, Nat.le_of_ble_eq_true rfl⟩) (cP.pre hK trivial) rfl rfl hl.1 rfl (lv_room (Nat.le_of_ble_eq_true rfl)) dX2_sortOf_11 ⟨by first | exact Nat.zero_le _ | omega | decide, by first | exact Nat.zero_le _ | omega | decide⟩) ?_
  refine c_read (va_runV (As := [.long (w8 (w8 (w8 (w8 (lN 115) 109) 111) 107) 101)]) (rest := []) ⟨hx, hb, hml, hown, hts⟩ (met_X2_isWord l G ad M Z V tp t p0 hT hZ.1 (w8 (w8 (w8 (w8 (lN 115) 109) 111) 107) 101)) (cv_X2_X2_isWord hts ⟨Nat.le_of_ble_eq_true rfl, Nat.le_of_ble_eq_true rfl⟩) (cP.preV hK hw.1 (hw.1.recv hK)) rfl rfl hl.1 rfl (lv_room (Nat.le_of_ble_eq_true rfl)) dX2_sortOf_14 ⟨by first | exact Nat.zero_le _ | omega | decide, by first | exact Nat.zero_le _ | omega | decide⟩) ?_
  refine b_if_eq (tgt := 22) hx hb dX2_sortOf_17 (by decide) (fun c_1 => ?_) (fun c_1 => ?_)
  · refine lv_aload_n hx hb dX2_sortOf_22 rfl (lv_at hl 0 rfl) ?_
    refine lv_bipush (v := nI 99) hx hb dX2_sortOf_23 (by decide) ?_
    refine lv_bipush (v := nI 111) hx hb dX2_sortOf_25 (by decide) ?_
    refine lv_bipush (v := nI 115) hx hb dX2_sortOf_27 (by decide) ?_
    refine lv_bipush (v := nI 116) hx hb dX2_sortOf_29 (by decide) ?_
    refine c_read (va_runS (As := [.int (nI 99), .int (nI 111), .int (nI 115), .int (nI 116)]) (rest := [.ref (ad 0)]) ⟨hx, hb, hml, hown, hts⟩ (met_X2_w4 l G 99 111 115 116 (by decide) (by decide) (by decide) (by decide)) (cs_X2_X2_w4 hts ⟨Nat.le_of_ble_eq_true rfl, Nat.le_of_ble_eq_true rfl⟩) (cP.pre hK trivial) rfl rfl hl.1 rfl (lv_room (Nat.le_of_ble_eq_true rfl)) dX2_sortOf_31 ⟨by first | exact Nat.zero_le _ | omega | decide, by first | exact Nat.zero_le _ | omega | decide⟩) ?_
    refine c_read (va_runV (As := [.long (w8 (w8 (w8 (lN 99) 111) 115) 116)]) (rest := []) ⟨hx, hb, hml, hown, hts⟩ (met_X2_isWord l G ad M Z V tp t p0 hT hZ.1 (w8 (w8 (w8 (lN 99) 111) 115) 116)) (cv_X2_X2_isWord hts ⟨Nat.le_of_ble_eq_true rfl, Nat.le_of_ble_eq_true rfl⟩) (cP.preV hK hw.1 (hw.1.recv hK)) rfl rfl hl.1 rfl (lv_room (Nat.le_of_ble_eq_true rfl)) dX2_sortOf_34 ⟨by first | exact Nat.zero_le _ | omega | decide, by first | exact Nat.zero_le _ | omega | decide⟩) ?_
    refine b_if_eq (tgt := 42) hx hb dX2_sortOf_37 (by decide) (fun c_2 => ?_) (fun c_2 => ?_)
    · refine lv_aload_n hx hb dX2_sortOf_42 rfl (lv_at hl 0 rfl) ?_
      refine lv_bipush (v := nI 98) hx hb dX2_sortOf_43 (by decide) ?_
      refine lv_bipush (v := nI 114) hx hb dX2_sortOf_45 (by decide) ?_
      refine lv_bipush (v := nI 105) hx hb dX2_sortOf_47 (by decide) ?_
      refine c_read (va_runS (As := [.int (nI 98), .int (nI 114), .int (nI 105)]) (rest := [.ref (ad 0)]) ⟨hx, hb, hml, hown, hts⟩ (met_X2_w3 l G 98 114 105 (by decide) (by decide) (by decide)) (cs_X2_X2_w3 hts ⟨Nat.le_of_ble_eq_true rfl, Nat.le_of_ble_eq_true rfl⟩) (cP.pre hK trivial) rfl rfl hl.1 rfl (lv_room (Nat.le_of_ble_eq_true rfl)) dX2_sortOf_49 ⟨by first | exact Nat.zero_le _ | omega | decide, by first | exact Nat.zero_le _ | omega | decide⟩) ?_
      refine lv_bipush (v := nI 32) hx hb dX2_sortOf_52 (by decide) ?_
      refine lv_lshl (v := (w8 (w8 (lN 98) 114) 105) <<< ((nI 32).toInt64 &&& 63)) hx hb dX2_sortOf_54 rfl ?_
      refine lv_bipush (v := nI 116) hx hb dX2_sortOf_55 (by decide) ?_
      refine lv_bipush (v := nI 116) hx hb dX2_sortOf_57 (by decide) ?_
      refine lv_bipush (v := nI 108) hx hb dX2_sortOf_59 (by decide) ?_
      refine lv_bipush (v := nI 101) hx hb dX2_sortOf_61 (by decide) ?_
      refine c_read (va_runS (As := [.int (nI 116), .int (nI 116), .int (nI 108), .int (nI 101)]) (rest := [.long ((w8 (w8 (lN 98) 114) 105) <<< ((nI 32).toInt64 &&& 63)), .ref (ad 0)]) ⟨hx, hb, hml, hown, hts⟩ (met_X2_w4 l G 116 116 108 101 (by decide) (by decide) (by decide) (by decide)) (cs_X2_X2_w4 hts ⟨Nat.le_of_ble_eq_true rfl, Nat.le_of_ble_eq_true rfl⟩) (cP.pre hK trivial) rfl rfl hl.1 rfl (lv_room (Nat.le_of_ble_eq_true rfl)) dX2_sortOf_63 ⟨by first | exact Nat.zero_le _ | omega | decide, by first | exact Nat.zero_le _ | omega | decide⟩) ?_
      refine lv_lor hx hb dX2_sortOf_66 ?_
      refine c_read (va_runV (As := [.long (((w8 (w8 (lN 98) 114) 105) <<< ((nI 32).toInt64 &&& 63)) ||| (w8 (w8 (w8 (lN 116) 116) 108) 101))]) (rest := []) ⟨hx, hb, hml, hown, hts⟩ (met_X2_isWord l G ad M Z V tp t p0 hT hZ.1 (((w8 (w8 (lN 98) 114) 105) <<< ((nI 32).toInt64 &&& 63)) ||| (w8 (w8 (w8 (lN 116) 116) 108) 101))) (cv_X2_X2_isWord hts ⟨Nat.le_of_ble_eq_true rfl, Nat.le_of_ble_eq_true rfl⟩) (cP.preV hK hw.1 (hw.1.recv hK)) rfl rfl hl.1 rfl (lv_room (Nat.le_of_ble_eq_true rfl)) dX2_sortOf_67 ⟨by first | exact Nat.zero_le _ | omega | decide, by first | exact Nat.zero_le _ | omega | decide⟩) ?_
      refine b_if_eq (tgt := 75) hx hb dX2_sortOf_70 (by decide) (fun c_3 => ?_) (fun c_3 => ?_)
      · refine lv_aload_n hx hb dX2_sortOf_75 rfl (lv_at hl 0 rfl) ?_
        refine lv_bipush (v := nI 115) hx hb dX2_sortOf_76 (by decide) ?_
        refine lv_bipush (v := nI 104) hx hb dX2_sortOf_78 (by decide) ?_
        refine lv_bipush (v := nI 97) hx hb dX2_sortOf_80 (by decide) ?_
        refine lv_bipush (v := nI 114) hx hb dX2_sortOf_82 (by decide) ?_
        refine lv_bipush (v := nI 101) hx hb dX2_sortOf_84 (by decide) ?_
        refine c_read (va_runS (As := [.int (nI 115), .int (nI 104), .int (nI 97), .int (nI 114), .int (nI 101)]) (rest := [.ref (ad 0)]) ⟨hx, hb, hml, hown, hts⟩ (met_X2_w5 l G 115 104 97 114 101 (by decide) (by decide) (by decide) (by decide) (by decide)) (cs_X2_X2_w5 hts ⟨Nat.le_of_ble_eq_true rfl, Nat.le_of_ble_eq_true rfl⟩) (cP.pre hK trivial) rfl rfl hl.1 rfl (lv_room (Nat.le_of_ble_eq_true rfl)) dX2_sortOf_86 ⟨by first | exact Nat.zero_le _ | omega | decide, by first | exact Nat.zero_le _ | omega | decide⟩) ?_
        refine c_read (va_runV (As := [.long (w8 (w8 (w8 (w8 (lN 115) 104) 97) 114) 101)]) (rest := []) ⟨hx, hb, hml, hown, hts⟩ (met_X2_isWord l G ad M Z V tp t p0 hT hZ.1 (w8 (w8 (w8 (w8 (lN 115) 104) 97) 114) 101)) (cv_X2_X2_isWord hts ⟨Nat.le_of_ble_eq_true rfl, Nat.le_of_ble_eq_true rfl⟩) (cP.preV hK hw.1 (hw.1.recv hK)) rfl rfl hl.1 rfl (lv_room (Nat.le_of_ble_eq_true rfl)) dX2_sortOf_89 ⟨by first | exact Nat.zero_le _ | omega | decide, by first | exact Nat.zero_le _ | omega | decide⟩) ?_
        refine b_if_eq (tgt := 97) hx hb dX2_sortOf_92 (by decide) (fun c_4 => ?_) (fun c_4 => ?_)
        · refine lv_aload_n hx hb dX2_sortOf_97 rfl (lv_at hl 0 rfl) ?_
          refine lv_bipush (v := nI 98) hx hb dX2_sortOf_98 (by decide) ?_
          refine lv_bipush (v := nI 101) hx hb dX2_sortOf_100 (by decide) ?_
          refine lv_bipush (v := nI 103) hx hb dX2_sortOf_102 (by decide) ?_
          refine lv_bipush (v := nI 105) hx hb dX2_sortOf_104 (by decide) ?_
          refine lv_bipush (v := nI 110) hx hb dX2_sortOf_106 (by decide) ?_
          refine c_read (va_runS (As := [.int (nI 98), .int (nI 101), .int (nI 103), .int (nI 105), .int (nI 110)]) (rest := [.ref (ad 0)]) ⟨hx, hb, hml, hown, hts⟩ (met_X2_w5 l G 98 101 103 105 110 (by decide) (by decide) (by decide) (by decide) (by decide)) (cs_X2_X2_w5 hts ⟨Nat.le_of_ble_eq_true rfl, Nat.le_of_ble_eq_true rfl⟩) (cP.pre hK trivial) rfl rfl hl.1 rfl (lv_room (Nat.le_of_ble_eq_true rfl)) dX2_sortOf_108 ⟨by first | exact Nat.zero_le _ | omega | decide, by first | exact Nat.zero_le _ | omega | decide⟩) ?_
          refine c_read (va_runV (As := [.long (w8 (w8 (w8 (w8 (lN 98) 101) 103) 105) 110)]) (rest := []) ⟨hx, hb, hml, hown, hts⟩ (met_X2_isWord l G ad M Z V tp t p0 hT hZ.1 (w8 (w8 (w8 (w8 (lN 98) 101) 103) 105) 110)) (cv_X2_X2_isWord hts ⟨Nat.le_of_ble_eq_true rfl, Nat.le_of_ble_eq_true rfl⟩) (cP.preV hK hw.1 (hw.1.recv hK)) rfl rfl hl.1 rfl (lv_room (Nat.le_of_ble_eq_true rfl)) dX2_sortOf_111 ⟨by first | exact Nat.zero_le _ | omega | decide, by first | exact Nat.zero_le _ | omega | decide⟩) ?_
          refine b_if_eq (tgt := 119) hx hb dX2_sortOf_114 (by decide) (fun c_5 => ?_) (fun c_5 => ?_)
          · refine lv_aload_n hx hb dX2_sortOf_119 rfl (lv_at hl 0 rfl) ?_
            refine lv_bipush (v := nI 98) hx hb dX2_sortOf_120 (by decide) ?_
            refine lv_bipush (v := nI 108) hx hb dX2_sortOf_122 (by decide) ?_
            refine lv_bipush (v := nI 111) hx hb dX2_sortOf_124 (by decide) ?_
            refine lv_bipush (v := nI 119) hx hb dX2_sortOf_126 (by decide) ?_
            refine c_read (va_runS (As := [.int (nI 98), .int (nI 108), .int (nI 111), .int (nI 119)]) (rest := [.ref (ad 0)]) ⟨hx, hb, hml, hown, hts⟩ (met_X2_w4 l G 98 108 111 119 (by decide) (by decide) (by decide) (by decide)) (cs_X2_X2_w4 hts ⟨Nat.le_of_ble_eq_true rfl, Nat.le_of_ble_eq_true rfl⟩) (cP.pre hK trivial) rfl rfl hl.1 rfl (lv_room (Nat.le_of_ble_eq_true rfl)) dX2_sortOf_128 ⟨by first | exact Nat.zero_le _ | omega | decide, by first | exact Nat.zero_le _ | omega | decide⟩) ?_
            refine c_read (va_runV (As := [.long (w8 (w8 (w8 (lN 98) 108) 111) 119)]) (rest := []) ⟨hx, hb, hml, hown, hts⟩ (met_X2_isWord l G ad M Z V tp t p0 hT hZ.1 (w8 (w8 (w8 (lN 98) 108) 111) 119)) (cv_X2_X2_isWord hts ⟨Nat.le_of_ble_eq_true rfl, Nat.le_of_ble_eq_true rfl⟩) (cP.preV hK hw.1 (hw.1.recv hK)) rfl rfl hl.1 rfl (lv_room (Nat.le_of_ble_eq_true rfl)) dX2_sortOf_131 ⟨by first | exact Nat.zero_le _ | omega | decide, by first | exact Nat.zero_le _ | omega | decide⟩) ?_
            refine b_if_eq (tgt := 141) hx hb dX2_sortOf_134 (by decide) (fun c_6 => ?_) (fun c_6 => ?_)
            · refine lv_aload_n hx hb dX2_sortOf_141 rfl (lv_at hl 0 rfl) ?_
              refine lv_bipush (v := nI 119) hx hb dX2_sortOf_142 (by decide) ?_
              refine lv_bipush (v := nI 97) hx hb dX2_sortOf_144 (by decide) ?_
              refine lv_bipush (v := nI 105) hx hb dX2_sortOf_146 (by decide) ?_
              refine lv_bipush (v := nI 116) hx hb dX2_sortOf_148 (by decide) ?_
              refine c_read (va_runS (As := [.int (nI 119), .int (nI 97), .int (nI 105), .int (nI 116)]) (rest := [.ref (ad 0)]) ⟨hx, hb, hml, hown, hts⟩ (met_X2_w4 l G 119 97 105 116 (by decide) (by decide) (by decide) (by decide)) (cs_X2_X2_w4 hts ⟨Nat.le_of_ble_eq_true rfl, Nat.le_of_ble_eq_true rfl⟩) (cP.pre hK trivial) rfl rfl hl.1 rfl (lv_room (Nat.le_of_ble_eq_true rfl)) dX2_sortOf_150 ⟨by first | exact Nat.zero_le _ | omega | decide, by first | exact Nat.zero_le _ | omega | decide⟩) ?_
              refine c_read (va_runV (As := [.long (w8 (w8 (w8 (lN 119) 97) 105) 116)]) (rest := []) ⟨hx, hb, hml, hown, hts⟩ (met_X2_isWord l G ad M Z V tp t p0 hT hZ.1 (w8 (w8 (w8 (lN 119) 97) 105) 116)) (cv_X2_X2_isWord hts ⟨Nat.le_of_ble_eq_true rfl, Nat.le_of_ble_eq_true rfl⟩) (cP.preV hK hw.1 (hw.1.recv hK)) rfl rfl hl.1 rfl (lv_room (Nat.le_of_ble_eq_true rfl)) dX2_sortOf_153 ⟨by first | exact Nat.zero_le _ | omega | decide, by first | exact Nat.zero_le _ | omega | decide⟩) ?_
              refine b_if_eq (tgt := 164) hx hb dX2_sortOf_156 (by decide) (fun c_7 => ?_) (fun c_7 => ?_)
              · refine lv_iconst (v := (-1)) hx hb dX2_sortOf_164 (by decide) ?_
                exact c_rret (v := (-1)) (by rw [show soO tp t p0 = none from by unfold soO; first | (simp [c_1, c_2, c_3, c_4, c_5, c_6, c_7]; done) | (clear hl; simp_all; done) | ((repeat' split) <;> simp_all)]; rfl) hx hb hr rfl hlocks dX2_sortOf_165 rfl rfl
              refine lv_bipush (v := nI 6) hx hb dX2_sortOf_159 (by decide) ?_
              refine lv_goto (tgt := 165) hx hb dX2_sortOf_161 (by decide) ?_
              exact c_rret (v := nI 6) (by rw [show soO tp t p0 = some 6 from by unfold soO; first | (simp [c_1, c_2, c_3, c_4, c_5, c_6, c_7]; done) | (clear hl; simp_all; done) | ((repeat' split) <;> simp_all)]; rfl) hx hb hr rfl hlocks dX2_sortOf_165 rfl rfl
            refine lv_iconst (v := nI 5) hx hb dX2_sortOf_137 (by decide) ?_
            refine lv_goto (tgt := 165) hx hb dX2_sortOf_138 (by decide) ?_
            exact c_rret (v := nI 5) (by rw [show soO tp t p0 = some 5 from by unfold soO; first | (simp [c_1, c_2, c_3, c_4, c_5, c_6]; done) | (clear hl; simp_all; done) | ((repeat' split) <;> simp_all)]; rfl) hx hb hr rfl hlocks dX2_sortOf_165 rfl rfl
          refine lv_iconst (v := nI 4) hx hb dX2_sortOf_117 (by decide) ?_
          exact c_rret (v := nI 4) (by rw [show soO tp t p0 = some 4 from by unfold soO; first | (simp [c_1, c_2, c_3, c_4, c_5]; done) | (clear hl; simp_all; done) | ((repeat' split) <;> simp_all)]; rfl) hx hb hr rfl hlocks dX2_sortOf_118 rfl rfl
        refine lv_iconst (v := nI 3) hx hb dX2_sortOf_95 (by decide) ?_
        exact c_rret (v := nI 3) (by rw [show soO tp t p0 = some 3 from by unfold soO; first | (simp [c_1, c_2, c_3, c_4]; done) | (clear hl; simp_all; done) | ((repeat' split) <;> simp_all)]; rfl) hx hb hr rfl hlocks dX2_sortOf_96 rfl rfl
      refine lv_iconst (v := nI 2) hx hb dX2_sortOf_73 (by decide) ?_
      exact c_rret (v := nI 2) (by rw [show soO tp t p0 = some 2 from by unfold soO; first | (simp [c_1, c_2, c_3]; done) | (clear hl; simp_all; done) | ((repeat' split) <;> simp_all)]; rfl) hx hb hr rfl hlocks dX2_sortOf_74 rfl rfl
    refine lv_iconst (v := nI 1) hx hb dX2_sortOf_40 (by decide) ?_
    exact c_rret (v := nI 1) (by rw [show soO tp t p0 = some 1 from by unfold soO; first | (simp [c_1, c_2]; done) | (clear hl; simp_all; done) | ((repeat' split) <;> simp_all)]; rfl) hx hb hr rfl hlocks dX2_sortOf_41 rfl rfl
  refine lv_iconst (v := nI 0) hx hb dX2_sortOf_20 (by decide) ?_
  exact c_rret (v := nI 0) (by rw [show soO tp t p0 = some 0 from by unfold soO; first | (simp [c_1]; done) | (clear hl; simp_all; done) | ((repeat' split) <;> simp_all)]; rfl) hx hb hr rfl hlocks dX2_sortOf_21 rfl rfl
set_option maxHeartbeats 4000000 in
set_option maxRecDepth 100000 in
theorem met_X2_figure (l : Launch) (G : gG) (ad : Nat → Nat) (M Z : Nat → Nat → Int32) (V : Nat → Nat → Int64) (tp : Nat → Nat) (t x0 n so p0 : Nat) (on w0 : Int32) (hT : TP tp t M) (hZ : ZC tp t x0 n so on w0 p0 Z V) (hx0 : x0 ≤ 2040) (hp0 : p0 ≤ t) (k lo hi : Nat) (hk : k < 2720) (hlo : lo < 1000) (hhi : hi < 1000) : Met l yX2_figure (ws_ yX2_figure cX2_figure 4 (some .int)) ({ frames := 3, cells := 0, slots := 0, locals := 64 } : Room) (cP G [.ref (ad 0), .int (nI k), .int (nI lo), .int (nI hi)] (mH G ad M Z V)) (cQ (some (.int (nI (fgO tp t p0 lo hi)))) (fun H => ∃ Z9 V9, ZC tp t x0 n so on w0 (if fgO tp t p0 lo hi = 0 then lxQ tp t p0 else p0) Z9 V9 ∧ mH G ad (pif (fgO tp t p0 lo hi = 0) (up2 M 2 k (nI (lxN tp t p0))) M) Z9 V9 H) (mA ad)) 0 0 (mA ad) := by
  refine c_start (by decide) (Nat.le_of_ble_eq_true rfl) ?_
  intro p e s m below meth c hx hb hr hlocks hml hown hts hB hK ls hl
  have hw := MS.of hB
  have hl : lv_has ls 4 [(0, .ref (ad 0)), (1, .int (nI k)), (2, .int (nI lo)), (3, .int (nI hi))] := hl
  have ht3 := hT.2.1
  have hN9 := lxN_lt tp t
  have hT9 := lxT_lt hT p0
  refine lv_aload_n hx hb dX2_figure_0 rfl (lv_at hl 0 rfl) ?_
  refine m_g_token hx hb hts hown hK hw dX2_figure_1 ?_
  rw [show Z 9 0 = nI (lxT tp t p0) from hZ.1.2.2.1]
  refine lv_iconst (v := nI 1) hx hb dX2_figure_4 (by decide) ?_
  refine n_icmp_eq (tgt := 10) hx hb dX2_figure_5 (by decide) (by omega) (by decide) (fun c_1 => ?_) (fun c_1 => ?_)
  · have e10_ := hZ.1.2.2.2.1 c_1
    have hN8 := hN9 p0
    refine lv_aload_n hx hb dX2_figure_10 rfl (lv_at hl 0 rfl) ?_
    refine m_g_number hx hb hts hown hK hw dX2_figure_11 ?_
    rw [show Z 10 0 = nI (lxN tp t p0) from e10_]
    refine lv_iload_n hx hb dX2_figure_14 rfl (lv_at hl 2 rfl) ?_
    refine lv_iload_n hx hb dX2_figure_15 rfl (lv_at hl 3 rfl) ?_
    refine c_read (va_runS (As := [.int (nI (lxN tp t p0)), .int (nI lo), .int (nI hi)]) (rest := []) ⟨hx, hb, hml, hown, hts⟩ (met_X2_isIn l G (nI (lxN tp t p0)) (nI lo) (nI hi)) (cs_X2_X2_isIn hts ⟨Nat.le_of_ble_eq_true rfl, Nat.le_of_ble_eq_true rfl⟩) (cP.pre hK trivial) rfl rfl hl.1 rfl (lv_room (Nat.le_of_ble_eq_true rfl)) dX2_figure_16 ⟨by first | exact Nat.zero_le _ | omega | decide, by first | exact Nat.zero_le _ | omega | decide⟩) ?_
    refine b_if_ne (tgt := 24) hx hb dX2_figure_19 (by decide) (fun c_2 => ?_) (fun c_2 => ?_)
    · refine lv_aload_n hx hb dX2_figure_24 rfl (lv_at hl 0 rfl) ?_
      refine m_g_texts hx hb hts hown hK hw dX2_figure_25 ?_
      refine lv_iload_n hx hb dX2_figure_28 rfl (lv_at hl 1 rfl) ?_
      refine lv_aload_n hx hb dX2_figure_29 rfl (lv_at hl 0 rfl) ?_
      refine m_g_number hx hb hts hown hK hw dX2_figure_30 ?_
      rw [show Z 10 0 = nI (lxN tp t p0) from e10_]
      refine m_s_texts (j := k) hx hb hK hw (by omega) dX2_figure_33 (fun H locs hw => ?_)
      refine lv_aload_n hx hb dX2_figure_34 rfl (lv_at hl 0 rfl) ?_
      refine c_call (va_runV (As := []) (rest := []) ⟨hx, hb, hml, hown, hts⟩ (met_X2_nextToken l G ad (up2 M 2 k (nI (lxN tp t p0))) Z V tp t (lxQ tp t p0) (⟨((up2_ne (Or.inl (by decide))).trans rfl).trans hT.1, hT.2.1, fun j9 h9 => ⟨((up2_ne (Or.inl (by decide))).trans rfl).trans (hT.2.2 j9 h9).1, (hT.2.2 j9 h9).2⟩⟩) hZ.1.1 (lxQ_le (by omega))) (cv_X2_X2_nextToken hts ⟨Nat.le_of_ble_eq_true rfl, Nat.le_of_ble_eq_true rfl⟩) (cP.preV hK hw.1 (hw.1.recv hK)) rfl rfl hl.1 rfl (lv_room (Nat.le_of_ble_eq_true rfl)) dX2_figure_35 ⟨by first | exact Nat.zero_le _ | omega | decide, by first | exact Nat.zero_le _ | omega | decide⟩) hw.2 (fun q _ h => h) (fun q h => h) (fun H locs hw _ _ hS => ?_)
      obtain ⟨Z1, V1, ⟨hlx1, hkz1⟩, hw⟩ := hw
      replace hw := MS.mk hw hS
      have hzb1 : ZC tp t x0 n so on w0 (lxQ tp t p0) Z1 V1 := ⟨hlx1, (congrFun (hkz1 12 (by decide) (by decide) (by decide) (by decide)) 0).trans hZ.2.1, (congrFun (hkz1 14 (by decide) (by decide) (by decide) (by decide)) 0).trans hZ.2.2.1, trivial, trivial, (congrFun (hkz1 18 (by decide) (by decide) (by decide) (by decide)) 0).trans hZ.2.2.2.2.2.1, (congrFun (hkz1 19 (by decide) (by decide) (by decide) (by decide)) 0).trans hZ.2.2.2.2.2.2.1, (congrFun (hkz1 20 (by decide) (by decide) (by decide) (by decide)) 0).trans hZ.2.2.2.2.2.2.2.1, (congrFun (hkz1 21 (by decide) (by decide) (by decide) (by decide)) 0).trans hZ.2.2.2.2.2.2.2.2⟩
      have hlq1 := lxQ_le (tp := tp) (t := t) (p0 := p0) (by omega)
      refine lv_iconst (v := nI 0) hx hb dX2_figure_38 (by decide) ?_
      have efg : fgO tp t p0 lo hi = 0 := (by unfold fgO; rw [if_pos c_1, if_pos (by rw [nI_leI (by omega) (by omega), nI_leI (by omega) (by omega)] at c_2; exact c_2)])
      exact c_iret (v := nI 0) (by rw [efg]) hx hb hr rfl hlocks ⟨_, _, (by rw [if_pos efg]; exact hzb1), mH.to (by rw [pif_t efg]) rfl rfl hw.1⟩ hw.2 dX2_figure_39
    refine lv_iconst (v := nI 2) hx hb dX2_figure_22 (by decide) ?_
    have efg : fgO tp t p0 lo hi = 2 := (by unfold fgO; rw [if_pos c_1, if_neg (by rw [nI_leI (by omega) (by omega), nI_leI (by omega) (by omega)] at c_2; exact c_2)])
    exact c_iret (v := nI 2) (by rw [efg]) hx hb hr rfl hlocks ⟨_, _, (by rw [if_neg (by omega)]; exact hZ), mH.to (by rw [pif_f (by omega)]) rfl rfl hw.1⟩ hw.2 dX2_figure_23
  refine lv_iconst (v := nI 1) hx hb dX2_figure_8 (by decide) ?_
  have efg : fgO tp t p0 lo hi = 1 := (if_neg c_1)
  exact c_iret (v := nI 1) (by rw [efg]) hx hb hr rfl hlocks ⟨_, _, (by rw [if_neg (by omega)]; exact hZ), mH.to (by rw [pif_f (by omega)]) rfl rfl hw.1⟩ hw.2 dX2_figure_9
noncomputable def blw (tp : Nat → Nat) (t k p : Nat) (M : Nat → Nat → Int32) : Nat × (Nat → Nat → Int32) × Nat :=
  if fgO tp t p 0 9 = 0 then
    (if lxT tp t (lxQ tp t p) = 2 ∧ lxW tp t (lxQ tp t p) = (25209) then
      (if fgO tp t (lxQ tp t (lxQ tp t p)) 0 5 = 0 then
        (if lxT tp t (lxQ tp t (lxQ tp t (lxQ tp t p))) = 2 ∧ lxW tp t (lxQ tp t (lxQ tp t (lxQ tp t p))) = w8 (w8 (w8 (lN 103) 105) 118) 101 then
          (if fgO tp t (lxQ tp t (lxQ tp t (lxQ tp t (lxQ tp t p)))) 1 9 = 0 then (0, up2 (up2 (up2 (up2 M 2 (k + 1) (nI (lxN tp t p))) 2 (k + 2) (nI (lxN tp t (lxQ tp t (lxQ tp t p))))) 2 (k + 2) (nI (lxN tp t (lxQ tp t (lxQ tp t (lxQ tp t (lxQ tp t p))))))) 2 (k + 2) (nI (lxN tp t (lxQ tp t (lxQ tp t (lxQ tp t (lxQ tp t p)))) + 10 * lxN tp t (lxQ tp t (lxQ tp t p)))), (lxQ tp t (lxQ tp t (lxQ tp t (lxQ tp t (lxQ tp t p))))))
          else (fgO tp t (lxQ tp t (lxQ tp t (lxQ tp t (lxQ tp t p)))) 1 9, up2 (up2 (up2 M 2 (k + 1) (nI (lxN tp t p))) 2 (k + 2) (nI (lxN tp t (lxQ tp t (lxQ tp t p))))) 2 (k + 2) (nI (lxN tp t (lxQ tp t (lxQ tp t p)) + 10 * lxN tp t (lxQ tp t (lxQ tp t p)))), (lxQ tp t (lxQ tp t (lxQ tp t (lxQ tp t p))))))
        else (1, up2 (up2 M 2 (k + 1) (nI (lxN tp t p))) 2 (k + 2) (nI (lxN tp t (lxQ tp t (lxQ tp t p)))), (lxQ tp t (lxQ tp t (lxQ tp t p)))))
      else (fgO tp t (lxQ tp t (lxQ tp t p)) 0 5, up2 M 2 (k + 1) (nI (lxN tp t p)), (lxQ tp t (lxQ tp t p))))
    else (1, up2 M 2 (k + 1) (nI (lxN tp t p)), (lxQ tp t p)))
  else (fgO tp t p 0 9, M, p)
set_option maxHeartbeats 4000000 in
set_option maxRecDepth 100000 in
theorem met_X2_blown (l : Launch) (G : gG) (ad : Nat → Nat) (M Z : Nat → Nat → Int32) (V : Nat → Nat → Int64) (tp : Nat → Nat) (t x0 n so p0 : Nat) (on w0 : Int32) (hT : TP tp t M) (hZ : ZC tp t x0 n so on w0 p0 Z V) (hx0 : x0 ≤ 2040) (hp0 : p0 ≤ t) (k : Nat) (hk : k + 2 < 2720) : Met l yX2_blown (ws_ yX2_blown cX2_blown 4 (some .int)) ({ frames := 4, cells := 0, slots := 0, locals := 87 } : Room) (cP G [.ref (ad 0), .int (nI k)] (mH G ad M Z V)) (cQ (some (.int (nI (blw tp t k p0 M).1))) (fun H => ∃ Z9 V9, ZC tp t x0 n so on w0 ((blw tp t k p0 M).2.2) Z9 V9 ∧ mH G ad ((blw tp t k p0 M).2.1) Z9 V9 H) (mA ad)) 0 0 (mA ad) := by
  refine c_start (by decide) (Nat.le_of_ble_eq_true rfl) ?_
  intro p e s m below meth c hx hb hr hlocks hml hown hts hB hK ls hl
  have hw := MS.of hB
  have hl : lv_has ls 4 [(0, .ref (ad 0)), (1, .int (nI k))] := hl
  have ht3 := hT.2.1
  have hN9 := lxN_lt tp t
  refine lv_aload_n hx hb dX2_blown_0 rfl (lv_at hl 0 rfl) ?_
  refine lv_iload_n hx hb dX2_blown_1 rfl (lv_at hl 1 rfl) ?_
  refine lv_iconst (v := nI 1) hx hb dX2_blown_2 (by decide) ?_
  refine n_iadd hx hb dX2_blown_3 ?_
  refine lv_iconst (v := nI 0) hx hb dX2_blown_4 (by decide) ?_
  refine lv_bipush (v := nI 9) hx hb dX2_blown_5 (by decide) ?_
  refine c_call (va_runV (As := [.int (nI (k + 1)), .int (nI 0), .int (nI 9)]) (rest := []) ⟨hx, hb, hml, hown, hts⟩ (met_X2_figure l G ad M Z V tp t x0 n so p0 on w0 hT ⟨hZ.1, hZ.2.1, hZ.2.2.1, trivial, trivial, hZ.2.2.2.2.2.1, hZ.2.2.2.2.2.2.1, hZ.2.2.2.2.2.2.2.1, hZ.2.2.2.2.2.2.2.2⟩ hx0 (by omega) (k + 1) 0 9 (by omega) (by omega) (by omega)) (cv_X2_X2_figure hts ⟨Nat.le_of_ble_eq_true rfl, Nat.le_of_ble_eq_true rfl⟩) (cP.preV hK hw.1 (hw.1.recv hK)) rfl rfl hl.1 rfl (lv_room (Nat.le_of_ble_eq_true rfl)) dX2_blown_7 ⟨by first | exact Nat.zero_le _ | omega | decide, by first | exact Nat.zero_le _ | omega | decide⟩) hw.2 (fun q _ h => h) (fun q h => h) (fun H locs hw _ _ hS => ?_)
  obtain ⟨Z1, V1, hzb1, hw⟩ := hw
  replace hw := MS.mk hw hS
  rcases fgO_c tp t p0 0 9 with hf1 | hf1 | hf1
  · rw [pif_t hf1.1] at hw
    rw [if_pos hf1.1] at hzb1
    rw [hf1.1]
    have hlq1 := lxQ_le (tp := tp) (t := t) (p0 := p0) (by omega)
    refine lv_istore_n (lv' := [(2, .int (nI 0)), (0, .ref (ad 0)), (1, .int (nI k))]) hx hb dX2_blown_10 rfl hl (by decide) rfl (fun ls hl => ?_)
    refine lv_iload_n hx hb dX2_blown_11 rfl (lv_at hl 0 rfl) ?_
    refine n_if_eq (tgt := 17) hx hb dX2_blown_12 (by decide) (by decide) (fun _ => ?_) (fun h9 => absurd h9 (by decide))
    have hT8 := lxT_lt hT (lxQ tp t p0)
    refine lv_aload_n hx hb dX2_blown_17 rfl (lv_at hl 1 rfl) ?_
    refine m_g_token hx hb hts hown hK hw dX2_blown_18 ?_
    rw [show Z1 9 0 = nI (lxT tp t (lxQ tp t p0)) from hzb1.1.2.2.1]
    refine lv_iconst (v := nI 2) hx hb dX2_blown_21 (by decide) ?_
    refine n_icmp_ne (tgt := 36) hx hb dX2_blown_22 (by decide) (by omega) (by decide) (fun c_1 => ?_) (fun c_1 => ?_)
    · refine lv_iconst (v := nI 1) hx hb dX2_blown_36 (by decide) ?_
      have ebl : blw tp t k p0 M = (1, (up2 M 2 (k + 1) (nI (lxN tp t p0))), lxQ tp t p0) := by
        unfold blw
        rw [if_pos hf1.1, if_neg (fun h9 => by first | exact absurd h9.1 c_1 | exact absurd h9.2 c_1)]
      exact c_iret (v := nI 1) (by rw [ebl]) hx hb hr rfl hlocks ⟨_, _, (by rw [ebl]; exact hzb1), mH.to (by rw [ebl]) rfl rfl hw.1⟩ hw.2 dX2_blown_37
    have e11_ := hzb1.1.2.2.2.2 c_1
    refine lv_aload_n hx hb dX2_blown_25 rfl (lv_at hl 1 rfl) ?_
    refine m_g_word hx hb hts hown hK hw dX2_blown_26 ?_
    rw [show V1 11 0 = lxW tp t (lxQ tp t p0) from e11_]
    refine lv_ldc2 (v := (25209)) hx hb hown (hts _ q1401) dX2_blown_29 ?_
    refine l_cmp_eq (tgt := 38) hx hb dX2_blown_32 dX2_blown_33 (by decide) (fun c_2 => ?_) (fun c_2 => ?_)
    · have hby := And.intro c_1 c_2
      refine lv_aload_n hx hb dX2_blown_38 rfl (lv_at hl 1 rfl) ?_
      refine c_call (va_runV (As := []) (rest := []) ⟨hx, hb, hml, hown, hts⟩ (met_X2_nextToken l G ad (up2 M 2 (k + 1) (nI (lxN tp t p0))) Z1 V1 tp t (lxQ tp t (lxQ tp t p0)) (⟨((up2_ne (Or.inl (by decide))).trans rfl).trans hT.1, hT.2.1, fun j9 h9 => ⟨((up2_ne (Or.inl (by decide))).trans rfl).trans (hT.2.2 j9 h9).1, (hT.2.2 j9 h9).2⟩⟩) hzb1.1.1 (lxQ_le (by omega))) (cv_X2_X2_nextToken hts ⟨Nat.le_of_ble_eq_true rfl, Nat.le_of_ble_eq_true rfl⟩) (cP.preV hK hw.1 (hw.1.recv hK)) rfl rfl hl.1 rfl (lv_room (Nat.le_of_ble_eq_true rfl)) dX2_blown_39 ⟨by first | exact Nat.zero_le _ | omega | decide, by first | exact Nat.zero_le _ | omega | decide⟩) hw.2 (fun q _ h => h) (fun q h => h) (fun H locs hw _ _ hS => ?_)
      obtain ⟨Z2, V2, ⟨hlx2, hkz2⟩, hw⟩ := hw
      replace hw := MS.mk hw hS
      have hzb2 : ZC tp t x0 n so on w0 (lxQ tp t (lxQ tp t p0)) Z2 V2 := ⟨hlx2, (congrFun (hkz2 12 (by decide) (by decide) (by decide) (by decide)) 0).trans hzb1.2.1, (congrFun (hkz2 14 (by decide) (by decide) (by decide) (by decide)) 0).trans hzb1.2.2.1, trivial, trivial, (congrFun (hkz2 18 (by decide) (by decide) (by decide) (by decide)) 0).trans hzb1.2.2.2.2.2.1, (congrFun (hkz2 19 (by decide) (by decide) (by decide) (by decide)) 0).trans hzb1.2.2.2.2.2.2.1, (congrFun (hkz2 20 (by decide) (by decide) (by decide) (by decide)) 0).trans hzb1.2.2.2.2.2.2.2.1, (congrFun (hkz2 21 (by decide) (by decide) (by decide) (by decide)) 0).trans hzb1.2.2.2.2.2.2.2.2⟩
      have hlq2 := lxQ_le (tp := tp) (t := t) (p0 := lxQ tp t p0) (by omega)
      refine lv_aload_n hx hb dX2_blown_42 rfl (lv_at hl 1 rfl) ?_
      refine lv_iload_n hx hb dX2_blown_43 rfl (lv_at hl 2 rfl) ?_
      refine lv_iconst (v := nI 2) hx hb dX2_blown_44 (by decide) ?_
      refine n_iadd hx hb dX2_blown_45 ?_
      refine lv_iconst (v := nI 0) hx hb dX2_blown_46 (by decide) ?_
      refine lv_iconst (v := nI 5) hx hb dX2_blown_47 (by decide) ?_
      refine c_call (va_runV (As := [.int (nI (k + 2)), .int (nI 0), .int (nI 5)]) (rest := []) ⟨hx, hb, hml, hown, hts⟩ (met_X2_figure l G ad (up2 M 2 (k + 1) (nI (lxN tp t p0))) Z2 V2 tp t x0 n so (lxQ tp t (lxQ tp t p0)) on w0 (⟨((up2_ne (Or.inl (by decide))).trans rfl).trans hT.1, hT.2.1, fun j9 h9 => ⟨((up2_ne (Or.inl (by decide))).trans rfl).trans (hT.2.2 j9 h9).1, (hT.2.2 j9 h9).2⟩⟩) ⟨hzb2.1, hzb2.2.1, hzb2.2.2.1, trivial, trivial, hzb2.2.2.2.2.2.1, hzb2.2.2.2.2.2.2.1, hzb2.2.2.2.2.2.2.2.1, hzb2.2.2.2.2.2.2.2.2⟩ hx0 (by omega) (k + 2) 0 5 (by omega) (by omega) (by omega)) (cv_X2_X2_figure hts ⟨Nat.le_of_ble_eq_true rfl, Nat.le_of_ble_eq_true rfl⟩) (cP.preV hK hw.1 (hw.1.recv hK)) rfl rfl hl.1 rfl (lv_room (Nat.le_of_ble_eq_true rfl)) dX2_blown_48 ⟨by first | exact Nat.zero_le _ | omega | decide, by first | exact Nat.zero_le _ | omega | decide⟩) hw.2 (fun q _ h => h) (fun q h => h) (fun H locs hw _ _ hS => ?_)
      obtain ⟨Z3, V3, hzb3, hw⟩ := hw
      replace hw := MS.mk hw hS
      rcases fgO_c tp t (lxQ tp t (lxQ tp t p0)) 0 5 with hf3 | hf3 | hf3
      · rw [pif_t hf3.1] at hw
        rw [if_pos hf3.1] at hzb3
        rw [hf3.1]
        have hlq3 := lxQ_le (tp := tp) (t := t) (p0 := lxQ tp t (lxQ tp t p0)) (by omega)
        refine lv_istore_n (lv' := [(2, .int (nI 0)), (0, .ref (ad 0)), (1, .int (nI k))]) hx hb dX2_blown_51 rfl hl (by decide) rfl (fun ls hl => ?_)
        refine lv_iload_n hx hb dX2_blown_52 rfl (lv_at hl 0 rfl) ?_
        refine n_if_eq (tgt := 58) hx hb dX2_blown_53 (by decide) (by decide) (fun _ => ?_) (fun h9 => absurd h9 (by decide))
        refine lv_aload_n hx hb dX2_blown_58 rfl (lv_at hl 1 rfl) ?_
        refine lv_bipush (v := nI 103) hx hb dX2_blown_59 (by decide) ?_
        refine lv_bipush (v := nI 105) hx hb dX2_blown_61 (by decide) ?_
        refine lv_bipush (v := nI 118) hx hb dX2_blown_63 (by decide) ?_
        refine lv_bipush (v := nI 101) hx hb dX2_blown_65 (by decide) ?_
        refine c_read (va_runS (As := [.int (nI 103), .int (nI 105), .int (nI 118), .int (nI 101)]) (rest := [.ref (ad 0)]) ⟨hx, hb, hml, hown, hts⟩ (met_X2_w4 l G 103 105 118 101 (by decide) (by decide) (by decide) (by decide)) (cs_X2_X2_w4 hts ⟨Nat.le_of_ble_eq_true rfl, Nat.le_of_ble_eq_true rfl⟩) (cP.pre hK trivial) rfl rfl hl.1 rfl (lv_room (Nat.le_of_ble_eq_true rfl)) dX2_blown_67 ⟨by first | exact Nat.zero_le _ | omega | decide, by first | exact Nat.zero_le _ | omega | decide⟩) ?_
        refine c_read (va_runV (As := [.long (w8 (w8 (w8 (lN 103) 105) 118) 101)]) (rest := []) ⟨hx, hb, hml, hown, hts⟩ (met_X2_isWord l G ad (up2 (up2 M 2 (k + 1) (nI (lxN tp t p0))) 2 (k + 2) (nI (lxN tp t (lxQ tp t (lxQ tp t p0))))) Z3 V3 tp t (lxQ tp t (lxQ tp t (lxQ tp t p0))) (⟨((up2_ne (Or.inl (by decide))).trans ((up2_ne (Or.inl (by decide))).trans rfl)).trans hT.1, hT.2.1, fun j9 h9 => ⟨((up2_ne (Or.inl (by decide))).trans ((up2_ne (Or.inl (by decide))).trans rfl)).trans (hT.2.2 j9 h9).1, (hT.2.2 j9 h9).2⟩⟩) hzb3.1 (w8 (w8 (w8 (lN 103) 105) 118) 101)) (cv_X2_X2_isWord hts ⟨Nat.le_of_ble_eq_true rfl, Nat.le_of_ble_eq_true rfl⟩) (cP.preV hK hw.1 (hw.1.recv hK)) rfl rfl hl.1 rfl (lv_room (Nat.le_of_ble_eq_true rfl)) dX2_blown_70 ⟨by first | exact Nat.zero_le _ | omega | decide, by first | exact Nat.zero_le _ | omega | decide⟩) ?_
        refine b_if_ne (tgt := 78) hx hb dX2_blown_73 (by decide) (fun c_3 => ?_) (fun c_3 => ?_)
        · refine lv_aload_n hx hb dX2_blown_78 rfl (lv_at hl 1 rfl) ?_
          refine c_call (va_runV (As := []) (rest := []) ⟨hx, hb, hml, hown, hts⟩ (met_X2_nextToken l G ad (up2 (up2 M 2 (k + 1) (nI (lxN tp t p0))) 2 (k + 2) (nI (lxN tp t (lxQ tp t (lxQ tp t p0))))) Z3 V3 tp t (lxQ tp t (lxQ tp t (lxQ tp t (lxQ tp t p0)))) (⟨((up2_ne (Or.inl (by decide))).trans ((up2_ne (Or.inl (by decide))).trans rfl)).trans hT.1, hT.2.1, fun j9 h9 => ⟨((up2_ne (Or.inl (by decide))).trans ((up2_ne (Or.inl (by decide))).trans rfl)).trans (hT.2.2 j9 h9).1, (hT.2.2 j9 h9).2⟩⟩) hzb3.1.1 (lxQ_le (by omega))) (cv_X2_X2_nextToken hts ⟨Nat.le_of_ble_eq_true rfl, Nat.le_of_ble_eq_true rfl⟩) (cP.preV hK hw.1 (hw.1.recv hK)) rfl rfl hl.1 rfl (lv_room (Nat.le_of_ble_eq_true rfl)) dX2_blown_79 ⟨by first | exact Nat.zero_le _ | omega | decide, by first | exact Nat.zero_le _ | omega | decide⟩) hw.2 (fun q _ h => h) (fun q h => h) (fun H locs hw _ _ hS => ?_)
          obtain ⟨Z4, V4, ⟨hlx4, hkz4⟩, hw⟩ := hw
          replace hw := MS.mk hw hS
          have hzb4 : ZC tp t x0 n so on w0 (lxQ tp t (lxQ tp t (lxQ tp t (lxQ tp t p0)))) Z4 V4 := ⟨hlx4, (congrFun (hkz4 12 (by decide) (by decide) (by decide) (by decide)) 0).trans hzb3.2.1, (congrFun (hkz4 14 (by decide) (by decide) (by decide) (by decide)) 0).trans hzb3.2.2.1, trivial, trivial, (congrFun (hkz4 18 (by decide) (by decide) (by decide) (by decide)) 0).trans hzb3.2.2.2.2.2.1, (congrFun (hkz4 19 (by decide) (by decide) (by decide) (by decide)) 0).trans hzb3.2.2.2.2.2.2.1, (congrFun (hkz4 20 (by decide) (by decide) (by decide) (by decide)) 0).trans hzb3.2.2.2.2.2.2.2.1, (congrFun (hkz4 21 (by decide) (by decide) (by decide) (by decide)) 0).trans hzb3.2.2.2.2.2.2.2.2⟩
          have hlq4 := lxQ_le (tp := tp) (t := t) (p0 := lxQ tp t (lxQ tp t (lxQ tp t p0))) (by omega)
          refine lv_aload_n hx hb dX2_blown_82 rfl (lv_at hl 1 rfl) ?_
          refine m_g_texts hx hb hts hown hK hw dX2_blown_83 ?_
          refine lv_iload_n hx hb dX2_blown_86 rfl (lv_at hl 2 rfl) ?_
          refine lv_iconst (v := nI 2) hx hb dX2_blown_87 (by decide) ?_
          refine n_iadd hx hb dX2_blown_88 ?_
          refine m_l_texts (j := k + 2) (v := nI (lxN tp t (lxQ tp t (lxQ tp t p0)))) hx hb hK hw up2_at (by omega) dX2_blown_89 ?_
          refine lv_istore_n (lv' := [(3, .int (nI (lxN tp t (lxQ tp t (lxQ tp t p0))))), (2, .int (nI 0)), (0, .ref (ad 0)), (1, .int (nI k))]) hx hb dX2_blown_90 rfl hl (by decide) rfl (fun ls hl => ?_)
          refine lv_aload_n hx hb dX2_blown_91 rfl (lv_at hl 2 rfl) ?_
          refine lv_iload_n hx hb dX2_blown_92 rfl (lv_at hl 3 rfl) ?_
          refine lv_iconst (v := nI 2) hx hb dX2_blown_93 (by decide) ?_
          refine n_iadd hx hb dX2_blown_94 ?_
          refine lv_iconst (v := nI 1) hx hb dX2_blown_95 (by decide) ?_
          refine lv_bipush (v := nI 9) hx hb dX2_blown_96 (by decide) ?_
          refine c_call (va_runV (As := [.int (nI (k + 2)), .int (nI 1), .int (nI 9)]) (rest := []) ⟨hx, hb, hml, hown, hts⟩ (met_X2_figure l G ad (up2 (up2 M 2 (k + 1) (nI (lxN tp t p0))) 2 (k + 2) (nI (lxN tp t (lxQ tp t (lxQ tp t p0))))) Z4 V4 tp t x0 n so (lxQ tp t (lxQ tp t (lxQ tp t (lxQ tp t p0)))) on w0 (⟨((up2_ne (Or.inl (by decide))).trans ((up2_ne (Or.inl (by decide))).trans rfl)).trans hT.1, hT.2.1, fun j9 h9 => ⟨((up2_ne (Or.inl (by decide))).trans ((up2_ne (Or.inl (by decide))).trans rfl)).trans (hT.2.2 j9 h9).1, (hT.2.2 j9 h9).2⟩⟩) ⟨hzb4.1, hzb4.2.1, hzb4.2.2.1, trivial, trivial, hzb4.2.2.2.2.2.1, hzb4.2.2.2.2.2.2.1, hzb4.2.2.2.2.2.2.2.1, hzb4.2.2.2.2.2.2.2.2⟩ hx0 (by omega) (k + 2) 1 9 (by omega) (by omega) (by omega)) (cv_X2_X2_figure hts ⟨Nat.le_of_ble_eq_true rfl, Nat.le_of_ble_eq_true rfl⟩) (cP.preV hK hw.1 (hw.1.recv hK)) rfl rfl hl.1 rfl (lv_room (Nat.le_of_ble_eq_true rfl)) dX2_blown_98 ⟨by first | exact Nat.zero_le _ | omega | decide, by first | exact Nat.zero_le _ | omega | decide⟩) hw.2 (fun q _ h => h) (fun q h => h) (fun H locs hw _ _ hS => ?_)
          obtain ⟨Z5, V5, hzb5, hw⟩ := hw
          replace hw := MS.mk hw hS
          rcases fgO_c tp t (lxQ tp t (lxQ tp t (lxQ tp t (lxQ tp t p0)))) 1 9 with hf5 | hf5 | hf5
          · rw [pif_t hf5.1] at hw
            rw [if_pos hf5.1] at hzb5
            rw [hf5.1]
            have hlq5 := lxQ_le (tp := tp) (t := t) (p0 := lxQ tp t (lxQ tp t (lxQ tp t (lxQ tp t p0)))) (by omega)
            refine lv_istore_n (lv' := [(2, .int (nI 0)), (3, .int (nI (lxN tp t (lxQ tp t (lxQ tp t p0))))), (0, .ref (ad 0)), (1, .int (nI k))]) hx hb dX2_blown_101 rfl hl (by decide) rfl (fun ls hl => ?_)
            refine lv_aload_n hx hb dX2_blown_102 rfl (lv_at hl 2 rfl) ?_
            refine m_g_texts hx hb hts hown hK hw dX2_blown_103 ?_
            refine lv_iload_n hx hb dX2_blown_106 rfl (lv_at hl 3 rfl) ?_
            refine lv_iconst (v := nI 2) hx hb dX2_blown_107 (by decide) ?_
            refine n_iadd hx hb dX2_blown_108 ?_
            refine lv_dup2_11 hx hb dX2_blown_109 rfl rfl ?_
            refine m_l_texts (j := k + 2) (v := nI (lxN tp t (lxQ tp t (lxQ tp t (lxQ tp t (lxQ tp t p0)))))) hx hb hK hw up2_at (by omega) dX2_blown_110 ?_
            refine lv_bipush (v := nI 10) hx hb dX2_blown_111 (by decide) ?_
            refine lv_iload_n hx hb dX2_blown_113 rfl (lv_at hl 1 rfl) ?_
            refine n_imul hx hb dX2_blown_114 ?_
            refine n_iadd hx hb dX2_blown_115 ?_
            refine m_s_texts (j := k + 2) hx hb hK hw (by omega) dX2_blown_116 (fun H locs hw => ?_)
            refine lv_iload_n hx hb dX2_blown_117 rfl (lv_at hl 0 rfl) ?_
            have ebl : blw tp t k p0 M = (0, (up2 (up2 (up2 (up2 M 2 (k + 1) (nI (lxN tp t p0))) 2 (k + 2) (nI (lxN tp t (lxQ tp t (lxQ tp t p0))))) 2 (k + 2) (nI (lxN tp t (lxQ tp t (lxQ tp t (lxQ tp t (lxQ tp t p0))))))) 2 (k + 2) (nI (lxN tp t (lxQ tp t (lxQ tp t (lxQ tp t (lxQ tp t p0)))) + 10 * (lxN tp t (lxQ tp t (lxQ tp t p0)))))), lxQ tp t (lxQ tp t (lxQ tp t (lxQ tp t (lxQ tp t p0))))) := by
              unfold blw
              rw [if_pos hf1.1, if_pos hby, if_pos hf3.1, if_pos c_3, if_pos hf5.1]
            exact c_iret (v := nI 0) (by rw [ebl]) hx hb hr rfl hlocks ⟨_, _, (by rw [ebl]; exact hzb5), mH.to (by rw [ebl]) rfl rfl hw.1⟩ hw.2 dX2_blown_118
          · rw [pif_f (by omega)] at hw
            rw [if_neg (by omega)] at hzb5
            rw [hf5]
            refine lv_istore_n (lv' := [(2, .int (nI 1)), (3, .int (nI (lxN tp t (lxQ tp t (lxQ tp t p0))))), (0, .ref (ad 0)), (1, .int (nI k))]) hx hb dX2_blown_101 rfl hl (by decide) rfl (fun ls hl => ?_)
            refine lv_aload_n hx hb dX2_blown_102 rfl (lv_at hl 2 rfl) ?_
            refine m_g_texts hx hb hts hown hK hw dX2_blown_103 ?_
            refine lv_iload_n hx hb dX2_blown_106 rfl (lv_at hl 3 rfl) ?_
            refine lv_iconst (v := nI 2) hx hb dX2_blown_107 (by decide) ?_
            refine n_iadd hx hb dX2_blown_108 ?_
            refine lv_dup2_11 hx hb dX2_blown_109 rfl rfl ?_
            refine m_l_texts (j := k + 2) (v := nI (lxN tp t (lxQ tp t (lxQ tp t p0)))) hx hb hK hw up2_at (by omega) dX2_blown_110 ?_
            refine lv_bipush (v := nI 10) hx hb dX2_blown_111 (by decide) ?_
            refine lv_iload_n hx hb dX2_blown_113 rfl (lv_at hl 1 rfl) ?_
            refine n_imul hx hb dX2_blown_114 ?_
            refine n_iadd hx hb dX2_blown_115 ?_
            refine m_s_texts (j := k + 2) hx hb hK hw (by omega) dX2_blown_116 (fun H locs hw => ?_)
            refine lv_iload_n hx hb dX2_blown_117 rfl (lv_at hl 0 rfl) ?_
            have ebl : blw tp t k p0 M = (1, (up2 (up2 (up2 M 2 (k + 1) (nI (lxN tp t p0))) 2 (k + 2) (nI (lxN tp t (lxQ tp t (lxQ tp t p0))))) 2 (k + 2) (nI (lxN tp t (lxQ tp t (lxQ tp t p0)) + 10 * (lxN tp t (lxQ tp t (lxQ tp t p0)))))), lxQ tp t (lxQ tp t (lxQ tp t (lxQ tp t p0)))) := by
              unfold blw
              rw [if_pos hf1.1, if_pos hby, if_pos hf3.1, if_pos c_3, if_neg (by omega), hf5]
            exact c_iret (v := nI 1) (by rw [ebl]) hx hb hr rfl hlocks ⟨_, _, (by rw [ebl]; exact hzb5), mH.to (by rw [ebl]) rfl rfl hw.1⟩ hw.2 dX2_blown_118
          rw [pif_f (by omega)] at hw
          rw [if_neg (by omega)] at hzb5
          rw [hf5]
          refine lv_istore_n (lv' := [(2, .int (nI 2)), (3, .int (nI (lxN tp t (lxQ tp t (lxQ tp t p0))))), (0, .ref (ad 0)), (1, .int (nI k))]) hx hb dX2_blown_101 rfl hl (by decide) rfl (fun ls hl => ?_)
          refine lv_aload_n hx hb dX2_blown_102 rfl (lv_at hl 2 rfl) ?_
          refine m_g_texts hx hb hts hown hK hw dX2_blown_103 ?_
          refine lv_iload_n hx hb dX2_blown_106 rfl (lv_at hl 3 rfl) ?_
          refine lv_iconst (v := nI 2) hx hb dX2_blown_107 (by decide) ?_
          refine n_iadd hx hb dX2_blown_108 ?_
          refine lv_dup2_11 hx hb dX2_blown_109 rfl rfl ?_
          refine m_l_texts (j := k + 2) (v := nI (lxN tp t (lxQ tp t (lxQ tp t p0)))) hx hb hK hw up2_at (by omega) dX2_blown_110 ?_
          refine lv_bipush (v := nI 10) hx hb dX2_blown_111 (by decide) ?_
          refine lv_iload_n hx hb dX2_blown_113 rfl (lv_at hl 1 rfl) ?_
          refine n_imul hx hb dX2_blown_114 ?_
          refine n_iadd hx hb dX2_blown_115 ?_
          refine m_s_texts (j := k + 2) hx hb hK hw (by omega) dX2_blown_116 (fun H locs hw => ?_)
          refine lv_iload_n hx hb dX2_blown_117 rfl (lv_at hl 0 rfl) ?_
          have ebl : blw tp t k p0 M = (2, (up2 (up2 (up2 M 2 (k + 1) (nI (lxN tp t p0))) 2 (k + 2) (nI (lxN tp t (lxQ tp t (lxQ tp t p0))))) 2 (k + 2) (nI (lxN tp t (lxQ tp t (lxQ tp t p0)) + 10 * (lxN tp t (lxQ tp t (lxQ tp t p0)))))), lxQ tp t (lxQ tp t (lxQ tp t (lxQ tp t p0)))) := by
            unfold blw
            rw [if_pos hf1.1, if_pos hby, if_pos hf3.1, if_pos c_3, if_neg (by omega), hf5]
          exact c_iret (v := nI 2) (by rw [ebl]) hx hb hr rfl hlocks ⟨_, _, (by rw [ebl]; exact hzb5), mH.to (by rw [ebl]) rfl rfl hw.1⟩ hw.2 dX2_blown_118
        refine lv_iconst (v := nI 1) hx hb dX2_blown_76 (by decide) ?_
        have ebl : blw tp t k p0 M = (1, (up2 (up2 M 2 (k + 1) (nI (lxN tp t p0))) 2 (k + 2) (nI (lxN tp t (lxQ tp t (lxQ tp t p0))))), lxQ tp t (lxQ tp t (lxQ tp t p0))) := by
          unfold blw
          rw [if_pos hf1.1, if_pos hby, if_pos hf3.1, if_neg c_3]
        exact c_iret (v := nI 1) (by rw [ebl]) hx hb hr rfl hlocks ⟨_, _, (by rw [ebl]; exact hzb3), mH.to (by rw [ebl]) rfl rfl hw.1⟩ hw.2 dX2_blown_77
      · rw [pif_f (by omega)] at hw
        rw [if_neg (by omega)] at hzb3
        rw [hf3]
        refine lv_istore_n (lv' := [(2, .int (nI 1)), (0, .ref (ad 0)), (1, .int (nI k))]) hx hb dX2_blown_51 rfl hl (by decide) rfl (fun ls hl => ?_)
        refine lv_iload_n hx hb dX2_blown_52 rfl (lv_at hl 0 rfl) ?_
        refine n_if_eq (tgt := 58) hx hb dX2_blown_53 (by decide) (by decide) (fun h9 => absurd h9 (by decide)) (fun _ => ?_)
        refine lv_iload_n hx hb dX2_blown_56 rfl (lv_at hl 0 rfl) ?_
        have ebl : blw tp t k p0 M = (1, (up2 M 2 (k + 1) (nI (lxN tp t p0))), lxQ tp t (lxQ tp t p0)) := by
          unfold blw
          rw [if_pos hf1.1, if_pos hby, if_neg (by omega), hf3]
        exact c_iret (v := nI 1) (by rw [ebl]) hx hb hr rfl hlocks ⟨_, _, (by rw [ebl]; exact hzb3), mH.to (by rw [ebl]) rfl rfl hw.1⟩ hw.2 dX2_blown_57
      rw [pif_f (by omega)] at hw
      rw [if_neg (by omega)] at hzb3
      rw [hf3]
      refine lv_istore_n (lv' := [(2, .int (nI 2)), (0, .ref (ad 0)), (1, .int (nI k))]) hx hb dX2_blown_51 rfl hl (by decide) rfl (fun ls hl => ?_)
      refine lv_iload_n hx hb dX2_blown_52 rfl (lv_at hl 0 rfl) ?_
      refine n_if_eq (tgt := 58) hx hb dX2_blown_53 (by decide) (by decide) (fun h9 => absurd h9 (by decide)) (fun _ => ?_)
      refine lv_iload_n hx hb dX2_blown_56 rfl (lv_at hl 0 rfl) ?_
      have ebl : blw tp t k p0 M = (2, (up2 M 2 (k + 1) (nI (lxN tp t p0))), lxQ tp t (lxQ tp t p0)) := by
        unfold blw
        rw [if_pos hf1.1, if_pos hby, if_neg (by omega), hf3]
      exact c_iret (v := nI 2) (by rw [ebl]) hx hb hr rfl hlocks ⟨_, _, (by rw [ebl]; exact hzb3), mH.to (by rw [ebl]) rfl rfl hw.1⟩ hw.2 dX2_blown_57
    refine lv_iconst (v := nI 1) hx hb dX2_blown_36 (by decide) ?_
    have ebl : blw tp t k p0 M = (1, (up2 M 2 (k + 1) (nI (lxN tp t p0))), lxQ tp t p0) := by
      unfold blw
      rw [if_pos hf1.1, if_neg (fun h9 => by first | exact absurd h9.1 c_2 | exact absurd h9.2 c_2)]
    exact c_iret (v := nI 1) (by rw [ebl]) hx hb hr rfl hlocks ⟨_, _, (by rw [ebl]; exact hzb1), mH.to (by rw [ebl]) rfl rfl hw.1⟩ hw.2 dX2_blown_37
  · rw [pif_f (by omega)] at hw
    rw [if_neg (by omega)] at hzb1
    rw [hf1]
    refine lv_istore_n (lv' := [(2, .int (nI 1)), (0, .ref (ad 0)), (1, .int (nI k))]) hx hb dX2_blown_10 rfl hl (by decide) rfl (fun ls hl => ?_)
    refine lv_iload_n hx hb dX2_blown_11 rfl (lv_at hl 0 rfl) ?_
    refine n_if_eq (tgt := 17) hx hb dX2_blown_12 (by decide) (by decide) (fun h9 => absurd h9 (by decide)) (fun _ => ?_)
    refine lv_iload_n hx hb dX2_blown_15 rfl (lv_at hl 0 rfl) ?_
    have ebl : blw tp t k p0 M = (1, M, p0) := by
      unfold blw
      rw [if_neg (by omega), hf1]
    exact c_iret (v := nI 1) (by rw [ebl]) hx hb hr rfl hlocks ⟨_, _, (by rw [ebl]; exact hzb1), mH.to (by rw [ebl]) rfl rfl hw.1⟩ hw.2 dX2_blown_16
  rw [pif_f (by omega)] at hw
  rw [if_neg (by omega)] at hzb1
  rw [hf1]
  refine lv_istore_n (lv' := [(2, .int (nI 2)), (0, .ref (ad 0)), (1, .int (nI k))]) hx hb dX2_blown_10 rfl hl (by decide) rfl (fun ls hl => ?_)
  refine lv_iload_n hx hb dX2_blown_11 rfl (lv_at hl 0 rfl) ?_
  refine n_if_eq (tgt := 17) hx hb dX2_blown_12 (by decide) (by decide) (fun h9 => absurd h9 (by decide)) (fun _ => ?_)
  refine lv_iload_n hx hb dX2_blown_15 rfl (lv_at hl 0 rfl) ?_
  have ebl : blw tp t k p0 M = (2, M, p0) := by
    unfold blw
    rw [if_neg (by omega), hf1]
  exact c_iret (v := nI 2) (by rw [ebl]) hx hb hr rfl hlocks ⟨_, _, (by rw [ebl]; exact hzb1), mH.to (by rw [ebl]) rfl rfl hw.1⟩ hw.2 dX2_blown_16
noncomputable def lin (tp : Nat → Nat) (t s k p : Nat) (M : Nat → Nat → Int32) : Nat × (Nat → Nat → Int32) × Nat :=
  if s = 4 then (fgO tp t p 0 5, pif (fgO tp t p 0 5 = 0) (up2 M 2 (k + 1) (nI (lxN tp t p))) M, if fgO tp t p 0 5 = 0 then lxQ tp t p else p)
  else if s = 6 then (fgO tp t p 1 99, pif (fgO tp t p 1 99 = 0) (up2 M 2 (k + 1) (nI (lxN tp t p))) M, if fgO tp t p 1 99 = 0 then lxQ tp t p else p)
  else blw tp t k p M
set_option maxHeartbeats 4000000 in
set_option maxRecDepth 100000 in
theorem met_X2_line (l : Launch) (G : gG) (ad : Nat → Nat) (M Z : Nat → Nat → Int32) (V : Nat → Nat → Int64) (tp : Nat → Nat) (t x0 n so p0 : Nat) (on w0 : Int32) (hT : TP tp t M) (hZ : ZC tp t x0 n so on w0 p0 Z V) (hx0 : x0 ≤ 2040) (hp0 : p0 ≤ t) (sr k : Nat) (hk : k + 2 < 2720) (hsr : sr < 7) : Met l yX2_line (ws_ yX2_line cX2_line 3 (some .int)) ({ frames := 5, cells := 0, slots := 0, locals := 110 } : Room) (cP G [.ref (ad 0), .int (nI sr), .int (nI k)] (mH G ad M Z V)) (cQ (some (.int (nI (lin tp t sr k p0 M).1))) (fun H => ∃ Z9 V9, ZC tp t x0 n so on w0 ((lin tp t sr k p0 M).2.2) Z9 V9 ∧ mH G ad ((lin tp t sr k p0 M).2.1) Z9 V9 H) (mA ad)) 0 0 (mA ad) := by
  refine c_start (by decide) (Nat.le_of_ble_eq_true rfl) ?_
  intro p e s m below meth c hx hb hr hlocks hml hown hts hB hK ls hl
  have hw := MS.of hB
  have hl : lv_has ls 3 [(0, .ref (ad 0)), (1, .int (nI sr)), (2, .int (nI k))] := hl
  have ht3 := hT.2.1
  have hN9 := lxN_lt tp t
  refine lv_iload_n hx hb dX2_line_0 rfl (lv_at hl 1 rfl) ?_
  refine lv_iconst (v := nI 4) hx hb dX2_line_1 (by decide) ?_
  refine n_icmp_ne (tgt := 17) hx hb dX2_line_2 (by decide) (by omega) (by decide) (fun c_1 => ?_) (fun c_1 => ?_)
  · refine lv_iload_n hx hb dX2_line_17 rfl (lv_at hl 1 rfl) ?_
    refine lv_bipush (v := nI 6) hx hb dX2_line_18 (by decide) ?_
    refine n_icmp_ne (tgt := 36) hx hb dX2_line_20 (by decide) (by omega) (by decide) (fun c_2 => ?_) (fun c_2 => ?_)
    · refine lv_aload_n hx hb dX2_line_36 rfl (lv_at hl 0 rfl) ?_
      refine lv_iload_n hx hb dX2_line_37 rfl (lv_at hl 2 rfl) ?_
      refine c_call (va_runV (As := [.int (nI k)]) (rest := []) ⟨hx, hb, hml, hown, hts⟩ (met_X2_blown l G ad M Z V tp t x0 n so p0 on w0 hT ⟨hZ.1, hZ.2.1, hZ.2.2.1, trivial, trivial, hZ.2.2.2.2.2.1, hZ.2.2.2.2.2.2.1, hZ.2.2.2.2.2.2.2.1, hZ.2.2.2.2.2.2.2.2⟩ hx0 (by omega) k (by omega)) (cv_X2_X2_blown hts ⟨Nat.le_of_ble_eq_true rfl, Nat.le_of_ble_eq_true rfl⟩) (cP.preV hK hw.1 (hw.1.recv hK)) rfl rfl hl.1 rfl (lv_room (Nat.le_of_ble_eq_true rfl)) dX2_line_38 ⟨by first | exact Nat.zero_le _ | omega | decide, by first | exact Nat.zero_le _ | omega | decide⟩) hw.2 (fun q _ h => h) (fun q h => h) (fun H locs hw _ _ hS => ?_)
      obtain ⟨Z1, V1, hzb1, hw⟩ := hw
      replace hw := MS.mk hw hS
      have eli : lin tp t sr k p0 M = blw tp t k p0 M := by unfold lin; rw [if_neg (by omega), if_neg (by omega)]
      exact c_iret (v := nI ((blw tp t k p0 M).1)) (by rw [eli]) hx hb hr rfl hlocks ⟨_, _, (by rw [eli]; exact hzb1), mH.to (by rw [eli]) rfl rfl hw.1⟩ hw.2 dX2_line_41
    refine lv_aload_n hx hb dX2_line_23 rfl (lv_at hl 0 rfl) ?_
    refine lv_iload_n hx hb dX2_line_24 rfl (lv_at hl 2 rfl) ?_
    refine lv_iconst (v := nI 1) hx hb dX2_line_25 (by decide) ?_
    refine n_iadd hx hb dX2_line_26 ?_
    refine lv_iconst (v := nI 1) hx hb dX2_line_27 (by decide) ?_
    refine lv_bipush (v := nI 99) hx hb dX2_line_28 (by decide) ?_
    refine c_call (va_runV (As := [.int (nI (k + 1)), .int (nI 1), .int (nI 99)]) (rest := []) ⟨hx, hb, hml, hown, hts⟩ (met_X2_figure l G ad M Z V tp t x0 n so p0 on w0 hT ⟨hZ.1, hZ.2.1, hZ.2.2.1, trivial, trivial, hZ.2.2.2.2.2.1, hZ.2.2.2.2.2.2.1, hZ.2.2.2.2.2.2.2.1, hZ.2.2.2.2.2.2.2.2⟩ hx0 (by omega) (k + 1) 1 99 (by omega) (by omega) (by omega)) (cv_X2_X2_figure hts ⟨Nat.le_of_ble_eq_true rfl, Nat.le_of_ble_eq_true rfl⟩) (cP.preV hK hw.1 (hw.1.recv hK)) rfl rfl hl.1 rfl (lv_room (Nat.le_of_ble_eq_true rfl)) dX2_line_30 ⟨by first | exact Nat.zero_le _ | omega | decide, by first | exact Nat.zero_le _ | omega | decide⟩) hw.2 (fun q _ h => h) (fun q h => h) (fun H locs hw _ _ hS => ?_)
    obtain ⟨Z2, V2, hzb2, hw⟩ := hw
    replace hw := MS.mk hw hS
    rcases fgO_c tp t p0 1 99 with hf2 | hf2 | hf2
    · rw [pif_t hf2.1] at hw
      rw [if_pos hf2.1] at hzb2
      rw [hf2.1]
      have hlq2 := lxQ_le (tp := tp) (t := t) (p0 := p0) (by omega)
      refine lv_goto (tgt := 41) hx hb dX2_line_33 (by decide) ?_
      have eli : lin tp t sr k p0 M = (0, (up2 M 2 (k + 1) (nI (lxN tp t p0))), lxQ tp t p0) := by unfold lin; rw [if_neg (by omega), if_pos (by omega), hf2.1, pif_t rfl, if_pos rfl]
      exact c_iret (v := nI 0) (by rw [eli]) hx hb hr rfl hlocks ⟨_, _, (by rw [eli]; exact hzb2), mH.to (by rw [eli]) rfl rfl hw.1⟩ hw.2 dX2_line_41
    · rw [pif_f (by omega)] at hw
      rw [if_neg (by omega)] at hzb2
      rw [hf2]
      refine lv_goto (tgt := 41) hx hb dX2_line_33 (by decide) ?_
      have eli : lin tp t sr k p0 M = (1, M, p0) := by unfold lin; rw [if_neg (by omega), if_pos (by omega), hf2, pif_f (by decide), if_neg (by decide)]
      exact c_iret (v := nI 1) (by rw [eli]) hx hb hr rfl hlocks ⟨_, _, (by rw [eli]; exact hzb2), mH.to (by rw [eli]) rfl rfl hw.1⟩ hw.2 dX2_line_41
    rw [pif_f (by omega)] at hw
    rw [if_neg (by omega)] at hzb2
    rw [hf2]
    refine lv_goto (tgt := 41) hx hb dX2_line_33 (by decide) ?_
    have eli : lin tp t sr k p0 M = (2, M, p0) := by unfold lin; rw [if_neg (by omega), if_pos (by omega), hf2, pif_f (by decide), if_neg (by decide)]
    exact c_iret (v := nI 2) (by rw [eli]) hx hb hr rfl hlocks ⟨_, _, (by rw [eli]; exact hzb2), mH.to (by rw [eli]) rfl rfl hw.1⟩ hw.2 dX2_line_41
  refine lv_aload_n hx hb dX2_line_5 rfl (lv_at hl 0 rfl) ?_
  refine lv_iload_n hx hb dX2_line_6 rfl (lv_at hl 2 rfl) ?_
  refine lv_iconst (v := nI 1) hx hb dX2_line_7 (by decide) ?_
  refine n_iadd hx hb dX2_line_8 ?_
  refine lv_iconst (v := nI 0) hx hb dX2_line_9 (by decide) ?_
  refine lv_iconst (v := nI 5) hx hb dX2_line_10 (by decide) ?_
  refine c_call (va_runV (As := [.int (nI (k + 1)), .int (nI 0), .int (nI 5)]) (rest := []) ⟨hx, hb, hml, hown, hts⟩ (met_X2_figure l G ad M Z V tp t x0 n so p0 on w0 hT ⟨hZ.1, hZ.2.1, hZ.2.2.1, trivial, trivial, hZ.2.2.2.2.2.1, hZ.2.2.2.2.2.2.1, hZ.2.2.2.2.2.2.2.1, hZ.2.2.2.2.2.2.2.2⟩ hx0 (by omega) (k + 1) 0 5 (by omega) (by omega) (by omega)) (cv_X2_X2_figure hts ⟨Nat.le_of_ble_eq_true rfl, Nat.le_of_ble_eq_true rfl⟩) (cP.preV hK hw.1 (hw.1.recv hK)) rfl rfl hl.1 rfl (lv_room (Nat.le_of_ble_eq_true rfl)) dX2_line_11 ⟨by first | exact Nat.zero_le _ | omega | decide, by first | exact Nat.zero_le _ | omega | decide⟩) hw.2 (fun q _ h => h) (fun q h => h) (fun H locs hw _ _ hS => ?_)
  obtain ⟨Z3, V3, hzb3, hw⟩ := hw
  replace hw := MS.mk hw hS
  rcases fgO_c tp t p0 0 5 with hf3 | hf3 | hf3
  · rw [pif_t hf3.1] at hw
    rw [if_pos hf3.1] at hzb3
    rw [hf3.1]
    have hlq3 := lxQ_le (tp := tp) (t := t) (p0 := p0) (by omega)
    refine lv_goto (tgt := 41) hx hb dX2_line_14 (by decide) ?_
    have eli : lin tp t sr k p0 M = (0, (up2 M 2 (k + 1) (nI (lxN tp t p0))), lxQ tp t p0) := by unfold lin; rw [if_pos (by omega), hf3.1, pif_t rfl, if_pos rfl]
    exact c_iret (v := nI 0) (by rw [eli]) hx hb hr rfl hlocks ⟨_, _, (by rw [eli]; exact hzb3), mH.to (by rw [eli]) rfl rfl hw.1⟩ hw.2 dX2_line_41
  · rw [pif_f (by omega)] at hw
    rw [if_neg (by omega)] at hzb3
    rw [hf3]
    refine lv_goto (tgt := 41) hx hb dX2_line_14 (by decide) ?_
    have eli : lin tp t sr k p0 M = (1, M, p0) := by unfold lin; rw [if_pos (by omega), hf3, pif_f (by decide), if_neg (by decide)]
    exact c_iret (v := nI 1) (by rw [eli]) hx hb hr rfl hlocks ⟨_, _, (by rw [eli]; exact hzb3), mH.to (by rw [eli]) rfl rfl hw.1⟩ hw.2 dX2_line_41
  rw [pif_f (by omega)] at hw
  rw [if_neg (by omega)] at hzb3
  rw [hf3]
  refine lv_goto (tgt := 41) hx hb dX2_line_14 (by decide) ?_
  have eli : lin tp t sr k p0 M = (2, M, p0) := by unfold lin; rw [if_pos (by omega), hf3, pif_f (by decide), if_neg (by decide)]
  exact c_iret (v := nI 2) (by rw [eli]) hx hb hr rfl hlocks ⟨_, _, (by rw [eli]; exact hzb3), mH.to (by rw [eli]) rfl rfl hw.1⟩ hw.2 dX2_line_41
