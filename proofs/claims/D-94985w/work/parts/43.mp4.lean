def oI : Option Nat → Int32
  | none => -1
  | some a => nI a
def cpO (k : Nat) : Option Nat := if k = 60 then some 10 else if k = 4 then some 11 else if k = 62 then some 12 else if k = 5 then some 13 else if k = 61 then some 14 else if k = 35 then some 15 else none
def btO (tp : Nat → Nat) (t p : Nat) (P : List Nat) : Option Nat := if lxT tp t p = 43 then some 3 else if lxT tp t p = 45 then some 4 else if lxT tp t p = 42 then some 5 else if lxT tp t p = 47 then some 6 else if kOp P = 41 then (if cmpd P = true then (if lxT tp t p = 2 ∧ lxW tp t p = w8 (w8 (lN 97) 110) 100 then some 21 else if lxT tp t p = 2 ∧ lxW tp t p = (28530) then some 22 else none) else cpO (lxT tp t p)) else none
abbrev qrl (tp : Nat → Nat) (t p : Nat) : Prop := lxQ tp t p - lxS tp t p = 8 ∧ tp (lxS tp t p) = 113 ∧ tp (lxS tp t p + 1) = 117 ∧ tp (lxS tp t p + 2) = 97 ∧ tp (lxS tp t p + 3) = 114 ∧ tp (lxS tp t p + 4) = 114 ∧ tp (lxS tp t p + 5) = 101 ∧ tp (lxS tp t p + 6) = 108 ∧ tp (lxS tp t p + 7) = 115
def nmO (tp : Nat → Nat) (t p : Nat) : Option Nat := if lxT tp t p = 2 then (if lxW tp t p = w8 (w8 (w8 (lN 104) 111) 117) 114 then some 0 else if lxW tp t p = w8 (w8 (w8 (w8 (w8 (lN 98) 108) 111) 119) 101) 114 then some 1 else if lxW tp t p = w8 (w8 (w8 (w8 (lN 108) 117) 110) 103) 115 then some 2 else if lxW tp t p = w8 (w8 (w8 (w8 (lN 118) 111) 105) 99) 101 then some 3 else if lxW tp t p = w8 (w8 (w8 (w8 (lN 98) 101) 97) 100) 115 then some 4 else if lxW tp t p = w8 (w8 (w8 (lN 107) 105) 110) 100 then some 5 else if lxW tp t p = w8 (w8 (w8 (lN 119) 97) 110) 116 then some 6 else if lxW tp t p = w8 (w8 (w8 (w8 (lN 119) 111) 114) 116) 104 then some 7 else if lxW tp t p = (w8 (w8 (lN 98) 114) 101) <<< ((nI 32).toInt64 &&& 63) ||| (w8 (w8 (w8 (lN 97) 116) 104) 115) then some 8 else if qrl tp t p then some 9 else if lxW tp t p = w8 (w8 (w8 (lN 109) 97) 110) 121 then some 10 else none) else none
def soO (tp : Nat → Nat) (t p : Nat) : Option Nat := if lxT tp t p = 2 ∧ lxW tp t p = w8 (w8 (w8 (w8 (lN 115) 109) 111) 107) 101 then some 0 else if lxT tp t p = 2 ∧ lxW tp t p = w8 (w8 (w8 (lN 99) 111) 115) 116 then some 1 else if lxT tp t p = 2 ∧ lxW tp t p = (w8 (w8 (lN 98) 114) 105) <<< ((nI 32).toInt64 &&& 63) ||| (w8 (w8 (w8 (lN 116) 116) 108) 101) then some 2 else if lxT tp t p = 2 ∧ lxW tp t p = w8 (w8 (w8 (w8 (lN 115) 104) 97) 114) 101 then some 3 else if lxT tp t p = 2 ∧ lxW tp t p = w8 (w8 (w8 (w8 (lN 98) 101) 103) 105) 110 then some 4 else if lxT tp t p = 2 ∧ lxW tp t p = w8 (w8 (w8 (lN 98) 108) 111) 119 then some 5 else if lxT tp t p = 2 ∧ lxW tp t p = w8 (w8 (w8 (lN 119) 97) 105) 116 then some 6 else none
abbrev isO (so i : Nat) : Prop := i = 0 ∨ (i < 5 ∧ (so = 1 ∨ so = 3)) ∨ (5 ≤ i ∧ i < 8 ∧ (so = 2 ∨ so = 3)) ∨ (i = 8 ∧ so = 3) ∨ (9 ≤ i ∧ so = 2)
theorem askA_c {x : Nat} {r : List Nat} : askA (x :: r) ↔ kOp (x :: r) = 41 ∧ (x = 41 ∨ (1 ≤ rk x ∧ rk x ≤ 3)) := Iff.rfl
theorem lxQ_geS {tp : Nat → Nat} {t p0 : Nat} : lxS tp t p0 ≤ lxQ tp t p0 := by
  unfold lxQ
  dsimp only
  split
  · have h2 := scn_ge lDig tp (t - lxS tp t p0) (lxS tp t p0)
    have h3 := scn_ge lLet tp (t - lxS tp t p0) (lxS tp t p0)
    (repeat' split) <;> omega
  · exact Nat.le_refl _
theorem kOp_lt {Z : Nat → Nat → Int32} : ∀ {P : List Nat}, kPl Z P → kOp P < 64
  | [], _ => by decide
  | x :: r, h => by
    unfold kOp
    split
    · exact h.2.1
    · exact kOp_lt h.2.2
theorem byt {tp : Nat → Nat} {t k : Nat} {M : Nat → Nat → Int32} (h : TP tp t M) (hk : k < t) : pif (k < t) (M 3 k) (-1) = nI (tp k) := (pif_t hk).trans (h.2.2 k hk).1
set_option maxHeartbeats 4000000 in
set_option maxRecDepth 100000 in
theorem met_X2_compareOf (l : Launch) (G : gG) (ad : Nat → Nat) (M Z : Nat → Nat → Int32) (V : Nat → Nat → Int64) (tp : Nat → Nat) (t x0 n so p0 : Nat) (on w0 : Int32) (P : List Nat) (hT : TP tp t M) (hZ : ZB tp t x0 n so on w0 p0 P Z V) (hx0 : x0 ≤ 2040) (hp0 : p0 ≤ t) (hnP : n + P.length ≤ 302) (hP160 : P.length ≤ 159) : Met l yX2_compareOf (ws_ yX2_compareOf cX2_compareOf 1 (some .int)) ({ frames := 0, cells := 0, slots := 0, locals := 0 } : Room) (cP G [.ref (ad 0)] (mH G ad M Z V)) (cR (some (.int (oI (cpO (lxT tp t p0)))))) 0 0 (fun _ => False) := by
  refine c_start (by decide) (Nat.le_of_ble_eq_true rfl) ?_
  intro p e s m below meth c hx hb hr hlocks hml hown hts hB hK ls hl
  have hw := MS.of hB
  have hl : lv_has ls 1 [(0, .ref (ad 0))] := hl
  have hT9 := lxT_lt hT p0
  refine lv_aload_n hx hb dX2_compareOf_0 rfl (lv_at hl 0 rfl) ?_
  refine m_g_token hx hb hts hown hK hw dX2_compareOf_1 ?_
  rw [show Z 9 0 = nI (lxT tp t p0) from hZ.1.2.2.1]
  refine lv_bipush (v := nI 60) hx hb dX2_compareOf_4 (by decide) ?_
  refine n_icmp_ne (tgt := 14) hx hb dX2_compareOf_6 (by decide) (by omega) (by decide) (fun c_1 => ?_) (fun c_1 => ?_)
  · refine lv_aload_n hx hb dX2_compareOf_14 rfl (lv_at hl 0 rfl) ?_
    refine m_g_token hx hb hts hown hK hw dX2_compareOf_15 ?_
    rw [show Z 9 0 = nI (lxT tp t p0) from hZ.1.2.2.1]
    refine lv_iconst (v := nI 4) hx hb dX2_compareOf_18 (by decide) ?_
    refine n_icmp_ne (tgt := 27) hx hb dX2_compareOf_19 (by decide) (by omega) (by decide) (fun c_2 => ?_) (fun c_2 => ?_)
    · refine lv_aload_n hx hb dX2_compareOf_27 rfl (lv_at hl 0 rfl) ?_
      refine m_g_token hx hb hts hown hK hw dX2_compareOf_28 ?_
      rw [show Z 9 0 = nI (lxT tp t p0) from hZ.1.2.2.1]
      refine lv_bipush (v := nI 62) hx hb dX2_compareOf_31 (by decide) ?_
      refine n_icmp_ne (tgt := 41) hx hb dX2_compareOf_33 (by decide) (by omega) (by decide) (fun c_3 => ?_) (fun c_3 => ?_)
      · refine lv_aload_n hx hb dX2_compareOf_41 rfl (lv_at hl 0 rfl) ?_
        refine m_g_token hx hb hts hown hK hw dX2_compareOf_42 ?_
        rw [show Z 9 0 = nI (lxT tp t p0) from hZ.1.2.2.1]
        refine lv_iconst (v := nI 5) hx hb dX2_compareOf_45 (by decide) ?_
        refine n_icmp_ne (tgt := 54) hx hb dX2_compareOf_46 (by decide) (by omega) (by decide) (fun c_4 => ?_) (fun c_4 => ?_)
        · refine lv_aload_n hx hb dX2_compareOf_54 rfl (lv_at hl 0 rfl) ?_
          refine m_g_token hx hb hts hown hK hw dX2_compareOf_55 ?_
          rw [show Z 9 0 = nI (lxT tp t p0) from hZ.1.2.2.1]
          refine lv_bipush (v := nI 61) hx hb dX2_compareOf_58 (by decide) ?_
          refine n_icmp_ne (tgt := 68) hx hb dX2_compareOf_60 (by decide) (by omega) (by decide) (fun c_5 => ?_) (fun c_5 => ?_)
          · refine lv_aload_n hx hb dX2_compareOf_68 rfl (lv_at hl 0 rfl) ?_
            refine m_g_token hx hb hts hown hK hw dX2_compareOf_69 ?_
            rw [show Z 9 0 = nI (lxT tp t p0) from hZ.1.2.2.1]
            refine lv_bipush (v := nI 35) hx hb dX2_compareOf_72 (by decide) ?_
            refine n_icmp_ne (tgt := 82) hx hb dX2_compareOf_74 (by decide) (by omega) (by decide) (fun c_6 => ?_) (fun c_6 => ?_)
            · refine lv_iconst (v := (-1)) hx hb dX2_compareOf_82 (by decide) ?_
              exact c_rret (v := (-1)) (by rw [show cpO (lxT tp t p0) = none from by unfold cpO; first | (simp [c_1, c_2, c_3, c_4, c_5, c_6]; done) | (clear hl; simp_all; done) | ((repeat' split) <;> simp_all)]; rfl) hx hb hr rfl hlocks dX2_compareOf_83 rfl rfl
            refine lv_bipush (v := nI 15) hx hb dX2_compareOf_77 (by decide) ?_
            refine lv_goto (tgt := 83) hx hb dX2_compareOf_79 (by decide) ?_
            exact c_rret (v := nI 15) (by rw [show cpO (lxT tp t p0) = some 15 from by unfold cpO; first | (simp [c_1, c_2, c_3, c_4, c_5, c_6]; done) | (clear hl; simp_all; done) | ((repeat' split) <;> simp_all)]; rfl) hx hb hr rfl hlocks dX2_compareOf_83 rfl rfl
          refine lv_bipush (v := nI 14) hx hb dX2_compareOf_63 (by decide) ?_
          refine lv_goto (tgt := 83) hx hb dX2_compareOf_65 (by decide) ?_
          exact c_rret (v := nI 14) (by rw [show cpO (lxT tp t p0) = some 14 from by unfold cpO; first | (simp [c_1, c_2, c_3, c_4, c_5]; done) | (clear hl; simp_all; done) | ((repeat' split) <;> simp_all)]; rfl) hx hb hr rfl hlocks dX2_compareOf_83 rfl rfl
        refine lv_bipush (v := nI 13) hx hb dX2_compareOf_49 (by decide) ?_
        refine lv_goto (tgt := 83) hx hb dX2_compareOf_51 (by decide) ?_
        exact c_rret (v := nI 13) (by rw [show cpO (lxT tp t p0) = some 13 from by unfold cpO; first | (simp [c_1, c_2, c_3, c_4]; done) | (clear hl; simp_all; done) | ((repeat' split) <;> simp_all)]; rfl) hx hb hr rfl hlocks dX2_compareOf_83 rfl rfl
      refine lv_bipush (v := nI 12) hx hb dX2_compareOf_36 (by decide) ?_
      refine lv_goto (tgt := 83) hx hb dX2_compareOf_38 (by decide) ?_
      exact c_rret (v := nI 12) (by rw [show cpO (lxT tp t p0) = some 12 from by unfold cpO; first | (simp [c_1, c_2, c_3]; done) | (clear hl; simp_all; done) | ((repeat' split) <;> simp_all)]; rfl) hx hb hr rfl hlocks dX2_compareOf_83 rfl rfl
    refine lv_bipush (v := nI 11) hx hb dX2_compareOf_22 (by decide) ?_
    refine lv_goto (tgt := 83) hx hb dX2_compareOf_24 (by decide) ?_
    exact c_rret (v := nI 11) (by rw [show cpO (lxT tp t p0) = some 11 from by unfold cpO; first | (simp [c_1, c_2]; done) | (clear hl; simp_all; done) | ((repeat' split) <;> simp_all)]; rfl) hx hb hr rfl hlocks dX2_compareOf_83 rfl rfl
  refine lv_bipush (v := nI 10) hx hb dX2_compareOf_9 (by decide) ?_
  refine lv_goto (tgt := 83) hx hb dX2_compareOf_11 (by decide) ?_
  exact c_rret (v := nI 10) (by rw [show cpO (lxT tp t p0) = some 10 from by unfold cpO; first | (simp [c_1]; done) | (clear hl; simp_all; done) | ((repeat' split) <;> simp_all)]; rfl) hx hb hr rfl hlocks dX2_compareOf_83 rfl rfl
set_option maxHeartbeats 4000000 in
set_option maxRecDepth 100000 in
theorem met_X2_betweenOf (l : Launch) (G : gG) (ad : Nat → Nat) (M Z : Nat → Nat → Int32) (V : Nat → Nat → Int64) (tp : Nat → Nat) (t x0 n so p0 : Nat) (on w0 : Int32) (P : List Nat) (hT : TP tp t M) (hZ : ZB tp t x0 n so on w0 p0 P Z V) (hx0 : x0 ≤ 2040) (hp0 : p0 ≤ t) (hnP : n + P.length ≤ 302) (hP160 : P.length ≤ 159) : Met l yX2_betweenOf (ws_ yX2_betweenOf cX2_betweenOf 2 (some .int)) ({ frames := 2, cells := 0, slots := 0, locals := 43 } : Room) (cP G [.ref (ad 0), .int (nI 0)] (mH G ad M Z V)) (cR (some (.int (oI (btO tp t p0 P))))) 0 0 (fun _ => False) := by
  refine c_start (by decide) (Nat.le_of_ble_eq_true rfl) ?_
  intro p e s m below meth c hx hb hr hlocks hml hown hts hB hK ls hl
  have hw := MS.of hB
  have hl : lv_has ls 2 [(0, .ref (ad 0)), (1, .int (nI 0))] := hl
  have hT9 := lxT_lt hT p0
  have hkP := kOp_lt hZ.2.2.2.2.1
  refine lv_aload_n hx hb dX2_betweenOf_0 rfl (lv_at hl 0 rfl) ?_
  refine m_g_token hx hb hts hown hK hw dX2_betweenOf_1 ?_
  rw [show Z 9 0 = nI (lxT tp t p0) from hZ.1.2.2.1]
  refine lv_bipush (v := nI 43) hx hb dX2_betweenOf_4 (by decide) ?_
  refine n_icmp_ne (tgt := 11) hx hb dX2_betweenOf_6 (by decide) (by omega) (by decide) (fun c_1 => ?_) (fun c_1 => ?_)
  · refine lv_aload_n hx hb dX2_betweenOf_11 rfl (lv_at hl 0 rfl) ?_
    refine m_g_token hx hb hts hown hK hw dX2_betweenOf_12 ?_
    rw [show Z 9 0 = nI (lxT tp t p0) from hZ.1.2.2.1]
    refine lv_bipush (v := nI 45) hx hb dX2_betweenOf_15 (by decide) ?_
    refine n_icmp_ne (tgt := 22) hx hb dX2_betweenOf_17 (by decide) (by omega) (by decide) (fun c_2 => ?_) (fun c_2 => ?_)
    · refine lv_aload_n hx hb dX2_betweenOf_22 rfl (lv_at hl 0 rfl) ?_
      refine m_g_token hx hb hts hown hK hw dX2_betweenOf_23 ?_
      rw [show Z 9 0 = nI (lxT tp t p0) from hZ.1.2.2.1]
      refine lv_bipush (v := nI 42) hx hb dX2_betweenOf_26 (by decide) ?_
      refine n_icmp_ne (tgt := 33) hx hb dX2_betweenOf_28 (by decide) (by omega) (by decide) (fun c_3 => ?_) (fun c_3 => ?_)
      · refine lv_aload_n hx hb dX2_betweenOf_33 rfl (lv_at hl 0 rfl) ?_
        refine m_g_token hx hb hts hown hK hw dX2_betweenOf_34 ?_
        rw [show Z 9 0 = nI (lxT tp t p0) from hZ.1.2.2.1]
        refine lv_bipush (v := nI 47) hx hb dX2_betweenOf_37 (by decide) ?_
        refine n_icmp_ne (tgt := 45) hx hb dX2_betweenOf_39 (by decide) (by omega) (by decide) (fun c_4 => ?_) (fun c_4 => ?_)
        · refine lv_aload_n hx hb dX2_betweenOf_45 rfl (lv_at hl 0 rfl) ?_
          refine lv_iload_n hx hb dX2_betweenOf_46 rfl (lv_at hl 1 rfl) ?_
          refine c_read (va_runV (As := [.int (nI 0)]) (rest := []) ⟨hx, hb, hml, hown, hts⟩ (met_X2_kindOpen l G ad M Z V P hZ.2.2.2.1 hZ.2.2.2.2.1 (by omega)) (cv_X2_X2_kindOpen hts ⟨Nat.le_of_ble_eq_true rfl, Nat.le_of_ble_eq_true rfl⟩) (cP.preV hK hw.1 (hw.1.recv hK)) rfl rfl hl.1 rfl (lv_room (Nat.le_of_ble_eq_true rfl)) dX2_betweenOf_47 ⟨by first | exact Nat.zero_le _ | omega | decide, by first | exact Nat.zero_le _ | omega | decide⟩) ?_
          refine lv_bipush (v := nI 41) hx hb dX2_betweenOf_50 (by decide) ?_
          refine n_icmp_eq (tgt := 57) hx hb dX2_betweenOf_52 (by decide) (by omega) (by decide) (fun c_5 => ?_) (fun c_5 => ?_)
          · refine lv_aload_n hx hb dX2_betweenOf_57 rfl (lv_at hl 0 rfl) ?_
            refine c_read (va_runV (As := []) (rest := []) ⟨hx, hb, hml, hown, hts⟩ (met_X2_isCompared l G ad M Z V P hZ.2.2.2.1 hZ.2.2.2.2.1 (by omega)) (cv_X2_X2_isCompared hts ⟨Nat.le_of_ble_eq_true rfl, Nat.le_of_ble_eq_true rfl⟩) (cP.preV hK hw.1 (hw.1.recv hK)) rfl rfl hl.1 rfl (lv_room (Nat.le_of_ble_eq_true rfl)) dX2_betweenOf_58 ⟨by first | exact Nat.zero_le _ | omega | decide, by first | exact Nat.zero_le _ | omega | decide⟩) ?_
            refine b_if_ne (tgt := 69) hx hb dX2_betweenOf_61 (by decide) (fun c_6 => ?_) (fun c_6 => ?_)
            · refine lv_aload_n hx hb dX2_betweenOf_69 rfl (lv_at hl 0 rfl) ?_
              refine lv_bipush (v := nI 97) hx hb dX2_betweenOf_70 (by decide) ?_
              refine lv_bipush (v := nI 110) hx hb dX2_betweenOf_72 (by decide) ?_
              refine lv_bipush (v := nI 100) hx hb dX2_betweenOf_74 (by decide) ?_
              refine c_read (va_runS (As := [.int (nI 97), .int (nI 110), .int (nI 100)]) (rest := [.ref (ad 0)]) ⟨hx, hb, hml, hown, hts⟩ (met_X2_w3 l G 97 110 100 (by decide) (by decide) (by decide)) (cs_X2_X2_w3 hts ⟨Nat.le_of_ble_eq_true rfl, Nat.le_of_ble_eq_true rfl⟩) (cP.pre hK trivial) rfl rfl hl.1 rfl (lv_room (Nat.le_of_ble_eq_true rfl)) dX2_betweenOf_76 ⟨by first | exact Nat.zero_le _ | omega | decide, by first | exact Nat.zero_le _ | omega | decide⟩) ?_
              refine c_read (va_runV (As := [.long (w8 (w8 (lN 97) 110) 100)]) (rest := []) ⟨hx, hb, hml, hown, hts⟩ (met_X2_isWord l G ad M Z V tp t p0 hT hZ.1 (w8 (w8 (lN 97) 110) 100)) (cv_X2_X2_isWord hts ⟨Nat.le_of_ble_eq_true rfl, Nat.le_of_ble_eq_true rfl⟩) (cP.preV hK hw.1 (hw.1.recv hK)) rfl rfl hl.1 rfl (lv_room (Nat.le_of_ble_eq_true rfl)) dX2_betweenOf_79 ⟨by first | exact Nat.zero_le _ | omega | decide, by first | exact Nat.zero_le _ | omega | decide⟩) ?_
              refine b_if_eq (tgt := 90) hx hb dX2_betweenOf_82 (by decide) (fun c_7 => ?_) (fun c_7 => ?_)
              · refine lv_aload_n hx hb dX2_betweenOf_90 rfl (lv_at hl 0 rfl) ?_
                refine m_g_token hx hb hts hown hK hw dX2_betweenOf_91 ?_
                rw [show Z 9 0 = nI (lxT tp t p0) from hZ.1.2.2.1]
                refine lv_iconst (v := nI 2) hx hb dX2_betweenOf_94 (by decide) ?_
                refine n_icmp_ne (tgt := 114) hx hb dX2_betweenOf_95 (by decide) (by omega) (by decide) (fun c_8 => ?_) (fun c_8 => ?_)
                · refine lv_iconst (v := (-1)) hx hb dX2_betweenOf_114 (by decide) ?_
                  exact c_rret (v := (-1)) (by rw [show btO tp t p0 P = none from by unfold btO; first | (simp [c_1, c_2, c_3, c_4, c_5, c_6, c_7, c_8]; done) | (clear hl; simp_all; done) | ((repeat' split) <;> simp_all)]; rfl) hx hb hr rfl hlocks dX2_betweenOf_115 rfl rfl
                have e11_ := hZ.1.2.2.2.2 c_8
                refine lv_aload_n hx hb dX2_betweenOf_98 rfl (lv_at hl 0 rfl) ?_
                refine m_g_word hx hb hts hown hK hw dX2_betweenOf_99 ?_
                rw [show V 11 0 = lxW tp t p0 from e11_]
                refine lv_ldc2 (v := (28530)) hx hb hown (hts _ q1344) dX2_betweenOf_102 ?_
                refine l_cmp_ne (tgt := 114) hx hb dX2_betweenOf_105 dX2_betweenOf_106 (by decide) (fun c_9 => ?_) (fun c_9 => ?_)
                · refine lv_iconst (v := (-1)) hx hb dX2_betweenOf_114 (by decide) ?_
                  exact c_rret (v := (-1)) (by rw [show btO tp t p0 P = none from by unfold btO; first | (simp [c_1, c_2, c_3, c_4, c_5, c_6, c_7, c_8, c_9]; done) | (clear hl; simp_all; done) | ((repeat' split) <;> simp_all)]; rfl) hx hb hr rfl hlocks dX2_betweenOf_115 rfl rfl
                refine lv_bipush (v := nI 22) hx hb dX2_betweenOf_109 (by decide) ?_
                refine lv_goto (tgt := 115) hx hb dX2_betweenOf_111 (by decide) ?_
                exact c_rret (v := nI 22) (by rw [show btO tp t p0 P = some 22 from by unfold btO; first | (simp [c_1, c_2, c_3, c_4, c_5, c_6, c_7, c_8, c_9]; done) | (clear hl; simp_all; done) | ((repeat' split) <;> simp_all)]; rfl) hx hb hr rfl hlocks dX2_betweenOf_115 rfl rfl
              refine lv_bipush (v := nI 21) hx hb dX2_betweenOf_85 (by decide) ?_
              refine lv_goto (tgt := 115) hx hb dX2_betweenOf_87 (by decide) ?_
              exact c_rret (v := nI 21) (by rw [show btO tp t p0 P = some 21 from by unfold btO; first | (simp [c_1, c_2, c_3, c_4, c_5, c_6, c_7]; done) | (clear hl; simp_all; done) | ((repeat' split) <;> simp_all)]; rfl) hx hb hr rfl hlocks dX2_betweenOf_115 rfl rfl
            refine lv_aload_n hx hb dX2_betweenOf_64 rfl (lv_at hl 0 rfl) ?_
            refine c_read (va_runV (As := []) (rest := []) ⟨hx, hb, hml, hown, hts⟩ (met_X2_compareOf l G ad M Z V tp t x0 n so p0 on w0 P hT ⟨hZ.1, hZ.2.1, hZ.2.2.1, hZ.2.2.2.1, hZ.2.2.2.2.1, hZ.2.2.2.2.2.1, hZ.2.2.2.2.2.2.1, hZ.2.2.2.2.2.2.2.1, hZ.2.2.2.2.2.2.2.2⟩ hx0 (by omega) (by omega) (by omega)) (cv_X2_X2_compareOf hts ⟨Nat.le_of_ble_eq_true rfl, Nat.le_of_ble_eq_true rfl⟩) (cP.preV hK hw.1 (hw.1.recv hK)) rfl rfl hl.1 rfl (lv_room (Nat.le_of_ble_eq_true rfl)) dX2_betweenOf_65 ⟨by first | exact Nat.zero_le _ | omega | decide, by first | exact Nat.zero_le _ | omega | decide⟩) ?_
            exact c_rret (v := oI (cpO (lxT tp t p0))) (by rw [show btO tp t p0 P = (cpO (lxT tp t p0)) from by unfold btO; first | (simp [c_1, c_2, c_3, c_4, c_5, c_6]; done) | (clear hl; simp_all; done) | ((repeat' split) <;> simp_all)]) hx hb hr rfl hlocks dX2_betweenOf_68 rfl rfl
          refine lv_iconst (v := (-1)) hx hb dX2_betweenOf_55 (by decide) ?_
          exact c_rret (v := (-1)) (by rw [show btO tp t p0 P = none from by unfold btO; first | (simp [c_1, c_2, c_3, c_4, c_5]; done) | (clear hl; simp_all; done) | ((repeat' split) <;> simp_all)]; rfl) hx hb hr rfl hlocks dX2_betweenOf_56 rfl rfl
        refine lv_bipush (v := nI 6) hx hb dX2_betweenOf_42 (by decide) ?_
        exact c_rret (v := nI 6) (by rw [show btO tp t p0 P = some 6 from by unfold btO; first | (simp [c_1, c_2, c_3, c_4]; done) | (clear hl; simp_all; done) | ((repeat' split) <;> simp_all)]; rfl) hx hb hr rfl hlocks dX2_betweenOf_44 rfl rfl
      refine lv_iconst (v := nI 5) hx hb dX2_betweenOf_31 (by decide) ?_
      exact c_rret (v := nI 5) (by rw [show btO tp t p0 P = some 5 from by unfold btO; first | (simp [c_1, c_2, c_3]; done) | (clear hl; simp_all; done) | ((repeat' split) <;> simp_all)]; rfl) hx hb hr rfl hlocks dX2_betweenOf_32 rfl rfl
    refine lv_iconst (v := nI 4) hx hb dX2_betweenOf_20 (by decide) ?_
    exact c_rret (v := nI 4) (by rw [show btO tp t p0 P = some 4 from by unfold btO; first | (simp [c_1, c_2]; done) | (clear hl; simp_all; done) | ((repeat' split) <;> simp_all)]; rfl) hx hb hr rfl hlocks dX2_betweenOf_21 rfl rfl
  refine lv_iconst (v := nI 3) hx hb dX2_betweenOf_9 (by decide) ?_
  exact c_rret (v := nI 3) (by rw [show btO tp t p0 P = some 3 from by unfold btO; first | (simp [c_1]; done) | (clear hl; simp_all; done) | ((repeat' split) <;> simp_all)]; rfl) hx hb hr rfl hlocks dX2_betweenOf_10 rfl rfl
set_option maxHeartbeats 4000000 in
set_option maxRecDepth 100000 in
theorem met_X2_isQuarrels (l : Launch) (G : gG) (ad : Nat → Nat) (M Z : Nat → Nat → Int32) (V : Nat → Nat → Int64) (tp : Nat → Nat) (t x0 n so p0 : Nat) (on w0 : Int32) (P : List Nat) (hT : TP tp t M) (hZ : ZB tp t x0 n so on w0 p0 P Z V) (hx0 : x0 ≤ 2040) (hp0 : p0 ≤ t) (hnP : n + P.length ≤ 302) (hP160 : P.length ≤ 159) : Met l yX2_isQuarrels (ws_ yX2_isQuarrels cX2_isQuarrels 1 (some .boolean)) ({ frames := 1, cells := 0, slots := 0, locals := 21 } : Room) (cP G [.ref (ad 0)] (mH G ad M Z V)) (cR (some (.int (bI (qrl tp t p0))))) 0 0 (fun _ => False) := by
  refine c_start (by decide) (Nat.le_of_ble_eq_true rfl) ?_
  intro p e s m below meth c hx hb hr hlocks hml hown hts hB hK ls hl
  have hw := MS.of hB
  have hl : lv_has ls 1 [(0, .ref (ad 0))] := hl
  have hT9 := lxT_lt hT p0
  have hgeS := lxQ_geS (tp := tp) (t := t) (p0 := p0)
  have hleQ := lxQ_le (tp := tp) (t := t) hp0
  have ht3 := hT.2.1
  refine lv_aload_n hx hb dX2_isQuarrels_0 rfl (lv_at hl 0 rfl) ?_
  refine m_g_at hx hb hts hown hK hw dX2_isQuarrels_1 ?_
  rw [show Z 7 0 = nI (lxQ tp t p0) from hZ.1.1]
  refine lv_aload_n hx hb dX2_isQuarrels_4 rfl (lv_at hl 0 rfl) ?_
  refine m_g_place hx hb hts hown hK hw dX2_isQuarrels_5 ?_
  rw [show Z 8 0 = nI (lxS tp t p0) from hZ.1.2.1]
  refine n_isub hx hb (by omega) dX2_isQuarrels_8 ?_
  refine lv_bipush (v := nI 8) hx hb dX2_isQuarrels_9 (by decide) ?_
  refine n_icmp_ne (tgt := 72) hx hb dX2_isQuarrels_11 (by decide) (by omega) (by decide) (fun c_1 => ?_) (fun c_1 => ?_)
  · refine lv_iconst (v := nI 0) hx hb dX2_isQuarrels_72 (by decide) ?_
    exact c_rret (v := nI 0) ((bI_f (show ¬ qrl tp t p0 from by unfold qrl; simp [c_1])).symm) hx hb hr rfl hlocks dX2_isQuarrels_73 rfl rfl
  have hq8 := c_1
  have hqt := lxQ_le (tp := tp) (t := t) hp0
  have hbt := fun k9 h9 => (hT.2.2 k9 h9).2
  have hb0_ := hbt (lxS tp t p0) (by omega)
  have hb1_ := hbt (lxS tp t p0 + 1) (by omega)
  have hb2_ := hbt (lxS tp t p0 + 2) (by omega)
  have hb3_ := hbt (lxS tp t p0 + 3) (by omega)
  have hb4_ := hbt (lxS tp t p0 + 4) (by omega)
  have hb5_ := hbt (lxS tp t p0 + 5) (by omega)
  have hb6_ := hbt (lxS tp t p0 + 6) (by omega)
  have hb7_ := hbt (lxS tp t p0 + 7) (by omega)
  refine lv_aload_n hx hb dX2_isQuarrels_14 rfl (lv_at hl 0 rfl) ?_
  refine lv_aload_n hx hb dX2_isQuarrels_15 rfl (lv_at hl 0 rfl) ?_
  refine m_g_place hx hb hts hown hK hw dX2_isQuarrels_16 ?_
  rw [show Z 8 0 = nI (lxS tp t p0) from hZ.1.2.1]
  refine c_read (va_runV (As := [.int (nI (lxS tp t p0))]) (rest := []) ⟨hx, hb, hml, hown, hts⟩ (met_X2_byteAt l G ad M Z V (lxS tp t p0) t (nI (tp (lxS tp t p0))) hT.1 (by omega) (by omega) (byt hT (by omega))) (cv_X2_X2_byteAt hts ⟨Nat.le_of_ble_eq_true rfl, Nat.le_of_ble_eq_true rfl⟩) (cP.preV hK hw.1 (hw.1.recv hK)) rfl rfl hl.1 rfl (lv_room (Nat.le_of_ble_eq_true rfl)) dX2_isQuarrels_19 ⟨by first | exact Nat.zero_le _ | omega | decide, by first | exact Nat.zero_le _ | omega | decide⟩) ?_
  refine lv_bipush (v := nI 113) hx hb dX2_isQuarrels_22 (by decide) ?_
  refine n_icmp_ne (tgt := 72) hx hb dX2_isQuarrels_24 (by decide) (by omega) (by decide) (fun c_2 => ?_) (fun c_2 => ?_)
  · refine lv_iconst (v := nI 0) hx hb dX2_isQuarrels_72 (by decide) ?_
    exact c_rret (v := nI 0) ((bI_f (show ¬ qrl tp t p0 from by unfold qrl; simp [c_1, c_2])).symm) hx hb hr rfl hlocks dX2_isQuarrels_73 rfl rfl
  refine lv_aload_n hx hb dX2_isQuarrels_27 rfl (lv_at hl 0 rfl) ?_
  refine lv_aload_n hx hb dX2_isQuarrels_28 rfl (lv_at hl 0 rfl) ?_
  refine m_g_place hx hb hts hown hK hw dX2_isQuarrels_29 ?_
  rw [show Z 8 0 = nI (lxS tp t p0) from hZ.1.2.1]
  refine lv_iconst (v := nI 1) hx hb dX2_isQuarrels_32 (by decide) ?_
  refine n_iadd hx hb dX2_isQuarrels_33 ?_
  refine c_read (va_runV (As := [.int (nI (lxS tp t p0 + 1))]) (rest := []) ⟨hx, hb, hml, hown, hts⟩ (met_X2_byteAt l G ad M Z V (lxS tp t p0 + 1) t (nI (tp (lxS tp t p0 + 1))) hT.1 (by omega) (by omega) (byt hT (by omega))) (cv_X2_X2_byteAt hts ⟨Nat.le_of_ble_eq_true rfl, Nat.le_of_ble_eq_true rfl⟩) (cP.preV hK hw.1 (hw.1.recv hK)) rfl rfl hl.1 rfl (lv_room (Nat.le_of_ble_eq_true rfl)) dX2_isQuarrels_34 ⟨by first | exact Nat.zero_le _ | omega | decide, by first | exact Nat.zero_le _ | omega | decide⟩) ?_
  refine lv_bipush (v := nI 117) hx hb dX2_isQuarrels_37 (by decide) ?_
  refine n_icmp_ne (tgt := 72) hx hb dX2_isQuarrels_39 (by decide) (by omega) (by decide) (fun c_3 => ?_) (fun c_3 => ?_)
  · refine lv_iconst (v := nI 0) hx hb dX2_isQuarrels_72 (by decide) ?_
    exact c_rret (v := nI 0) ((bI_f (show ¬ qrl tp t p0 from by unfold qrl; simp [c_1, c_2, c_3])).symm) hx hb hr rfl hlocks dX2_isQuarrels_73 rfl rfl
  refine lv_aload_n hx hb dX2_isQuarrels_42 rfl (lv_at hl 0 rfl) ?_
  refine lv_aload_n hx hb dX2_isQuarrels_43 rfl (lv_at hl 0 rfl) ?_
  refine m_g_place hx hb hts hown hK hw dX2_isQuarrels_44 ?_
  rw [show Z 8 0 = nI (lxS tp t p0) from hZ.1.2.1]
  refine lv_iconst (v := nI 2) hx hb dX2_isQuarrels_47 (by decide) ?_
  refine n_iadd hx hb dX2_isQuarrels_48 ?_
  refine c_read (va_runV (As := [.int (nI (lxS tp t p0 + 2))]) (rest := []) ⟨hx, hb, hml, hown, hts⟩ (met_X2_byteAt l G ad M Z V (lxS tp t p0 + 2) t (nI (tp (lxS tp t p0 + 2))) hT.1 (by omega) (by omega) (byt hT (by omega))) (cv_X2_X2_byteAt hts ⟨Nat.le_of_ble_eq_true rfl, Nat.le_of_ble_eq_true rfl⟩) (cP.preV hK hw.1 (hw.1.recv hK)) rfl rfl hl.1 rfl (lv_room (Nat.le_of_ble_eq_true rfl)) dX2_isQuarrels_49 ⟨by first | exact Nat.zero_le _ | omega | decide, by first | exact Nat.zero_le _ | omega | decide⟩) ?_
  refine lv_bipush (v := nI 97) hx hb dX2_isQuarrels_52 (by decide) ?_
  refine n_icmp_ne (tgt := 72) hx hb dX2_isQuarrels_54 (by decide) (by omega) (by decide) (fun c_4 => ?_) (fun c_4 => ?_)
  · refine lv_iconst (v := nI 0) hx hb dX2_isQuarrels_72 (by decide) ?_
    exact c_rret (v := nI 0) ((bI_f (show ¬ qrl tp t p0 from by unfold qrl; simp [c_1, c_2, c_3, c_4])).symm) hx hb hr rfl hlocks dX2_isQuarrels_73 rfl rfl
  refine lv_aload_n hx hb dX2_isQuarrels_57 rfl (lv_at hl 0 rfl) ?_
  refine lv_aload_n hx hb dX2_isQuarrels_58 rfl (lv_at hl 0 rfl) ?_
  refine m_g_place hx hb hts hown hK hw dX2_isQuarrels_59 ?_
  rw [show Z 8 0 = nI (lxS tp t p0) from hZ.1.2.1]
  refine lv_iconst (v := nI 3) hx hb dX2_isQuarrels_62 (by decide) ?_
  refine n_iadd hx hb dX2_isQuarrels_63 ?_
  refine c_read (va_runV (As := [.int (nI (lxS tp t p0 + 3))]) (rest := []) ⟨hx, hb, hml, hown, hts⟩ (met_X2_byteAt l G ad M Z V (lxS tp t p0 + 3) t (nI (tp (lxS tp t p0 + 3))) hT.1 (by omega) (by omega) (byt hT (by omega))) (cv_X2_X2_byteAt hts ⟨Nat.le_of_ble_eq_true rfl, Nat.le_of_ble_eq_true rfl⟩) (cP.preV hK hw.1 (hw.1.recv hK)) rfl rfl hl.1 rfl (lv_room (Nat.le_of_ble_eq_true rfl)) dX2_isQuarrels_64 ⟨by first | exact Nat.zero_le _ | omega | decide, by first | exact Nat.zero_le _ | omega | decide⟩) ?_
  refine lv_bipush (v := nI 114) hx hb dX2_isQuarrels_67 (by decide) ?_
  refine n_icmp_eq (tgt := 74) hx hb dX2_isQuarrels_69 (by decide) (by omega) (by decide) (fun c_5 => ?_) (fun c_5 => ?_)
  · refine lv_aload_n hx hb dX2_isQuarrels_74 rfl (lv_at hl 0 rfl) ?_
    refine lv_aload_n hx hb dX2_isQuarrels_75 rfl (lv_at hl 0 rfl) ?_
    refine m_g_place hx hb hts hown hK hw dX2_isQuarrels_76 ?_
    rw [show Z 8 0 = nI (lxS tp t p0) from hZ.1.2.1]
    refine lv_iconst (v := nI 4) hx hb dX2_isQuarrels_79 (by decide) ?_
    refine n_iadd hx hb dX2_isQuarrels_80 ?_
    refine c_read (va_runV (As := [.int (nI (lxS tp t p0 + 4))]) (rest := []) ⟨hx, hb, hml, hown, hts⟩ (met_X2_byteAt l G ad M Z V (lxS tp t p0 + 4) t (nI (tp (lxS tp t p0 + 4))) hT.1 (by omega) (by omega) (byt hT (by omega))) (cv_X2_X2_byteAt hts ⟨Nat.le_of_ble_eq_true rfl, Nat.le_of_ble_eq_true rfl⟩) (cP.preV hK hw.1 (hw.1.recv hK)) rfl rfl hl.1 rfl (lv_room (Nat.le_of_ble_eq_true rfl)) dX2_isQuarrels_81 ⟨by first | exact Nat.zero_le _ | omega | decide, by first | exact Nat.zero_le _ | omega | decide⟩) ?_
    refine lv_bipush (v := nI 114) hx hb dX2_isQuarrels_84 (by decide) ?_
    refine n_icmp_ne (tgt := 140) hx hb dX2_isQuarrels_86 (by decide) (by omega) (by decide) (fun c_6 => ?_) (fun c_6 => ?_)
    · refine lv_iconst (v := nI 0) hx hb dX2_isQuarrels_140 (by decide) ?_
      exact c_rret (v := nI 0) ((bI_f (show ¬ qrl tp t p0 from by unfold qrl; simp [c_1, c_2, c_3, c_4, c_5, c_6])).symm) hx hb hr rfl hlocks dX2_isQuarrels_141 rfl rfl
    refine lv_aload_n hx hb dX2_isQuarrels_89 rfl (lv_at hl 0 rfl) ?_
    refine lv_aload_n hx hb dX2_isQuarrels_90 rfl (lv_at hl 0 rfl) ?_
    refine m_g_place hx hb hts hown hK hw dX2_isQuarrels_91 ?_
    rw [show Z 8 0 = nI (lxS tp t p0) from hZ.1.2.1]
    refine lv_iconst (v := nI 5) hx hb dX2_isQuarrels_94 (by decide) ?_
    refine n_iadd hx hb dX2_isQuarrels_95 ?_
    refine c_read (va_runV (As := [.int (nI (lxS tp t p0 + 5))]) (rest := []) ⟨hx, hb, hml, hown, hts⟩ (met_X2_byteAt l G ad M Z V (lxS tp t p0 + 5) t (nI (tp (lxS tp t p0 + 5))) hT.1 (by omega) (by omega) (byt hT (by omega))) (cv_X2_X2_byteAt hts ⟨Nat.le_of_ble_eq_true rfl, Nat.le_of_ble_eq_true rfl⟩) (cP.preV hK hw.1 (hw.1.recv hK)) rfl rfl hl.1 rfl (lv_room (Nat.le_of_ble_eq_true rfl)) dX2_isQuarrels_96 ⟨by first | exact Nat.zero_le _ | omega | decide, by first | exact Nat.zero_le _ | omega | decide⟩) ?_
    refine lv_bipush (v := nI 101) hx hb dX2_isQuarrels_99 (by decide) ?_
    refine n_icmp_ne (tgt := 140) hx hb dX2_isQuarrels_101 (by decide) (by omega) (by decide) (fun c_7 => ?_) (fun c_7 => ?_)
    · refine lv_iconst (v := nI 0) hx hb dX2_isQuarrels_140 (by decide) ?_
      exact c_rret (v := nI 0) ((bI_f (show ¬ qrl tp t p0 from by unfold qrl; simp [c_1, c_2, c_3, c_4, c_5, c_6, c_7])).symm) hx hb hr rfl hlocks dX2_isQuarrels_141 rfl rfl
    refine lv_aload_n hx hb dX2_isQuarrels_104 rfl (lv_at hl 0 rfl) ?_
    refine lv_aload_n hx hb dX2_isQuarrels_105 rfl (lv_at hl 0 rfl) ?_
    refine m_g_place hx hb hts hown hK hw dX2_isQuarrels_106 ?_
    rw [show Z 8 0 = nI (lxS tp t p0) from hZ.1.2.1]
    refine lv_bipush (v := nI 6) hx hb dX2_isQuarrels_109 (by decide) ?_
    refine n_iadd hx hb dX2_isQuarrels_111 ?_
    refine c_read (va_runV (As := [.int (nI (lxS tp t p0 + 6))]) (rest := []) ⟨hx, hb, hml, hown, hts⟩ (met_X2_byteAt l G ad M Z V (lxS tp t p0 + 6) t (nI (tp (lxS tp t p0 + 6))) hT.1 (by omega) (by omega) (byt hT (by omega))) (cv_X2_X2_byteAt hts ⟨Nat.le_of_ble_eq_true rfl, Nat.le_of_ble_eq_true rfl⟩) (cP.preV hK hw.1 (hw.1.recv hK)) rfl rfl hl.1 rfl (lv_room (Nat.le_of_ble_eq_true rfl)) dX2_isQuarrels_112 ⟨by first | exact Nat.zero_le _ | omega | decide, by first | exact Nat.zero_le _ | omega | decide⟩) ?_
    refine lv_bipush (v := nI 108) hx hb dX2_isQuarrels_115 (by decide) ?_
    refine n_icmp_ne (tgt := 140) hx hb dX2_isQuarrels_117 (by decide) (by omega) (by decide) (fun c_8 => ?_) (fun c_8 => ?_)
    · refine lv_iconst (v := nI 0) hx hb dX2_isQuarrels_140 (by decide) ?_
      exact c_rret (v := nI 0) ((bI_f (show ¬ qrl tp t p0 from by unfold qrl; simp [c_1, c_2, c_3, c_4, c_5, c_6, c_7, c_8])).symm) hx hb hr rfl hlocks dX2_isQuarrels_141 rfl rfl
    refine lv_aload_n hx hb dX2_isQuarrels_120 rfl (lv_at hl 0 rfl) ?_
    refine lv_aload_n hx hb dX2_isQuarrels_121 rfl (lv_at hl 0 rfl) ?_
    refine m_g_place hx hb hts hown hK hw dX2_isQuarrels_122 ?_
    rw [show Z 8 0 = nI (lxS tp t p0) from hZ.1.2.1]
    refine lv_bipush (v := nI 7) hx hb dX2_isQuarrels_125 (by decide) ?_
    refine n_iadd hx hb dX2_isQuarrels_127 ?_
    refine c_read (va_runV (As := [.int (nI (lxS tp t p0 + 7))]) (rest := []) ⟨hx, hb, hml, hown, hts⟩ (met_X2_byteAt l G ad M Z V (lxS tp t p0 + 7) t (nI (tp (lxS tp t p0 + 7))) hT.1 (by omega) (by omega) (byt hT (by omega))) (cv_X2_X2_byteAt hts ⟨Nat.le_of_ble_eq_true rfl, Nat.le_of_ble_eq_true rfl⟩) (cP.preV hK hw.1 (hw.1.recv hK)) rfl rfl hl.1 rfl (lv_room (Nat.le_of_ble_eq_true rfl)) dX2_isQuarrels_128 ⟨by first | exact Nat.zero_le _ | omega | decide, by first | exact Nat.zero_le _ | omega | decide⟩) ?_
    refine lv_bipush (v := nI 115) hx hb dX2_isQuarrels_131 (by decide) ?_
    refine n_icmp_ne (tgt := 140) hx hb dX2_isQuarrels_133 (by decide) (by omega) (by decide) (fun c_9 => ?_) (fun c_9 => ?_)
    · refine lv_iconst (v := nI 0) hx hb dX2_isQuarrels_140 (by decide) ?_
      exact c_rret (v := nI 0) ((bI_f (show ¬ qrl tp t p0 from by unfold qrl; simp [c_1, c_2, c_3, c_4, c_5, c_6, c_7, c_8, c_9])).symm) hx hb hr rfl hlocks dX2_isQuarrels_141 rfl rfl
    refine lv_iconst (v := nI 1) hx hb dX2_isQuarrels_136 (by decide) ?_
    refine lv_goto (tgt := 141) hx hb dX2_isQuarrels_137 (by decide) ?_
    exact c_rret (v := nI 1) ((bI_t (show qrl tp t p0 from by unfold qrl; simp [c_1, c_2, c_3, c_4, c_5, c_6, c_7, c_8, c_9])).symm) hx hb hr rfl hlocks dX2_isQuarrels_141 rfl rfl
  refine lv_iconst (v := nI 0) hx hb dX2_isQuarrels_72 (by decide) ?_
  exact c_rret (v := nI 0) ((bI_f (show ¬ qrl tp t p0 from by unfold qrl; simp [c_1, c_2, c_3, c_4, c_5])).symm) hx hb hr rfl hlocks dX2_isQuarrels_73 rfl rfl
set_option maxHeartbeats 4000000 in
set_option maxRecDepth 100000 in
theorem met_X2_nameOf (l : Launch) (G : gG) (ad : Nat → Nat) (M Z : Nat → Nat → Int32) (V : Nat → Nat → Int64) (tp : Nat → Nat) (t x0 n so p0 : Nat) (on w0 : Int32) (P : List Nat) (hT : TP tp t M) (hZ : ZB tp t x0 n so on w0 p0 P Z V) (hx0 : x0 ≤ 2040) (hp0 : p0 ≤ t) (hnP : n + P.length ≤ 302) (hP160 : P.length ≤ 159) : Met l yX2_nameOf (ws_ yX2_nameOf cX2_nameOf 1 (some .int)) ({ frames := 3, cells := 0, slots := 0, locals := 71 } : Room) (cP G [.ref (ad 0)] (mH G ad M Z V)) (cR (some (.int (oI (nmO tp t p0))))) 0 0 (fun _ => False) := by
  refine c_start (by decide) (Nat.le_of_ble_eq_true rfl) ?_
  intro p e s m below meth c hx hb hr hlocks hml hown hts hB hK ls hl
  have hw := MS.of hB
  have hl : lv_has ls 1 [(0, .ref (ad 0))] := hl
  have hT9 := lxT_lt hT p0
  refine lv_aload_n hx hb dX2_nameOf_0 rfl (lv_at hl 0 rfl) ?_
  refine m_g_token hx hb hts hown hK hw dX2_nameOf_1 ?_
  rw [show Z 9 0 = nI (lxT tp t p0) from hZ.1.2.2.1]
  refine lv_iconst (v := nI 2) hx hb dX2_nameOf_4 (by decide) ?_
  refine n_icmp_eq (tgt := 10) hx hb dX2_nameOf_5 (by decide) (by omega) (by decide) (fun c_1 => ?_) (fun c_1 => ?_)
  · have e11_ := hZ.1.2.2.2.2 c_1
    refine lv_aload_n hx hb dX2_nameOf_10 rfl (lv_at hl 0 rfl) ?_
    refine m_g_word hx hb hts hown hK hw dX2_nameOf_11 ?_
    rw [show V 11 0 = lxW tp t p0 from e11_]
    refine lv_bipush (v := nI 104) hx hb dX2_nameOf_14 (by decide) ?_
    refine lv_bipush (v := nI 111) hx hb dX2_nameOf_16 (by decide) ?_
    refine lv_bipush (v := nI 117) hx hb dX2_nameOf_18 (by decide) ?_
    refine lv_bipush (v := nI 114) hx hb dX2_nameOf_20 (by decide) ?_
    refine c_read (va_runS (As := [.int (nI 104), .int (nI 111), .int (nI 117), .int (nI 114)]) (rest := [.long (lxW tp t p0)]) ⟨hx, hb, hml, hown, hts⟩ (met_X2_w4 l G 104 111 117 114 (by decide) (by decide) (by decide) (by decide)) (cs_X2_X2_w4 hts ⟨Nat.le_of_ble_eq_true rfl, Nat.le_of_ble_eq_true rfl⟩) (cP.pre hK trivial) rfl rfl hl.1 rfl (lv_room (Nat.le_of_ble_eq_true rfl)) dX2_nameOf_22 ⟨by first | exact Nat.zero_le _ | omega | decide, by first | exact Nat.zero_le _ | omega | decide⟩) ?_
    refine l_cmp_ne (tgt := 31) hx hb dX2_nameOf_25 dX2_nameOf_26 (by decide) (fun c_2 => ?_) (fun c_2 => ?_)
    · refine lv_aload_n hx hb dX2_nameOf_31 rfl (lv_at hl 0 rfl) ?_
      refine m_g_word hx hb hts hown hK hw dX2_nameOf_32 ?_
      rw [show V 11 0 = lxW tp t p0 from e11_]
      refine lv_bipush (v := nI 98) hx hb dX2_nameOf_35 (by decide) ?_
      refine lv_bipush (v := nI 108) hx hb dX2_nameOf_37 (by decide) ?_
      refine lv_bipush (v := nI 111) hx hb dX2_nameOf_39 (by decide) ?_
      refine lv_bipush (v := nI 119) hx hb dX2_nameOf_41 (by decide) ?_
      refine lv_bipush (v := nI 101) hx hb dX2_nameOf_43 (by decide) ?_
      refine lv_bipush (v := nI 114) hx hb dX2_nameOf_45 (by decide) ?_
      refine c_read (va_runS (As := [.int (nI 98), .int (nI 108), .int (nI 111), .int (nI 119), .int (nI 101), .int (nI 114)]) (rest := [.long (lxW tp t p0)]) ⟨hx, hb, hml, hown, hts⟩ (met_X2_w6 l G 98 108 111 119 101 114 (by decide) (by decide) (by decide) (by decide) (by decide) (by decide)) (cs_X2_X2_w6 hts ⟨Nat.le_of_ble_eq_true rfl, Nat.le_of_ble_eq_true rfl⟩) (cP.pre hK trivial) rfl rfl hl.1 rfl (lv_room (Nat.le_of_ble_eq_true rfl)) dX2_nameOf_47 ⟨by first | exact Nat.zero_le _ | omega | decide, by first | exact Nat.zero_le _ | omega | decide⟩) ?_
      refine l_cmp_ne (tgt := 56) hx hb dX2_nameOf_50 dX2_nameOf_51 (by decide) (fun c_3 => ?_) (fun c_3 => ?_)
      · refine lv_aload_n hx hb dX2_nameOf_56 rfl (lv_at hl 0 rfl) ?_
        refine m_g_word hx hb hts hown hK hw dX2_nameOf_57 ?_
        rw [show V 11 0 = lxW tp t p0 from e11_]
        refine lv_bipush (v := nI 108) hx hb dX2_nameOf_60 (by decide) ?_
        refine lv_bipush (v := nI 117) hx hb dX2_nameOf_62 (by decide) ?_
        refine lv_bipush (v := nI 110) hx hb dX2_nameOf_64 (by decide) ?_
        refine lv_bipush (v := nI 103) hx hb dX2_nameOf_66 (by decide) ?_
        refine lv_bipush (v := nI 115) hx hb dX2_nameOf_68 (by decide) ?_
        refine c_read (va_runS (As := [.int (nI 108), .int (nI 117), .int (nI 110), .int (nI 103), .int (nI 115)]) (rest := [.long (lxW tp t p0)]) ⟨hx, hb, hml, hown, hts⟩ (met_X2_w5 l G 108 117 110 103 115 (by decide) (by decide) (by decide) (by decide) (by decide)) (cs_X2_X2_w5 hts ⟨Nat.le_of_ble_eq_true rfl, Nat.le_of_ble_eq_true rfl⟩) (cP.pre hK trivial) rfl rfl hl.1 rfl (lv_room (Nat.le_of_ble_eq_true rfl)) dX2_nameOf_70 ⟨by first | exact Nat.zero_le _ | omega | decide, by first | exact Nat.zero_le _ | omega | decide⟩) ?_
        refine l_cmp_ne (tgt := 79) hx hb dX2_nameOf_73 dX2_nameOf_74 (by decide) (fun c_4 => ?_) (fun c_4 => ?_)
        · refine lv_aload_n hx hb dX2_nameOf_79 rfl (lv_at hl 0 rfl) ?_
          refine m_g_word hx hb hts hown hK hw dX2_nameOf_80 ?_
          rw [show V 11 0 = lxW tp t p0 from e11_]
          refine lv_bipush (v := nI 118) hx hb dX2_nameOf_83 (by decide) ?_
          refine lv_bipush (v := nI 111) hx hb dX2_nameOf_85 (by decide) ?_
          refine lv_bipush (v := nI 105) hx hb dX2_nameOf_87 (by decide) ?_
          refine lv_bipush (v := nI 99) hx hb dX2_nameOf_89 (by decide) ?_
          refine lv_bipush (v := nI 101) hx hb dX2_nameOf_91 (by decide) ?_
          refine c_read (va_runS (As := [.int (nI 118), .int (nI 111), .int (nI 105), .int (nI 99), .int (nI 101)]) (rest := [.long (lxW tp t p0)]) ⟨hx, hb, hml, hown, hts⟩ (met_X2_w5 l G 118 111 105 99 101 (by decide) (by decide) (by decide) (by decide) (by decide)) (cs_X2_X2_w5 hts ⟨Nat.le_of_ble_eq_true rfl, Nat.le_of_ble_eq_true rfl⟩) (cP.pre hK trivial) rfl rfl hl.1 rfl (lv_room (Nat.le_of_ble_eq_true rfl)) dX2_nameOf_93 ⟨by first | exact Nat.zero_le _ | omega | decide, by first | exact Nat.zero_le _ | omega | decide⟩) ?_
          refine l_cmp_ne (tgt := 102) hx hb dX2_nameOf_96 dX2_nameOf_97 (by decide) (fun c_5 => ?_) (fun c_5 => ?_)
          · refine lv_aload_n hx hb dX2_nameOf_102 rfl (lv_at hl 0 rfl) ?_
            refine m_g_word hx hb hts hown hK hw dX2_nameOf_103 ?_
            rw [show V 11 0 = lxW tp t p0 from e11_]
            refine lv_bipush (v := nI 98) hx hb dX2_nameOf_106 (by decide) ?_
            refine lv_bipush (v := nI 101) hx hb dX2_nameOf_108 (by decide) ?_
            refine lv_bipush (v := nI 97) hx hb dX2_nameOf_110 (by decide) ?_
            refine lv_bipush (v := nI 100) hx hb dX2_nameOf_112 (by decide) ?_
            refine lv_bipush (v := nI 115) hx hb dX2_nameOf_114 (by decide) ?_
            refine c_read (va_runS (As := [.int (nI 98), .int (nI 101), .int (nI 97), .int (nI 100), .int (nI 115)]) (rest := [.long (lxW tp t p0)]) ⟨hx, hb, hml, hown, hts⟩ (met_X2_w5 l G 98 101 97 100 115 (by decide) (by decide) (by decide) (by decide) (by decide)) (cs_X2_X2_w5 hts ⟨Nat.le_of_ble_eq_true rfl, Nat.le_of_ble_eq_true rfl⟩) (cP.pre hK trivial) rfl rfl hl.1 rfl (lv_room (Nat.le_of_ble_eq_true rfl)) dX2_nameOf_116 ⟨by first | exact Nat.zero_le _ | omega | decide, by first | exact Nat.zero_le _ | omega | decide⟩) ?_
            refine l_cmp_ne (tgt := 125) hx hb dX2_nameOf_119 dX2_nameOf_120 (by decide) (fun c_6 => ?_) (fun c_6 => ?_)
            · refine lv_aload_n hx hb dX2_nameOf_125 rfl (lv_at hl 0 rfl) ?_
              refine m_g_word hx hb hts hown hK hw dX2_nameOf_126 ?_
              rw [show V 11 0 = lxW tp t p0 from e11_]
              refine lv_bipush (v := nI 107) hx hb dX2_nameOf_129 (by decide) ?_
              refine lv_bipush (v := nI 105) hx hb dX2_nameOf_131 (by decide) ?_
              refine lv_bipush (v := nI 110) hx hb dX2_nameOf_133 (by decide) ?_
              refine lv_bipush (v := nI 100) hx hb dX2_nameOf_135 (by decide) ?_
              refine c_read (va_runS (As := [.int (nI 107), .int (nI 105), .int (nI 110), .int (nI 100)]) (rest := [.long (lxW tp t p0)]) ⟨hx, hb, hml, hown, hts⟩ (met_X2_w4 l G 107 105 110 100 (by decide) (by decide) (by decide) (by decide)) (cs_X2_X2_w4 hts ⟨Nat.le_of_ble_eq_true rfl, Nat.le_of_ble_eq_true rfl⟩) (cP.pre hK trivial) rfl rfl hl.1 rfl (lv_room (Nat.le_of_ble_eq_true rfl)) dX2_nameOf_137 ⟨by first | exact Nat.zero_le _ | omega | decide, by first | exact Nat.zero_le _ | omega | decide⟩) ?_
              refine l_cmp_ne (tgt := 146) hx hb dX2_nameOf_140 dX2_nameOf_141 (by decide) (fun c_7 => ?_) (fun c_7 => ?_)
              · refine lv_aload_n hx hb dX2_nameOf_146 rfl (lv_at hl 0 rfl) ?_
                refine m_g_word hx hb hts hown hK hw dX2_nameOf_147 ?_
                rw [show V 11 0 = lxW tp t p0 from e11_]
                refine lv_bipush (v := nI 119) hx hb dX2_nameOf_150 (by decide) ?_
                refine lv_bipush (v := nI 97) hx hb dX2_nameOf_152 (by decide) ?_
                refine lv_bipush (v := nI 110) hx hb dX2_nameOf_154 (by decide) ?_
                refine lv_bipush (v := nI 116) hx hb dX2_nameOf_156 (by decide) ?_
                refine c_read (va_runS (As := [.int (nI 119), .int (nI 97), .int (nI 110), .int (nI 116)]) (rest := [.long (lxW tp t p0)]) ⟨hx, hb, hml, hown, hts⟩ (met_X2_w4 l G 119 97 110 116 (by decide) (by decide) (by decide) (by decide)) (cs_X2_X2_w4 hts ⟨Nat.le_of_ble_eq_true rfl, Nat.le_of_ble_eq_true rfl⟩) (cP.pre hK trivial) rfl rfl hl.1 rfl (lv_room (Nat.le_of_ble_eq_true rfl)) dX2_nameOf_158 ⟨by first | exact Nat.zero_le _ | omega | decide, by first | exact Nat.zero_le _ | omega | decide⟩) ?_
                refine l_cmp_ne (tgt := 168) hx hb dX2_nameOf_161 dX2_nameOf_162 (by decide) (fun c_8 => ?_) (fun c_8 => ?_)
                · refine lv_aload_n hx hb dX2_nameOf_168 rfl (lv_at hl 0 rfl) ?_
                  refine m_g_word hx hb hts hown hK hw dX2_nameOf_169 ?_
                  rw [show V 11 0 = lxW tp t p0 from e11_]
                  refine lv_bipush (v := nI 119) hx hb dX2_nameOf_172 (by decide) ?_
                  refine lv_bipush (v := nI 111) hx hb dX2_nameOf_174 (by decide) ?_
                  refine lv_bipush (v := nI 114) hx hb dX2_nameOf_176 (by decide) ?_
                  refine lv_bipush (v := nI 116) hx hb dX2_nameOf_178 (by decide) ?_
                  refine lv_bipush (v := nI 104) hx hb dX2_nameOf_180 (by decide) ?_
                  refine c_read (va_runS (As := [.int (nI 119), .int (nI 111), .int (nI 114), .int (nI 116), .int (nI 104)]) (rest := [.long (lxW tp t p0)]) ⟨hx, hb, hml, hown, hts⟩ (met_X2_w5 l G 119 111 114 116 104 (by decide) (by decide) (by decide) (by decide) (by decide)) (cs_X2_X2_w5 hts ⟨Nat.le_of_ble_eq_true rfl, Nat.le_of_ble_eq_true rfl⟩) (cP.pre hK trivial) rfl rfl hl.1 rfl (lv_room (Nat.le_of_ble_eq_true rfl)) dX2_nameOf_182 ⟨by first | exact Nat.zero_le _ | omega | decide, by first | exact Nat.zero_le _ | omega | decide⟩) ?_
                  refine l_cmp_ne (tgt := 192) hx hb dX2_nameOf_185 dX2_nameOf_186 (by decide) (fun c_9 => ?_) (fun c_9 => ?_)
                  · refine lv_aload_n hx hb dX2_nameOf_192 rfl (lv_at hl 0 rfl) ?_
                    refine m_g_word hx hb hts hown hK hw dX2_nameOf_193 ?_
                    rw [show V 11 0 = lxW tp t p0 from e11_]
                    refine lv_bipush (v := nI 98) hx hb dX2_nameOf_196 (by decide) ?_
                    refine lv_bipush (v := nI 114) hx hb dX2_nameOf_198 (by decide) ?_
                    refine lv_bipush (v := nI 101) hx hb dX2_nameOf_200 (by decide) ?_
                    refine c_read (va_runS (As := [.int (nI 98), .int (nI 114), .int (nI 101)]) (rest := [.long (lxW tp t p0)]) ⟨hx, hb, hml, hown, hts⟩ (met_X2_w3 l G 98 114 101 (by decide) (by decide) (by decide)) (cs_X2_X2_w3 hts ⟨Nat.le_of_ble_eq_true rfl, Nat.le_of_ble_eq_true rfl⟩) (cP.pre hK trivial) rfl rfl hl.1 rfl (lv_room (Nat.le_of_ble_eq_true rfl)) dX2_nameOf_202 ⟨by first | exact Nat.zero_le _ | omega | decide, by first | exact Nat.zero_le _ | omega | decide⟩) ?_
                    refine lv_bipush (v := nI 32) hx hb dX2_nameOf_205 (by decide) ?_
                    refine lv_lshl (v := (w8 (w8 (lN 98) 114) 101) <<< ((nI 32).toInt64 &&& 63)) hx hb dX2_nameOf_207 rfl ?_
                    refine lv_bipush (v := nI 97) hx hb dX2_nameOf_208 (by decide) ?_
                    refine lv_bipush (v := nI 116) hx hb dX2_nameOf_210 (by decide) ?_
                    refine lv_bipush (v := nI 104) hx hb dX2_nameOf_212 (by decide) ?_
                    refine lv_bipush (v := nI 115) hx hb dX2_nameOf_214 (by decide) ?_
                    refine c_read (va_runS (As := [.int (nI 97), .int (nI 116), .int (nI 104), .int (nI 115)]) (rest := [.long ((w8 (w8 (lN 98) 114) 101) <<< ((nI 32).toInt64 &&& 63)), .long (lxW tp t p0)]) ⟨hx, hb, hml, hown, hts⟩ (met_X2_w4 l G 97 116 104 115 (by decide) (by decide) (by decide) (by decide)) (cs_X2_X2_w4 hts ⟨Nat.le_of_ble_eq_true rfl, Nat.le_of_ble_eq_true rfl⟩) (cP.pre hK trivial) rfl rfl hl.1 rfl (lv_room (Nat.le_of_ble_eq_true rfl)) dX2_nameOf_216 ⟨by first | exact Nat.zero_le _ | omega | decide, by first | exact Nat.zero_le _ | omega | decide⟩) ?_
                    refine lv_lor hx hb dX2_nameOf_219 ?_
                    refine l_cmp_ne (tgt := 227) hx hb dX2_nameOf_220 dX2_nameOf_221 (by decide) (fun c_10 => ?_) (fun c_10 => ?_)
                    · refine lv_aload_n hx hb dX2_nameOf_227 rfl (lv_at hl 0 rfl) ?_
                      refine c_read (va_runV (As := []) (rest := []) ⟨hx, hb, hml, hown, hts⟩ (met_X2_isQuarrels l G ad M Z V tp t x0 n so p0 on w0 P hT ⟨hZ.1, hZ.2.1, hZ.2.2.1, hZ.2.2.2.1, hZ.2.2.2.2.1, hZ.2.2.2.2.2.1, hZ.2.2.2.2.2.2.1, hZ.2.2.2.2.2.2.2.1, hZ.2.2.2.2.2.2.2.2⟩ hx0 (by omega) (by omega) (by omega)) (cv_X2_X2_isQuarrels hts ⟨Nat.le_of_ble_eq_true rfl, Nat.le_of_ble_eq_true rfl⟩) (cP.preV hK hw.1 (hw.1.recv hK)) rfl rfl hl.1 rfl (lv_room (Nat.le_of_ble_eq_true rfl)) dX2_nameOf_228 ⟨by first | exact Nat.zero_le _ | omega | decide, by first | exact Nat.zero_le _ | omega | decide⟩) ?_
                      refine b_if_eq (tgt := 239) hx hb dX2_nameOf_231 (by decide) (fun c_11 => ?_) (fun c_11 => ?_)
                      · refine lv_aload_n hx hb dX2_nameOf_239 rfl (lv_at hl 0 rfl) ?_
                        refine m_g_word hx hb hts hown hK hw dX2_nameOf_240 ?_
                        rw [show V 11 0 = lxW tp t p0 from e11_]
                        refine lv_bipush (v := nI 109) hx hb dX2_nameOf_243 (by decide) ?_
                        refine lv_bipush (v := nI 97) hx hb dX2_nameOf_245 (by decide) ?_
                        refine lv_bipush (v := nI 110) hx hb dX2_nameOf_247 (by decide) ?_
                        refine lv_bipush (v := nI 121) hx hb dX2_nameOf_249 (by decide) ?_
                        refine c_read (va_runS (As := [.int (nI 109), .int (nI 97), .int (nI 110), .int (nI 121)]) (rest := [.long (lxW tp t p0)]) ⟨hx, hb, hml, hown, hts⟩ (met_X2_w4 l G 109 97 110 121 (by decide) (by decide) (by decide) (by decide)) (cs_X2_X2_w4 hts ⟨Nat.le_of_ble_eq_true rfl, Nat.le_of_ble_eq_true rfl⟩) (cP.pre hK trivial) rfl rfl hl.1 rfl (lv_room (Nat.le_of_ble_eq_true rfl)) dX2_nameOf_251 ⟨by first | exact Nat.zero_le _ | omega | decide, by first | exact Nat.zero_le _ | omega | decide⟩) ?_
                        refine l_cmp_ne (tgt := 263) hx hb dX2_nameOf_254 dX2_nameOf_255 (by decide) (fun c_12 => ?_) (fun c_12 => ?_)
                        · refine lv_iconst (v := (-1)) hx hb dX2_nameOf_263 (by decide) ?_
                          exact c_rret (v := (-1)) (by rw [show nmO tp t p0 = none from by unfold nmO; first | (simp [c_1, c_2, c_3, c_4, c_5, c_6, c_7, c_8, c_9, c_10, c_11, c_12]; done) | (clear hl; simp_all; done) | ((repeat' split) <;> simp_all)]; rfl) hx hb hr rfl hlocks dX2_nameOf_264 rfl rfl
                        refine lv_bipush (v := nI 10) hx hb dX2_nameOf_258 (by decide) ?_
                        refine lv_goto (tgt := 264) hx hb dX2_nameOf_260 (by decide) ?_
                        exact c_rret (v := nI 10) (by rw [show nmO tp t p0 = some 10 from by unfold nmO; first | (simp [c_1, c_2, c_3, c_4, c_5, c_6, c_7, c_8, c_9, c_10, c_11, c_12]; done) | (clear hl; simp_all; done) | ((repeat' split) <;> simp_all)]; rfl) hx hb hr rfl hlocks dX2_nameOf_264 rfl rfl
                      refine lv_bipush (v := nI 9) hx hb dX2_nameOf_234 (by decide) ?_
                      refine lv_goto (tgt := 264) hx hb dX2_nameOf_236 (by decide) ?_
                      exact c_rret (v := nI 9) (by rw [show nmO tp t p0 = some 9 from by unfold nmO; first | (simp [c_1, c_2, c_3, c_4, c_5, c_6, c_7, c_8, c_9, c_10, c_11]; done) | (clear hl; simp_all; done) | ((repeat' split) <;> simp_all)]; rfl) hx hb hr rfl hlocks dX2_nameOf_264 rfl rfl
                    refine lv_bipush (v := nI 8) hx hb dX2_nameOf_224 (by decide) ?_
                    exact c_rret (v := nI 8) (by rw [show nmO tp t p0 = some 8 from by unfold nmO; first | (simp [c_1, c_2, c_3, c_4, c_5, c_6, c_7, c_8, c_9, c_10]; done) | (clear hl; simp_all; done) | ((repeat' split) <;> simp_all)]; rfl) hx hb hr rfl hlocks dX2_nameOf_226 rfl rfl
                  refine lv_bipush (v := nI 7) hx hb dX2_nameOf_189 (by decide) ?_
                  exact c_rret (v := nI 7) (by rw [show nmO tp t p0 = some 7 from by unfold nmO; first | (simp [c_1, c_2, c_3, c_4, c_5, c_6, c_7, c_8, c_9]; done) | (clear hl; simp_all; done) | ((repeat' split) <;> simp_all)]; rfl) hx hb hr rfl hlocks dX2_nameOf_191 rfl rfl
                refine lv_bipush (v := nI 6) hx hb dX2_nameOf_165 (by decide) ?_
                exact c_rret (v := nI 6) (by rw [show nmO tp t p0 = some 6 from by unfold nmO; first | (simp [c_1, c_2, c_3, c_4, c_5, c_6, c_7, c_8]; done) | (clear hl; simp_all; done) | ((repeat' split) <;> simp_all)]; rfl) hx hb hr rfl hlocks dX2_nameOf_167 rfl rfl
              refine lv_iconst (v := nI 5) hx hb dX2_nameOf_144 (by decide) ?_
              exact c_rret (v := nI 5) (by rw [show nmO tp t p0 = some 5 from by unfold nmO; first | (simp [c_1, c_2, c_3, c_4, c_5, c_6, c_7]; done) | (clear hl; simp_all; done) | ((repeat' split) <;> simp_all)]; rfl) hx hb hr rfl hlocks dX2_nameOf_145 rfl rfl
            refine lv_iconst (v := nI 4) hx hb dX2_nameOf_123 (by decide) ?_
            exact c_rret (v := nI 4) (by rw [show nmO tp t p0 = some 4 from by unfold nmO; first | (simp [c_1, c_2, c_3, c_4, c_5, c_6]; done) | (clear hl; simp_all; done) | ((repeat' split) <;> simp_all)]; rfl) hx hb hr rfl hlocks dX2_nameOf_124 rfl rfl
          refine lv_iconst (v := nI 3) hx hb dX2_nameOf_100 (by decide) ?_
          exact c_rret (v := nI 3) (by rw [show nmO tp t p0 = some 3 from by unfold nmO; first | (simp [c_1, c_2, c_3, c_4, c_5]; done) | (clear hl; simp_all; done) | ((repeat' split) <;> simp_all)]; rfl) hx hb hr rfl hlocks dX2_nameOf_101 rfl rfl
        refine lv_iconst (v := nI 2) hx hb dX2_nameOf_77 (by decide) ?_
        exact c_rret (v := nI 2) (by rw [show nmO tp t p0 = some 2 from by unfold nmO; first | (simp [c_1, c_2, c_3, c_4]; done) | (clear hl; simp_all; done) | ((repeat' split) <;> simp_all)]; rfl) hx hb hr rfl hlocks dX2_nameOf_78 rfl rfl
      refine lv_iconst (v := nI 1) hx hb dX2_nameOf_54 (by decide) ?_
      exact c_rret (v := nI 1) (by rw [show nmO tp t p0 = some 1 from by unfold nmO; first | (simp [c_1, c_2, c_3]; done) | (clear hl; simp_all; done) | ((repeat' split) <;> simp_all)]; rfl) hx hb hr rfl hlocks dX2_nameOf_55 rfl rfl
    refine lv_iconst (v := nI 0) hx hb dX2_nameOf_29 (by decide) ?_
    exact c_rret (v := nI 0) (by rw [show nmO tp t p0 = some 0 from by unfold nmO; first | (simp [c_1, c_2]; done) | (clear hl; simp_all; done) | ((repeat' split) <;> simp_all)]; rfl) hx hb hr rfl hlocks dX2_nameOf_30 rfl rfl
  refine lv_iconst (v := (-1)) hx hb dX2_nameOf_8 (by decide) ?_
  exact c_rret (v := (-1)) (by rw [show nmO tp t p0 = none from by unfold nmO; first | (simp [c_1]; done) | (clear hl; simp_all; done) | ((repeat' split) <;> simp_all)]; rfl) hx hb hr rfl hlocks dX2_nameOf_9 rfl rfl
set_option maxHeartbeats 4000000 in
set_option maxRecDepth 100000 in
theorem met_X2_isOf (l : Launch) (G : gG) (ad : Nat → Nat) (M Z : Nat → Nat → Int32) (V : Nat → Nat → Int64) (tp : Nat → Nat) (t x0 n so p0 : Nat) (on w0 : Int32) (P : List Nat) (hT : TP tp t M) (hZ : ZB tp t x0 n so on w0 p0 P Z V) (hx0 : x0 ≤ 2040) (hp0 : p0 ≤ t) (hnP : n + P.length ≤ 302) (hP160 : P.length ≤ 159) (i : Nat) (hi : i ≤ 10) (hso : so < 8) : Met l yX2_isOf (ws_ yX2_isOf cX2_isOf 2 (some .boolean)) ({ frames := 0, cells := 0, slots := 0, locals := 0 } : Room) (cP G [.ref (ad 0), .int (nI i)] (mH G ad M Z V)) (cR (some (.int (bI (isO so i))))) 0 0 (fun _ => False) := by
  refine c_start (by decide) (Nat.le_of_ble_eq_true rfl) ?_
  intro p e s m below meth c hx hb hr hlocks hml hown hts hB hK ls hl
  have hw := MS.of hB
  have hl : lv_has ls 2 [(0, .ref (ad 0)), (1, .int (nI i))] := hl
  refine lv_iload_n hx hb dX2_isOf_0 rfl (lv_at hl 1 rfl) ?_
  refine n_if_ne (tgt := 6) hx hb dX2_isOf_1 (by decide) (by omega) (fun c_1 => ?_) (fun c_1 => ?_)
  · refine lv_iload_n hx hb dX2_isOf_6 rfl (lv_at hl 1 rfl) ?_
    refine lv_iconst (v := nI 5) hx hb dX2_isOf_7 (by decide) ?_
    refine n_icmp_ge (tgt := 33) hx hb dX2_isOf_8 (by decide) (by omega) (by decide) (fun c_2 => ?_) (fun c_2 => ?_)
    · refine lv_iload_n hx hb dX2_isOf_33 rfl (lv_at hl 1 rfl) ?_
      refine lv_bipush (v := nI 8) hx hb dX2_isOf_34 (by decide) ?_
      refine n_icmp_ge (tgt := 61) hx hb dX2_isOf_36 (by decide) (by omega) (by decide) (fun c_3 => ?_) (fun c_3 => ?_)
      · refine lv_iload_n hx hb dX2_isOf_61 rfl (lv_at hl 1 rfl) ?_
        refine lv_bipush (v := nI 8) hx hb dX2_isOf_62 (by decide) ?_
        refine n_icmp_ne (tgt := 83) hx hb dX2_isOf_64 (by decide) (by omega) (by decide) (fun c_4 => ?_) (fun c_4 => ?_)
        · refine lv_aload_n hx hb dX2_isOf_83 rfl (lv_at hl 0 rfl) ?_
          refine m_g_sort0 hx hb hts hown hK hw dX2_isOf_84 ?_
          rw [show Z 20 0 = nI so from hZ.2.2.2.2.2.2.2.1]
          refine lv_iconst (v := nI 2) hx hb dX2_isOf_87 (by decide) ?_
          refine n_icmp_ne (tgt := 95) hx hb dX2_isOf_88 (by decide) (by omega) (by decide) (fun c_5 => ?_) (fun c_5 => ?_)
          · refine lv_iconst (v := nI 0) hx hb dX2_isOf_95 (by decide) ?_
            exact c_rret (v := nI 0) ((bI_f (show ¬ isO so i from by unfold isO; omega)).symm) hx hb hr rfl hlocks dX2_isOf_96 rfl rfl
          refine lv_iconst (v := nI 1) hx hb dX2_isOf_91 (by decide) ?_
          refine lv_goto (tgt := 96) hx hb dX2_isOf_92 (by decide) ?_
          exact c_rret (v := nI 1) ((bI_t (show isO so i from by unfold isO; omega)).symm) hx hb hr rfl hlocks dX2_isOf_96 rfl rfl
        refine lv_aload_n hx hb dX2_isOf_67 rfl (lv_at hl 0 rfl) ?_
        refine m_g_sort0 hx hb hts hown hK hw dX2_isOf_68 ?_
        rw [show Z 20 0 = nI so from hZ.2.2.2.2.2.2.2.1]
        refine lv_iconst (v := nI 3) hx hb dX2_isOf_71 (by decide) ?_
        refine n_icmp_ne (tgt := 79) hx hb dX2_isOf_72 (by decide) (by omega) (by decide) (fun c_6 => ?_) (fun c_6 => ?_)
        · refine lv_iconst (v := nI 0) hx hb dX2_isOf_79 (by decide) ?_
          refine lv_goto (tgt := 96) hx hb dX2_isOf_80 (by decide) ?_
          exact c_rret (v := nI 0) ((bI_f (show ¬ isO so i from by unfold isO; omega)).symm) hx hb hr rfl hlocks dX2_isOf_96 rfl rfl
        refine lv_iconst (v := nI 1) hx hb dX2_isOf_75 (by decide) ?_
        refine lv_goto (tgt := 96) hx hb dX2_isOf_76 (by decide) ?_
        exact c_rret (v := nI 1) ((bI_t (show isO so i from by unfold isO; omega)).symm) hx hb hr rfl hlocks dX2_isOf_96 rfl rfl
      refine lv_aload_n hx hb dX2_isOf_39 rfl (lv_at hl 0 rfl) ?_
      refine m_g_sort0 hx hb hts hown hK hw dX2_isOf_40 ?_
      rw [show Z 20 0 = nI so from hZ.2.2.2.2.2.2.2.1]
      refine lv_iconst (v := nI 2) hx hb dX2_isOf_43 (by decide) ?_
      refine n_icmp_eq (tgt := 55) hx hb dX2_isOf_44 (by decide) (by omega) (by decide) (fun c_7 => ?_) (fun c_7 => ?_)
      · refine lv_iconst (v := nI 1) hx hb dX2_isOf_55 (by decide) ?_
        refine lv_goto (tgt := 60) hx hb dX2_isOf_56 (by decide) ?_
        exact c_rret (v := nI 1) ((bI_t (show isO so i from by unfold isO; omega)).symm) hx hb hr rfl hlocks dX2_isOf_60 rfl rfl
      refine lv_aload_n hx hb dX2_isOf_47 rfl (lv_at hl 0 rfl) ?_
      refine m_g_sort0 hx hb hts hown hK hw dX2_isOf_48 ?_
      rw [show Z 20 0 = nI so from hZ.2.2.2.2.2.2.2.1]
      refine lv_iconst (v := nI 3) hx hb dX2_isOf_51 (by decide) ?_
      refine n_icmp_ne (tgt := 59) hx hb dX2_isOf_52 (by decide) (by omega) (by decide) (fun c_8 => ?_) (fun c_8 => ?_)
      · refine lv_iconst (v := nI 0) hx hb dX2_isOf_59 (by decide) ?_
        exact c_rret (v := nI 0) ((bI_f (show ¬ isO so i from by unfold isO; omega)).symm) hx hb hr rfl hlocks dX2_isOf_60 rfl rfl
      refine lv_iconst (v := nI 1) hx hb dX2_isOf_55 (by decide) ?_
      refine lv_goto (tgt := 60) hx hb dX2_isOf_56 (by decide) ?_
      exact c_rret (v := nI 1) ((bI_t (show isO so i from by unfold isO; omega)).symm) hx hb hr rfl hlocks dX2_isOf_60 rfl rfl
    refine lv_aload_n hx hb dX2_isOf_11 rfl (lv_at hl 0 rfl) ?_
    refine m_g_sort0 hx hb hts hown hK hw dX2_isOf_12 ?_
    rw [show Z 20 0 = nI so from hZ.2.2.2.2.2.2.2.1]
    refine lv_iconst (v := nI 1) hx hb dX2_isOf_15 (by decide) ?_
    refine n_icmp_eq (tgt := 27) hx hb dX2_isOf_16 (by decide) (by omega) (by decide) (fun c_9 => ?_) (fun c_9 => ?_)
    · refine lv_iconst (v := nI 1) hx hb dX2_isOf_27 (by decide) ?_
      refine lv_goto (tgt := 32) hx hb dX2_isOf_28 (by decide) ?_
      exact c_rret (v := nI 1) ((bI_t (show isO so i from by unfold isO; omega)).symm) hx hb hr rfl hlocks dX2_isOf_32 rfl rfl
    refine lv_aload_n hx hb dX2_isOf_19 rfl (lv_at hl 0 rfl) ?_
    refine m_g_sort0 hx hb hts hown hK hw dX2_isOf_20 ?_
    rw [show Z 20 0 = nI so from hZ.2.2.2.2.2.2.2.1]
    refine lv_iconst (v := nI 3) hx hb dX2_isOf_23 (by decide) ?_
    refine n_icmp_ne (tgt := 31) hx hb dX2_isOf_24 (by decide) (by omega) (by decide) (fun c_10 => ?_) (fun c_10 => ?_)
    · refine lv_iconst (v := nI 0) hx hb dX2_isOf_31 (by decide) ?_
      exact c_rret (v := nI 0) ((bI_f (show ¬ isO so i from by unfold isO; omega)).symm) hx hb hr rfl hlocks dX2_isOf_32 rfl rfl
    refine lv_iconst (v := nI 1) hx hb dX2_isOf_27 (by decide) ?_
    refine lv_goto (tgt := 32) hx hb dX2_isOf_28 (by decide) ?_
    exact c_rret (v := nI 1) ((bI_t (show isO so i from by unfold isO; omega)).symm) hx hb hr rfl hlocks dX2_isOf_32 rfl rfl
  refine lv_iconst (v := nI 1) hx hb dX2_isOf_4 (by decide) ?_
  exact c_rret (v := nI 1) ((bI_t (show isO so i from by unfold isO; omega)).symm) hx hb hr rfl hlocks dX2_isOf_5 rfl rfl
set_option maxHeartbeats 4000000 in
set_option maxRecDepth 100000 in
theorem met_X2_isAskAhead (l : Launch) (G : gG) (ad : Nat → Nat) (M Z : Nat → Nat → Int32) (V : Nat → Nat → Int64) (tp : Nat → Nat) (t x0 n so p0 : Nat) (on w0 : Int32) (P : List Nat) (hT : TP tp t M) (hZ : ZB tp t x0 n so on w0 p0 P Z V) (hx0 : x0 ≤ 2040) (hp0 : p0 ≤ t) (hnP : n + P.length ≤ 302) (hP160 : P.length ≤ 159) : Met l yX2_isAskAhead (ws_ yX2_isAskAhead cX2_isAskAhead 2 (some .boolean)) ({ frames := 2, cells := 0, slots := 0, locals := 43 } : Room) (cP G [.ref (ad 0), .int (nI 0)] (mH G ad M Z V)) (cR (some (.int (bI (askA P))))) 0 0 (fun _ => False) := by
  refine c_start (by decide) (Nat.le_of_ble_eq_true rfl) ?_
  intro p e s m below meth c hx hb hr hlocks hml hown hts hB hK ls hl
  have hw := MS.of hB
  have hl : lv_has ls 2 [(0, .ref (ad 0)), (1, .int (nI 0))] := hl
  have hkP := kOp_lt hZ.2.2.2.2.1
  have hrk := rk_le
  refine lv_aload_n hx hb dX2_isAskAhead_0 rfl (lv_at hl 0 rfl) ?_
  refine lv_iload_n hx hb dX2_isAskAhead_1 rfl (lv_at hl 1 rfl) ?_
  refine c_read (va_runV (As := [.int (nI 0)]) (rest := []) ⟨hx, hb, hml, hown, hts⟩ (met_X2_kindOpen l G ad M Z V P hZ.2.2.2.1 hZ.2.2.2.2.1 (by omega)) (cv_X2_X2_kindOpen hts ⟨Nat.le_of_ble_eq_true rfl, Nat.le_of_ble_eq_true rfl⟩) (cP.preV hK hw.1 (hw.1.recv hK)) rfl rfl hl.1 rfl (lv_room (Nat.le_of_ble_eq_true rfl)) dX2_isAskAhead_2 ⟨by first | exact Nat.zero_le _ | omega | decide, by first | exact Nat.zero_le _ | omega | decide⟩) ?_
  refine lv_bipush (v := nI 41) hx hb dX2_isAskAhead_5 (by decide) ?_
  refine n_icmp_ne (tgt := 59) hx hb dX2_isAskAhead_7 (by decide) (by omega) (by decide) (fun c_1 => ?_) (fun c_1 => ?_)
  · refine lv_iconst (v := nI 0) hx hb dX2_isAskAhead_59 (by decide) ?_
    exact c_rret (v := nI 0) ((bI_f (fun h9 => absurd h9.1 c_1)).symm) hx hb hr rfl hlocks dX2_isAskAhead_60 rfl rfl
  refine lv_aload_n hx hb dX2_isAskAhead_10 rfl (lv_at hl 0 rfl) ?_
  refine m_g_piled hx hb hts hown hK hw dX2_isAskAhead_11 ?_
  rw [show Z 17 0 = nI P.length from hZ.2.2.2.1]
  refine n_if_eq (tgt := 55) hx hb dX2_isAskAhead_14 (by decide) (by omega) (fun c_2 => ?_) (fun c_2 => ?_)
  · refine lv_iconst (v := nI 1) hx hb dX2_isAskAhead_55 (by decide) ?_
    refine lv_goto (tgt := 60) hx hb dX2_isAskAhead_56 (by decide) ?_
    exact c_rret (v := nI 1) ((bI_t (by have hPe := List.eq_nil_of_length_eq_zero c_2; subst hPe; exact absurd c_1 (by decide))).symm) hx hb hr rfl hlocks dX2_isAskAhead_60 rfl rfl
  obtain ⟨x, r, rfl⟩ : ∃ x r, P = x :: r := by
    cases P with
    | nil => exact absurd c_2 (Nat.lt_irrefl 0)
    | cons x r => exact ⟨x, r, rfl⟩
  have hP1r : r.length + 1 ≤ 159 := hP160
  have hx64 := hZ.2.2.2.2.1.2.1
  refine lv_aload_n hx hb dX2_isAskAhead_17 rfl (lv_at hl 0 rfl) ?_
  refine m_g_pile hx hb hts hown hK hw dX2_isAskAhead_18 ?_
  refine lv_aload_n hx hb dX2_isAskAhead_21 rfl (lv_at hl 0 rfl) ?_
  refine m_g_piled hx hb hts hown hK hw dX2_isAskAhead_22 ?_
  rw [show Z 17 0 = nI (r.length + 1) from hZ.2.2.2.1]
  refine lv_iconst (v := nI 1) hx hb dX2_isAskAhead_25 (by decide) ?_
  refine n_isub hx hb (by omega) dX2_isAskAhead_26 ?_
  refine m_l_pile (j := (r.length + 1) - 1) (v := nI x) hx hb hK hw hZ.2.2.2.2.1.1 (by omega) dX2_isAskAhead_27 ?_
  refine lv_bipush (v := nI 41) hx hb dX2_isAskAhead_28 (by decide) ?_
  refine n_icmp_eq (tgt := 55) hx hb dX2_isAskAhead_30 (by decide) (by omega) (by decide) (fun c_3 => ?_) (fun c_3 => ?_)
  · refine lv_iconst (v := nI 1) hx hb dX2_isAskAhead_55 (by decide) ?_
    refine lv_goto (tgt := 60) hx hb dX2_isAskAhead_56 (by decide) ?_
    try rw [nI_leI (by decide) (by omega), nI_leI (by omega) (by decide)] at c_3
    exact c_rret (v := nI 1) ((bI_t (by rw [askA_c]; skip; omega)).symm) hx hb hr rfl hlocks dX2_isAskAhead_60 rfl rfl
  refine lv_aload_n hx hb dX2_isAskAhead_33 rfl (lv_at hl 0 rfl) ?_
  refine m_g_pile hx hb hts hown hK hw dX2_isAskAhead_34 ?_
  refine lv_aload_n hx hb dX2_isAskAhead_37 rfl (lv_at hl 0 rfl) ?_
  refine m_g_piled hx hb hts hown hK hw dX2_isAskAhead_38 ?_
  rw [show Z 17 0 = nI (r.length + 1) from hZ.2.2.2.1]
  refine lv_iconst (v := nI 1) hx hb dX2_isAskAhead_41 (by decide) ?_
  refine n_isub hx hb (by omega) dX2_isAskAhead_42 ?_
  refine m_l_pile (j := (r.length + 1) - 1) (v := nI x) hx hb hK hw hZ.2.2.2.2.1.1 (by omega) dX2_isAskAhead_43 ?_
  refine c_read (va_runS (As := [.int (nI x)]) (rest := []) ⟨hx, hb, hml, hown, hts⟩ (met_X2_rank l G x (by omega)) (cs_X2_X2_rank hts ⟨Nat.le_of_ble_eq_true rfl, Nat.le_of_ble_eq_true rfl⟩) (cP.pre hK trivial) rfl rfl hl.1 rfl (lv_room (Nat.le_of_ble_eq_true rfl)) dX2_isAskAhead_44 ⟨by first | exact Nat.zero_le _ | omega | decide, by first | exact Nat.zero_le _ | omega | decide⟩) ?_
  have hrx := rk_le x
  refine lv_iconst (v := nI 1) hx hb dX2_isAskAhead_47 (by decide) ?_
  refine lv_iconst (v := nI 3) hx hb dX2_isAskAhead_48 (by decide) ?_
  refine c_read (va_runS (As := [.int (nI (rk x)), .int (nI 1), .int (nI 3)]) (rest := []) ⟨hx, hb, hml, hown, hts⟩ (met_X2_isIn l G (nI (rk x)) (nI 1) (nI 3)) (cs_X2_X2_isIn hts ⟨Nat.le_of_ble_eq_true rfl, Nat.le_of_ble_eq_true rfl⟩) (cP.pre hK trivial) rfl rfl hl.1 rfl (lv_room (Nat.le_of_ble_eq_true rfl)) dX2_isAskAhead_49 ⟨by first | exact Nat.zero_le _ | omega | decide, by first | exact Nat.zero_le _ | omega | decide⟩) ?_
  refine b_if_eq (tgt := 59) hx hb dX2_isAskAhead_52 (by decide) (fun c_4 => ?_) (fun c_4 => ?_)
  · refine lv_iconst (v := nI 0) hx hb dX2_isAskAhead_59 (by decide) ?_
    try rw [nI_leI (by decide) (by omega), nI_leI (by omega) (by decide)] at c_4
    exact c_rret (v := nI 0) ((bI_f (by rw [askA_c]; skip; omega)).symm) hx hb hr rfl hlocks dX2_isAskAhead_60 rfl rfl
  refine lv_iconst (v := nI 1) hx hb dX2_isAskAhead_55 (by decide) ?_
  refine lv_goto (tgt := 60) hx hb dX2_isAskAhead_56 (by decide) ?_
  try rw [nI_leI (by decide) (by omega), nI_leI (by omega) (by decide)] at c_4
  exact c_rret (v := nI 1) ((bI_t (by rw [askA_c]; skip; omega)).symm) hx hb hr rfl hlocks dX2_isAskAhead_60 rfl rfl
