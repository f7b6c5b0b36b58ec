theorem numL_lt (tp : Nat → Nat) : ∀ n q v, v < 1000000 → numL tp n q v < 1000000
  | 0, _, v, h => h
  | n + 1, q, v, h => by
    unfold numL
    split
    · next hd =>
      apply numL_lt tp n
      have hc : tp q ≤ 57 := by simp [lDig] at hd; omega
      split <;> omega
    · exact h
theorem lxN_lt (tp : Nat → Nat) (t p : Nat) : lxN tp t p < 1000000 := numL_lt tp _ _ _ (by decide)
theorem nmO_2 {tp : Nat → Nat} {t p i : Nat} (h : nmO tp t p = some i) : lxT tp t p = 2 := by
  unfold nmO at h
  by_cases c : lxT tp t p = 2
  · exact c
  · rw [if_neg c] at h; cases h
theorem nmO_le {tp : Nat → Nat} {t p i : Nat} (h : nmO tp t p = some i) : i ≤ 10 := by
  have h2 := nmO_2 h
  unfold nmO at h
  rw [if_pos h2] at h
  by_cases c0 : lxW tp t p = w8 (w8 (w8 (lN 104) 111) 117) 114
  · rw [if_pos c0] at h; cases h; decide
  rw [if_neg c0] at h
  by_cases c1 : lxW tp t p = w8 (w8 (w8 (w8 (w8 (lN 98) 108) 111) 119) 101) 114
  · rw [if_pos c1] at h; cases h; decide
  rw [if_neg c1] at h
  by_cases c2 : lxW tp t p = w8 (w8 (w8 (w8 (lN 108) 117) 110) 103) 115
  · rw [if_pos c2] at h; cases h; decide
  rw [if_neg c2] at h
  by_cases c3 : lxW tp t p = w8 (w8 (w8 (w8 (lN 118) 111) 105) 99) 101
  · rw [if_pos c3] at h; cases h; decide
  rw [if_neg c3] at h
  by_cases c4 : lxW tp t p = w8 (w8 (w8 (w8 (lN 98) 101) 97) 100) 115
  · rw [if_pos c4] at h; cases h; decide
  rw [if_neg c4] at h
  by_cases c5 : lxW tp t p = w8 (w8 (w8 (lN 107) 105) 110) 100
  · rw [if_pos c5] at h; cases h; decide
  rw [if_neg c5] at h
  by_cases c6 : lxW tp t p = w8 (w8 (w8 (lN 119) 97) 110) 116
  · rw [if_pos c6] at h; cases h; decide
  rw [if_neg c6] at h
  by_cases c7 : lxW tp t p = w8 (w8 (w8 (w8 (lN 119) 111) 114) 116) 104
  · rw [if_pos c7] at h; cases h; decide
  rw [if_neg c7] at h
  by_cases c8 : lxW tp t p = (w8 (w8 (lN 98) 114) 101) <<< ((nI 32).toInt64 &&& 63) ||| (w8 (w8 (w8 (lN 97) 116) 104) 115)
  · rw [if_pos c8] at h; cases h; decide
  rw [if_neg c8] at h
  by_cases c9 : qrl tp t p
  · rw [if_pos c9] at h; cases h; decide
  rw [if_neg c9] at h
  by_cases c10 : lxW tp t p = w8 (w8 (w8 (lN 109) 97) 110) 121
  · rw [if_pos c10] at h; cases h; decide
  rw [if_neg c10] at h
  cases h
def opX (tp : Nat → Nat) (t p : Nat) (P : List Nat) (x : Nat) : Nat × List (Nat × Int32) × Nat × List Nat × Bool := (if opn P = 8 then 3 else 0, [], if opn P = 8 then p else lxQ tp t p, if opn P = 8 then P else x :: P, false)
/-- one piece's beginning -/
noncomputable def bgO (tp : Nat → Nat) (t so p : Nat) (P : List Nat) : Nat × List (Nat × Int32) × Nat × List Nat × Bool :=
  if lxT tp t p = 1 then (if 9999 < lxN tp t p then (2, [], p, P, false) else (0, (0, nI (lxN tp t p)) :: (stl 7 P).1, lxQ tp t p, (stl 7 P).2, true))
  else match nmO tp t p with
  | some i => if isO so i then (0, (1, nI i) :: (stl 7 P).1, lxQ tp t p, (stl 7 P).2, true) else (5, [], p, P, false)
  | none => if lxT tp t p = 40 then opX tp t p P 40 else if lxT tp t p = 45 then opX tp t p P 2 else if lxT tp t p = 2 ∧ lxW tp t p = (26982) then opX tp t p P 41 else pif ((lxT tp t p = 2 ∧ lxW tp t p = w8 (w8 (lN 110) 111) 116) ∧ askA P) (opX tp t p P 20) (1, [], p, P, false)
theorem ZB_n {tp : Nat → Nat} {t x0 n n2 so p0 : Nat} {on w0 : Int32} {P : List Nat} {Z : Nat → Nat → Int32} {V : Nat → Nat → Int64} (e : n2 = n) (h : ZB tp t x0 n2 so on w0 p0 P Z V) : ZB tp t x0 n so on w0 p0 P Z V := e ▸ h
set_option maxHeartbeats 4000000 in
set_option maxRecDepth 100000 in
theorem met_X2_beginOne (l : Launch) (G : gG) (ad : Nat → Nat) (M Z : Nat → Nat → Int32) (V : Nat → Nat → Int64) (tp : Nat → Nat) (t x0 n so p0 : Nat) (on w0 : Int32) (P : List Nat) (hT : TP tp t M) (hZ : ZB tp t x0 n so on w0 p0 P Z V) (hx0 : x0 ≤ 2040) (hp0 : p0 ≤ t) (hnP : n + P.length ≤ 302) (hP160 : P.length ≤ 159) (hso : so < 8) (hnq : n + P.length ≤ 301) : Met l yX2_beginOne (ws_ yX2_beginOne cX2_beginOne 3 (some .int)) ({ frames := 4, cells := 0, slots := 0, locals := 91 } : Room) (cP G [.ref (ad 0), .int (nI 0)] (mH G ad M Z V)) (cQ (some (.int (nI (bgO tp t so p0 P).1))) (fun H => ∃ Z9 V9, ZB tp t x0 (n + (bgO tp t so p0 P).2.1.length) so on (if (bgO tp t so p0 P).2.2.2.2 = true then nI 1 else w0) ((bgO tp t so p0 P).2.2.1) ((bgO tp t so p0 P).2.2.2.1) Z9 V9 ∧ mH G ad (putC M (x0 + 75) n (bgO tp t so p0 P).2.1) Z9 V9 H) (mA ad)) 0 0 (mA ad) := by
  refine c_start (by decide) (Nat.le_of_ble_eq_true rfl) ?_
  intro p e s m below meth c hx hb hr hlocks hml hown hts hB hK ls hl
  have hw := MS.of hB
  have hl : lv_has ls 3 [(0, .ref (ad 0)), (1, .int (nI 0))] := hl
  have hT9 := lxT_lt hT p0
  have hN9 := lxN_lt tp t p0
  have hopl := opn_le P
  refine lv_aload_n hx hb dX2_beginOne_0 rfl (lv_at hl 0 rfl) ?_
  refine m_g_token hx hb hts hown hK hw dX2_beginOne_1 ?_
  rw [show Z 9 0 = nI (lxT tp t p0) from hZ.1.2.2.1]
  refine lv_iconst (v := nI 1) hx hb dX2_beginOne_4 (by decide) ?_
  refine n_icmp_ne (tgt := 20) hx hb dX2_beginOne_5 (by decide) (by omega) (by decide) (fun c_1 => ?_) (fun c_1 => ?_)
  · refine lv_aload_n hx hb dX2_beginOne_20 rfl (lv_at hl 0 rfl) ?_
    refine c_read (va_runV (As := []) (rest := []) ⟨hx, hb, hml, hown, hts⟩ (met_X2_nameOf l G ad M Z V tp t x0 n so p0 on w0 P hT ⟨hZ.1, hZ.2.1, hZ.2.2.1, hZ.2.2.2.1, hZ.2.2.2.2.1, hZ.2.2.2.2.2.1, hZ.2.2.2.2.2.2.1, hZ.2.2.2.2.2.2.2.1, hZ.2.2.2.2.2.2.2.2⟩ hx0 (by omega) (by omega) (by omega)) (cv_X2_X2_nameOf hts ⟨Nat.le_of_ble_eq_true rfl, Nat.le_of_ble_eq_true rfl⟩) (cP.preV hK hw.1 (hw.1.recv hK)) rfl rfl hl.1 rfl (lv_room (Nat.le_of_ble_eq_true rfl)) dX2_beginOne_21 ⟨by first | exact Nat.zero_le _ | omega | decide, by first | exact Nat.zero_le _ | omega | decide⟩) ?_
    rcases hnm : nmO tp t p0 with _ | i
    · rw [show oI none = (-1) from rfl]
      refine lv_istore_n (lv' := [(2, .int (-1)), (0, .ref (ad 0)), (1, .int (nI 0))]) hx hb dX2_beginOne_24 rfl hl (by decide) rfl (fun ls hl => ?_)
      refine lv_iload_n hx hb dX2_beginOne_25 rfl (lv_at hl 0 rfl) ?_
      refine lv_if_lt (tgt := 39) hx hb dX2_beginOne_26 (by decide) (fun _ => ?_) (fun h9 => absurd (by decide) h9)
      refine lv_aload_n hx hb dX2_beginOne_39 rfl (lv_at hl 1 rfl) ?_
      refine m_g_token hx hb hts hown hK hw dX2_beginOne_40 ?_
      rw [show Z 9 0 = nI (lxT tp t p0) from hZ.1.2.2.1]
      refine lv_iconst (v := nI 1) hx hb dX2_beginOne_43 (by decide) ?_
      refine n_icmp_eq (tgt := 51) hx hb dX2_beginOne_44 (by decide) (by omega) (by decide) (fun c_3 => ?_) (fun c_3 => ?_)
      · exfalso; omega
      refine lv_iload_n hx hb dX2_beginOne_47 rfl (lv_at hl 0 rfl) ?_
      refine lv_if_lt (tgt := 94) hx hb dX2_beginOne_48 (by decide) (fun _ => ?_) (fun h9 => absurd (by decide) h9)
      refine lv_aload_n hx hb dX2_beginOne_94 rfl (lv_at hl 1 rfl) ?_
      refine m_g_token hx hb hts hown hK hw dX2_beginOne_95 ?_
      rw [show Z 9 0 = nI (lxT tp t p0) from hZ.1.2.2.1]
      refine lv_bipush (v := nI 40) hx hb dX2_beginOne_98 (by decide) ?_
      refine n_icmp_ne (tgt := 110) hx hb dX2_beginOne_100 (by decide) (by omega) (by decide) (fun c_5 => ?_) (fun c_5 => ?_)
      · refine lv_aload_n hx hb dX2_beginOne_110 rfl (lv_at hl 1 rfl) ?_
        refine m_g_token hx hb hts hown hK hw dX2_beginOne_111 ?_
        rw [show Z 9 0 = nI (lxT tp t p0) from hZ.1.2.2.1]
        refine lv_bipush (v := nI 45) hx hb dX2_beginOne_114 (by decide) ?_
        refine n_icmp_ne (tgt := 125) hx hb dX2_beginOne_116 (by decide) (by omega) (by decide) (fun c_6 => ?_) (fun c_6 => ?_)
        · refine lv_aload_n hx hb dX2_beginOne_125 rfl (lv_at hl 1 rfl) ?_
          refine m_g_token hx hb hts hown hK hw dX2_beginOne_126 ?_
          rw [show Z 9 0 = nI (lxT tp t p0) from hZ.1.2.2.1]
          refine lv_iconst (v := nI 2) hx hb dX2_beginOne_129 (by decide) ?_
          refine n_icmp_ne (tgt := 151) hx hb dX2_beginOne_130 (by decide) (by omega) (by decide) (fun c_7 => ?_) (fun c_7 => ?_)
          · have hnif : ¬ (lxT tp t p0 = 2 ∧ lxW tp t p0 = (26982)) := fun h9 => by first | exact absurd h9.1 c_7 | exact absurd h9.2 c_7
            refine lv_aload_n hx hb dX2_beginOne_151 rfl (lv_at hl 1 rfl) ?_
            refine lv_bipush (v := nI 110) hx hb dX2_beginOne_152 (by decide) ?_
            refine lv_bipush (v := nI 111) hx hb dX2_beginOne_154 (by decide) ?_
            refine lv_bipush (v := nI 116) hx hb dX2_beginOne_156 (by decide) ?_
            refine c_read (va_runS (As := [.int (nI 110), .int (nI 111), .int (nI 116)]) (rest := [.ref (ad 0)]) ⟨hx, hb, hml, hown, hts⟩ (met_X2_w3 l G 110 111 116 (by decide) (by decide) (by decide)) (cs_X2_X2_w3 hts ⟨Nat.le_of_ble_eq_true rfl, Nat.le_of_ble_eq_true rfl⟩) (cP.pre hK trivial) rfl rfl hl.1 rfl (lv_room (Nat.le_of_ble_eq_true rfl)) dX2_beginOne_158 ⟨by first | exact Nat.zero_le _ | omega | decide, by first | exact Nat.zero_le _ | omega | decide⟩) ?_
            refine c_read (va_runV (As := [.long (w8 (w8 (lN 110) 111) 116)]) (rest := []) ⟨hx, hb, hml, hown, hts⟩ (met_X2_isWord l G ad M Z V tp t p0 hT hZ.1 (w8 (w8 (lN 110) 111) 116)) (cv_X2_X2_isWord hts ⟨Nat.le_of_ble_eq_true rfl, Nat.le_of_ble_eq_true rfl⟩) (cP.preV hK hw.1 (hw.1.recv hK)) rfl rfl hl.1 rfl (lv_room (Nat.le_of_ble_eq_true rfl)) dX2_beginOne_161 ⟨by first | exact Nat.zero_le _ | omega | decide, by first | exact Nat.zero_le _ | omega | decide⟩) ?_
            refine b_if_eq (tgt := 184) hx hb dX2_beginOne_164 (by decide) (fun c_8 => ?_) (fun c_8 => ?_)
            · refine lv_iconst (v := nI 1) hx hb dX2_beginOne_184 (by decide) ?_
              have ebg : bgO tp t so p0 P = (1, [], p0, P, false) := by
                unfold bgO
                rw [if_neg c_1, hnm]
                simp only []
                rw [if_neg (by omega), if_neg (by omega), if_neg hnif, pif_f (fun h9 => by first | exact absurd h9.1 c_8 | exact absurd h9.2 c_8)]
              exact c_iret (v := nI 1) (by rw [ebg] <;> rfl) hx hb hr rfl hlocks ⟨_, _, (by rw [ebg]; exact hZ), mH.to (by rw [ebg] <;> rfl) rfl rfl hw.1⟩ hw.2 dX2_beginOne_185
            refine lv_aload_n hx hb dX2_beginOne_167 rfl (lv_at hl 1 rfl) ?_
            refine lv_iload_n hx hb dX2_beginOne_168 rfl (lv_at hl 2 rfl) ?_
            refine c_read (va_runV (As := [.int (nI 0)]) (rest := []) ⟨hx, hb, hml, hown, hts⟩ (met_X2_isAskAhead l G ad M Z V tp t x0 n so p0 on w0 P hT ⟨hZ.1, hZ.2.1, hZ.2.2.1, hZ.2.2.2.1, hZ.2.2.2.2.1, hZ.2.2.2.2.2.1, hZ.2.2.2.2.2.2.1, hZ.2.2.2.2.2.2.2.1, hZ.2.2.2.2.2.2.2.2⟩ hx0 (by omega) (by omega) (by omega)) (cv_X2_X2_isAskAhead hts ⟨Nat.le_of_ble_eq_true rfl, Nat.le_of_ble_eq_true rfl⟩) (cP.preV hK hw.1 (hw.1.recv hK)) rfl rfl hl.1 rfl (lv_room (Nat.le_of_ble_eq_true rfl)) dX2_beginOne_169 ⟨by first | exact Nat.zero_le _ | omega | decide, by first | exact Nat.zero_le _ | omega | decide⟩) ?_
            refine b_if_eq (tgt := 184) hx hb dX2_beginOne_172 (by decide) (fun c_9 => ?_) (fun c_9 => ?_)
            · refine lv_iconst (v := nI 1) hx hb dX2_beginOne_184 (by decide) ?_
              have ebg : bgO tp t so p0 P = (1, [], p0, P, false) := by
                unfold bgO
                rw [if_neg c_1, hnm]
                simp only []
                rw [if_neg (by omega), if_neg (by omega), if_neg hnif, pif_f (fun h9 => by first | exact absurd h9.1 c_9 | exact absurd h9.2 c_9)]
              exact c_iret (v := nI 1) (by rw [ebg] <;> rfl) hx hb hr rfl hlocks ⟨_, _, (by rw [ebg]; exact hZ), mH.to (by rw [ebg] <;> rfl) rfl rfl hw.1⟩ hw.2 dX2_beginOne_185
            refine lv_aload_n hx hb dX2_beginOne_175 rfl (lv_at hl 1 rfl) ?_
            refine lv_bipush (v := nI 20) hx hb dX2_beginOne_176 (by decide) ?_
            refine c_call (va_runV (As := [.int (nI 20)]) (rest := []) ⟨hx, hb, hml, hown, hts⟩ (met_X2_opensBy l G ad M Z V tp t x0 n so p0 on w0 P hT ⟨hZ.1, hZ.2.1, hZ.2.2.1, hZ.2.2.2.1, hZ.2.2.2.2.1, hZ.2.2.2.2.2.1, hZ.2.2.2.2.2.2.1, hZ.2.2.2.2.2.2.2.1, hZ.2.2.2.2.2.2.2.2⟩ hx0 (by omega) (by omega) (by omega) 20 (by omega) (by omega)) (cv_X2_X2_opensBy hts ⟨Nat.le_of_ble_eq_true rfl, Nat.le_of_ble_eq_true rfl⟩) (cP.preV hK hw.1 (hw.1.recv hK)) rfl rfl hl.1 rfl (lv_room (Nat.le_of_ble_eq_true rfl)) dX2_beginOne_178 ⟨by first | exact Nat.zero_le _ | omega | decide, by first | exact Nat.zero_le _ | omega | decide⟩) hw.2 (fun q _ h => h) (fun q h => h) (fun H locs hw _ _ hS => ?_)
            obtain ⟨Z1, V1, hzb1, hw⟩ := hw
            replace hw := MS.mk hw hS
            refine lv_goto (tgt := 185) hx hb dX2_beginOne_181 (by decide) ?_
            have ebg : bgO tp t so p0 P = opX tp t p0 P 20 := by
              unfold bgO
              rw [if_neg c_1, hnm]
              simp only []
              rw [if_neg (by omega), if_neg (by omega), if_neg hnif, pif_t ⟨c_8, c_9⟩]
            exact c_iret (v := nI (if opn P = 8 then 3 else 0)) (by rw [ebg] <;> rfl) hx hb hr rfl hlocks ⟨_, _, (by rw [ebg]; exact hzb1), mH.to (by rw [ebg] <;> rfl) rfl rfl hw.1⟩ hw.2 dX2_beginOne_185
          have e11_ := hZ.1.2.2.2.2 c_7
          refine lv_aload_n hx hb dX2_beginOne_133 rfl (lv_at hl 1 rfl) ?_
          refine m_g_word hx hb hts hown hK hw dX2_beginOne_134 ?_
          rw [show V 11 0 = lxW tp t p0 from e11_]
          refine lv_ldc2 (v := (26982)) hx hb hown (hts _ q1384) dX2_beginOne_137 ?_
          refine l_cmp_ne (tgt := 151) hx hb dX2_beginOne_140 dX2_beginOne_141 (by decide) (fun c_10 => ?_) (fun c_10 => ?_)
          · have hnif : ¬ (lxT tp t p0 = 2 ∧ lxW tp t p0 = (26982)) := fun h9 => by first | exact absurd h9.1 c_10 | exact absurd h9.2 c_10
            refine lv_aload_n hx hb dX2_beginOne_151 rfl (lv_at hl 1 rfl) ?_
            refine lv_bipush (v := nI 110) hx hb dX2_beginOne_152 (by decide) ?_
            refine lv_bipush (v := nI 111) hx hb dX2_beginOne_154 (by decide) ?_
            refine lv_bipush (v := nI 116) hx hb dX2_beginOne_156 (by decide) ?_
            refine c_read (va_runS (As := [.int (nI 110), .int (nI 111), .int (nI 116)]) (rest := [.ref (ad 0)]) ⟨hx, hb, hml, hown, hts⟩ (met_X2_w3 l G 110 111 116 (by decide) (by decide) (by decide)) (cs_X2_X2_w3 hts ⟨Nat.le_of_ble_eq_true rfl, Nat.le_of_ble_eq_true rfl⟩) (cP.pre hK trivial) rfl rfl hl.1 rfl (lv_room (Nat.le_of_ble_eq_true rfl)) dX2_beginOne_158 ⟨by first | exact Nat.zero_le _ | omega | decide, by first | exact Nat.zero_le _ | omega | decide⟩) ?_
            refine c_read (va_runV (As := [.long (w8 (w8 (lN 110) 111) 116)]) (rest := []) ⟨hx, hb, hml, hown, hts⟩ (met_X2_isWord l G ad M Z V tp t p0 hT hZ.1 (w8 (w8 (lN 110) 111) 116)) (cv_X2_X2_isWord hts ⟨Nat.le_of_ble_eq_true rfl, Nat.le_of_ble_eq_true rfl⟩) (cP.preV hK hw.1 (hw.1.recv hK)) rfl rfl hl.1 rfl (lv_room (Nat.le_of_ble_eq_true rfl)) dX2_beginOne_161 ⟨by first | exact Nat.zero_le _ | omega | decide, by first | exact Nat.zero_le _ | omega | decide⟩) ?_
            refine b_if_eq (tgt := 184) hx hb dX2_beginOne_164 (by decide) (fun c_11 => ?_) (fun c_11 => ?_)
            · refine lv_iconst (v := nI 1) hx hb dX2_beginOne_184 (by decide) ?_
              have ebg : bgO tp t so p0 P = (1, [], p0, P, false) := by
                unfold bgO
                rw [if_neg c_1, hnm]
                simp only []
                rw [if_neg (by omega), if_neg (by omega), if_neg hnif, pif_f (fun h9 => by first | exact absurd h9.1 c_11 | exact absurd h9.2 c_11)]
              exact c_iret (v := nI 1) (by rw [ebg] <;> rfl) hx hb hr rfl hlocks ⟨_, _, (by rw [ebg]; exact hZ), mH.to (by rw [ebg] <;> rfl) rfl rfl hw.1⟩ hw.2 dX2_beginOne_185
            refine lv_aload_n hx hb dX2_beginOne_167 rfl (lv_at hl 1 rfl) ?_
            refine lv_iload_n hx hb dX2_beginOne_168 rfl (lv_at hl 2 rfl) ?_
            refine c_read (va_runV (As := [.int (nI 0)]) (rest := []) ⟨hx, hb, hml, hown, hts⟩ (met_X2_isAskAhead l G ad M Z V tp t x0 n so p0 on w0 P hT ⟨hZ.1, hZ.2.1, hZ.2.2.1, hZ.2.2.2.1, hZ.2.2.2.2.1, hZ.2.2.2.2.2.1, hZ.2.2.2.2.2.2.1, hZ.2.2.2.2.2.2.2.1, hZ.2.2.2.2.2.2.2.2⟩ hx0 (by omega) (by omega) (by omega)) (cv_X2_X2_isAskAhead hts ⟨Nat.le_of_ble_eq_true rfl, Nat.le_of_ble_eq_true rfl⟩) (cP.preV hK hw.1 (hw.1.recv hK)) rfl rfl hl.1 rfl (lv_room (Nat.le_of_ble_eq_true rfl)) dX2_beginOne_169 ⟨by first | exact Nat.zero_le _ | omega | decide, by first | exact Nat.zero_le _ | omega | decide⟩) ?_
            refine b_if_eq (tgt := 184) hx hb dX2_beginOne_172 (by decide) (fun c_12 => ?_) (fun c_12 => ?_)
            · refine lv_iconst (v := nI 1) hx hb dX2_beginOne_184 (by decide) ?_
              have ebg : bgO tp t so p0 P = (1, [], p0, P, false) := by
                unfold bgO
                rw [if_neg c_1, hnm]
                simp only []
                rw [if_neg (by omega), if_neg (by omega), if_neg hnif, pif_f (fun h9 => by first | exact absurd h9.1 c_12 | exact absurd h9.2 c_12)]
              exact c_iret (v := nI 1) (by rw [ebg] <;> rfl) hx hb hr rfl hlocks ⟨_, _, (by rw [ebg]; exact hZ), mH.to (by rw [ebg] <;> rfl) rfl rfl hw.1⟩ hw.2 dX2_beginOne_185
            refine lv_aload_n hx hb dX2_beginOne_175 rfl (lv_at hl 1 rfl) ?_
            refine lv_bipush (v := nI 20) hx hb dX2_beginOne_176 (by decide) ?_
            refine c_call (va_runV (As := [.int (nI 20)]) (rest := []) ⟨hx, hb, hml, hown, hts⟩ (met_X2_opensBy l G ad M Z V tp t x0 n so p0 on w0 P hT ⟨hZ.1, hZ.2.1, hZ.2.2.1, hZ.2.2.2.1, hZ.2.2.2.2.1, hZ.2.2.2.2.2.1, hZ.2.2.2.2.2.2.1, hZ.2.2.2.2.2.2.2.1, hZ.2.2.2.2.2.2.2.2⟩ hx0 (by omega) (by omega) (by omega) 20 (by omega) (by omega)) (cv_X2_X2_opensBy hts ⟨Nat.le_of_ble_eq_true rfl, Nat.le_of_ble_eq_true rfl⟩) (cP.preV hK hw.1 (hw.1.recv hK)) rfl rfl hl.1 rfl (lv_room (Nat.le_of_ble_eq_true rfl)) dX2_beginOne_178 ⟨by first | exact Nat.zero_le _ | omega | decide, by first | exact Nat.zero_le _ | omega | decide⟩) hw.2 (fun q _ h => h) (fun q h => h) (fun H locs hw _ _ hS => ?_)
            obtain ⟨Z2, V2, hzb2, hw⟩ := hw
            replace hw := MS.mk hw hS
            refine lv_goto (tgt := 185) hx hb dX2_beginOne_181 (by decide) ?_
            have ebg : bgO tp t so p0 P = opX tp t p0 P 20 := by
              unfold bgO
              rw [if_neg c_1, hnm]
              simp only []
              rw [if_neg (by omega), if_neg (by omega), if_neg hnif, pif_t ⟨c_11, c_12⟩]
            exact c_iret (v := nI (if opn P = 8 then 3 else 0)) (by rw [ebg] <;> rfl) hx hb hr rfl hlocks ⟨_, _, (by rw [ebg]; exact hzb2), mH.to (by rw [ebg] <;> rfl) rfl rfl hw.1⟩ hw.2 dX2_beginOne_185
          refine lv_aload_n hx hb dX2_beginOne_144 rfl (lv_at hl 1 rfl) ?_
          refine lv_bipush (v := nI 41) hx hb dX2_beginOne_145 (by decide) ?_
          refine c_call (va_runV (As := [.int (nI 41)]) (rest := []) ⟨hx, hb, hml, hown, hts⟩ (met_X2_opensBy l G ad M Z V tp t x0 n so p0 on w0 P hT ⟨hZ.1, hZ.2.1, hZ.2.2.1, hZ.2.2.2.1, hZ.2.2.2.2.1, hZ.2.2.2.2.2.1, hZ.2.2.2.2.2.2.1, hZ.2.2.2.2.2.2.2.1, hZ.2.2.2.2.2.2.2.2⟩ hx0 (by omega) (by omega) (by omega) 41 (by omega) (by omega)) (cv_X2_X2_opensBy hts ⟨Nat.le_of_ble_eq_true rfl, Nat.le_of_ble_eq_true rfl⟩) (cP.preV hK hw.1 (hw.1.recv hK)) rfl rfl hl.1 rfl (lv_room (Nat.le_of_ble_eq_true rfl)) dX2_beginOne_147 ⟨by first | exact Nat.zero_le _ | omega | decide, by first | exact Nat.zero_le _ | omega | decide⟩) hw.2 (fun q _ h => h) (fun q h => h) (fun H locs hw _ _ hS => ?_)
          obtain ⟨Z3, V3, hzb3, hw⟩ := hw
          replace hw := MS.mk hw hS
          have ebg : bgO tp t so p0 P = opX tp t p0 P 41 := by
            unfold bgO
            rw [if_neg c_1, hnm]
            simp only []
            rw [if_neg (by omega), if_neg (by omega), if_pos ⟨c_7, c_10⟩]
          exact c_iret (v := nI (if opn P = 8 then 3 else 0)) (by rw [ebg] <;> rfl) hx hb hr rfl hlocks ⟨_, _, (by rw [ebg]; exact hzb3), mH.to (by rw [ebg] <;> rfl) rfl rfl hw.1⟩ hw.2 dX2_beginOne_150
        refine lv_aload_n hx hb dX2_beginOne_119 rfl (lv_at hl 1 rfl) ?_
        refine lv_iconst (v := nI 2) hx hb dX2_beginOne_120 (by decide) ?_
        refine c_call (va_runV (As := [.int (nI 2)]) (rest := []) ⟨hx, hb, hml, hown, hts⟩ (met_X2_opensBy l G ad M Z V tp t x0 n so p0 on w0 P hT ⟨hZ.1, hZ.2.1, hZ.2.2.1, hZ.2.2.2.1, hZ.2.2.2.2.1, hZ.2.2.2.2.2.1, hZ.2.2.2.2.2.2.1, hZ.2.2.2.2.2.2.2.1, hZ.2.2.2.2.2.2.2.2⟩ hx0 (by omega) (by omega) (by omega) 2 (by omega) (by omega)) (cv_X2_X2_opensBy hts ⟨Nat.le_of_ble_eq_true rfl, Nat.le_of_ble_eq_true rfl⟩) (cP.preV hK hw.1 (hw.1.recv hK)) rfl rfl hl.1 rfl (lv_room (Nat.le_of_ble_eq_true rfl)) dX2_beginOne_121 ⟨by first | exact Nat.zero_le _ | omega | decide, by first | exact Nat.zero_le _ | omega | decide⟩) hw.2 (fun q _ h => h) (fun q h => h) (fun H locs hw _ _ hS => ?_)
        obtain ⟨Z4, V4, hzb4, hw⟩ := hw
        replace hw := MS.mk hw hS
        have ebg : bgO tp t so p0 P = opX tp t p0 P 2 := by
          unfold bgO
          rw [if_neg c_1, hnm]
          simp only []
          rw [if_neg (by omega), if_pos (by omega)]
        exact c_iret (v := nI (if opn P = 8 then 3 else 0)) (by rw [ebg] <;> rfl) hx hb hr rfl hlocks ⟨_, _, (by rw [ebg]; exact hzb4), mH.to (by rw [ebg] <;> rfl) rfl rfl hw.1⟩ hw.2 dX2_beginOne_124
      refine lv_aload_n hx hb dX2_beginOne_103 rfl (lv_at hl 1 rfl) ?_
      refine lv_bipush (v := nI 40) hx hb dX2_beginOne_104 (by decide) ?_
      refine c_call (va_runV (As := [.int (nI 40)]) (rest := []) ⟨hx, hb, hml, hown, hts⟩ (met_X2_opensBy l G ad M Z V tp t x0 n so p0 on w0 P hT ⟨hZ.1, hZ.2.1, hZ.2.2.1, hZ.2.2.2.1, hZ.2.2.2.2.1, hZ.2.2.2.2.2.1, hZ.2.2.2.2.2.2.1, hZ.2.2.2.2.2.2.2.1, hZ.2.2.2.2.2.2.2.2⟩ hx0 (by omega) (by omega) (by omega) 40 (by omega) (by omega)) (cv_X2_X2_opensBy hts ⟨Nat.le_of_ble_eq_true rfl, Nat.le_of_ble_eq_true rfl⟩) (cP.preV hK hw.1 (hw.1.recv hK)) rfl rfl hl.1 rfl (lv_room (Nat.le_of_ble_eq_true rfl)) dX2_beginOne_106 ⟨by first | exact Nat.zero_le _ | omega | decide, by first | exact Nat.zero_le _ | omega | decide⟩) hw.2 (fun q _ h => h) (fun q h => h) (fun H locs hw _ _ hS => ?_)
      obtain ⟨Z5, V5, hzb5, hw⟩ := hw
      replace hw := MS.mk hw hS
      have ebg : bgO tp t so p0 P = opX tp t p0 P 40 := by
        unfold bgO
        rw [if_neg c_1, hnm]
        simp only []
        rw [if_pos (by omega)]
      exact c_iret (v := nI (if opn P = 8 then 3 else 0)) (by rw [ebg] <;> rfl) hx hb hr rfl hlocks ⟨_, _, (by rw [ebg]; exact hzb5), mH.to (by rw [ebg] <;> rfl) rfl rfl hw.1⟩ hw.2 dX2_beginOne_109
    rw [show oI (some i) = nI i from rfl]
    have hi2 := nmO_2 hnm
    have hi10 := nmO_le hnm
    refine lv_istore_n (lv' := [(2, .int (nI i)), (0, .ref (ad 0)), (1, .int (nI 0))]) hx hb dX2_beginOne_24 rfl hl (by decide) rfl (fun ls hl => ?_)
    refine lv_iload_n hx hb dX2_beginOne_25 rfl (lv_at hl 0 rfl) ?_
    refine n_if_lt (tgt := 39) hx hb dX2_beginOne_26 (by decide) (by omega) ?_
    refine lv_aload_n hx hb dX2_beginOne_29 rfl (lv_at hl 1 rfl) ?_
    refine lv_iload_n hx hb dX2_beginOne_30 rfl (lv_at hl 0 rfl) ?_
    refine c_read (va_runV (As := [.int (nI i)]) (rest := []) ⟨hx, hb, hml, hown, hts⟩ (met_X2_isOf l G ad M Z V tp t x0 n so p0 on w0 P hT ⟨hZ.1, hZ.2.1, hZ.2.2.1, hZ.2.2.2.1, hZ.2.2.2.2.1, hZ.2.2.2.2.2.1, hZ.2.2.2.2.2.2.1, hZ.2.2.2.2.2.2.2.1, hZ.2.2.2.2.2.2.2.2⟩ hx0 (by omega) (by omega) (by omega) i (by omega) (by omega)) (cv_X2_X2_isOf hts ⟨Nat.le_of_ble_eq_true rfl, Nat.le_of_ble_eq_true rfl⟩) (cP.preV hK hw.1 (hw.1.recv hK)) rfl rfl hl.1 rfl (lv_room (Nat.le_of_ble_eq_true rfl)) dX2_beginOne_31 ⟨by first | exact Nat.zero_le _ | omega | decide, by first | exact Nat.zero_le _ | omega | decide⟩) ?_
    refine b_if_ne (tgt := 39) hx hb dX2_beginOne_34 (by decide) (fun c_13 => ?_) (fun c_13 => ?_)
    · refine lv_aload_n hx hb dX2_beginOne_39 rfl (lv_at hl 1 rfl) ?_
      refine m_g_token hx hb hts hown hK hw dX2_beginOne_40 ?_
      rw [show Z 9 0 = nI (lxT tp t p0) from hZ.1.2.2.1]
      refine lv_iconst (v := nI 1) hx hb dX2_beginOne_43 (by decide) ?_
      refine n_icmp_eq (tgt := 51) hx hb dX2_beginOne_44 (by decide) (by omega) (by decide) (fun c_14 => ?_) (fun c_14 => ?_)
      · exfalso; omega
      refine lv_iload_n hx hb dX2_beginOne_47 rfl (lv_at hl 0 rfl) ?_
      refine n_if_lt (tgt := 94) hx hb dX2_beginOne_48 (by decide) (by omega) ?_
      refine lv_aload_n hx hb dX2_beginOne_51 rfl (lv_at hl 1 rfl) ?_
      refine lv_aload_n hx hb dX2_beginOne_52 rfl (lv_at hl 1 rfl) ?_
      refine m_g_token hx hb hts hown hK hw dX2_beginOne_53 ?_
      rw [show Z 9 0 = nI (lxT tp t p0) from hZ.1.2.2.1]
      refine lv_iconst (v := nI 1) hx hb dX2_beginOne_56 (by decide) ?_
      refine n_icmp_ne (tgt := 64) hx hb dX2_beginOne_57 (by decide) (by omega) (by decide) (fun c_15 => ?_) (fun c_15 => ?_)
      · refine lv_iconst (v := nI 1) hx hb dX2_beginOne_64 (by decide) ?_
        refine lv_aload_n hx hb dX2_beginOne_65 rfl (lv_at hl 1 rfl) ?_
        refine m_g_token hx hb hts hown hK hw dX2_beginOne_66 ?_
        rw [show Z 9 0 = nI (lxT tp t p0) from hZ.1.2.2.1]
        refine lv_iconst (v := nI 1) hx hb dX2_beginOne_69 (by decide) ?_
        refine n_icmp_ne (tgt := 80) hx hb dX2_beginOne_70 (by decide) (by omega) (by decide) (fun c_16 => ?_) (fun c_16 => ?_)
        · refine lv_iload_n hx hb dX2_beginOne_80 rfl (lv_at hl 0 rfl) ?_
          refine c_call (va_runV (As := [.int (nI 1), .int (nI i)]) (rest := []) ⟨hx, hb, hml, hown, hts⟩ (met_X2_emit l G ad M Z V x0 n (nI 1) (nI i) hZ.2.1 hZ.2.2.1 (by omega)) (cv_X2_X2_emit hts ⟨Nat.le_of_ble_eq_true rfl, Nat.le_of_ble_eq_true rfl⟩) (cP.preV hK hw.1 (hw.1.recv hK)) rfl rfl hl.1 rfl (lv_room (Nat.le_of_ble_eq_true rfl)) dX2_beginOne_81 ⟨by first | exact Nat.zero_le _ | omega | decide, by first | exact Nat.zero_le _ | omega | decide⟩) hw.2 (fun q _ h => h) (fun q h => h) (fun H locs hw _ _ hS => ?_)
          replace hw := MS.mk hw hS
          refine lv_aload_n hx hb dX2_beginOne_84 rfl (lv_at hl 1 rfl) ?_
          refine c_call (va_runV (As := []) (rest := []) ⟨hx, hb, hml, hown, hts⟩ (met_X2_nextToken l G ad (up2 (up2 M 2 (x0 + 75 + 2 * n) (nI 1)) 2 (x0 + 75 + 2 * n + 1) (nI i)) (up2 Z 14 0 (nI (n + 1))) V tp t (lxQ tp t p0) (⟨((up2_ne (Or.inl (by decide))).trans ((up2_ne (Or.inl (by decide))).trans rfl)).trans hT.1, hT.2.1, fun j9 h9 => ⟨((up2_ne (Or.inl (by decide))).trans ((up2_ne (Or.inl (by decide))).trans rfl)).trans (hT.2.2 j9 h9).1, (hT.2.2 j9 h9).2⟩⟩) ((up2_ne (Or.inl (by decide))).trans hZ.1.1) (lxQ_le (by omega))) (cv_X2_X2_nextToken hts ⟨Nat.le_of_ble_eq_true rfl, Nat.le_of_ble_eq_true rfl⟩) (cP.preV hK hw.1 (hw.1.recv hK)) rfl rfl hl.1 rfl (lv_room (Nat.le_of_ble_eq_true rfl)) dX2_beginOne_85 ⟨by first | exact Nat.zero_le _ | omega | decide, by first | exact Nat.zero_le _ | omega | decide⟩) hw.2 (fun q _ h => h) (fun q h => h) (fun H locs hw _ _ hS => ?_)
          obtain ⟨Z6, V6, ⟨hlx6, hkz6⟩, hw⟩ := hw
          replace hw := MS.mk hw hS
          have hzb6 : ZB tp t x0 (n + 1) so on w0 (lxQ tp t p0) P Z6 V6 := ⟨hlx6, (congrFun (hkz6 12 (by decide) (by decide) (by decide) (by decide)) 0).trans ((up2_ne (Or.inl (by decide))).trans hZ.2.1), (congrFun (hkz6 14 (by decide) (by decide) (by decide) (by decide)) 0).trans up2_at, (congrFun (hkz6 17 (by decide) (by decide) (by decide) (by decide)) 0).trans ((up2_ne (Or.inl (by decide))).trans hZ.2.2.2.1), kPl_k (fun j9 => congrFun (hkz6 16 (by decide) (by decide) (by decide) (by decide)) j9) _ (kPl_k (fun j9 => (up2_ne (Or.inl (by decide))).trans rfl) _ hZ.2.2.2.2.1), (congrFun (hkz6 18 (by decide) (by decide) (by decide) (by decide)) 0).trans ((up2_ne (Or.inl (by decide))).trans hZ.2.2.2.2.2.1), (congrFun (hkz6 19 (by decide) (by decide) (by decide) (by decide)) 0).trans ((up2_ne (Or.inl (by decide))).trans hZ.2.2.2.2.2.2.1), (congrFun (hkz6 20 (by decide) (by decide) (by decide) (by decide)) 0).trans ((up2_ne (Or.inl (by decide))).trans hZ.2.2.2.2.2.2.2.1), (congrFun (hkz6 21 (by decide) (by decide) (by decide) (by decide)) 0).trans ((up2_ne (Or.inl (by decide))).trans hZ.2.2.2.2.2.2.2.2)⟩
          have hlq6 := lxQ_le (tp := tp) (t := t) (p0 := p0) (by omega)
          refine lv_aload_n hx hb dX2_beginOne_88 rfl (lv_at hl 1 rfl) ?_
          refine c_call (va_runV (As := []) (rest := []) ⟨hx, hb, hml, hown, hts⟩ (met_X2_whole l G ad (up2 (up2 M 2 (x0 + 75 + 2 * n) (nI 1)) 2 (x0 + 75 + 2 * n + 1) (nI i)) Z6 V6 tp t x0 (n + 1) so (lxQ tp t p0) on w0 P (⟨((up2_ne (Or.inl (by decide))).trans ((up2_ne (Or.inl (by decide))).trans rfl)).trans hT.1, hT.2.1, fun j9 h9 => ⟨((up2_ne (Or.inl (by decide))).trans ((up2_ne (Or.inl (by decide))).trans rfl)).trans (hT.2.2 j9 h9).1, (hT.2.2 j9 h9).2⟩⟩) ⟨hzb6.1, hzb6.2.1, hzb6.2.2.1, hzb6.2.2.2.1, hzb6.2.2.2.2.1, hzb6.2.2.2.2.2.1, hzb6.2.2.2.2.2.2.1, hzb6.2.2.2.2.2.2.2.1, hzb6.2.2.2.2.2.2.2.2⟩ hx0 (by omega) (by omega) (by omega)) (cv_X2_X2_whole hts ⟨Nat.le_of_ble_eq_true rfl, Nat.le_of_ble_eq_true rfl⟩) (cP.preV hK hw.1 (hw.1.recv hK)) rfl rfl hl.1 rfl (lv_room (Nat.le_of_ble_eq_true rfl)) dX2_beginOne_89 ⟨by first | exact Nat.zero_le _ | omega | decide, by first | exact Nat.zero_le _ | omega | decide⟩) hw.2 (fun q _ h => h) (fun q h => h) (fun H locs hw _ _ hS => ?_)
          obtain ⟨Z7, V7, hzb7, hw⟩ := hw
          replace hw := MS.mk hw hS
          have hsl7 := stl_len 7 P
          refine lv_iconst (v := nI 0) hx hb dX2_beginOne_92 (by decide) ?_
          have ebg : bgO tp t so p0 P = (0, (1, nI i) :: (stl 7 P).1, lxQ tp t p0, (stl 7 P).2, true) := by
            unfold bgO
            rw [if_neg c_1, hnm]
            exact if_pos c_13
          exact c_iret (v := nI 0) (by rw [ebg] <;> rfl) hx hb hr rfl hlocks ⟨_, _, (by rw [ebg]; exact ZB_n (by simp; omega) hzb7), mH.to (by rw [ebg] <;> rfl) rfl rfl hw.1⟩ hw.2 dX2_beginOne_93
        exfalso; omega
      exfalso; omega
    refine lv_iconst (v := nI 5) hx hb dX2_beginOne_37 (by decide) ?_
    have ebg : bgO tp t so p0 P = (5, [], p0, P, false) := by
      unfold bgO
      rw [if_neg c_1, hnm]
      exact if_neg c_13
    exact c_iret (v := nI 5) (by rw [ebg] <;> rfl) hx hb hr rfl hlocks ⟨_, _, (by rw [ebg]; exact hZ), mH.to (by rw [ebg] <;> rfl) rfl rfl hw.1⟩ hw.2 dX2_beginOne_38
  have e10_ := hZ.1.2.2.2.1 c_1
  refine lv_aload_n hx hb dX2_beginOne_8 rfl (lv_at hl 0 rfl) ?_
  refine m_g_number hx hb hts hown hK hw dX2_beginOne_9 ?_
  rw [show Z 10 0 = nI (lxN tp t p0) from e10_]
  refine lv_sipush (v := nI 9999) hx hb dX2_beginOne_12 (by decide) ?_
  refine n_icmp_le (tgt := 20) hx hb dX2_beginOne_15 (by decide) (by omega) (by decide) (fun c_17 => ?_) (fun c_17 => ?_)
  · refine lv_aload_n hx hb dX2_beginOne_20 rfl (lv_at hl 0 rfl) ?_
    refine c_read (va_runV (As := []) (rest := []) ⟨hx, hb, hml, hown, hts⟩ (met_X2_nameOf l G ad M Z V tp t x0 n so p0 on w0 P hT ⟨hZ.1, hZ.2.1, hZ.2.2.1, hZ.2.2.2.1, hZ.2.2.2.2.1, hZ.2.2.2.2.2.1, hZ.2.2.2.2.2.2.1, hZ.2.2.2.2.2.2.2.1, hZ.2.2.2.2.2.2.2.2⟩ hx0 (by omega) (by omega) (by omega)) (cv_X2_X2_nameOf hts ⟨Nat.le_of_ble_eq_true rfl, Nat.le_of_ble_eq_true rfl⟩) (cP.preV hK hw.1 (hw.1.recv hK)) rfl rfl hl.1 rfl (lv_room (Nat.le_of_ble_eq_true rfl)) dX2_beginOne_21 ⟨by first | exact Nat.zero_le _ | omega | decide, by first | exact Nat.zero_le _ | omega | decide⟩) ?_
    rcases hnm : nmO tp t p0 with _ | i
    · rw [show oI none = (-1) from rfl]
      refine lv_istore_n (lv' := [(2, .int (-1)), (0, .ref (ad 0)), (1, .int (nI 0))]) hx hb dX2_beginOne_24 rfl hl (by decide) rfl (fun ls hl => ?_)
      refine lv_iload_n hx hb dX2_beginOne_25 rfl (lv_at hl 0 rfl) ?_
      refine lv_if_lt (tgt := 39) hx hb dX2_beginOne_26 (by decide) (fun _ => ?_) (fun h9 => absurd (by decide) h9)
      refine lv_aload_n hx hb dX2_beginOne_39 rfl (lv_at hl 1 rfl) ?_
      refine m_g_token hx hb hts hown hK hw dX2_beginOne_40 ?_
      rw [show Z 9 0 = nI (lxT tp t p0) from hZ.1.2.2.1]
      refine lv_iconst (v := nI 1) hx hb dX2_beginOne_43 (by decide) ?_
      refine n_icmp_eq (tgt := 51) hx hb dX2_beginOne_44 (by decide) (by omega) (by decide) (fun c_19 => ?_) (fun c_19 => ?_)
      · refine lv_aload_n hx hb dX2_beginOne_51 rfl (lv_at hl 1 rfl) ?_
        refine lv_aload_n hx hb dX2_beginOne_52 rfl (lv_at hl 1 rfl) ?_
        refine m_g_token hx hb hts hown hK hw dX2_beginOne_53 ?_
        rw [show Z 9 0 = nI (lxT tp t p0) from hZ.1.2.2.1]
        refine lv_iconst (v := nI 1) hx hb dX2_beginOne_56 (by decide) ?_
        refine n_icmp_ne (tgt := 64) hx hb dX2_beginOne_57 (by decide) (by omega) (by decide) (fun c_20 => ?_) (fun c_20 => ?_)
        · exfalso; omega
        refine lv_iconst (v := nI 0) hx hb dX2_beginOne_60 (by decide) ?_
        refine lv_goto (tgt := 65) hx hb dX2_beginOne_61 (by decide) ?_
        refine lv_aload_n hx hb dX2_beginOne_65 rfl (lv_at hl 1 rfl) ?_
        refine m_g_token hx hb hts hown hK hw dX2_beginOne_66 ?_
        rw [show Z 9 0 = nI (lxT tp t p0) from hZ.1.2.2.1]
        refine lv_iconst (v := nI 1) hx hb dX2_beginOne_69 (by decide) ?_
        refine n_icmp_ne (tgt := 80) hx hb dX2_beginOne_70 (by decide) (by omega) (by decide) (fun c_21 => ?_) (fun c_21 => ?_)
        · exfalso; omega
        refine lv_aload_n hx hb dX2_beginOne_73 rfl (lv_at hl 1 rfl) ?_
        refine m_g_number hx hb hts hown hK hw dX2_beginOne_74 ?_
        rw [show Z 10 0 = nI (lxN tp t p0) from e10_]
        refine lv_goto (tgt := 81) hx hb dX2_beginOne_77 (by decide) ?_
        refine c_call (va_runV (As := [.int (nI 0), .int (nI (lxN tp t p0))]) (rest := []) ⟨hx, hb, hml, hown, hts⟩ (met_X2_emit l G ad M Z V x0 n (nI 0) (nI (lxN tp t p0)) hZ.2.1 hZ.2.2.1 (by omega)) (cv_X2_X2_emit hts ⟨Nat.le_of_ble_eq_true rfl, Nat.le_of_ble_eq_true rfl⟩) (cP.preV hK hw.1 (hw.1.recv hK)) rfl rfl hl.1 rfl (lv_room (Nat.le_of_ble_eq_true rfl)) dX2_beginOne_81 ⟨by first | exact Nat.zero_le _ | omega | decide, by first | exact Nat.zero_le _ | omega | decide⟩) hw.2 (fun q _ h => h) (fun q h => h) (fun H locs hw _ _ hS => ?_)
        replace hw := MS.mk hw hS
        refine lv_aload_n hx hb dX2_beginOne_84 rfl (lv_at hl 1 rfl) ?_
        refine c_call (va_runV (As := []) (rest := []) ⟨hx, hb, hml, hown, hts⟩ (met_X2_nextToken l G ad (up2 (up2 M 2 (x0 + 75 + 2 * n) (nI 0)) 2 (x0 + 75 + 2 * n + 1) (nI (lxN tp t p0))) (up2 Z 14 0 (nI (n + 1))) V tp t (lxQ tp t p0) (⟨((up2_ne (Or.inl (by decide))).trans ((up2_ne (Or.inl (by decide))).trans rfl)).trans hT.1, hT.2.1, fun j9 h9 => ⟨((up2_ne (Or.inl (by decide))).trans ((up2_ne (Or.inl (by decide))).trans rfl)).trans (hT.2.2 j9 h9).1, (hT.2.2 j9 h9).2⟩⟩) ((up2_ne (Or.inl (by decide))).trans hZ.1.1) (lxQ_le (by omega))) (cv_X2_X2_nextToken hts ⟨Nat.le_of_ble_eq_true rfl, Nat.le_of_ble_eq_true rfl⟩) (cP.preV hK hw.1 (hw.1.recv hK)) rfl rfl hl.1 rfl (lv_room (Nat.le_of_ble_eq_true rfl)) dX2_beginOne_85 ⟨by first | exact Nat.zero_le _ | omega | decide, by first | exact Nat.zero_le _ | omega | decide⟩) hw.2 (fun q _ h => h) (fun q h => h) (fun H locs hw _ _ hS => ?_)
        obtain ⟨Z8, V8, ⟨hlx8, hkz8⟩, hw⟩ := hw
        replace hw := MS.mk hw hS
        have hzb8 : ZB tp t x0 (n + 1) so on w0 (lxQ tp t p0) P Z8 V8 := ⟨hlx8, (congrFun (hkz8 12 (by decide) (by decide) (by decide) (by decide)) 0).trans ((up2_ne (Or.inl (by decide))).trans hZ.2.1), (congrFun (hkz8 14 (by decide) (by decide) (by decide) (by decide)) 0).trans up2_at, (congrFun (hkz8 17 (by decide) (by decide) (by decide) (by decide)) 0).trans ((up2_ne (Or.inl (by decide))).trans hZ.2.2.2.1), kPl_k (fun j9 => congrFun (hkz8 16 (by decide) (by decide) (by decide) (by decide)) j9) _ (kPl_k (fun j9 => (up2_ne (Or.inl (by decide))).trans rfl) _ hZ.2.2.2.2.1), (congrFun (hkz8 18 (by decide) (by decide) (by decide) (by decide)) 0).trans ((up2_ne (Or.inl (by decide))).trans hZ.2.2.2.2.2.1), (congrFun (hkz8 19 (by decide) (by decide) (by decide) (by decide)) 0).trans ((up2_ne (Or.inl (by decide))).trans hZ.2.2.2.2.2.2.1), (congrFun (hkz8 20 (by decide) (by decide) (by decide) (by decide)) 0).trans ((up2_ne (Or.inl (by decide))).trans hZ.2.2.2.2.2.2.2.1), (congrFun (hkz8 21 (by decide) (by decide) (by decide) (by decide)) 0).trans ((up2_ne (Or.inl (by decide))).trans hZ.2.2.2.2.2.2.2.2)⟩
        have hlq8 := lxQ_le (tp := tp) (t := t) (p0 := p0) (by omega)
        refine lv_aload_n hx hb dX2_beginOne_88 rfl (lv_at hl 1 rfl) ?_
        refine c_call (va_runV (As := []) (rest := []) ⟨hx, hb, hml, hown, hts⟩ (met_X2_whole l G ad (up2 (up2 M 2 (x0 + 75 + 2 * n) (nI 0)) 2 (x0 + 75 + 2 * n + 1) (nI (lxN tp t p0))) Z8 V8 tp t x0 (n + 1) so (lxQ tp t p0) on w0 P (⟨((up2_ne (Or.inl (by decide))).trans ((up2_ne (Or.inl (by decide))).trans rfl)).trans hT.1, hT.2.1, fun j9 h9 => ⟨((up2_ne (Or.inl (by decide))).trans ((up2_ne (Or.inl (by decide))).trans rfl)).trans (hT.2.2 j9 h9).1, (hT.2.2 j9 h9).2⟩⟩) ⟨hzb8.1, hzb8.2.1, hzb8.2.2.1, hzb8.2.2.2.1, hzb8.2.2.2.2.1, hzb8.2.2.2.2.2.1, hzb8.2.2.2.2.2.2.1, hzb8.2.2.2.2.2.2.2.1, hzb8.2.2.2.2.2.2.2.2⟩ hx0 (by omega) (by omega) (by omega)) (cv_X2_X2_whole hts ⟨Nat.le_of_ble_eq_true rfl, Nat.le_of_ble_eq_true rfl⟩) (cP.preV hK hw.1 (hw.1.recv hK)) rfl rfl hl.1 rfl (lv_room (Nat.le_of_ble_eq_true rfl)) dX2_beginOne_89 ⟨by first | exact Nat.zero_le _ | omega | decide, by first | exact Nat.zero_le _ | omega | decide⟩) hw.2 (fun q _ h => h) (fun q h => h) (fun H locs hw _ _ hS => ?_)
        obtain ⟨Z9, V9, hzb9, hw⟩ := hw
        replace hw := MS.mk hw hS
        have hsl9 := stl_len 7 P
        refine lv_iconst (v := nI 0) hx hb dX2_beginOne_92 (by decide) ?_
        have ebg : bgO tp t so p0 P = (0, (0, nI (lxN tp t p0)) :: (stl 7 P).1, lxQ tp t p0, (stl 7 P).2, true) := by
          unfold bgO
          rw [if_pos c_1, if_neg (by omega)]
        exact c_iret (v := nI 0) (by rw [ebg] <;> rfl) hx hb hr rfl hlocks ⟨_, _, (by rw [ebg]; exact ZB_n (by simp; omega) hzb9), mH.to (by rw [ebg] <;> rfl) rfl rfl hw.1⟩ hw.2 dX2_beginOne_93
      exfalso; omega
    exfalso; have := nmO_2 hnm; omega
  refine lv_iconst (v := nI 2) hx hb dX2_beginOne_18 (by decide) ?_
  have ebg : bgO tp t so p0 P = (2, [], p0, P, false) := by
    unfold bgO
    rw [if_pos c_1, if_pos c_17]
  exact c_iret (v := nI 2) (by rw [ebg] <;> rfl) hx hb hr rfl hlocks ⟨_, _, (by rw [ebg]; exact hZ), mH.to (by rw [ebg] <;> rfl) rfl rfl hw.1⟩ hw.2 dX2_beginOne_19
