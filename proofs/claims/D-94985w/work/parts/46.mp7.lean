theorem cpO_in {k b : Nat} (h : cpO k = some b) : b < 40 ∧ ¬ b = 2 ∧ ¬ b = 20 ∧ 1 ≤ rk b := by
  unfold cpO at h
  by_cases c0 : k = 60
  · rw [if_pos c0] at h
    cases h; decide
  rw [if_neg c0] at h
  by_cases c1 : k = 4
  · rw [if_pos c1] at h
    cases h; decide
  rw [if_neg c1] at h
  by_cases c2 : k = 62
  · rw [if_pos c2] at h
    cases h; decide
  rw [if_neg c2] at h
  by_cases c3 : k = 5
  · rw [if_pos c3] at h
    cases h; decide
  rw [if_neg c3] at h
  by_cases c4 : k = 61
  · rw [if_pos c4] at h
    cases h; decide
  rw [if_neg c4] at h
  by_cases c5 : k = 35
  · rw [if_pos c5] at h
    cases h; decide
  rw [if_neg c5] at h
  cases h
theorem btO_in {tp : Nat → Nat} {t p b : Nat} {P : List Nat} (h : btO tp t p P = some b) : b < 40 ∧ ¬ b = 2 ∧ ¬ b = 20 ∧ 1 ≤ rk b := by
  unfold btO at h
  by_cases c0 : lxT tp t p = 43
  · rw [if_pos c0] at h
    cases h; decide
  rw [if_neg c0] at h
  by_cases c1 : lxT tp t p = 45
  · rw [if_pos c1] at h
    cases h; decide
  rw [if_neg c1] at h
  by_cases c2 : lxT tp t p = 42
  · rw [if_pos c2] at h
    cases h; decide
  rw [if_neg c2] at h
  by_cases c3 : lxT tp t p = 47
  · rw [if_pos c3] at h
    cases h; decide
  rw [if_neg c3] at h
  by_cases d0 : kOp P = 41
  · rw [if_pos d0] at h
    by_cases d1 : cmpd P = true
    · rw [if_pos d1] at h
      by_cases d2 : lxT tp t p = 2 ∧ lxW tp t p = w8 (w8 (lN 97) 110) 100
      · rw [if_pos d2] at h; cases h; decide
      rw [if_neg d2] at h
      by_cases d3 : lxT tp t p = 2 ∧ lxW tp t p = (28530)
      · rw [if_pos d3] at h; cases h; decide
      rw [if_neg d3] at h
      cases h
    · rw [if_neg d1] at h
      exact cpO_in h
  · rw [if_neg d0] at h
    cases h
/-- what comes behind a whole piece: did one, code, place, what waits, whole -/
def bhO (tp : Nat → Nat) (t p : Nat) (P : List Nat) : Bool × List (Nat × Int32) × Nat × List Nat × Bool :=
  match btO tp t p P with
  | some b => (true, (stl (rk b) P).1, lxQ tp t p, b :: (stl (rk b) P).2, false)
  | none => if (lxT tp t p = 41 ∧ kOp P = 40 ∧ ¬ mkI P = -1) ∨ ((lxT tp t p = 2 ∧ lxW tp t p = w8 (w8 (lN 101) 110) 100) ∧ kOp P = 43) then (true, (stl 1 P).1 ++ (if kOp P = 43 then (23, nI 0) :: (stl 7 (stl 1 P).2.tail).1 else (stl 7 (stl 1 P).2.tail).1), lxQ tp t p, (stl 7 (stl 1 P).2.tail).2, true)
    else if (lxT tp t p = 63 ∧ kOp P = 41 ∧ cmpd P = true) ∨ (lxT tp t p = 58 ∧ kOp P = 42) then (true, (stl 1 P).1, lxQ tp t p, (kOp P + 1) :: (stl 1 P).2.tail, false) else (false, [], p, P, true)
set_option maxHeartbeats 4000000 in
set_option maxRecDepth 100000 in
theorem met_X2_behindOne (l : Launch) (G : gG) (ad : Nat → Nat) (M Z : Nat → Nat → Int32) (V : Nat → Nat → Int64) (tp : Nat → Nat) (t x0 n so p0 : Nat) (on w0 : Int32) (P : List Nat) (hT : TP tp t M) (hZ : ZB tp t x0 n so on w0 p0 P Z V) (hx0 : x0 ≤ 2040) (hp0 : p0 ≤ t) (hnP : n + P.length ≤ 302) (hP160 : P.length ≤ 159) (hw1 : w0 = nI 1) (hnq : n + P.length ≤ 301) : Met l yX2_behindOne (ws_ yX2_behindOne cX2_behindOne 5 (some .boolean)) ({ frames := 3, cells := 0, slots := 0, locals := 64 } : Room) (cP G [.ref (ad 0), .int (nI 0)] (mH G ad M Z V)) (cQ (some (.int (bI ((bhO tp t p0 P).1 = true)))) (fun H => ∃ Z9 V9, ZB tp t x0 (n + (bhO tp t p0 P).2.1.length) so on (if (bhO tp t p0 P).2.2.2.2 = true then nI 1 else nI 0) ((bhO tp t p0 P).2.2.1) ((bhO tp t p0 P).2.2.2.1) Z9 V9 ∧ mH G ad (putC M (x0 + 75) n (bhO tp t p0 P).2.1) Z9 V9 H) (mA ad)) 0 0 (mA ad) := by
  refine c_start (by decide) (Nat.le_of_ble_eq_true rfl) ?_
  intro p e s m below meth c hx hb hr hlocks hml hown hts hB hK ls hl
  have hw := MS.of hB
  have hl : lv_has ls 5 [(0, .ref (ad 0)), (1, .int (nI 0))] := hl
  have hT9 := lxT_lt hT p0
  have hopl := opn_le P
  refine lv_aload_n hx hb dX2_behindOne_0 rfl (lv_at hl 0 rfl) ?_
  refine lv_iload_n hx hb dX2_behindOne_1 rfl (lv_at hl 1 rfl) ?_
  refine c_read (va_runV (As := [.int (nI 0)]) (rest := []) ⟨hx, hb, hml, hown, hts⟩ (met_X2_betweenOf l G ad M Z V tp t x0 n so p0 on w0 P hT ⟨hZ.1, hZ.2.1, hZ.2.2.1, hZ.2.2.2.1, hZ.2.2.2.2.1, hZ.2.2.2.2.2.1, hZ.2.2.2.2.2.2.1, hZ.2.2.2.2.2.2.2.1, hZ.2.2.2.2.2.2.2.2⟩ hx0 (by omega) (by omega) (by omega)) (cv_X2_X2_betweenOf hts ⟨Nat.le_of_ble_eq_true rfl, Nat.le_of_ble_eq_true rfl⟩) (cP.preV hK hw.1 (hw.1.recv hK)) rfl rfl hl.1 rfl (lv_room (Nat.le_of_ble_eq_true rfl)) dX2_behindOne_2 ⟨by first | exact Nat.zero_le _ | omega | decide, by first | exact Nat.zero_le _ | omega | decide⟩) ?_
  rcases hbt : btO tp t p0 P with _ | b
  · rw [show oI none = (-1) from rfl]
    refine lv_istore_n (lv' := [(2, .int (-1)), (0, .ref (ad 0)), (1, .int (nI 0))]) hx hb dX2_behindOne_5 rfl hl (by decide) rfl (fun ls hl => ?_)
    refine lv_aload_n hx hb dX2_behindOne_6 rfl (lv_at hl 1 rfl) ?_
    refine c_read (va_runV (As := []) (rest := []) ⟨hx, hb, hml, hown, hts⟩ (met_X2_marker l G ad M Z V P hZ.2.2.2.1 hZ.2.2.2.2.1 (by omega)) (cv_X2_X2_marker hts ⟨Nat.le_of_ble_eq_true rfl, Nat.le_of_ble_eq_true rfl⟩) (cP.preV hK hw.1 (hw.1.recv hK)) rfl rfl hl.1 rfl (lv_room (Nat.le_of_ble_eq_true rfl)) dX2_behindOne_7 ⟨by first | exact Nat.zero_le _ | omega | decide, by first | exact Nat.zero_le _ | omega | decide⟩) ?_
    rcases mkI_split P with ⟨hm1, hm2⟩ | ⟨j, hj, hm1, hm2, hm3⟩
    · rw [hm1]
      refine lv_istore_n (lv' := [(3, .int (-1)), (2, .int (-1)), (0, .ref (ad 0)), (1, .int (nI 0))]) hx hb dX2_behindOne_10 rfl hl (by decide) rfl (fun ls hl => ?_)
      refine lv_iload_n hx hb dX2_behindOne_11 rfl (lv_at hl 0 rfl) ?_
      refine lv_if_ge (tgt := 19) hx hb dX2_behindOne_12 (by decide) (fun h9 => absurd h9 (by decide)) (fun _ => ?_)
      refine lv_iconst (v := (-1)) hx hb dX2_behindOne_15 (by decide) ?_
      refine lv_goto (tgt := 25) hx hb dX2_behindOne_16 (by decide) ?_
      refine lv_istore (lv' := [(4, .int (-1)), (3, .int (-1)), (2, .int (-1)), (0, .ref (ad 0)), (1, .int (nI 0))]) hx hb dX2_behindOne_25 hl (by decide) rfl (fun ls hl => ?_)
      refine lv_iload_n hx hb dX2_behindOne_27 rfl (lv_at hl 2 rfl) ?_
      refine lv_if_lt (tgt := 52) hx hb dX2_behindOne_28 (by decide) (fun _ => ?_) (fun h9 => absurd (by decide) h9)
      refine lv_aload_n hx hb dX2_behindOne_52 rfl (lv_at hl 3 rfl) ?_
      refine m_g_token hx hb hts hown hK hw dX2_behindOne_53 ?_
      rw [show Z 9 0 = nI (lxT tp t p0) from hZ.1.2.2.1]
      refine lv_bipush (v := nI 41) hx hb dX2_behindOne_56 (by decide) ?_
      refine n_icmp_ne (tgt := 68) hx hb dX2_behindOne_58 (by decide) (by omega) (by decide) (fun c_3 => ?_) (fun c_3 => ?_)
      · refine lv_aload_n hx hb dX2_behindOne_68 rfl (lv_at hl 3 rfl) ?_
        refine lv_bipush (v := nI 101) hx hb dX2_behindOne_69 (by decide) ?_
        refine lv_bipush (v := nI 110) hx hb dX2_behindOne_71 (by decide) ?_
        refine lv_bipush (v := nI 100) hx hb dX2_behindOne_73 (by decide) ?_
        refine c_read (va_runS (As := [.int (nI 101), .int (nI 110), .int (nI 100)]) (rest := [.ref (ad 0)]) ⟨hx, hb, hml, hown, hts⟩ (met_X2_w3 l G 101 110 100 (by decide) (by decide) (by decide)) (cs_X2_X2_w3 hts ⟨Nat.le_of_ble_eq_true rfl, Nat.le_of_ble_eq_true rfl⟩) (cP.pre hK trivial) rfl rfl hl.1 rfl (lv_room (Nat.le_of_ble_eq_true rfl)) dX2_behindOne_75 ⟨by first | exact Nat.zero_le _ | omega | decide, by first | exact Nat.zero_le _ | omega | decide⟩) ?_
        refine c_read (va_runV (As := [.long (w8 (w8 (lN 101) 110) 100)]) (rest := []) ⟨hx, hb, hml, hown, hts⟩ (met_X2_isWord l G ad M Z V tp t p0 hT hZ.1 (w8 (w8 (lN 101) 110) 100)) (cv_X2_X2_isWord hts ⟨Nat.le_of_ble_eq_true rfl, Nat.le_of_ble_eq_true rfl⟩) (cP.preV hK hw.1 (hw.1.recv hK)) rfl rfl hl.1 rfl (lv_room (Nat.le_of_ble_eq_true rfl)) dX2_behindOne_78 ⟨by first | exact Nat.zero_le _ | omega | decide, by first | exact Nat.zero_le _ | omega | decide⟩) ?_
        refine b_if_eq (tgt := 137) hx hb dX2_behindOne_81 (by decide) (fun c_4 => ?_) (fun c_4 => ?_)
        · refine lv_aload_n hx hb dX2_behindOne_137 rfl (lv_at hl 3 rfl) ?_
          refine m_g_token hx hb hts hown hK hw dX2_behindOne_138 ?_
          rw [show Z 9 0 = nI (lxT tp t p0) from hZ.1.2.2.1]
          refine lv_bipush (v := nI 63) hx hb dX2_behindOne_141 (by decide) ?_
          refine n_icmp_ne (tgt := 160) hx hb dX2_behindOne_143 (by decide) (by omega) (by decide) (fun c_5 => ?_) (fun c_5 => ?_)
          · refine lv_aload_n hx hb dX2_behindOne_160 rfl (lv_at hl 3 rfl) ?_
            refine m_g_token hx hb hts hown hK hw dX2_behindOne_161 ?_
            rw [show Z 9 0 = nI (lxT tp t p0) from hZ.1.2.2.1]
            refine lv_bipush (v := nI 58) hx hb dX2_behindOne_164 (by decide) ?_
            refine n_icmp_ne (tgt := 199) hx hb dX2_behindOne_166 (by decide) (by omega) (by decide) (fun c_6 => ?_) (fun c_6 => ?_)
            · refine lv_iconst (v := nI 0) hx hb dX2_behindOne_199 (by decide) ?_
              have ebh : bhO tp t p0 P = (false, [], p0, P, true) := by
                unfold bhO
                rw [hbt]
                simp only []
                rw [if_neg (fun h9 => by rcases h9 with ⟨a1, a2, a3⟩ | ⟨a1, a2⟩ <;> first | omega | exact a3 hm1 | exact absurd a1 (by assumption)), if_neg (fun h9 => by rcases h9 with ⟨a1, a2, a3⟩ | ⟨a1, a2⟩ <;> first | omega | exact absurd a3 (by assumption))]
              exact c_iret (v := nI 0) (by rw [ebh]; exact (bI_f (by simp)).symm) hx hb hr rfl hlocks ⟨_, _, (by rw [ebh]; exact hw1 ▸ hZ), mH.to (by rw [ebh] <;> exact rfl) rfl rfl hw.1⟩ hw.2 dX2_behindOne_200
            refine lv_iload hx hb dX2_behindOne_169 (lv_at hl 0 rfl) ?_
            refine lv_bipush (v := nI 42) hx hb dX2_behindOne_171 (by decide) ?_
            refine lv_icmp_ne (tgt := 199) hx hb dX2_behindOne_173 (by decide) (fun _ => ?_) (fun h9 => absurd h9 (by decide))
            refine lv_iconst (v := nI 0) hx hb dX2_behindOne_199 (by decide) ?_
            have ebh : bhO tp t p0 P = (false, [], p0, P, true) := by
              unfold bhO
              rw [hbt]
              simp only []
              rw [if_neg (fun h9 => by rcases h9 with ⟨a1, a2, a3⟩ | ⟨a1, a2⟩ <;> first | omega | exact a3 hm1 | exact absurd a1 (by assumption)), if_neg (fun h9 => by rcases h9 with ⟨a1, a2, a3⟩ | ⟨a1, a2⟩ <;> first | omega | exact absurd a3 (by assumption))]
            exact c_iret (v := nI 0) (by rw [ebh]; exact (bI_f (by simp)).symm) hx hb hr rfl hlocks ⟨_, _, (by rw [ebh]; exact hw1 ▸ hZ), mH.to (by rw [ebh] <;> exact rfl) rfl rfl hw.1⟩ hw.2 dX2_behindOne_200
          refine lv_iload hx hb dX2_behindOne_146 (lv_at hl 0 rfl) ?_
          refine lv_bipush (v := nI 41) hx hb dX2_behindOne_148 (by decide) ?_
          refine lv_icmp_ne (tgt := 160) hx hb dX2_behindOne_150 (by decide) (fun _ => ?_) (fun h9 => absurd h9 (by decide))
          refine lv_aload_n hx hb dX2_behindOne_160 rfl (lv_at hl 3 rfl) ?_
          refine m_g_token hx hb hts hown hK hw dX2_behindOne_161 ?_
          rw [show Z 9 0 = nI (lxT tp t p0) from hZ.1.2.2.1]
          refine lv_bipush (v := nI 58) hx hb dX2_behindOne_164 (by decide) ?_
          refine n_icmp_ne (tgt := 199) hx hb dX2_behindOne_166 (by decide) (by omega) (by decide) (fun c_9 => ?_) (fun c_9 => ?_)
          · refine lv_iconst (v := nI 0) hx hb dX2_behindOne_199 (by decide) ?_
            have ebh : bhO tp t p0 P = (false, [], p0, P, true) := by
              unfold bhO
              rw [hbt]
              simp only []
              rw [if_neg (fun h9 => by rcases h9 with ⟨a1, a2, a3⟩ | ⟨a1, a2⟩ <;> first | omega | exact a3 hm1 | exact absurd a1 (by assumption)), if_neg (fun h9 => by rcases h9 with ⟨a1, a2, a3⟩ | ⟨a1, a2⟩ <;> first | omega | exact absurd a3 (by assumption))]
            exact c_iret (v := nI 0) (by rw [ebh]; exact (bI_f (by simp)).symm) hx hb hr rfl hlocks ⟨_, _, (by rw [ebh]; exact hw1 ▸ hZ), mH.to (by rw [ebh] <;> exact rfl) rfl rfl hw.1⟩ hw.2 dX2_behindOne_200
          refine lv_iload hx hb dX2_behindOne_169 (lv_at hl 0 rfl) ?_
          refine lv_bipush (v := nI 42) hx hb dX2_behindOne_171 (by decide) ?_
          refine lv_icmp_ne (tgt := 199) hx hb dX2_behindOne_173 (by decide) (fun _ => ?_) (fun h9 => absurd h9 (by decide))
          refine lv_iconst (v := nI 0) hx hb dX2_behindOne_199 (by decide) ?_
          have ebh : bhO tp t p0 P = (false, [], p0, P, true) := by
            unfold bhO
            rw [hbt]
            simp only []
            rw [if_neg (fun h9 => by rcases h9 with ⟨a1, a2, a3⟩ | ⟨a1, a2⟩ <;> first | omega | exact a3 hm1 | exact absurd a1 (by assumption)), if_neg (fun h9 => by rcases h9 with ⟨a1, a2, a3⟩ | ⟨a1, a2⟩ <;> first | omega | exact absurd a3 (by assumption))]
          exact c_iret (v := nI 0) (by rw [ebh]; exact (bI_f (by simp)).symm) hx hb hr rfl hlocks ⟨_, _, (by rw [ebh]; exact hw1 ▸ hZ), mH.to (by rw [ebh] <;> exact rfl) rfl rfl hw.1⟩ hw.2 dX2_behindOne_200
        refine lv_iload hx hb dX2_behindOne_84 (lv_at hl 0 rfl) ?_
        refine lv_bipush (v := nI 43) hx hb dX2_behindOne_86 (by decide) ?_
        refine lv_icmp_ne (tgt := 137) hx hb dX2_behindOne_88 (by decide) (fun _ => ?_) (fun h9 => absurd h9 (by decide))
        refine lv_aload_n hx hb dX2_behindOne_137 rfl (lv_at hl 3 rfl) ?_
        refine m_g_token hx hb hts hown hK hw dX2_behindOne_138 ?_
        rw [show Z 9 0 = nI (lxT tp t p0) from hZ.1.2.2.1]
        refine lv_bipush (v := nI 63) hx hb dX2_behindOne_141 (by decide) ?_
        refine n_icmp_ne (tgt := 160) hx hb dX2_behindOne_143 (by decide) (by omega) (by decide) (fun c_12 => ?_) (fun c_12 => ?_)
        · refine lv_aload_n hx hb dX2_behindOne_160 rfl (lv_at hl 3 rfl) ?_
          refine m_g_token hx hb hts hown hK hw dX2_behindOne_161 ?_
          rw [show Z 9 0 = nI (lxT tp t p0) from hZ.1.2.2.1]
          refine lv_bipush (v := nI 58) hx hb dX2_behindOne_164 (by decide) ?_
          refine n_icmp_ne (tgt := 199) hx hb dX2_behindOne_166 (by decide) (by omega) (by decide) (fun c_13 => ?_) (fun c_13 => ?_)
          · refine lv_iconst (v := nI 0) hx hb dX2_behindOne_199 (by decide) ?_
            have ebh : bhO tp t p0 P = (false, [], p0, P, true) := by
              unfold bhO
              rw [hbt]
              simp only []
              rw [if_neg (fun h9 => by rcases h9 with ⟨a1, a2, a3⟩ | ⟨a1, a2⟩ <;> first | omega | exact a3 hm1 | exact absurd a1 (by assumption)), if_neg (fun h9 => by rcases h9 with ⟨a1, a2, a3⟩ | ⟨a1, a2⟩ <;> first | omega | exact absurd a3 (by assumption))]
            exact c_iret (v := nI 0) (by rw [ebh]; exact (bI_f (by simp)).symm) hx hb hr rfl hlocks ⟨_, _, (by rw [ebh]; exact hw1 ▸ hZ), mH.to (by rw [ebh] <;> exact rfl) rfl rfl hw.1⟩ hw.2 dX2_behindOne_200
          refine lv_iload hx hb dX2_behindOne_169 (lv_at hl 0 rfl) ?_
          refine lv_bipush (v := nI 42) hx hb dX2_behindOne_171 (by decide) ?_
          refine lv_icmp_ne (tgt := 199) hx hb dX2_behindOne_173 (by decide) (fun _ => ?_) (fun h9 => absurd h9 (by decide))
          refine lv_iconst (v := nI 0) hx hb dX2_behindOne_199 (by decide) ?_
          have ebh : bhO tp t p0 P = (false, [], p0, P, true) := by
            unfold bhO
            rw [hbt]
            simp only []
            rw [if_neg (fun h9 => by rcases h9 with ⟨a1, a2, a3⟩ | ⟨a1, a2⟩ <;> first | omega | exact a3 hm1 | exact absurd a1 (by assumption)), if_neg (fun h9 => by rcases h9 with ⟨a1, a2, a3⟩ | ⟨a1, a2⟩ <;> first | omega | exact absurd a3 (by assumption))]
          exact c_iret (v := nI 0) (by rw [ebh]; exact (bI_f (by simp)).symm) hx hb hr rfl hlocks ⟨_, _, (by rw [ebh]; exact hw1 ▸ hZ), mH.to (by rw [ebh] <;> exact rfl) rfl rfl hw.1⟩ hw.2 dX2_behindOne_200
        refine lv_iload hx hb dX2_behindOne_146 (lv_at hl 0 rfl) ?_
        refine lv_bipush (v := nI 41) hx hb dX2_behindOne_148 (by decide) ?_
        refine lv_icmp_ne (tgt := 160) hx hb dX2_behindOne_150 (by decide) (fun _ => ?_) (fun h9 => absurd h9 (by decide))
        refine lv_aload_n hx hb dX2_behindOne_160 rfl (lv_at hl 3 rfl) ?_
        refine m_g_token hx hb hts hown hK hw dX2_behindOne_161 ?_
        rw [show Z 9 0 = nI (lxT tp t p0) from hZ.1.2.2.1]
        refine lv_bipush (v := nI 58) hx hb dX2_behindOne_164 (by decide) ?_
        refine n_icmp_ne (tgt := 199) hx hb dX2_behindOne_166 (by decide) (by omega) (by decide) (fun c_16 => ?_) (fun c_16 => ?_)
        · refine lv_iconst (v := nI 0) hx hb dX2_behindOne_199 (by decide) ?_
          have ebh : bhO tp t p0 P = (false, [], p0, P, true) := by
            unfold bhO
            rw [hbt]
            simp only []
            rw [if_neg (fun h9 => by rcases h9 with ⟨a1, a2, a3⟩ | ⟨a1, a2⟩ <;> first | omega | exact a3 hm1 | exact absurd a1 (by assumption)), if_neg (fun h9 => by rcases h9 with ⟨a1, a2, a3⟩ | ⟨a1, a2⟩ <;> first | omega | exact absurd a3 (by assumption))]
          exact c_iret (v := nI 0) (by rw [ebh]; exact (bI_f (by simp)).symm) hx hb hr rfl hlocks ⟨_, _, (by rw [ebh]; exact hw1 ▸ hZ), mH.to (by rw [ebh] <;> exact rfl) rfl rfl hw.1⟩ hw.2 dX2_behindOne_200
        refine lv_iload hx hb dX2_behindOne_169 (lv_at hl 0 rfl) ?_
        refine lv_bipush (v := nI 42) hx hb dX2_behindOne_171 (by decide) ?_
        refine lv_icmp_ne (tgt := 199) hx hb dX2_behindOne_173 (by decide) (fun _ => ?_) (fun h9 => absurd h9 (by decide))
        refine lv_iconst (v := nI 0) hx hb dX2_behindOne_199 (by decide) ?_
        have ebh : bhO tp t p0 P = (false, [], p0, P, true) := by
          unfold bhO
          rw [hbt]
          simp only []
          rw [if_neg (fun h9 => by rcases h9 with ⟨a1, a2, a3⟩ | ⟨a1, a2⟩ <;> first | omega | exact a3 hm1 | exact absurd a1 (by assumption)), if_neg (fun h9 => by rcases h9 with ⟨a1, a2, a3⟩ | ⟨a1, a2⟩ <;> first | omega | exact absurd a3 (by assumption))]
        exact c_iret (v := nI 0) (by rw [ebh]; exact (bI_f (by simp)).symm) hx hb hr rfl hlocks ⟨_, _, (by rw [ebh]; exact hw1 ▸ hZ), mH.to (by rw [ebh] <;> exact rfl) rfl rfl hw.1⟩ hw.2 dX2_behindOne_200
      refine lv_iload hx hb dX2_behindOne_61 (lv_at hl 0 rfl) ?_
      refine lv_bipush (v := nI 40) hx hb dX2_behindOne_63 (by decide) ?_
      refine lv_icmp_eq (tgt := 91) hx hb dX2_behindOne_65 (by decide) (fun h9 => absurd h9 (by decide)) (fun _ => ?_)
      refine lv_aload_n hx hb dX2_behindOne_68 rfl (lv_at hl 3 rfl) ?_
      refine lv_bipush (v := nI 101) hx hb dX2_behindOne_69 (by decide) ?_
      refine lv_bipush (v := nI 110) hx hb dX2_behindOne_71 (by decide) ?_
      refine lv_bipush (v := nI 100) hx hb dX2_behindOne_73 (by decide) ?_
      refine c_read (va_runS (As := [.int (nI 101), .int (nI 110), .int (nI 100)]) (rest := [.ref (ad 0)]) ⟨hx, hb, hml, hown, hts⟩ (met_X2_w3 l G 101 110 100 (by decide) (by decide) (by decide)) (cs_X2_X2_w3 hts ⟨Nat.le_of_ble_eq_true rfl, Nat.le_of_ble_eq_true rfl⟩) (cP.pre hK trivial) rfl rfl hl.1 rfl (lv_room (Nat.le_of_ble_eq_true rfl)) dX2_behindOne_75 ⟨by first | exact Nat.zero_le _ | omega | decide, by first | exact Nat.zero_le _ | omega | decide⟩) ?_
      refine c_read (va_runV (As := [.long (w8 (w8 (lN 101) 110) 100)]) (rest := []) ⟨hx, hb, hml, hown, hts⟩ (met_X2_isWord l G ad M Z V tp t p0 hT hZ.1 (w8 (w8 (lN 101) 110) 100)) (cv_X2_X2_isWord hts ⟨Nat.le_of_ble_eq_true rfl, Nat.le_of_ble_eq_true rfl⟩) (cP.preV hK hw.1 (hw.1.recv hK)) rfl rfl hl.1 rfl (lv_room (Nat.le_of_ble_eq_true rfl)) dX2_behindOne_78 ⟨by first | exact Nat.zero_le _ | omega | decide, by first | exact Nat.zero_le _ | omega | decide⟩) ?_
      refine b_if_eq (tgt := 137) hx hb dX2_behindOne_81 (by decide) (fun c_19 => ?_) (fun c_19 => ?_)
      · refine lv_aload_n hx hb dX2_behindOne_137 rfl (lv_at hl 3 rfl) ?_
        refine m_g_token hx hb hts hown hK hw dX2_behindOne_138 ?_
        rw [show Z 9 0 = nI (lxT tp t p0) from hZ.1.2.2.1]
        refine lv_bipush (v := nI 63) hx hb dX2_behindOne_141 (by decide) ?_
        refine n_icmp_ne (tgt := 160) hx hb dX2_behindOne_143 (by decide) (by omega) (by decide) (fun c_20 => ?_) (fun c_20 => ?_)
        · refine lv_aload_n hx hb dX2_behindOne_160 rfl (lv_at hl 3 rfl) ?_
          refine m_g_token hx hb hts hown hK hw dX2_behindOne_161 ?_
          rw [show Z 9 0 = nI (lxT tp t p0) from hZ.1.2.2.1]
          refine lv_bipush (v := nI 58) hx hb dX2_behindOne_164 (by decide) ?_
          refine n_icmp_ne (tgt := 199) hx hb dX2_behindOne_166 (by decide) (by omega) (by decide) (fun c_21 => ?_) (fun c_21 => ?_)
          · refine lv_iconst (v := nI 0) hx hb dX2_behindOne_199 (by decide) ?_
            have ebh : bhO tp t p0 P = (false, [], p0, P, true) := by
              unfold bhO
              rw [hbt]
              simp only []
              rw [if_neg (fun h9 => by rcases h9 with ⟨a1, a2, a3⟩ | ⟨a1, a2⟩ <;> first | omega | exact a3 hm1 | exact absurd a1 (by assumption)), if_neg (fun h9 => by rcases h9 with ⟨a1, a2, a3⟩ | ⟨a1, a2⟩ <;> first | omega | exact absurd a3 (by assumption))]
            exact c_iret (v := nI 0) (by rw [ebh]; exact (bI_f (by simp)).symm) hx hb hr rfl hlocks ⟨_, _, (by rw [ebh]; exact hw1 ▸ hZ), mH.to (by rw [ebh] <;> exact rfl) rfl rfl hw.1⟩ hw.2 dX2_behindOne_200
          refine lv_iload hx hb dX2_behindOne_169 (lv_at hl 0 rfl) ?_
          refine lv_bipush (v := nI 42) hx hb dX2_behindOne_171 (by decide) ?_
          refine lv_icmp_ne (tgt := 199) hx hb dX2_behindOne_173 (by decide) (fun _ => ?_) (fun h9 => absurd h9 (by decide))
          refine lv_iconst (v := nI 0) hx hb dX2_behindOne_199 (by decide) ?_
          have ebh : bhO tp t p0 P = (false, [], p0, P, true) := by
            unfold bhO
            rw [hbt]
            simp only []
            rw [if_neg (fun h9 => by rcases h9 with ⟨a1, a2, a3⟩ | ⟨a1, a2⟩ <;> first | omega | exact a3 hm1 | exact absurd a1 (by assumption)), if_neg (fun h9 => by rcases h9 with ⟨a1, a2, a3⟩ | ⟨a1, a2⟩ <;> first | omega | exact absurd a3 (by assumption))]
          exact c_iret (v := nI 0) (by rw [ebh]; exact (bI_f (by simp)).symm) hx hb hr rfl hlocks ⟨_, _, (by rw [ebh]; exact hw1 ▸ hZ), mH.to (by rw [ebh] <;> exact rfl) rfl rfl hw.1⟩ hw.2 dX2_behindOne_200
        refine lv_iload hx hb dX2_behindOne_146 (lv_at hl 0 rfl) ?_
        refine lv_bipush (v := nI 41) hx hb dX2_behindOne_148 (by decide) ?_
        refine lv_icmp_ne (tgt := 160) hx hb dX2_behindOne_150 (by decide) (fun _ => ?_) (fun h9 => absurd h9 (by decide))
        refine lv_aload_n hx hb dX2_behindOne_160 rfl (lv_at hl 3 rfl) ?_
        refine m_g_token hx hb hts hown hK hw dX2_behindOne_161 ?_
        rw [show Z 9 0 = nI (lxT tp t p0) from hZ.1.2.2.1]
        refine lv_bipush (v := nI 58) hx hb dX2_behindOne_164 (by decide) ?_
        refine n_icmp_ne (tgt := 199) hx hb dX2_behindOne_166 (by decide) (by omega) (by decide) (fun c_24 => ?_) (fun c_24 => ?_)
        · refine lv_iconst (v := nI 0) hx hb dX2_behindOne_199 (by decide) ?_
          have ebh : bhO tp t p0 P = (false, [], p0, P, true) := by
            unfold bhO
            rw [hbt]
            simp only []
            rw [if_neg (fun h9 => by rcases h9 with ⟨a1, a2, a3⟩ | ⟨a1, a2⟩ <;> first | omega | exact a3 hm1 | exact absurd a1 (by assumption)), if_neg (fun h9 => by rcases h9 with ⟨a1, a2, a3⟩ | ⟨a1, a2⟩ <;> first | omega | exact absurd a3 (by assumption))]
          exact c_iret (v := nI 0) (by rw [ebh]; exact (bI_f (by simp)).symm) hx hb hr rfl hlocks ⟨_, _, (by rw [ebh]; exact hw1 ▸ hZ), mH.to (by rw [ebh] <;> exact rfl) rfl rfl hw.1⟩ hw.2 dX2_behindOne_200
        refine lv_iload hx hb dX2_behindOne_169 (lv_at hl 0 rfl) ?_
        refine lv_bipush (v := nI 42) hx hb dX2_behindOne_171 (by decide) ?_
        refine lv_icmp_ne (tgt := 199) hx hb dX2_behindOne_173 (by decide) (fun _ => ?_) (fun h9 => absurd h9 (by decide))
        refine lv_iconst (v := nI 0) hx hb dX2_behindOne_199 (by decide) ?_
        have ebh : bhO tp t p0 P = (false, [], p0, P, true) := by
          unfold bhO
          rw [hbt]
          simp only []
          rw [if_neg (fun h9 => by rcases h9 with ⟨a1, a2, a3⟩ | ⟨a1, a2⟩ <;> first | omega | exact a3 hm1 | exact absurd a1 (by assumption)), if_neg (fun h9 => by rcases h9 with ⟨a1, a2, a3⟩ | ⟨a1, a2⟩ <;> first | omega | exact absurd a3 (by assumption))]
        exact c_iret (v := nI 0) (by rw [ebh]; exact (bI_f (by simp)).symm) hx hb hr rfl hlocks ⟨_, _, (by rw [ebh]; exact hw1 ▸ hZ), mH.to (by rw [ebh] <;> exact rfl) rfl rfl hw.1⟩ hw.2 dX2_behindOne_200
      refine lv_iload hx hb dX2_behindOne_84 (lv_at hl 0 rfl) ?_
      refine lv_bipush (v := nI 43) hx hb dX2_behindOne_86 (by decide) ?_
      refine lv_icmp_ne (tgt := 137) hx hb dX2_behindOne_88 (by decide) (fun _ => ?_) (fun h9 => absurd h9 (by decide))
      refine lv_aload_n hx hb dX2_behindOne_137 rfl (lv_at hl 3 rfl) ?_
      refine m_g_token hx hb hts hown hK hw dX2_behindOne_138 ?_
      rw [show Z 9 0 = nI (lxT tp t p0) from hZ.1.2.2.1]
      refine lv_bipush (v := nI 63) hx hb dX2_behindOne_141 (by decide) ?_
      refine n_icmp_ne (tgt := 160) hx hb dX2_behindOne_143 (by decide) (by omega) (by decide) (fun c_27 => ?_) (fun c_27 => ?_)
      · refine lv_aload_n hx hb dX2_behindOne_160 rfl (lv_at hl 3 rfl) ?_
        refine m_g_token hx hb hts hown hK hw dX2_behindOne_161 ?_
        rw [show Z 9 0 = nI (lxT tp t p0) from hZ.1.2.2.1]
        refine lv_bipush (v := nI 58) hx hb dX2_behindOne_164 (by decide) ?_
        refine n_icmp_ne (tgt := 199) hx hb dX2_behindOne_166 (by decide) (by omega) (by decide) (fun c_28 => ?_) (fun c_28 => ?_)
        · refine lv_iconst (v := nI 0) hx hb dX2_behindOne_199 (by decide) ?_
          have ebh : bhO tp t p0 P = (false, [], p0, P, true) := by
            unfold bhO
            rw [hbt]
            simp only []
            rw [if_neg (fun h9 => by rcases h9 with ⟨a1, a2, a3⟩ | ⟨a1, a2⟩ <;> first | omega | exact a3 hm1 | exact absurd a1 (by assumption)), if_neg (fun h9 => by rcases h9 with ⟨a1, a2, a3⟩ | ⟨a1, a2⟩ <;> first | omega | exact absurd a3 (by assumption))]
          exact c_iret (v := nI 0) (by rw [ebh]; exact (bI_f (by simp)).symm) hx hb hr rfl hlocks ⟨_, _, (by rw [ebh]; exact hw1 ▸ hZ), mH.to (by rw [ebh] <;> exact rfl) rfl rfl hw.1⟩ hw.2 dX2_behindOne_200
        refine lv_iload hx hb dX2_behindOne_169 (lv_at hl 0 rfl) ?_
        refine lv_bipush (v := nI 42) hx hb dX2_behindOne_171 (by decide) ?_
        refine lv_icmp_ne (tgt := 199) hx hb dX2_behindOne_173 (by decide) (fun _ => ?_) (fun h9 => absurd h9 (by decide))
        refine lv_iconst (v := nI 0) hx hb dX2_behindOne_199 (by decide) ?_
        have ebh : bhO tp t p0 P = (false, [], p0, P, true) := by
          unfold bhO
          rw [hbt]
          simp only []
          rw [if_neg (fun h9 => by rcases h9 with ⟨a1, a2, a3⟩ | ⟨a1, a2⟩ <;> first | omega | exact a3 hm1 | exact absurd a1 (by assumption)), if_neg (fun h9 => by rcases h9 with ⟨a1, a2, a3⟩ | ⟨a1, a2⟩ <;> first | omega | exact absurd a3 (by assumption))]
        exact c_iret (v := nI 0) (by rw [ebh]; exact (bI_f (by simp)).symm) hx hb hr rfl hlocks ⟨_, _, (by rw [ebh]; exact hw1 ▸ hZ), mH.to (by rw [ebh] <;> exact rfl) rfl rfl hw.1⟩ hw.2 dX2_behindOne_200
      refine lv_iload hx hb dX2_behindOne_146 (lv_at hl 0 rfl) ?_
      refine lv_bipush (v := nI 41) hx hb dX2_behindOne_148 (by decide) ?_
      refine lv_icmp_ne (tgt := 160) hx hb dX2_behindOne_150 (by decide) (fun _ => ?_) (fun h9 => absurd h9 (by decide))
      refine lv_aload_n hx hb dX2_behindOne_160 rfl (lv_at hl 3 rfl) ?_
      refine m_g_token hx hb hts hown hK hw dX2_behindOne_161 ?_
      rw [show Z 9 0 = nI (lxT tp t p0) from hZ.1.2.2.1]
      refine lv_bipush (v := nI 58) hx hb dX2_behindOne_164 (by decide) ?_
      refine n_icmp_ne (tgt := 199) hx hb dX2_behindOne_166 (by decide) (by omega) (by decide) (fun c_31 => ?_) (fun c_31 => ?_)
      · refine lv_iconst (v := nI 0) hx hb dX2_behindOne_199 (by decide) ?_
        have ebh : bhO tp t p0 P = (false, [], p0, P, true) := by
          unfold bhO
          rw [hbt]
          simp only []
          rw [if_neg (fun h9 => by rcases h9 with ⟨a1, a2, a3⟩ | ⟨a1, a2⟩ <;> first | omega | exact a3 hm1 | exact absurd a1 (by assumption)), if_neg (fun h9 => by rcases h9 with ⟨a1, a2, a3⟩ | ⟨a1, a2⟩ <;> first | omega | exact absurd a3 (by assumption))]
        exact c_iret (v := nI 0) (by rw [ebh]; exact (bI_f (by simp)).symm) hx hb hr rfl hlocks ⟨_, _, (by rw [ebh]; exact hw1 ▸ hZ), mH.to (by rw [ebh] <;> exact rfl) rfl rfl hw.1⟩ hw.2 dX2_behindOne_200
      refine lv_iload hx hb dX2_behindOne_169 (lv_at hl 0 rfl) ?_
      refine lv_bipush (v := nI 42) hx hb dX2_behindOne_171 (by decide) ?_
      refine lv_icmp_ne (tgt := 199) hx hb dX2_behindOne_173 (by decide) (fun _ => ?_) (fun h9 => absurd h9 (by decide))
      refine lv_iconst (v := nI 0) hx hb dX2_behindOne_199 (by decide) ?_
      have ebh : bhO tp t p0 P = (false, [], p0, P, true) := by
        unfold bhO
        rw [hbt]
        simp only []
        rw [if_neg (fun h9 => by rcases h9 with ⟨a1, a2, a3⟩ | ⟨a1, a2⟩ <;> first | omega | exact a3 hm1 | exact absurd a1 (by assumption)), if_neg (fun h9 => by rcases h9 with ⟨a1, a2, a3⟩ | ⟨a1, a2⟩ <;> first | omega | exact absurd a3 (by assumption))]
      exact c_iret (v := nI 0) (by rw [ebh]; exact (bI_f (by simp)).symm) hx hb hr rfl hlocks ⟨_, _, (by rw [ebh]; exact hw1 ▸ hZ), mH.to (by rw [ebh] <;> exact rfl) rfl rfl hw.1⟩ hw.2 dX2_behindOne_200
    rw [hm1]
    obtain ⟨hm4, hm5⟩ := hm3 Z hZ.2.2.2.2.1
    refine lv_istore_n (lv' := [(3, .int (nI j)), (2, .int (-1)), (0, .ref (ad 0)), (1, .int (nI 0))]) hx hb dX2_behindOne_10 rfl hl (by decide) rfl (fun ls hl => ?_)
    refine lv_iload_n hx hb dX2_behindOne_11 rfl (lv_at hl 0 rfl) ?_
    refine n_if_ge (tgt := 19) hx hb dX2_behindOne_12 (by decide) (by omega) ?_
    refine lv_aload_n hx hb dX2_behindOne_19 rfl (lv_at hl 2 rfl) ?_
    refine m_g_pile hx hb hts hown hK hw dX2_behindOne_20 ?_
    refine lv_iload_n hx hb dX2_behindOne_23 rfl (lv_at hl 0 rfl) ?_
    refine m_l_pile (j := j) (v := nI (kOp P)) hx hb hK hw hm4 (by omega) dX2_behindOne_24 ?_
    refine lv_istore (lv' := [(4, .int (nI (kOp P))), (3, .int (nI j)), (2, .int (-1)), (0, .ref (ad 0)), (1, .int (nI 0))]) hx hb dX2_behindOne_25 hl (by decide) rfl (fun ls hl => ?_)
    refine lv_iload_n hx hb dX2_behindOne_27 rfl (lv_at hl 2 rfl) ?_
    refine lv_if_lt (tgt := 52) hx hb dX2_behindOne_28 (by decide) (fun _ => ?_) (fun h9 => absurd (by decide) h9)
    refine lv_aload_n hx hb dX2_behindOne_52 rfl (lv_at hl 3 rfl) ?_
    refine m_g_token hx hb hts hown hK hw dX2_behindOne_53 ?_
    rw [show Z 9 0 = nI (lxT tp t p0) from hZ.1.2.2.1]
    refine lv_bipush (v := nI 41) hx hb dX2_behindOne_56 (by decide) ?_
    refine n_icmp_ne (tgt := 68) hx hb dX2_behindOne_58 (by decide) (by omega) (by decide) (fun c_34 => ?_) (fun c_34 => ?_)
    · refine lv_aload_n hx hb dX2_behindOne_68 rfl (lv_at hl 3 rfl) ?_
      refine lv_bipush (v := nI 101) hx hb dX2_behindOne_69 (by decide) ?_
      refine lv_bipush (v := nI 110) hx hb dX2_behindOne_71 (by decide) ?_
      refine lv_bipush (v := nI 100) hx hb dX2_behindOne_73 (by decide) ?_
      refine c_read (va_runS (As := [.int (nI 101), .int (nI 110), .int (nI 100)]) (rest := [.ref (ad 0)]) ⟨hx, hb, hml, hown, hts⟩ (met_X2_w3 l G 101 110 100 (by decide) (by decide) (by decide)) (cs_X2_X2_w3 hts ⟨Nat.le_of_ble_eq_true rfl, Nat.le_of_ble_eq_true rfl⟩) (cP.pre hK trivial) rfl rfl hl.1 rfl (lv_room (Nat.le_of_ble_eq_true rfl)) dX2_behindOne_75 ⟨by first | exact Nat.zero_le _ | omega | decide, by first | exact Nat.zero_le _ | omega | decide⟩) ?_
      refine c_read (va_runV (As := [.long (w8 (w8 (lN 101) 110) 100)]) (rest := []) ⟨hx, hb, hml, hown, hts⟩ (met_X2_isWord l G ad M Z V tp t p0 hT hZ.1 (w8 (w8 (lN 101) 110) 100)) (cv_X2_X2_isWord hts ⟨Nat.le_of_ble_eq_true rfl, Nat.le_of_ble_eq_true rfl⟩) (cP.preV hK hw.1 (hw.1.recv hK)) rfl rfl hl.1 rfl (lv_room (Nat.le_of_ble_eq_true rfl)) dX2_behindOne_78 ⟨by first | exact Nat.zero_le _ | omega | decide, by first | exact Nat.zero_le _ | omega | decide⟩) ?_
      refine b_if_eq (tgt := 137) hx hb dX2_behindOne_81 (by decide) (fun c_35 => ?_) (fun c_35 => ?_)
      · refine lv_aload_n hx hb dX2_behindOne_137 rfl (lv_at hl 3 rfl) ?_
        refine m_g_token hx hb hts hown hK hw dX2_behindOne_138 ?_
        rw [show Z 9 0 = nI (lxT tp t p0) from hZ.1.2.2.1]
        refine lv_bipush (v := nI 63) hx hb dX2_behindOne_141 (by decide) ?_
        refine n_icmp_ne (tgt := 160) hx hb dX2_behindOne_143 (by decide) (by omega) (by decide) (fun c_36 => ?_) (fun c_36 => ?_)
        · refine lv_aload_n hx hb dX2_behindOne_160 rfl (lv_at hl 3 rfl) ?_
          refine m_g_token hx hb hts hown hK hw dX2_behindOne_161 ?_
          rw [show Z 9 0 = nI (lxT tp t p0) from hZ.1.2.2.1]
          refine lv_bipush (v := nI 58) hx hb dX2_behindOne_164 (by decide) ?_
          refine n_icmp_ne (tgt := 199) hx hb dX2_behindOne_166 (by decide) (by omega) (by decide) (fun c_37 => ?_) (fun c_37 => ?_)
          · refine lv_iconst (v := nI 0) hx hb dX2_behindOne_199 (by decide) ?_
            have ebh : bhO tp t p0 P = (false, [], p0, P, true) := by
              unfold bhO
              rw [hbt]
              simp only []
              rw [if_neg (fun h9 => by rcases h9 with ⟨a1, a2, a3⟩ | ⟨a1, a2⟩ <;> first | omega | exact a3 hm1 | exact absurd a1 (by assumption)), if_neg (fun h9 => by rcases h9 with ⟨a1, a2, a3⟩ | ⟨a1, a2⟩ <;> first | omega | exact absurd a3 (by assumption))]
            exact c_iret (v := nI 0) (by rw [ebh]; exact (bI_f (by simp)).symm) hx hb hr rfl hlocks ⟨_, _, (by rw [ebh]; exact hw1 ▸ hZ), mH.to (by rw [ebh] <;> exact rfl) rfl rfl hw.1⟩ hw.2 dX2_behindOne_200
          refine lv_iload hx hb dX2_behindOne_169 (lv_at hl 0 rfl) ?_
          refine lv_bipush (v := nI 42) hx hb dX2_behindOne_171 (by decide) ?_
          refine n_icmp_ne (tgt := 199) hx hb dX2_behindOne_173 (by decide) (by omega) (by decide) (fun c_38 => ?_) (fun c_38 => ?_)
          · refine lv_iconst (v := nI 0) hx hb dX2_behindOne_199 (by decide) ?_
            have ebh : bhO tp t p0 P = (false, [], p0, P, true) := by
              unfold bhO
              rw [hbt]
              simp only []
              rw [if_neg (fun h9 => by rcases h9 with ⟨a1, a2, a3⟩ | ⟨a1, a2⟩ <;> first | omega | exact a3 hm1 | exact absurd a1 (by assumption)), if_neg (fun h9 => by rcases h9 with ⟨a1, a2, a3⟩ | ⟨a1, a2⟩ <;> first | omega | exact absurd a3 (by assumption))]
            exact c_iret (v := nI 0) (by rw [ebh]; exact (bI_f (by simp)).symm) hx hb hr rfl hlocks ⟨_, _, (by rw [ebh]; exact hw1 ▸ hZ), mH.to (by rw [ebh] <;> exact rfl) rfl rfl hw.1⟩ hw.2 dX2_behindOne_200
          refine lv_aload_n hx hb dX2_behindOne_176 rfl (lv_at hl 3 rfl) ?_
          refine lv_iconst (v := nI 1) hx hb dX2_behindOne_177 (by decide) ?_
          refine c_call (va_runV (As := [.int (nI 1)]) (rest := []) ⟨hx, hb, hml, hown, hts⟩ (met_X2_settle l G ad M Z V tp t x0 n so p0 on w0 P hT ⟨hZ.1, hZ.2.1, hZ.2.2.1, hZ.2.2.2.1, hZ.2.2.2.2.1, hZ.2.2.2.2.2.1, hZ.2.2.2.2.2.2.1, hZ.2.2.2.2.2.2.2.1, hZ.2.2.2.2.2.2.2.2⟩ hx0 (by omega) (by omega) (by omega) 1 (by omega)) (cv_X2_X2_settle hts ⟨Nat.le_of_ble_eq_true rfl, Nat.le_of_ble_eq_true rfl⟩) (cP.preV hK hw.1 (hw.1.recv hK)) rfl rfl hl.1 rfl (lv_room (Nat.le_of_ble_eq_true rfl)) dX2_behindOne_178 ⟨by first | exact Nat.zero_le _ | omega | decide, by first | exact Nat.zero_le _ | omega | decide⟩) hw.2 (fun q _ h => h) (fun q h => h) (fun H locs hw _ _ hS => ?_)
          obtain ⟨Z1, V1, hzb1, hw⟩ := hw
          replace hw := MS.mk hw hS
          have hsl1 := stl_len 1 P
          obtain ⟨r, hr1, hr2, hr3⟩ := stl1_top hj hm1 (by omega)
          rw [hr1] at hzb1 hsl1
          have hsl9 : (stl 1 P).1.length + (r.length + 1) = P.length := hsl1
          have hop : opn (kOp P :: r) = opn r + 1 := by rw [opn_c, if_pos (by omega)]
          refine lv_aload_n hx hb dX2_behindOne_181 rfl (lv_at hl 3 rfl) ?_
          refine m_g_pile hx hb hts hown hK hw dX2_behindOne_182 ?_
          refine lv_iload_n hx hb dX2_behindOne_185 rfl (lv_at hl 1 rfl) ?_
          refine lv_iload hx hb dX2_behindOne_186 (lv_at hl 0 rfl) ?_
          refine lv_iconst (v := nI 1) hx hb dX2_behindOne_188 (by decide) ?_
          refine n_iadd hx hb dX2_behindOne_189 ?_
          refine m_s_pile (j := j) hx hb hK hw (by omega) dX2_behindOne_190 (fun H locs hw => ?_)
          have hop2 : opn ((kOp P + 1) :: r) = opn (kOp P :: r) := by rw [opn_c, opn_c, if_pos (by omega), if_pos (by omega)]
          refine lv_aload_n hx hb dX2_behindOne_191 rfl (lv_at hl 3 rfl) ?_
          refine lv_iconst (v := nI 0) hx hb dX2_behindOne_192 (by decide) ?_
          refine m_p_isWhole hx hb hts hown hK hw rfl rfl dX2_behindOne_193 (fun H locs hw => ?_)
          refine lv_goto (tgt := 201) hx hb dX2_behindOne_196 (by decide) ?_
          refine lv_aload_n hx hb dX2_behindOne_201 rfl (lv_at hl 3 rfl) ?_
          refine c_call (va_runV (As := []) (rest := []) ⟨hx, hb, hml, hown, hts⟩ (met_X2_nextToken l G ad (putC M (x0 + 75) n (stl 1 P).1) (up2 (up2 Z1 16 j (nI (kOp P + 1))) 19 0 (nI 0)) V1 tp t (lxQ tp t p0) (show TP tp t (putC M (x0 + 75) n (stl 1 P).1) from TP_putC hT) ((up2_ne (Or.inl (by decide))).trans ((up2_ne (Or.inl (by decide))).trans hzb1.1.1)) (lxQ_le (by omega))) (cv_X2_X2_nextToken hts ⟨Nat.le_of_ble_eq_true rfl, Nat.le_of_ble_eq_true rfl⟩) (cP.preV hK hw.1 (hw.1.recv hK)) rfl rfl hl.1 rfl (lv_room (Nat.le_of_ble_eq_true rfl)) dX2_behindOne_202 ⟨by first | exact Nat.zero_le _ | omega | decide, by first | exact Nat.zero_le _ | omega | decide⟩) hw.2 (fun q _ h => h) (fun q h => h) (fun H locs hw _ _ hS => ?_)
          obtain ⟨Z2, V2, ⟨hlx2, hkz2⟩, hw⟩ := hw
          replace hw := MS.mk hw hS
          have hzb2 : ZB tp t x0 (n + (stl 1 P).1.length) so on (nI 0) (lxQ tp t p0) ((kOp P + 1) :: r) Z2 V2 := ⟨hlx2, (congrFun (hkz2 12 (by decide) (by decide) (by decide) (by decide)) 0).trans ((up2_ne (Or.inl (by decide))).trans ((up2_ne (Or.inl (by decide))).trans hzb1.2.1)), (congrFun (hkz2 14 (by decide) (by decide) (by decide) (by decide)) 0).trans ((up2_ne (Or.inl (by decide))).trans ((up2_ne (Or.inl (by decide))).trans hzb1.2.2.1)), (congrFun (hkz2 17 (by decide) (by decide) (by decide) (by decide)) 0).trans ((up2_ne (Or.inl (by decide))).trans ((up2_ne (Or.inl (by decide))).trans hzb1.2.2.2.1)), kPl_k (fun j9 => congrFun (hkz2 16 (by decide) (by decide) (by decide) (by decide)) j9) _ (kPl_k (fun j9 => (up2_ne (Or.inl (by decide))).trans rfl) _ (kPl_top (by omega) (fun j9 => by rw [hr2]) hzb1.2.2.2.2.1)), ((congrFun (hkz2 18 (by decide) (by decide) (by decide) (by decide)) 0).trans ((up2_ne (Or.inl (by decide))).trans ((up2_ne (Or.inl (by decide))).trans hzb1.2.2.2.2.2.1))).trans (congrArg nI (hop2).symm), (congrFun (hkz2 19 (by decide) (by decide) (by decide) (by decide)) 0).trans up2_at, (congrFun (hkz2 20 (by decide) (by decide) (by decide) (by decide)) 0).trans ((up2_ne (Or.inl (by decide))).trans ((up2_ne (Or.inl (by decide))).trans hzb1.2.2.2.2.2.2.2.1)), (congrFun (hkz2 21 (by decide) (by decide) (by decide) (by decide)) 0).trans ((up2_ne (Or.inl (by decide))).trans ((up2_ne (Or.inl (by decide))).trans hzb1.2.2.2.2.2.2.2.2))⟩
          have hlq2 := lxQ_le (tp := tp) (t := t) (p0 := p0) (by omega)
          refine lv_iconst (v := nI 1) hx hb dX2_behindOne_205 (by decide) ?_
          have ebh : bhO tp t p0 P = (true, (stl 1 P).1, lxQ tp t p0, (kOp P + 1) :: r, false) := by
            unfold bhO
            rw [hbt]
            simp only []
            rw [if_neg (fun h9 => by rcases h9 with ⟨a1, a2, a3⟩ | ⟨a1, a2⟩ <;> first | omega | exact a3 hm1 | exact absurd a1 (by assumption)), if_pos (Or.inr ⟨by omega, by omega⟩), hr1]
            try rfl
          exact c_iret (v := nI 1) (by rw [ebh]; exact (bI_t rfl).symm) hx hb hr rfl hlocks ⟨_, _, (by rw [ebh]; exact hzb2), mH.to (by rw [ebh] <;> exact rfl) rfl rfl hw.1⟩ hw.2 dX2_behindOne_206
        refine lv_iload hx hb dX2_behindOne_146 (lv_at hl 0 rfl) ?_
        refine lv_bipush (v := nI 41) hx hb dX2_behindOne_148 (by decide) ?_
        refine n_icmp_ne (tgt := 160) hx hb dX2_behindOne_150 (by decide) (by omega) (by decide) (fun c_39 => ?_) (fun c_39 => ?_)
        · refine lv_aload_n hx hb dX2_behindOne_160 rfl (lv_at hl 3 rfl) ?_
          refine m_g_token hx hb hts hown hK hw dX2_behindOne_161 ?_
          rw [show Z 9 0 = nI (lxT tp t p0) from hZ.1.2.2.1]
          refine lv_bipush (v := nI 58) hx hb dX2_behindOne_164 (by decide) ?_
          refine n_icmp_ne (tgt := 199) hx hb dX2_behindOne_166 (by decide) (by omega) (by decide) (fun c_40 => ?_) (fun c_40 => ?_)
          · refine lv_iconst (v := nI 0) hx hb dX2_behindOne_199 (by decide) ?_
            have ebh : bhO tp t p0 P = (false, [], p0, P, true) := by
              unfold bhO
              rw [hbt]
              simp only []
              rw [if_neg (fun h9 => by rcases h9 with ⟨a1, a2, a3⟩ | ⟨a1, a2⟩ <;> first | omega | exact a3 hm1 | exact absurd a1 (by assumption)), if_neg (fun h9 => by rcases h9 with ⟨a1, a2, a3⟩ | ⟨a1, a2⟩ <;> first | omega | exact absurd a3 (by assumption))]
            exact c_iret (v := nI 0) (by rw [ebh]; exact (bI_f (by simp)).symm) hx hb hr rfl hlocks ⟨_, _, (by rw [ebh]; exact hw1 ▸ hZ), mH.to (by rw [ebh] <;> exact rfl) rfl rfl hw.1⟩ hw.2 dX2_behindOne_200
          refine lv_iload hx hb dX2_behindOne_169 (lv_at hl 0 rfl) ?_
          refine lv_bipush (v := nI 42) hx hb dX2_behindOne_171 (by decide) ?_
          refine n_icmp_ne (tgt := 199) hx hb dX2_behindOne_173 (by decide) (by omega) (by decide) (fun c_41 => ?_) (fun c_41 => ?_)
          · refine lv_iconst (v := nI 0) hx hb dX2_behindOne_199 (by decide) ?_
            have ebh : bhO tp t p0 P = (false, [], p0, P, true) := by
              unfold bhO
              rw [hbt]
              simp only []
              rw [if_neg (fun h9 => by rcases h9 with ⟨a1, a2, a3⟩ | ⟨a1, a2⟩ <;> first | omega | exact a3 hm1 | exact absurd a1 (by assumption)), if_neg (fun h9 => by rcases h9 with ⟨a1, a2, a3⟩ | ⟨a1, a2⟩ <;> first | omega | exact absurd a3 (by assumption))]
            exact c_iret (v := nI 0) (by rw [ebh]; exact (bI_f (by simp)).symm) hx hb hr rfl hlocks ⟨_, _, (by rw [ebh]; exact hw1 ▸ hZ), mH.to (by rw [ebh] <;> exact rfl) rfl rfl hw.1⟩ hw.2 dX2_behindOne_200
          refine lv_aload_n hx hb dX2_behindOne_176 rfl (lv_at hl 3 rfl) ?_
          refine lv_iconst (v := nI 1) hx hb dX2_behindOne_177 (by decide) ?_
          refine c_call (va_runV (As := [.int (nI 1)]) (rest := []) ⟨hx, hb, hml, hown, hts⟩ (met_X2_settle l G ad M Z V tp t x0 n so p0 on w0 P hT ⟨hZ.1, hZ.2.1, hZ.2.2.1, hZ.2.2.2.1, hZ.2.2.2.2.1, hZ.2.2.2.2.2.1, hZ.2.2.2.2.2.2.1, hZ.2.2.2.2.2.2.2.1, hZ.2.2.2.2.2.2.2.2⟩ hx0 (by omega) (by omega) (by omega) 1 (by omega)) (cv_X2_X2_settle hts ⟨Nat.le_of_ble_eq_true rfl, Nat.le_of_ble_eq_true rfl⟩) (cP.preV hK hw.1 (hw.1.recv hK)) rfl rfl hl.1 rfl (lv_room (Nat.le_of_ble_eq_true rfl)) dX2_behindOne_178 ⟨by first | exact Nat.zero_le _ | omega | decide, by first | exact Nat.zero_le _ | omega | decide⟩) hw.2 (fun q _ h => h) (fun q h => h) (fun H locs hw _ _ hS => ?_)
          obtain ⟨Z3, V3, hzb3, hw⟩ := hw
          replace hw := MS.mk hw hS
          have hsl3 := stl_len 1 P
          obtain ⟨r, hr1, hr2, hr3⟩ := stl1_top hj hm1 (by omega)
          rw [hr1] at hzb3 hsl3
          have hsl9 : (stl 1 P).1.length + (r.length + 1) = P.length := hsl3
          have hop : opn (kOp P :: r) = opn r + 1 := by rw [opn_c, if_pos (by omega)]
          refine lv_aload_n hx hb dX2_behindOne_181 rfl (lv_at hl 3 rfl) ?_
          refine m_g_pile hx hb hts hown hK hw dX2_behindOne_182 ?_
          refine lv_iload_n hx hb dX2_behindOne_185 rfl (lv_at hl 1 rfl) ?_
          refine lv_iload hx hb dX2_behindOne_186 (lv_at hl 0 rfl) ?_
          refine lv_iconst (v := nI 1) hx hb dX2_behindOne_188 (by decide) ?_
          refine n_iadd hx hb dX2_behindOne_189 ?_
          refine m_s_pile (j := j) hx hb hK hw (by omega) dX2_behindOne_190 (fun H locs hw => ?_)
          have hop2 : opn ((kOp P + 1) :: r) = opn (kOp P :: r) := by rw [opn_c, opn_c, if_pos (by omega), if_pos (by omega)]
          refine lv_aload_n hx hb dX2_behindOne_191 rfl (lv_at hl 3 rfl) ?_
          refine lv_iconst (v := nI 0) hx hb dX2_behindOne_192 (by decide) ?_
          refine m_p_isWhole hx hb hts hown hK hw rfl rfl dX2_behindOne_193 (fun H locs hw => ?_)
          refine lv_goto (tgt := 201) hx hb dX2_behindOne_196 (by decide) ?_
          refine lv_aload_n hx hb dX2_behindOne_201 rfl (lv_at hl 3 rfl) ?_
          refine c_call (va_runV (As := []) (rest := []) ⟨hx, hb, hml, hown, hts⟩ (met_X2_nextToken l G ad (putC M (x0 + 75) n (stl 1 P).1) (up2 (up2 Z3 16 j (nI (kOp P + 1))) 19 0 (nI 0)) V3 tp t (lxQ tp t p0) (show TP tp t (putC M (x0 + 75) n (stl 1 P).1) from TP_putC hT) ((up2_ne (Or.inl (by decide))).trans ((up2_ne (Or.inl (by decide))).trans hzb3.1.1)) (lxQ_le (by omega))) (cv_X2_X2_nextToken hts ⟨Nat.le_of_ble_eq_true rfl, Nat.le_of_ble_eq_true rfl⟩) (cP.preV hK hw.1 (hw.1.recv hK)) rfl rfl hl.1 rfl (lv_room (Nat.le_of_ble_eq_true rfl)) dX2_behindOne_202 ⟨by first | exact Nat.zero_le _ | omega | decide, by first | exact Nat.zero_le _ | omega | decide⟩) hw.2 (fun q _ h => h) (fun q h => h) (fun H locs hw _ _ hS => ?_)
          obtain ⟨Z4, V4, ⟨hlx4, hkz4⟩, hw⟩ := hw
          replace hw := MS.mk hw hS
          have hzb4 : ZB tp t x0 (n + (stl 1 P).1.length) so on (nI 0) (lxQ tp t p0) ((kOp P + 1) :: r) Z4 V4 := ⟨hlx4, (congrFun (hkz4 12 (by decide) (by decide) (by decide) (by decide)) 0).trans ((up2_ne (Or.inl (by decide))).trans ((up2_ne (Or.inl (by decide))).trans hzb3.2.1)), (congrFun (hkz4 14 (by decide) (by decide) (by decide) (by decide)) 0).trans ((up2_ne (Or.inl (by decide))).trans ((up2_ne (Or.inl (by decide))).trans hzb3.2.2.1)), (congrFun (hkz4 17 (by decide) (by decide) (by decide) (by decide)) 0).trans ((up2_ne (Or.inl (by decide))).trans ((up2_ne (Or.inl (by decide))).trans hzb3.2.2.2.1)), kPl_k (fun j9 => congrFun (hkz4 16 (by decide) (by decide) (by decide) (by decide)) j9) _ (kPl_k (fun j9 => (up2_ne (Or.inl (by decide))).trans rfl) _ (kPl_top (by omega) (fun j9 => by rw [hr2]) hzb3.2.2.2.2.1)), ((congrFun (hkz4 18 (by decide) (by decide) (by decide) (by decide)) 0).trans ((up2_ne (Or.inl (by decide))).trans ((up2_ne (Or.inl (by decide))).trans hzb3.2.2.2.2.2.1))).trans (congrArg nI (hop2).symm), (congrFun (hkz4 19 (by decide) (by decide) (by decide) (by decide)) 0).trans up2_at, (congrFun (hkz4 20 (by decide) (by decide) (by decide) (by decide)) 0).trans ((up2_ne (Or.inl (by decide))).trans ((up2_ne (Or.inl (by decide))).trans hzb3.2.2.2.2.2.2.2.1)), (congrFun (hkz4 21 (by decide) (by decide) (by decide) (by decide)) 0).trans ((up2_ne (Or.inl (by decide))).trans ((up2_ne (Or.inl (by decide))).trans hzb3.2.2.2.2.2.2.2.2))⟩
          have hlq4 := lxQ_le (tp := tp) (t := t) (p0 := p0) (by omega)
          refine lv_iconst (v := nI 1) hx hb dX2_behindOne_205 (by decide) ?_
          have ebh : bhO tp t p0 P = (true, (stl 1 P).1, lxQ tp t p0, (kOp P + 1) :: r, false) := by
            unfold bhO
            rw [hbt]
            simp only []
            rw [if_neg (fun h9 => by rcases h9 with ⟨a1, a2, a3⟩ | ⟨a1, a2⟩ <;> first | omega | exact a3 hm1 | exact absurd a1 (by assumption)), if_pos (Or.inr ⟨by omega, by omega⟩), hr1]
            try rfl
          exact c_iret (v := nI 1) (by rw [ebh]; exact (bI_t rfl).symm) hx hb hr rfl hlocks ⟨_, _, (by rw [ebh]; exact hzb4), mH.to (by rw [ebh] <;> exact rfl) rfl rfl hw.1⟩ hw.2 dX2_behindOne_206
        refine lv_aload_n hx hb dX2_behindOne_153 rfl (lv_at hl 3 rfl) ?_
        refine c_read (va_runV (As := []) (rest := []) ⟨hx, hb, hml, hown, hts⟩ (met_X2_isCompared l G ad M Z V P hZ.2.2.2.1 hZ.2.2.2.2.1 (by omega)) (cv_X2_X2_isCompared hts ⟨Nat.le_of_ble_eq_true rfl, Nat.le_of_ble_eq_true rfl⟩) (cP.preV hK hw.1 (hw.1.recv hK)) rfl rfl hl.1 rfl (lv_room (Nat.le_of_ble_eq_true rfl)) dX2_behindOne_154 ⟨by first | exact Nat.zero_le _ | omega | decide, by first | exact Nat.zero_le _ | omega | decide⟩) ?_
        refine b_if_ne (tgt := 176) hx hb dX2_behindOne_157 (by decide) (fun c_42 => ?_) (fun c_42 => ?_)
        · refine lv_aload_n hx hb dX2_behindOne_176 rfl (lv_at hl 3 rfl) ?_
          refine lv_iconst (v := nI 1) hx hb dX2_behindOne_177 (by decide) ?_
          refine c_call (va_runV (As := [.int (nI 1)]) (rest := []) ⟨hx, hb, hml, hown, hts⟩ (met_X2_settle l G ad M Z V tp t x0 n so p0 on w0 P hT ⟨hZ.1, hZ.2.1, hZ.2.2.1, hZ.2.2.2.1, hZ.2.2.2.2.1, hZ.2.2.2.2.2.1, hZ.2.2.2.2.2.2.1, hZ.2.2.2.2.2.2.2.1, hZ.2.2.2.2.2.2.2.2⟩ hx0 (by omega) (by omega) (by omega) 1 (by omega)) (cv_X2_X2_settle hts ⟨Nat.le_of_ble_eq_true rfl, Nat.le_of_ble_eq_true rfl⟩) (cP.preV hK hw.1 (hw.1.recv hK)) rfl rfl hl.1 rfl (lv_room (Nat.le_of_ble_eq_true rfl)) dX2_behindOne_178 ⟨by first | exact Nat.zero_le _ | omega | decide, by first | exact Nat.zero_le _ | omega | decide⟩) hw.2 (fun q _ h => h) (fun q h => h) (fun H locs hw _ _ hS => ?_)
          obtain ⟨Z5, V5, hzb5, hw⟩ := hw
          replace hw := MS.mk hw hS
          have hsl5 := stl_len 1 P
          obtain ⟨r, hr1, hr2, hr3⟩ := stl1_top hj hm1 (by omega)
          rw [hr1] at hzb5 hsl5
          have hsl9 : (stl 1 P).1.length + (r.length + 1) = P.length := hsl5
          have hop : opn (kOp P :: r) = opn r + 1 := by rw [opn_c, if_pos (by omega)]
          refine lv_aload_n hx hb dX2_behindOne_181 rfl (lv_at hl 3 rfl) ?_
          refine m_g_pile hx hb hts hown hK hw dX2_behindOne_182 ?_
          refine lv_iload_n hx hb dX2_behindOne_185 rfl (lv_at hl 1 rfl) ?_
          refine lv_iload hx hb dX2_behindOne_186 (lv_at hl 0 rfl) ?_
          refine lv_iconst (v := nI 1) hx hb dX2_behindOne_188 (by decide) ?_
          refine n_iadd hx hb dX2_behindOne_189 ?_
          refine m_s_pile (j := j) hx hb hK hw (by omega) dX2_behindOne_190 (fun H locs hw => ?_)
          have hop2 : opn ((kOp P + 1) :: r) = opn (kOp P :: r) := by rw [opn_c, opn_c, if_pos (by omega), if_pos (by omega)]
          refine lv_aload_n hx hb dX2_behindOne_191 rfl (lv_at hl 3 rfl) ?_
          refine lv_iconst (v := nI 0) hx hb dX2_behindOne_192 (by decide) ?_
          refine m_p_isWhole hx hb hts hown hK hw rfl rfl dX2_behindOne_193 (fun H locs hw => ?_)
          refine lv_goto (tgt := 201) hx hb dX2_behindOne_196 (by decide) ?_
          refine lv_aload_n hx hb dX2_behindOne_201 rfl (lv_at hl 3 rfl) ?_
          refine c_call (va_runV (As := []) (rest := []) ⟨hx, hb, hml, hown, hts⟩ (met_X2_nextToken l G ad (putC M (x0 + 75) n (stl 1 P).1) (up2 (up2 Z5 16 j (nI (kOp P + 1))) 19 0 (nI 0)) V5 tp t (lxQ tp t p0) (show TP tp t (putC M (x0 + 75) n (stl 1 P).1) from TP_putC hT) ((up2_ne (Or.inl (by decide))).trans ((up2_ne (Or.inl (by decide))).trans hzb5.1.1)) (lxQ_le (by omega))) (cv_X2_X2_nextToken hts ⟨Nat.le_of_ble_eq_true rfl, Nat.le_of_ble_eq_true rfl⟩) (cP.preV hK hw.1 (hw.1.recv hK)) rfl rfl hl.1 rfl (lv_room (Nat.le_of_ble_eq_true rfl)) dX2_behindOne_202 ⟨by first | exact Nat.zero_le _ | omega | decide, by first | exact Nat.zero_le _ | omega | decide⟩) hw.2 (fun q _ h => h) (fun q h => h) (fun H locs hw _ _ hS => ?_)
          obtain ⟨Z6, V6, ⟨hlx6, hkz6⟩, hw⟩ := hw
          replace hw := MS.mk hw hS
          have hzb6 : ZB tp t x0 (n + (stl 1 P).1.length) so on (nI 0) (lxQ tp t p0) ((kOp P + 1) :: r) Z6 V6 := ⟨hlx6, (congrFun (hkz6 12 (by decide) (by decide) (by decide) (by decide)) 0).trans ((up2_ne (Or.inl (by decide))).trans ((up2_ne (Or.inl (by decide))).trans hzb5.2.1)), (congrFun (hkz6 14 (by decide) (by decide) (by decide) (by decide)) 0).trans ((up2_ne (Or.inl (by decide))).trans ((up2_ne (Or.inl (by decide))).trans hzb5.2.2.1)), (congrFun (hkz6 17 (by decide) (by decide) (by decide) (by decide)) 0).trans ((up2_ne (Or.inl (by decide))).trans ((up2_ne (Or.inl (by decide))).trans hzb5.2.2.2.1)), kPl_k (fun j9 => congrFun (hkz6 16 (by decide) (by decide) (by decide) (by decide)) j9) _ (kPl_k (fun j9 => (up2_ne (Or.inl (by decide))).trans rfl) _ (kPl_top (by omega) (fun j9 => by rw [hr2]) hzb5.2.2.2.2.1)), ((congrFun (hkz6 18 (by decide) (by decide) (by decide) (by decide)) 0).trans ((up2_ne (Or.inl (by decide))).trans ((up2_ne (Or.inl (by decide))).trans hzb5.2.2.2.2.2.1))).trans (congrArg nI (hop2).symm), (congrFun (hkz6 19 (by decide) (by decide) (by decide) (by decide)) 0).trans up2_at, (congrFun (hkz6 20 (by decide) (by decide) (by decide) (by decide)) 0).trans ((up2_ne (Or.inl (by decide))).trans ((up2_ne (Or.inl (by decide))).trans hzb5.2.2.2.2.2.2.2.1)), (congrFun (hkz6 21 (by decide) (by decide) (by decide) (by decide)) 0).trans ((up2_ne (Or.inl (by decide))).trans ((up2_ne (Or.inl (by decide))).trans hzb5.2.2.2.2.2.2.2.2))⟩
          have hlq6 := lxQ_le (tp := tp) (t := t) (p0 := p0) (by omega)
          refine lv_iconst (v := nI 1) hx hb dX2_behindOne_205 (by decide) ?_
          have ebh : bhO tp t p0 P = (true, (stl 1 P).1, lxQ tp t p0, (kOp P + 1) :: r, false) := by
            unfold bhO
            rw [hbt]
            simp only []
            rw [if_neg (fun h9 => by rcases h9 with ⟨a1, a2, a3⟩ | ⟨a1, a2⟩ <;> first | omega | exact a3 hm1 | exact absurd a1 (by assumption)), if_pos (Or.inl ⟨by omega, by omega, c_42⟩), hr1]
            try rfl
          exact c_iret (v := nI 1) (by rw [ebh]; exact (bI_t rfl).symm) hx hb hr rfl hlocks ⟨_, _, (by rw [ebh]; exact hzb6), mH.to (by rw [ebh] <;> exact rfl) rfl rfl hw.1⟩ hw.2 dX2_behindOne_206
        refine lv_aload_n hx hb dX2_behindOne_160 rfl (lv_at hl 3 rfl) ?_
        refine m_g_token hx hb hts hown hK hw dX2_behindOne_161 ?_
        rw [show Z 9 0 = nI (lxT tp t p0) from hZ.1.2.2.1]
        refine lv_bipush (v := nI 58) hx hb dX2_behindOne_164 (by decide) ?_
        refine n_icmp_ne (tgt := 199) hx hb dX2_behindOne_166 (by decide) (by omega) (by decide) (fun c_43 => ?_) (fun c_43 => ?_)
        · refine lv_iconst (v := nI 0) hx hb dX2_behindOne_199 (by decide) ?_
          have ebh : bhO tp t p0 P = (false, [], p0, P, true) := by
            unfold bhO
            rw [hbt]
            simp only []
            rw [if_neg (fun h9 => by rcases h9 with ⟨a1, a2, a3⟩ | ⟨a1, a2⟩ <;> first | omega | exact a3 hm1 | exact absurd a1 (by assumption)), if_neg (fun h9 => by rcases h9 with ⟨a1, a2, a3⟩ | ⟨a1, a2⟩ <;> first | omega | exact absurd a3 (by assumption))]
          exact c_iret (v := nI 0) (by rw [ebh]; exact (bI_f (by simp)).symm) hx hb hr rfl hlocks ⟨_, _, (by rw [ebh]; exact hw1 ▸ hZ), mH.to (by rw [ebh] <;> exact rfl) rfl rfl hw.1⟩ hw.2 dX2_behindOne_200
        refine lv_iload hx hb dX2_behindOne_169 (lv_at hl 0 rfl) ?_
        refine lv_bipush (v := nI 42) hx hb dX2_behindOne_171 (by decide) ?_
        refine n_icmp_ne (tgt := 199) hx hb dX2_behindOne_173 (by decide) (by omega) (by decide) (fun c_44 => ?_) (fun c_44 => ?_)
        · refine lv_iconst (v := nI 0) hx hb dX2_behindOne_199 (by decide) ?_
          have ebh : bhO tp t p0 P = (false, [], p0, P, true) := by
            unfold bhO
            rw [hbt]
            simp only []
            rw [if_neg (fun h9 => by rcases h9 with ⟨a1, a2, a3⟩ | ⟨a1, a2⟩ <;> first | omega | exact a3 hm1 | exact absurd a1 (by assumption)), if_neg (fun h9 => by rcases h9 with ⟨a1, a2, a3⟩ | ⟨a1, a2⟩ <;> first | omega | exact absurd a3 (by assumption))]
          exact c_iret (v := nI 0) (by rw [ebh]; exact (bI_f (by simp)).symm) hx hb hr rfl hlocks ⟨_, _, (by rw [ebh]; exact hw1 ▸ hZ), mH.to (by rw [ebh] <;> exact rfl) rfl rfl hw.1⟩ hw.2 dX2_behindOne_200
        refine lv_aload_n hx hb dX2_behindOne_176 rfl (lv_at hl 3 rfl) ?_
        refine lv_iconst (v := nI 1) hx hb dX2_behindOne_177 (by decide) ?_
        refine c_call (va_runV (As := [.int (nI 1)]) (rest := []) ⟨hx, hb, hml, hown, hts⟩ (met_X2_settle l G ad M Z V tp t x0 n so p0 on w0 P hT ⟨hZ.1, hZ.2.1, hZ.2.2.1, hZ.2.2.2.1, hZ.2.2.2.2.1, hZ.2.2.2.2.2.1, hZ.2.2.2.2.2.2.1, hZ.2.2.2.2.2.2.2.1, hZ.2.2.2.2.2.2.2.2⟩ hx0 (by omega) (by omega) (by omega) 1 (by omega)) (cv_X2_X2_settle hts ⟨Nat.le_of_ble_eq_true rfl, Nat.le_of_ble_eq_true rfl⟩) (cP.preV hK hw.1 (hw.1.recv hK)) rfl rfl hl.1 rfl (lv_room (Nat.le_of_ble_eq_true rfl)) dX2_behindOne_178 ⟨by first | exact Nat.zero_le _ | omega | decide, by first | exact Nat.zero_le _ | omega | decide⟩) hw.2 (fun q _ h => h) (fun q h => h) (fun H locs hw _ _ hS => ?_)
        obtain ⟨Z7, V7, hzb7, hw⟩ := hw
        replace hw := MS.mk hw hS
        have hsl7 := stl_len 1 P
        obtain ⟨r, hr1, hr2, hr3⟩ := stl1_top hj hm1 (by omega)
        rw [hr1] at hzb7 hsl7
        have hsl9 : (stl 1 P).1.length + (r.length + 1) = P.length := hsl7
        have hop : opn (kOp P :: r) = opn r + 1 := by rw [opn_c, if_pos (by omega)]
        refine lv_aload_n hx hb dX2_behindOne_181 rfl (lv_at hl 3 rfl) ?_
        refine m_g_pile hx hb hts hown hK hw dX2_behindOne_182 ?_
        refine lv_iload_n hx hb dX2_behindOne_185 rfl (lv_at hl 1 rfl) ?_
        refine lv_iload hx hb dX2_behindOne_186 (lv_at hl 0 rfl) ?_
        refine lv_iconst (v := nI 1) hx hb dX2_behindOne_188 (by decide) ?_
        refine n_iadd hx hb dX2_behindOne_189 ?_
        refine m_s_pile (j := j) hx hb hK hw (by omega) dX2_behindOne_190 (fun H locs hw => ?_)
        have hop2 : opn ((kOp P + 1) :: r) = opn (kOp P :: r) := by rw [opn_c, opn_c, if_pos (by omega), if_pos (by omega)]
        refine lv_aload_n hx hb dX2_behindOne_191 rfl (lv_at hl 3 rfl) ?_
        refine lv_iconst (v := nI 0) hx hb dX2_behindOne_192 (by decide) ?_
        refine m_p_isWhole hx hb hts hown hK hw rfl rfl dX2_behindOne_193 (fun H locs hw => ?_)
        refine lv_goto (tgt := 201) hx hb dX2_behindOne_196 (by decide) ?_
        refine lv_aload_n hx hb dX2_behindOne_201 rfl (lv_at hl 3 rfl) ?_
        refine c_call (va_runV (As := []) (rest := []) ⟨hx, hb, hml, hown, hts⟩ (met_X2_nextToken l G ad (putC M (x0 + 75) n (stl 1 P).1) (up2 (up2 Z7 16 j (nI (kOp P + 1))) 19 0 (nI 0)) V7 tp t (lxQ tp t p0) (show TP tp t (putC M (x0 + 75) n (stl 1 P).1) from TP_putC hT) ((up2_ne (Or.inl (by decide))).trans ((up2_ne (Or.inl (by decide))).trans hzb7.1.1)) (lxQ_le (by omega))) (cv_X2_X2_nextToken hts ⟨Nat.le_of_ble_eq_true rfl, Nat.le_of_ble_eq_true rfl⟩) (cP.preV hK hw.1 (hw.1.recv hK)) rfl rfl hl.1 rfl (lv_room (Nat.le_of_ble_eq_true rfl)) dX2_behindOne_202 ⟨by first | exact Nat.zero_le _ | omega | decide, by first | exact Nat.zero_le _ | omega | decide⟩) hw.2 (fun q _ h => h) (fun q h => h) (fun H locs hw _ _ hS => ?_)
        obtain ⟨Z8, V8, ⟨hlx8, hkz8⟩, hw⟩ := hw
        replace hw := MS.mk hw hS
        have hzb8 : ZB tp t x0 (n + (stl 1 P).1.length) so on (nI 0) (lxQ tp t p0) ((kOp P + 1) :: r) Z8 V8 := ⟨hlx8, (congrFun (hkz8 12 (by decide) (by decide) (by decide) (by decide)) 0).trans ((up2_ne (Or.inl (by decide))).trans ((up2_ne (Or.inl (by decide))).trans hzb7.2.1)), (congrFun (hkz8 14 (by decide) (by decide) (by decide) (by decide)) 0).trans ((up2_ne (Or.inl (by decide))).trans ((up2_ne (Or.inl (by decide))).trans hzb7.2.2.1)), (congrFun (hkz8 17 (by decide) (by decide) (by decide) (by decide)) 0).trans ((up2_ne (Or.inl (by decide))).trans ((up2_ne (Or.inl (by decide))).trans hzb7.2.2.2.1)), kPl_k (fun j9 => congrFun (hkz8 16 (by decide) (by decide) (by decide) (by decide)) j9) _ (kPl_k (fun j9 => (up2_ne (Or.inl (by decide))).trans rfl) _ (kPl_top (by omega) (fun j9 => by rw [hr2]) hzb7.2.2.2.2.1)), ((congrFun (hkz8 18 (by decide) (by decide) (by decide) (by decide)) 0).trans ((up2_ne (Or.inl (by decide))).trans ((up2_ne (Or.inl (by decide))).trans hzb7.2.2.2.2.2.1))).trans (congrArg nI (hop2).symm), (congrFun (hkz8 19 (by decide) (by decide) (by decide) (by decide)) 0).trans up2_at, (congrFun (hkz8 20 (by decide) (by decide) (by decide) (by decide)) 0).trans ((up2_ne (Or.inl (by decide))).trans ((up2_ne (Or.inl (by decide))).trans hzb7.2.2.2.2.2.2.2.1)), (congrFun (hkz8 21 (by decide) (by decide) (by decide) (by decide)) 0).trans ((up2_ne (Or.inl (by decide))).trans ((up2_ne (Or.inl (by decide))).trans hzb7.2.2.2.2.2.2.2.2))⟩
        have hlq8 := lxQ_le (tp := tp) (t := t) (p0 := p0) (by omega)
        refine lv_iconst (v := nI 1) hx hb dX2_behindOne_205 (by decide) ?_
        have ebh : bhO tp t p0 P = (true, (stl 1 P).1, lxQ tp t p0, (kOp P + 1) :: r, false) := by
          unfold bhO
          rw [hbt]
          simp only []
          rw [if_neg (fun h9 => by rcases h9 with ⟨a1, a2, a3⟩ | ⟨a1, a2⟩ <;> first | omega | exact a3 hm1 | exact absurd a1 (by assumption)), if_pos (Or.inr ⟨by omega, by omega⟩), hr1]
          try rfl
        exact c_iret (v := nI 1) (by rw [ebh]; exact (bI_t rfl).symm) hx hb hr rfl hlocks ⟨_, _, (by rw [ebh]; exact hzb8), mH.to (by rw [ebh] <;> exact rfl) rfl rfl hw.1⟩ hw.2 dX2_behindOne_206
      refine lv_iload hx hb dX2_behindOne_84 (lv_at hl 0 rfl) ?_
      refine lv_bipush (v := nI 43) hx hb dX2_behindOne_86 (by decide) ?_
      refine n_icmp_ne (tgt := 137) hx hb dX2_behindOne_88 (by decide) (by omega) (by decide) (fun c_45 => ?_) (fun c_45 => ?_)
      · refine lv_aload_n hx hb dX2_behindOne_137 rfl (lv_at hl 3 rfl) ?_
        refine m_g_token hx hb hts hown hK hw dX2_behindOne_138 ?_
        rw [show Z 9 0 = nI (lxT tp t p0) from hZ.1.2.2.1]
        refine lv_bipush (v := nI 63) hx hb dX2_behindOne_141 (by decide) ?_
        refine n_icmp_ne (tgt := 160) hx hb dX2_behindOne_143 (by decide) (by omega) (by decide) (fun c_46 => ?_) (fun c_46 => ?_)
        · refine lv_aload_n hx hb dX2_behindOne_160 rfl (lv_at hl 3 rfl) ?_
          refine m_g_token hx hb hts hown hK hw dX2_behindOne_161 ?_
          rw [show Z 9 0 = nI (lxT tp t p0) from hZ.1.2.2.1]
          refine lv_bipush (v := nI 58) hx hb dX2_behindOne_164 (by decide) ?_
          refine n_icmp_ne (tgt := 199) hx hb dX2_behindOne_166 (by decide) (by omega) (by decide) (fun c_47 => ?_) (fun c_47 => ?_)
          · refine lv_iconst (v := nI 0) hx hb dX2_behindOne_199 (by decide) ?_
            have ebh : bhO tp t p0 P = (false, [], p0, P, true) := by
              unfold bhO
              rw [hbt]
              simp only []
              rw [if_neg (fun h9 => by rcases h9 with ⟨a1, a2, a3⟩ | ⟨a1, a2⟩ <;> first | omega | exact a3 hm1 | exact absurd a1 (by assumption)), if_neg (fun h9 => by rcases h9 with ⟨a1, a2, a3⟩ | ⟨a1, a2⟩ <;> first | omega | exact absurd a3 (by assumption))]
            exact c_iret (v := nI 0) (by rw [ebh]; exact (bI_f (by simp)).symm) hx hb hr rfl hlocks ⟨_, _, (by rw [ebh]; exact hw1 ▸ hZ), mH.to (by rw [ebh] <;> exact rfl) rfl rfl hw.1⟩ hw.2 dX2_behindOne_200
          refine lv_iload hx hb dX2_behindOne_169 (lv_at hl 0 rfl) ?_
          refine lv_bipush (v := nI 42) hx hb dX2_behindOne_171 (by decide) ?_
          refine n_icmp_ne (tgt := 199) hx hb dX2_behindOne_173 (by decide) (by omega) (by decide) (fun c_48 => ?_) (fun c_48 => ?_)
          · refine lv_iconst (v := nI 0) hx hb dX2_behindOne_199 (by decide) ?_
            have ebh : bhO tp t p0 P = (false, [], p0, P, true) := by
              unfold bhO
              rw [hbt]
              simp only []
              rw [if_neg (fun h9 => by rcases h9 with ⟨a1, a2, a3⟩ | ⟨a1, a2⟩ <;> first | omega | exact a3 hm1 | exact absurd a1 (by assumption)), if_neg (fun h9 => by rcases h9 with ⟨a1, a2, a3⟩ | ⟨a1, a2⟩ <;> first | omega | exact absurd a3 (by assumption))]
            exact c_iret (v := nI 0) (by rw [ebh]; exact (bI_f (by simp)).symm) hx hb hr rfl hlocks ⟨_, _, (by rw [ebh]; exact hw1 ▸ hZ), mH.to (by rw [ebh] <;> exact rfl) rfl rfl hw.1⟩ hw.2 dX2_behindOne_200
          refine lv_aload_n hx hb dX2_behindOne_176 rfl (lv_at hl 3 rfl) ?_
          refine lv_iconst (v := nI 1) hx hb dX2_behindOne_177 (by decide) ?_
          refine c_call (va_runV (As := [.int (nI 1)]) (rest := []) ⟨hx, hb, hml, hown, hts⟩ (met_X2_settle l G ad M Z V tp t x0 n so p0 on w0 P hT ⟨hZ.1, hZ.2.1, hZ.2.2.1, hZ.2.2.2.1, hZ.2.2.2.2.1, hZ.2.2.2.2.2.1, hZ.2.2.2.2.2.2.1, hZ.2.2.2.2.2.2.2.1, hZ.2.2.2.2.2.2.2.2⟩ hx0 (by omega) (by omega) (by omega) 1 (by omega)) (cv_X2_X2_settle hts ⟨Nat.le_of_ble_eq_true rfl, Nat.le_of_ble_eq_true rfl⟩) (cP.preV hK hw.1 (hw.1.recv hK)) rfl rfl hl.1 rfl (lv_room (Nat.le_of_ble_eq_true rfl)) dX2_behindOne_178 ⟨by first | exact Nat.zero_le _ | omega | decide, by first | exact Nat.zero_le _ | omega | decide⟩) hw.2 (fun q _ h => h) (fun q h => h) (fun H locs hw _ _ hS => ?_)
          obtain ⟨Z9, V9, hzb9, hw⟩ := hw
          replace hw := MS.mk hw hS
          have hsl9 := stl_len 1 P
          obtain ⟨r, hr1, hr2, hr3⟩ := stl1_top hj hm1 (by omega)
          rw [hr1] at hzb9 hsl9
          have hsl9 : (stl 1 P).1.length + (r.length + 1) = P.length := hsl9
          have hop : opn (kOp P :: r) = opn r + 1 := by rw [opn_c, if_pos (by omega)]
          refine lv_aload_n hx hb dX2_behindOne_181 rfl (lv_at hl 3 rfl) ?_
          refine m_g_pile hx hb hts hown hK hw dX2_behindOne_182 ?_
          refine lv_iload_n hx hb dX2_behindOne_185 rfl (lv_at hl 1 rfl) ?_
          refine lv_iload hx hb dX2_behindOne_186 (lv_at hl 0 rfl) ?_
          refine lv_iconst (v := nI 1) hx hb dX2_behindOne_188 (by decide) ?_
          refine n_iadd hx hb dX2_behindOne_189 ?_
          refine m_s_pile (j := j) hx hb hK hw (by omega) dX2_behindOne_190 (fun H locs hw => ?_)
          have hop2 : opn ((kOp P + 1) :: r) = opn (kOp P :: r) := by rw [opn_c, opn_c, if_pos (by omega), if_pos (by omega)]
          refine lv_aload_n hx hb dX2_behindOne_191 rfl (lv_at hl 3 rfl) ?_
          refine lv_iconst (v := nI 0) hx hb dX2_behindOne_192 (by decide) ?_
          refine m_p_isWhole hx hb hts hown hK hw rfl rfl dX2_behindOne_193 (fun H locs hw => ?_)
          refine lv_goto (tgt := 201) hx hb dX2_behindOne_196 (by decide) ?_
          refine lv_aload_n hx hb dX2_behindOne_201 rfl (lv_at hl 3 rfl) ?_
          refine c_call (va_runV (As := []) (rest := []) ⟨hx, hb, hml, hown, hts⟩ (met_X2_nextToken l G ad (putC M (x0 + 75) n (stl 1 P).1) (up2 (up2 Z9 16 j (nI (kOp P + 1))) 19 0 (nI 0)) V9 tp t (lxQ tp t p0) (show TP tp t (putC M (x0 + 75) n (stl 1 P).1) from TP_putC hT) ((up2_ne (Or.inl (by decide))).trans ((up2_ne (Or.inl (by decide))).trans hzb9.1.1)) (lxQ_le (by omega))) (cv_X2_X2_nextToken hts ⟨Nat.le_of_ble_eq_true rfl, Nat.le_of_ble_eq_true rfl⟩) (cP.preV hK hw.1 (hw.1.recv hK)) rfl rfl hl.1 rfl (lv_room (Nat.le_of_ble_eq_true rfl)) dX2_behindOne_202 ⟨by first | exact Nat.zero_le _ | omega | decide, by first | exact Nat.zero_le _ | omega | decide⟩) hw.2 (fun q _ h => h) (fun q h => h) (fun H locs hw _ _ hS => ?_)
          obtain ⟨Z10, V10, ⟨hlx10, hkz10⟩, hw⟩ := hw
          replace hw := MS.mk hw hS
          have hzb10 : ZB tp t x0 (n + (stl 1 P).1.length) so on (nI 0) (lxQ tp t p0) ((kOp P + 1) :: r) Z10 V10 := ⟨hlx10, (congrFun (hkz10 12 (by decide) (by decide) (by decide) (by decide)) 0).trans ((up2_ne (Or.inl (by decide))).trans ((up2_ne (Or.inl (by decide))).trans hzb9.2.1)), (congrFun (hkz10 14 (by decide) (by decide) (by decide) (by decide)) 0).trans ((up2_ne (Or.inl (by decide))).trans ((up2_ne (Or.inl (by decide))).trans hzb9.2.2.1)), (congrFun (hkz10 17 (by decide) (by decide) (by decide) (by decide)) 0).trans ((up2_ne (Or.inl (by decide))).trans ((up2_ne (Or.inl (by decide))).trans hzb9.2.2.2.1)), kPl_k (fun j9 => congrFun (hkz10 16 (by decide) (by decide) (by decide) (by decide)) j9) _ (kPl_k (fun j9 => (up2_ne (Or.inl (by decide))).trans rfl) _ (kPl_top (by omega) (fun j9 => by rw [hr2]) hzb9.2.2.2.2.1)), ((congrFun (hkz10 18 (by decide) (by decide) (by decide) (by decide)) 0).trans ((up2_ne (Or.inl (by decide))).trans ((up2_ne (Or.inl (by decide))).trans hzb9.2.2.2.2.2.1))).trans (congrArg nI (hop2).symm), (congrFun (hkz10 19 (by decide) (by decide) (by decide) (by decide)) 0).trans up2_at, (congrFun (hkz10 20 (by decide) (by decide) (by decide) (by decide)) 0).trans ((up2_ne (Or.inl (by decide))).trans ((up2_ne (Or.inl (by decide))).trans hzb9.2.2.2.2.2.2.2.1)), (congrFun (hkz10 21 (by decide) (by decide) (by decide) (by decide)) 0).trans ((up2_ne (Or.inl (by decide))).trans ((up2_ne (Or.inl (by decide))).trans hzb9.2.2.2.2.2.2.2.2))⟩
          have hlq10 := lxQ_le (tp := tp) (t := t) (p0 := p0) (by omega)
          refine lv_iconst (v := nI 1) hx hb dX2_behindOne_205 (by decide) ?_
          have ebh : bhO tp t p0 P = (true, (stl 1 P).1, lxQ tp t p0, (kOp P + 1) :: r, false) := by
            unfold bhO
            rw [hbt]
            simp only []
            rw [if_neg (fun h9 => by rcases h9 with ⟨a1, a2, a3⟩ | ⟨a1, a2⟩ <;> first | omega | exact a3 hm1 | exact absurd a1 (by assumption)), if_pos (Or.inr ⟨by omega, by omega⟩), hr1]
            try rfl
          exact c_iret (v := nI 1) (by rw [ebh]; exact (bI_t rfl).symm) hx hb hr rfl hlocks ⟨_, _, (by rw [ebh]; exact hzb10), mH.to (by rw [ebh] <;> exact rfl) rfl rfl hw.1⟩ hw.2 dX2_behindOne_206
        refine lv_iload hx hb dX2_behindOne_146 (lv_at hl 0 rfl) ?_
        refine lv_bipush (v := nI 41) hx hb dX2_behindOne_148 (by decide) ?_
        refine n_icmp_ne (tgt := 160) hx hb dX2_behindOne_150 (by decide) (by omega) (by decide) (fun c_49 => ?_) (fun c_49 => ?_)
        · refine lv_aload_n hx hb dX2_behindOne_160 rfl (lv_at hl 3 rfl) ?_
          refine m_g_token hx hb hts hown hK hw dX2_behindOne_161 ?_
          rw [show Z 9 0 = nI (lxT tp t p0) from hZ.1.2.2.1]
          refine lv_bipush (v := nI 58) hx hb dX2_behindOne_164 (by decide) ?_
          refine n_icmp_ne (tgt := 199) hx hb dX2_behindOne_166 (by decide) (by omega) (by decide) (fun c_50 => ?_) (fun c_50 => ?_)
          · refine lv_iconst (v := nI 0) hx hb dX2_behindOne_199 (by decide) ?_
            have ebh : bhO tp t p0 P = (false, [], p0, P, true) := by
              unfold bhO
              rw [hbt]
              simp only []
              rw [if_neg (fun h9 => by rcases h9 with ⟨a1, a2, a3⟩ | ⟨a1, a2⟩ <;> first | omega | exact a3 hm1 | exact absurd a1 (by assumption)), if_neg (fun h9 => by rcases h9 with ⟨a1, a2, a3⟩ | ⟨a1, a2⟩ <;> first | omega | exact absurd a3 (by assumption))]
            exact c_iret (v := nI 0) (by rw [ebh]; exact (bI_f (by simp)).symm) hx hb hr rfl hlocks ⟨_, _, (by rw [ebh]; exact hw1 ▸ hZ), mH.to (by rw [ebh] <;> exact rfl) rfl rfl hw.1⟩ hw.2 dX2_behindOne_200
          refine lv_iload hx hb dX2_behindOne_169 (lv_at hl 0 rfl) ?_
          refine lv_bipush (v := nI 42) hx hb dX2_behindOne_171 (by decide) ?_
          refine n_icmp_ne (tgt := 199) hx hb dX2_behindOne_173 (by decide) (by omega) (by decide) (fun c_51 => ?_) (fun c_51 => ?_)
          · refine lv_iconst (v := nI 0) hx hb dX2_behindOne_199 (by decide) ?_
            have ebh : bhO tp t p0 P = (false, [], p0, P, true) := by
              unfold bhO
              rw [hbt]
              simp only []
              rw [if_neg (fun h9 => by rcases h9 with ⟨a1, a2, a3⟩ | ⟨a1, a2⟩ <;> first | omega | exact a3 hm1 | exact absurd a1 (by assumption)), if_neg (fun h9 => by rcases h9 with ⟨a1, a2, a3⟩ | ⟨a1, a2⟩ <;> first | omega | exact absurd a3 (by assumption))]
            exact c_iret (v := nI 0) (by rw [ebh]; exact (bI_f (by simp)).symm) hx hb hr rfl hlocks ⟨_, _, (by rw [ebh]; exact hw1 ▸ hZ), mH.to (by rw [ebh] <;> exact rfl) rfl rfl hw.1⟩ hw.2 dX2_behindOne_200
          refine lv_aload_n hx hb dX2_behindOne_176 rfl (lv_at hl 3 rfl) ?_
          refine lv_iconst (v := nI 1) hx hb dX2_behindOne_177 (by decide) ?_
          refine c_call (va_runV (As := [.int (nI 1)]) (rest := []) ⟨hx, hb, hml, hown, hts⟩ (met_X2_settle l G ad M Z V tp t x0 n so p0 on w0 P hT ⟨hZ.1, hZ.2.1, hZ.2.2.1, hZ.2.2.2.1, hZ.2.2.2.2.1, hZ.2.2.2.2.2.1, hZ.2.2.2.2.2.2.1, hZ.2.2.2.2.2.2.2.1, hZ.2.2.2.2.2.2.2.2⟩ hx0 (by omega) (by omega) (by omega) 1 (by omega)) (cv_X2_X2_settle hts ⟨Nat.le_of_ble_eq_true rfl, Nat.le_of_ble_eq_true rfl⟩) (cP.preV hK hw.1 (hw.1.recv hK)) rfl rfl hl.1 rfl (lv_room (Nat.le_of_ble_eq_true rfl)) dX2_behindOne_178 ⟨by first | exact Nat.zero_le _ | omega | decide, by first | exact Nat.zero_le _ | omega | decide⟩) hw.2 (fun q _ h => h) (fun q h => h) (fun H locs hw _ _ hS => ?_)
          obtain ⟨Z11, V11, hzb11, hw⟩ := hw
          replace hw := MS.mk hw hS
          have hsl11 := stl_len 1 P
          obtain ⟨r, hr1, hr2, hr3⟩ := stl1_top hj hm1 (by omega)
          rw [hr1] at hzb11 hsl11
          have hsl9 : (stl 1 P).1.length + (r.length + 1) = P.length := hsl11
          have hop : opn (kOp P :: r) = opn r + 1 := by rw [opn_c, if_pos (by omega)]
          refine lv_aload_n hx hb dX2_behindOne_181 rfl (lv_at hl 3 rfl) ?_
          refine m_g_pile hx hb hts hown hK hw dX2_behindOne_182 ?_
          refine lv_iload_n hx hb dX2_behindOne_185 rfl (lv_at hl 1 rfl) ?_
          refine lv_iload hx hb dX2_behindOne_186 (lv_at hl 0 rfl) ?_
          refine lv_iconst (v := nI 1) hx hb dX2_behindOne_188 (by decide) ?_
          refine n_iadd hx hb dX2_behindOne_189 ?_
          refine m_s_pile (j := j) hx hb hK hw (by omega) dX2_behindOne_190 (fun H locs hw => ?_)
          have hop2 : opn ((kOp P + 1) :: r) = opn (kOp P :: r) := by rw [opn_c, opn_c, if_pos (by omega), if_pos (by omega)]
          refine lv_aload_n hx hb dX2_behindOne_191 rfl (lv_at hl 3 rfl) ?_
          refine lv_iconst (v := nI 0) hx hb dX2_behindOne_192 (by decide) ?_
          refine m_p_isWhole hx hb hts hown hK hw rfl rfl dX2_behindOne_193 (fun H locs hw => ?_)
          refine lv_goto (tgt := 201) hx hb dX2_behindOne_196 (by decide) ?_
          refine lv_aload_n hx hb dX2_behindOne_201 rfl (lv_at hl 3 rfl) ?_
          refine c_call (va_runV (As := []) (rest := []) ⟨hx, hb, hml, hown, hts⟩ (met_X2_nextToken l G ad (putC M (x0 + 75) n (stl 1 P).1) (up2 (up2 Z11 16 j (nI (kOp P + 1))) 19 0 (nI 0)) V11 tp t (lxQ tp t p0) (show TP tp t (putC M (x0 + 75) n (stl 1 P).1) from TP_putC hT) ((up2_ne (Or.inl (by decide))).trans ((up2_ne (Or.inl (by decide))).trans hzb11.1.1)) (lxQ_le (by omega))) (cv_X2_X2_nextToken hts ⟨Nat.le_of_ble_eq_true rfl, Nat.le_of_ble_eq_true rfl⟩) (cP.preV hK hw.1 (hw.1.recv hK)) rfl rfl hl.1 rfl (lv_room (Nat.le_of_ble_eq_true rfl)) dX2_behindOne_202 ⟨by first | exact Nat.zero_le _ | omega | decide, by first | exact Nat.zero_le _ | omega | decide⟩) hw.2 (fun q _ h => h) (fun q h => h) (fun H locs hw _ _ hS => ?_)
          obtain ⟨Z12, V12, ⟨hlx12, hkz12⟩, hw⟩ := hw
          replace hw := MS.mk hw hS
          have hzb12 : ZB tp t x0 (n + (stl 1 P).1.length) so on (nI 0) (lxQ tp t p0) ((kOp P + 1) :: r) Z12 V12 := ⟨hlx12, (congrFun (hkz12 12 (by decide) (by decide) (by decide) (by decide)) 0).trans ((up2_ne (Or.inl (by decide))).trans ((up2_ne (Or.inl (by decide))).trans hzb11.2.1)), (congrFun (hkz12 14 (by decide) (by decide) (by decide) (by decide)) 0).trans ((up2_ne (Or.inl (by decide))).trans ((up2_ne (Or.inl (by decide))).trans hzb11.2.2.1)), (congrFun (hkz12 17 (by decide) (by decide) (by decide) (by decide)) 0).trans ((up2_ne (Or.inl (by decide))).trans ((up2_ne (Or.inl (by decide))).trans hzb11.2.2.2.1)), kPl_k (fun j9 => congrFun (hkz12 16 (by decide) (by decide) (by decide) (by decide)) j9) _ (kPl_k (fun j9 => (up2_ne (Or.inl (by decide))).trans rfl) _ (kPl_top (by omega) (fun j9 => by rw [hr2]) hzb11.2.2.2.2.1)), ((congrFun (hkz12 18 (by decide) (by decide) (by decide) (by decide)) 0).trans ((up2_ne (Or.inl (by decide))).trans ((up2_ne (Or.inl (by decide))).trans hzb11.2.2.2.2.2.1))).trans (congrArg nI (hop2).symm), (congrFun (hkz12 19 (by decide) (by decide) (by decide) (by decide)) 0).trans up2_at, (congrFun (hkz12 20 (by decide) (by decide) (by decide) (by decide)) 0).trans ((up2_ne (Or.inl (by decide))).trans ((up2_ne (Or.inl (by decide))).trans hzb11.2.2.2.2.2.2.2.1)), (congrFun (hkz12 21 (by decide) (by decide) (by decide) (by decide)) 0).trans ((up2_ne (Or.inl (by decide))).trans ((up2_ne (Or.inl (by decide))).trans hzb11.2.2.2.2.2.2.2.2))⟩
          have hlq12 := lxQ_le (tp := tp) (t := t) (p0 := p0) (by omega)
          refine lv_iconst (v := nI 1) hx hb dX2_behindOne_205 (by decide) ?_
          have ebh : bhO tp t p0 P = (true, (stl 1 P).1, lxQ tp t p0, (kOp P + 1) :: r, false) := by
            unfold bhO
            rw [hbt]
            simp only []
            rw [if_neg (fun h9 => by rcases h9 with ⟨a1, a2, a3⟩ | ⟨a1, a2⟩ <;> first | omega | exact a3 hm1 | exact absurd a1 (by assumption)), if_pos (Or.inr ⟨by omega, by omega⟩), hr1]
            try rfl
          exact c_iret (v := nI 1) (by rw [ebh]; exact (bI_t rfl).symm) hx hb hr rfl hlocks ⟨_, _, (by rw [ebh]; exact hzb12), mH.to (by rw [ebh] <;> exact rfl) rfl rfl hw.1⟩ hw.2 dX2_behindOne_206
        refine lv_aload_n hx hb dX2_behindOne_153 rfl (lv_at hl 3 rfl) ?_
        refine c_read (va_runV (As := []) (rest := []) ⟨hx, hb, hml, hown, hts⟩ (met_X2_isCompared l G ad M Z V P hZ.2.2.2.1 hZ.2.2.2.2.1 (by omega)) (cv_X2_X2_isCompared hts ⟨Nat.le_of_ble_eq_true rfl, Nat.le_of_ble_eq_true rfl⟩) (cP.preV hK hw.1 (hw.1.recv hK)) rfl rfl hl.1 rfl (lv_room (Nat.le_of_ble_eq_true rfl)) dX2_behindOne_154 ⟨by first | exact Nat.zero_le _ | omega | decide, by first | exact Nat.zero_le _ | omega | decide⟩) ?_
        refine b_if_ne (tgt := 176) hx hb dX2_behindOne_157 (by decide) (fun c_52 => ?_) (fun c_52 => ?_)
        · refine lv_aload_n hx hb dX2_behindOne_176 rfl (lv_at hl 3 rfl) ?_
          refine lv_iconst (v := nI 1) hx hb dX2_behindOne_177 (by decide) ?_
          refine c_call (va_runV (As := [.int (nI 1)]) (rest := []) ⟨hx, hb, hml, hown, hts⟩ (met_X2_settle l G ad M Z V tp t x0 n so p0 on w0 P hT ⟨hZ.1, hZ.2.1, hZ.2.2.1, hZ.2.2.2.1, hZ.2.2.2.2.1, hZ.2.2.2.2.2.1, hZ.2.2.2.2.2.2.1, hZ.2.2.2.2.2.2.2.1, hZ.2.2.2.2.2.2.2.2⟩ hx0 (by omega) (by omega) (by omega) 1 (by omega)) (cv_X2_X2_settle hts ⟨Nat.le_of_ble_eq_true rfl, Nat.le_of_ble_eq_true rfl⟩) (cP.preV hK hw.1 (hw.1.recv hK)) rfl rfl hl.1 rfl (lv_room (Nat.le_of_ble_eq_true rfl)) dX2_behindOne_178 ⟨by first | exact Nat.zero_le _ | omega | decide, by first | exact Nat.zero_le _ | omega | decide⟩) hw.2 (fun q _ h => h) (fun q h => h) (fun H locs hw _ _ hS => ?_)
          obtain ⟨Z13, V13, hzb13, hw⟩ := hw
          replace hw := MS.mk hw hS
          have hsl13 := stl_len 1 P
          obtain ⟨r, hr1, hr2, hr3⟩ := stl1_top hj hm1 (by omega)
          rw [hr1] at hzb13 hsl13
          have hsl9 : (stl 1 P).1.length + (r.length + 1) = P.length := hsl13
          have hop : opn (kOp P :: r) = opn r + 1 := by rw [opn_c, if_pos (by omega)]
          refine lv_aload_n hx hb dX2_behindOne_181 rfl (lv_at hl 3 rfl) ?_
          refine m_g_pile hx hb hts hown hK hw dX2_behindOne_182 ?_
          refine lv_iload_n hx hb dX2_behindOne_185 rfl (lv_at hl 1 rfl) ?_
          refine lv_iload hx hb dX2_behindOne_186 (lv_at hl 0 rfl) ?_
          refine lv_iconst (v := nI 1) hx hb dX2_behindOne_188 (by decide) ?_
          refine n_iadd hx hb dX2_behindOne_189 ?_
          refine m_s_pile (j := j) hx hb hK hw (by omega) dX2_behindOne_190 (fun H locs hw => ?_)
          have hop2 : opn ((kOp P + 1) :: r) = opn (kOp P :: r) := by rw [opn_c, opn_c, if_pos (by omega), if_pos (by omega)]
          refine lv_aload_n hx hb dX2_behindOne_191 rfl (lv_at hl 3 rfl) ?_
          refine lv_iconst (v := nI 0) hx hb dX2_behindOne_192 (by decide) ?_
          refine m_p_isWhole hx hb hts hown hK hw rfl rfl dX2_behindOne_193 (fun H locs hw => ?_)
          refine lv_goto (tgt := 201) hx hb dX2_behindOne_196 (by decide) ?_
          refine lv_aload_n hx hb dX2_behindOne_201 rfl (lv_at hl 3 rfl) ?_
          refine c_call (va_runV (As := []) (rest := []) ⟨hx, hb, hml, hown, hts⟩ (met_X2_nextToken l G ad (putC M (x0 + 75) n (stl 1 P).1) (up2 (up2 Z13 16 j (nI (kOp P + 1))) 19 0 (nI 0)) V13 tp t (lxQ tp t p0) (show TP tp t (putC M (x0 + 75) n (stl 1 P).1) from TP_putC hT) ((up2_ne (Or.inl (by decide))).trans ((up2_ne (Or.inl (by decide))).trans hzb13.1.1)) (lxQ_le (by omega))) (cv_X2_X2_nextToken hts ⟨Nat.le_of_ble_eq_true rfl, Nat.le_of_ble_eq_true rfl⟩) (cP.preV hK hw.1 (hw.1.recv hK)) rfl rfl hl.1 rfl (lv_room (Nat.le_of_ble_eq_true rfl)) dX2_behindOne_202 ⟨by first | exact Nat.zero_le _ | omega | decide, by first | exact Nat.zero_le _ | omega | decide⟩) hw.2 (fun q _ h => h) (fun q h => h) (fun H locs hw _ _ hS => ?_)
          obtain ⟨Z14, V14, ⟨hlx14, hkz14⟩, hw⟩ := hw
          replace hw := MS.mk hw hS
          have hzb14 : ZB tp t x0 (n + (stl 1 P).1.length) so on (nI 0) (lxQ tp t p0) ((kOp P + 1) :: r) Z14 V14 := ⟨hlx14, (congrFun (hkz14 12 (by decide) (by decide) (by decide) (by decide)) 0).trans ((up2_ne (Or.inl (by decide))).trans ((up2_ne (Or.inl (by decide))).trans hzb13.2.1)), (congrFun (hkz14 14 (by decide) (by decide) (by decide) (by decide)) 0).trans ((up2_ne (Or.inl (by decide))).trans ((up2_ne (Or.inl (by decide))).trans hzb13.2.2.1)), (congrFun (hkz14 17 (by decide) (by decide) (by decide) (by decide)) 0).trans ((up2_ne (Or.inl (by decide))).trans ((up2_ne (Or.inl (by decide))).trans hzb13.2.2.2.1)), kPl_k (fun j9 => congrFun (hkz14 16 (by decide) (by decide) (by decide) (by decide)) j9) _ (kPl_k (fun j9 => (up2_ne (Or.inl (by decide))).trans rfl) _ (kPl_top (by omega) (fun j9 => by rw [hr2]) hzb13.2.2.2.2.1)), ((congrFun (hkz14 18 (by decide) (by decide) (by decide) (by decide)) 0).trans ((up2_ne (Or.inl (by decide))).trans ((up2_ne (Or.inl (by decide))).trans hzb13.2.2.2.2.2.1))).trans (congrArg nI (hop2).symm), (congrFun (hkz14 19 (by decide) (by decide) (by decide) (by decide)) 0).trans up2_at, (congrFun (hkz14 20 (by decide) (by decide) (by decide) (by decide)) 0).trans ((up2_ne (Or.inl (by decide))).trans ((up2_ne (Or.inl (by decide))).trans hzb13.2.2.2.2.2.2.2.1)), (congrFun (hkz14 21 (by decide) (by decide) (by decide) (by decide)) 0).trans ((up2_ne (Or.inl (by decide))).trans ((up2_ne (Or.inl (by decide))).trans hzb13.2.2.2.2.2.2.2.2))⟩
          have hlq14 := lxQ_le (tp := tp) (t := t) (p0 := p0) (by omega)
          refine lv_iconst (v := nI 1) hx hb dX2_behindOne_205 (by decide) ?_
          have ebh : bhO tp t p0 P = (true, (stl 1 P).1, lxQ tp t p0, (kOp P + 1) :: r, false) := by
            unfold bhO
            rw [hbt]
            simp only []
            rw [if_neg (fun h9 => by rcases h9 with ⟨a1, a2, a3⟩ | ⟨a1, a2⟩ <;> first | omega | exact a3 hm1 | exact absurd a1 (by assumption)), if_pos (Or.inl ⟨by omega, by omega, c_52⟩), hr1]
            try rfl
          exact c_iret (v := nI 1) (by rw [ebh]; exact (bI_t rfl).symm) hx hb hr rfl hlocks ⟨_, _, (by rw [ebh]; exact hzb14), mH.to (by rw [ebh] <;> exact rfl) rfl rfl hw.1⟩ hw.2 dX2_behindOne_206
        refine lv_aload_n hx hb dX2_behindOne_160 rfl (lv_at hl 3 rfl) ?_
        refine m_g_token hx hb hts hown hK hw dX2_behindOne_161 ?_
        rw [show Z 9 0 = nI (lxT tp t p0) from hZ.1.2.2.1]
        refine lv_bipush (v := nI 58) hx hb dX2_behindOne_164 (by decide) ?_
        refine n_icmp_ne (tgt := 199) hx hb dX2_behindOne_166 (by decide) (by omega) (by decide) (fun c_53 => ?_) (fun c_53 => ?_)
        · refine lv_iconst (v := nI 0) hx hb dX2_behindOne_199 (by decide) ?_
          have ebh : bhO tp t p0 P = (false, [], p0, P, true) := by
            unfold bhO
            rw [hbt]
            simp only []
            rw [if_neg (fun h9 => by rcases h9 with ⟨a1, a2, a3⟩ | ⟨a1, a2⟩ <;> first | omega | exact a3 hm1 | exact absurd a1 (by assumption)), if_neg (fun h9 => by rcases h9 with ⟨a1, a2, a3⟩ | ⟨a1, a2⟩ <;> first | omega | exact absurd a3 (by assumption))]
          exact c_iret (v := nI 0) (by rw [ebh]; exact (bI_f (by simp)).symm) hx hb hr rfl hlocks ⟨_, _, (by rw [ebh]; exact hw1 ▸ hZ), mH.to (by rw [ebh] <;> exact rfl) rfl rfl hw.1⟩ hw.2 dX2_behindOne_200
        refine lv_iload hx hb dX2_behindOne_169 (lv_at hl 0 rfl) ?_
        refine lv_bipush (v := nI 42) hx hb dX2_behindOne_171 (by decide) ?_
        refine n_icmp_ne (tgt := 199) hx hb dX2_behindOne_173 (by decide) (by omega) (by decide) (fun c_54 => ?_) (fun c_54 => ?_)
        · refine lv_iconst (v := nI 0) hx hb dX2_behindOne_199 (by decide) ?_
          have ebh : bhO tp t p0 P = (false, [], p0, P, true) := by
            unfold bhO
            rw [hbt]
            simp only []
            rw [if_neg (fun h9 => by rcases h9 with ⟨a1, a2, a3⟩ | ⟨a1, a2⟩ <;> first | omega | exact a3 hm1 | exact absurd a1 (by assumption)), if_neg (fun h9 => by rcases h9 with ⟨a1, a2, a3⟩ | ⟨a1, a2⟩ <;> first | omega | exact absurd a3 (by assumption))]
          exact c_iret (v := nI 0) (by rw [ebh]; exact (bI_f (by simp)).symm) hx hb hr rfl hlocks ⟨_, _, (by rw [ebh]; exact hw1 ▸ hZ), mH.to (by rw [ebh] <;> exact rfl) rfl rfl hw.1⟩ hw.2 dX2_behindOne_200
        refine lv_aload_n hx hb dX2_behindOne_176 rfl (lv_at hl 3 rfl) ?_
        refine lv_iconst (v := nI 1) hx hb dX2_behindOne_177 (by decide) ?_
        refine c_call (va_runV (As := [.int (nI 1)]) (rest := []) ⟨hx, hb, hml, hown, hts⟩ (met_X2_settle l G ad M Z V tp t x0 n so p0 on w0 P hT ⟨hZ.1, hZ.2.1, hZ.2.2.1, hZ.2.2.2.1, hZ.2.2.2.2.1, hZ.2.2.2.2.2.1, hZ.2.2.2.2.2.2.1, hZ.2.2.2.2.2.2.2.1, hZ.2.2.2.2.2.2.2.2⟩ hx0 (by omega) (by omega) (by omega) 1 (by omega)) (cv_X2_X2_settle hts ⟨Nat.le_of_ble_eq_true rfl, Nat.le_of_ble_eq_true rfl⟩) (cP.preV hK hw.1 (hw.1.recv hK)) rfl rfl hl.1 rfl (lv_room (Nat.le_of_ble_eq_true rfl)) dX2_behindOne_178 ⟨by first | exact Nat.zero_le _ | omega | decide, by first | exact Nat.zero_le _ | omega | decide⟩) hw.2 (fun q _ h => h) (fun q h => h) (fun H locs hw _ _ hS => ?_)
        obtain ⟨Z15, V15, hzb15, hw⟩ := hw
        replace hw := MS.mk hw hS
        have hsl15 := stl_len 1 P
        obtain ⟨r, hr1, hr2, hr3⟩ := stl1_top hj hm1 (by omega)
        rw [hr1] at hzb15 hsl15
        have hsl9 : (stl 1 P).1.length + (r.length + 1) = P.length := hsl15
        have hop : opn (kOp P :: r) = opn r + 1 := by rw [opn_c, if_pos (by omega)]
        refine lv_aload_n hx hb dX2_behindOne_181 rfl (lv_at hl 3 rfl) ?_
        refine m_g_pile hx hb hts hown hK hw dX2_behindOne_182 ?_
        refine lv_iload_n hx hb dX2_behindOne_185 rfl (lv_at hl 1 rfl) ?_
        refine lv_iload hx hb dX2_behindOne_186 (lv_at hl 0 rfl) ?_
        refine lv_iconst (v := nI 1) hx hb dX2_behindOne_188 (by decide) ?_
        refine n_iadd hx hb dX2_behindOne_189 ?_
        refine m_s_pile (j := j) hx hb hK hw (by omega) dX2_behindOne_190 (fun H locs hw => ?_)
        have hop2 : opn ((kOp P + 1) :: r) = opn (kOp P :: r) := by rw [opn_c, opn_c, if_pos (by omega), if_pos (by omega)]
        refine lv_aload_n hx hb dX2_behindOne_191 rfl (lv_at hl 3 rfl) ?_
        refine lv_iconst (v := nI 0) hx hb dX2_behindOne_192 (by decide) ?_
        refine m_p_isWhole hx hb hts hown hK hw rfl rfl dX2_behindOne_193 (fun H locs hw => ?_)
        refine lv_goto (tgt := 201) hx hb dX2_behindOne_196 (by decide) ?_
        refine lv_aload_n hx hb dX2_behindOne_201 rfl (lv_at hl 3 rfl) ?_
        refine c_call (va_runV (As := []) (rest := []) ⟨hx, hb, hml, hown, hts⟩ (met_X2_nextToken l G ad (putC M (x0 + 75) n (stl 1 P).1) (up2 (up2 Z15 16 j (nI (kOp P + 1))) 19 0 (nI 0)) V15 tp t (lxQ tp t p0) (show TP tp t (putC M (x0 + 75) n (stl 1 P).1) from TP_putC hT) ((up2_ne (Or.inl (by decide))).trans ((up2_ne (Or.inl (by decide))).trans hzb15.1.1)) (lxQ_le (by omega))) (cv_X2_X2_nextToken hts ⟨Nat.le_of_ble_eq_true rfl, Nat.le_of_ble_eq_true rfl⟩) (cP.preV hK hw.1 (hw.1.recv hK)) rfl rfl hl.1 rfl (lv_room (Nat.le_of_ble_eq_true rfl)) dX2_behindOne_202 ⟨by first | exact Nat.zero_le _ | omega | decide, by first | exact Nat.zero_le _ | omega | decide⟩) hw.2 (fun q _ h => h) (fun q h => h) (fun H locs hw _ _ hS => ?_)
        obtain ⟨Z16, V16, ⟨hlx16, hkz16⟩, hw⟩ := hw
        replace hw := MS.mk hw hS
        have hzb16 : ZB tp t x0 (n + (stl 1 P).1.length) so on (nI 0) (lxQ tp t p0) ((kOp P + 1) :: r) Z16 V16 := ⟨hlx16, (congrFun (hkz16 12 (by decide) (by decide) (by decide) (by decide)) 0).trans ((up2_ne (Or.inl (by decide))).trans ((up2_ne (Or.inl (by decide))).trans hzb15.2.1)), (congrFun (hkz16 14 (by decide) (by decide) (by decide) (by decide)) 0).trans ((up2_ne (Or.inl (by decide))).trans ((up2_ne (Or.inl (by decide))).trans hzb15.2.2.1)), (congrFun (hkz16 17 (by decide) (by decide) (by decide) (by decide)) 0).trans ((up2_ne (Or.inl (by decide))).trans ((up2_ne (Or.inl (by decide))).trans hzb15.2.2.2.1)), kPl_k (fun j9 => congrFun (hkz16 16 (by decide) (by decide) (by decide) (by decide)) j9) _ (kPl_k (fun j9 => (up2_ne (Or.inl (by decide))).trans rfl) _ (kPl_top (by omega) (fun j9 => by rw [hr2]) hzb15.2.2.2.2.1)), ((congrFun (hkz16 18 (by decide) (by decide) (by decide) (by decide)) 0).trans ((up2_ne (Or.inl (by decide))).trans ((up2_ne (Or.inl (by decide))).trans hzb15.2.2.2.2.2.1))).trans (congrArg nI (hop2).symm), (congrFun (hkz16 19 (by decide) (by decide) (by decide) (by decide)) 0).trans up2_at, (congrFun (hkz16 20 (by decide) (by decide) (by decide) (by decide)) 0).trans ((up2_ne (Or.inl (by decide))).trans ((up2_ne (Or.inl (by decide))).trans hzb15.2.2.2.2.2.2.2.1)), (congrFun (hkz16 21 (by decide) (by decide) (by decide) (by decide)) 0).trans ((up2_ne (Or.inl (by decide))).trans ((up2_ne (Or.inl (by decide))).trans hzb15.2.2.2.2.2.2.2.2))⟩
        have hlq16 := lxQ_le (tp := tp) (t := t) (p0 := p0) (by omega)
        refine lv_iconst (v := nI 1) hx hb dX2_behindOne_205 (by decide) ?_
        have ebh : bhO tp t p0 P = (true, (stl 1 P).1, lxQ tp t p0, (kOp P + 1) :: r, false) := by
          unfold bhO
          rw [hbt]
          simp only []
          rw [if_neg (fun h9 => by rcases h9 with ⟨a1, a2, a3⟩ | ⟨a1, a2⟩ <;> first | omega | exact a3 hm1 | exact absurd a1 (by assumption)), if_pos (Or.inr ⟨by omega, by omega⟩), hr1]
          try rfl
        exact c_iret (v := nI 1) (by rw [ebh]; exact (bI_t rfl).symm) hx hb hr rfl hlocks ⟨_, _, (by rw [ebh]; exact hzb16), mH.to (by rw [ebh] <;> exact rfl) rfl rfl hw.1⟩ hw.2 dX2_behindOne_206
      refine lv_aload_n hx hb dX2_behindOne_91 rfl (lv_at hl 3 rfl) ?_
      refine lv_iconst (v := nI 1) hx hb dX2_behindOne_92 (by decide) ?_
      refine c_call (va_runV (As := [.int (nI 1)]) (rest := []) ⟨hx, hb, hml, hown, hts⟩ (met_X2_settle l G ad M Z V tp t x0 n so p0 on w0 P hT ⟨hZ.1, hZ.2.1, hZ.2.2.1, hZ.2.2.2.1, hZ.2.2.2.2.1, hZ.2.2.2.2.2.1, hZ.2.2.2.2.2.2.1, hZ.2.2.2.2.2.2.2.1, hZ.2.2.2.2.2.2.2.2⟩ hx0 (by omega) (by omega) (by omega) 1 (by omega)) (cv_X2_X2_settle hts ⟨Nat.le_of_ble_eq_true rfl, Nat.le_of_ble_eq_true rfl⟩) (cP.preV hK hw.1 (hw.1.recv hK)) rfl rfl hl.1 rfl (lv_room (Nat.le_of_ble_eq_true rfl)) dX2_behindOne_93 ⟨by first | exact Nat.zero_le _ | omega | decide, by first | exact Nat.zero_le _ | omega | decide⟩) hw.2 (fun q _ h => h) (fun q h => h) (fun H locs hw _ _ hS => ?_)
      obtain ⟨Z17, V17, hzb17, hw⟩ := hw
      replace hw := MS.mk hw hS
      have hsl17 := stl_len 1 P
      obtain ⟨r, hr1, hr2, hr3⟩ := stl1_top hj hm1 (by omega)
      rw [hr1] at hzb17 hsl17
      have hsl9 : (stl 1 P).1.length + (r.length + 1) = P.length := hsl17
      have hop : opn (kOp P :: r) = opn r + 1 := by rw [opn_c, if_pos (by omega)]
      refine lv_aload_n hx hb dX2_behindOne_96 rfl (lv_at hl 3 rfl) ?_
      refine lv_dup hx hb dX2_behindOne_97 rfl ?_
      refine m_g_piled hx hb hts hown hK hw dX2_behindOne_98 ?_
      rw [show Z17 17 0 = nI (r.length + 1) from hzb17.2.2.2.1]
      refine lv_iconst (v := nI 1) hx hb dX2_behindOne_101 (by decide) ?_
      refine n_isub hx hb (by omega) dX2_behindOne_102 ?_
      refine m_p_piled hx hb hts hown hK hw dX2_behindOne_103 (fun H locs hw => ?_)
      refine lv_aload_n hx hb dX2_behindOne_106 rfl (lv_at hl 3 rfl) ?_
      refine lv_dup hx hb dX2_behindOne_107 rfl ?_
      refine m_g_opens hx hb hts hown hK hw dX2_behindOne_108 ?_
      rw [show (up2 Z17 17 0 (nI ((r.length + 1) - 1))) 18 0 = nI (opn (kOp P :: r)) from (up2_ne (Or.inl (by decide))).trans hzb17.2.2.2.2.2.1]
      refine lv_iconst (v := nI 1) hx hb dX2_behindOne_111 (by decide) ?_
      refine n_isub hx hb (by omega) dX2_behindOne_112 ?_
      refine m_p_opens hx hb hts hown hK hw dX2_behindOne_113 (fun H locs hw => ?_)
      have hop2 : opn r = opn (kOp P :: r) - 1 := by omega
      refine lv_iload hx hb dX2_behindOne_116 (lv_at hl 0 rfl) ?_
      refine lv_bipush (v := nI 43) hx hb dX2_behindOne_118 (by decide) ?_
      refine n_icmp_ne (tgt := 130) hx hb dX2_behindOne_120 (by decide) (by omega) (by decide) (fun c_55 => ?_) (fun c_55 => ?_)
      · exfalso; omega
      refine lv_aload_n hx hb dX2_behindOne_123 rfl (lv_at hl 3 rfl) ?_
      refine lv_bipush (v := nI 23) hx hb dX2_behindOne_124 (by decide) ?_
      refine lv_iconst (v := nI 0) hx hb dX2_behindOne_126 (by decide) ?_
      refine c_call (va_runV (As := [.int (nI 23), .int (nI 0)]) (rest := []) ⟨hx, hb, hml, hown, hts⟩ (met_X2_emit l G ad (putC M (x0 + 75) n (stl 1 P).1) (up2 (up2 Z17 17 0 (nI ((r.length + 1) - 1))) 18 0 (nI ((opn (kOp P :: r)) - 1))) V17 x0 (n + (stl 1 P).1.length) (nI 23) (nI 0) ((up2_ne (Or.inl (by decide))).trans ((up2_ne (Or.inl (by decide))).trans hzb17.2.1)) ((up2_ne (Or.inl (by decide))).trans ((up2_ne (Or.inl (by decide))).trans hzb17.2.2.1)) (by omega)) (cv_X2_X2_emit hts ⟨Nat.le_of_ble_eq_true rfl, Nat.le_of_ble_eq_true rfl⟩) (cP.preV hK hw.1 (hw.1.recv hK)) rfl rfl hl.1 rfl (lv_room (Nat.le_of_ble_eq_true rfl)) dX2_behindOne_127 ⟨by first | exact Nat.zero_le _ | omega | decide, by first | exact Nat.zero_le _ | omega | decide⟩) hw.2 (fun q _ h => h) (fun q h => h) (fun H locs hw _ _ hS => ?_)
      replace hw := MS.mk hw hS
      refine lv_aload_n hx hb dX2_behindOne_130 rfl (lv_at hl 3 rfl) ?_
      refine c_call (va_runV (As := []) (rest := []) ⟨hx, hb, hml, hown, hts⟩ (met_X2_whole l G ad (up2 (up2 (putC M (x0 + 75) n (stl 1 P).1) 2 (x0 + 75 + 2 * (n + (stl 1 P).1.length)) (nI 23)) 2 (x0 + 75 + 2 * (n + (stl 1 P).1.length) + 1) (nI 0)) (up2 (up2 (up2 Z17 17 0 (nI ((r.length + 1) - 1))) 18 0 (nI ((opn (kOp P :: r)) - 1))) 14 0 (nI (n + (stl 1 P).1.length + 1))) V17 tp t x0 (n + (stl 1 P).1.length + 1) so p0 on w0 r (⟨((up2_ne (Or.inl (by decide))).trans ((up2_ne (Or.inl (by decide))).trans rfl)).trans (show TP tp t (putC M (x0 + 75) n (stl 1 P).1) from TP_putC hT).1, (show TP tp t (putC M (x0 + 75) n (stl 1 P).1) from TP_putC hT).2.1, fun j9 h9 => ⟨((up2_ne (Or.inl (by decide))).trans ((up2_ne (Or.inl (by decide))).trans rfl)).trans ((show TP tp t (putC M (x0 + 75) n (stl 1 P).1) from TP_putC hT).2.2 j9 h9).1, ((show TP tp t (putC M (x0 + 75) n (stl 1 P).1) from TP_putC hT).2.2 j9 h9).2⟩⟩) ⟨(LX_k ((up2_ne (Or.inl (by decide))).trans ((up2_ne (Or.inl (by decide))).trans ((up2_ne (Or.inl (by decide))).trans rfl))) ((up2_ne (Or.inl (by decide))).trans ((up2_ne (Or.inl (by decide))).trans ((up2_ne (Or.inl (by decide))).trans rfl))) ((up2_ne (Or.inl (by decide))).trans ((up2_ne (Or.inl (by decide))).trans ((up2_ne (Or.inl (by decide))).trans rfl))) ((up2_ne (Or.inl (by decide))).trans ((up2_ne (Or.inl (by decide))).trans ((up2_ne (Or.inl (by decide))).trans rfl))) rfl hzb17.1), ((up2_ne (Or.inl (by decide))).trans ((up2_ne (Or.inl (by decide))).trans ((up2_ne (Or.inl (by decide))).trans hzb17.2.1))), up2_at, ((up2_ne (Or.inl (by decide))).trans ((up2_ne (Or.inl (by decide))).trans up2_at)), (kPl_k (fun j9 => (up2_ne (Or.inl (by decide))).trans rfl) _ (kPl_k (fun j9 => (up2_ne (Or.inl (by decide))).trans ((up2_ne (Or.inl (by decide))).trans rfl)) _ hzb17.2.2.2.2.1.2.2)), ((((up2_ne (Or.inl (by decide))).trans up2_at)).trans (congrArg nI (hop2).symm)), ((up2_ne (Or.inl (by decide))).trans ((up2_ne (Or.inl (by decide))).trans ((up2_ne (Or.inl (by decide))).trans hzb17.2.2.2.2.2.2.1))), ((up2_ne (Or.inl (by decide))).trans ((up2_ne (Or.inl (by decide))).trans ((up2_ne (Or.inl (by decide))).trans hzb17.2.2.2.2.2.2.2.1))), ((up2_ne (Or.inl (by decide))).trans ((up2_ne (Or.inl (by decide))).trans ((up2_ne (Or.inl (by decide))).trans hzb17.2.2.2.2.2.2.2.2)))⟩ hx0 (by omega) (by omega) (by omega)) (cv_X2_X2_whole hts ⟨Nat.le_of_ble_eq_true rfl, Nat.le_of_ble_eq_true rfl⟩) (cP.preV hK hw.1 (hw.1.recv hK)) rfl rfl hl.1 rfl (lv_room (Nat.le_of_ble_eq_true rfl)) dX2_behindOne_131 ⟨by first | exact Nat.zero_le _ | omega | decide, by first | exact Nat.zero_le _ | omega | decide⟩) hw.2 (fun q _ h => h) (fun q h => h) (fun H locs hw _ _ hS => ?_)
      obtain ⟨Z18, V18, hzb18, hw⟩ := hw
      replace hw := MS.mk hw hS
      have hsl18 := stl_len 7 r
      refine lv_goto (tgt := 201) hx hb dX2_behindOne_134 (by decide) ?_
      refine lv_aload_n hx hb dX2_behindOne_201 rfl (lv_at hl 3 rfl) ?_
      refine c_call (va_runV (As := []) (rest := []) ⟨hx, hb, hml, hown, hts⟩ (met_X2_nextToken l G ad (putC (up2 (up2 (putC M (x0 + 75) n (stl 1 P).1) 2 (x0 + 75 + 2 * (n + (stl 1 P).1.length)) (nI 23)) 2 (x0 + 75 + 2 * (n + (stl 1 P).1.length) + 1) (nI 0)) (x0 + 75) (n + (stl 1 P).1.length + 1) (stl 7 r).1) Z18 V18 tp t (lxQ tp t p0) (show TP tp t (putC (up2 (up2 (putC M (x0 + 75) n (stl 1 P).1) 2 (x0 + 75 + 2 * (n + (stl 1 P).1.length)) (nI 23)) 2 (x0 + 75 + 2 * (n + (stl 1 P).1.length) + 1) (nI 0)) (x0 + 75) (n + (stl 1 P).1.length + 1) (stl 7 r).1) from TP_putC (⟨((up2_ne (Or.inl (by decide))).trans ((up2_ne (Or.inl (by decide))).trans rfl)).trans (show TP tp t (putC M (x0 + 75) n (stl 1 P).1) from TP_putC hT).1, (show TP tp t (putC M (x0 + 75) n (stl 1 P).1) from TP_putC hT).2.1, fun j9 h9 => ⟨((up2_ne (Or.inl (by decide))).trans ((up2_ne (Or.inl (by decide))).trans rfl)).trans ((show TP tp t (putC M (x0 + 75) n (stl 1 P).1) from TP_putC hT).2.2 j9 h9).1, ((show TP tp t (putC M (x0 + 75) n (stl 1 P).1) from TP_putC hT).2.2 j9 h9).2⟩⟩)) hzb18.1.1 (lxQ_le (by omega))) (cv_X2_X2_nextToken hts ⟨Nat.le_of_ble_eq_true rfl, Nat.le_of_ble_eq_true rfl⟩) (cP.preV hK hw.1 (hw.1.recv hK)) rfl rfl hl.1 rfl (lv_room (Nat.le_of_ble_eq_true rfl)) dX2_behindOne_202 ⟨by first | exact Nat.zero_le _ | omega | decide, by first | exact Nat.zero_le _ | omega | decide⟩) hw.2 (fun q _ h => h) (fun q h => h) (fun H locs hw _ _ hS => ?_)
      obtain ⟨Z19, V19, ⟨hlx19, hkz19⟩, hw⟩ := hw
      replace hw := MS.mk hw hS
      have hzb19 : ZB tp t x0 (n + (stl 1 P).1.length + 1 + (stl 7 r).1.length) so on (nI 1) (lxQ tp t p0) ((stl 7 r).2) Z19 V19 := ⟨hlx19, (congrFun (hkz19 12 (by decide) (by decide) (by decide) (by decide)) 0).trans hzb18.2.1, (congrFun (hkz19 14 (by decide) (by decide) (by decide) (by decide)) 0).trans hzb18.2.2.1, (congrFun (hkz19 17 (by decide) (by decide) (by decide) (by decide)) 0).trans hzb18.2.2.2.1, kPl_k (fun j9 => congrFun (hkz19 16 (by decide) (by decide) (by decide) (by decide)) j9) _ hzb18.2.2.2.2.1, (congrFun (hkz19 18 (by decide) (by decide) (by decide) (by decide)) 0).trans hzb18.2.2.2.2.2.1, (congrFun (hkz19 19 (by decide) (by decide) (by decide) (by decide)) 0).trans hzb18.2.2.2.2.2.2.1, (congrFun (hkz19 20 (by decide) (by decide) (by decide) (by decide)) 0).trans hzb18.2.2.2.2.2.2.2.1, (congrFun (hkz19 21 (by decide) (by decide) (by decide) (by decide)) 0).trans hzb18.2.2.2.2.2.2.2.2⟩
      have hlq19 := lxQ_le (tp := tp) (t := t) (p0 := p0) (by omega)
      refine lv_iconst (v := nI 1) hx hb dX2_behindOne_205 (by decide) ?_
      have ebh : bhO tp t p0 P = (true, (stl 1 P).1 ++ ((23, nI 0) :: (stl 7 r).1), lxQ tp t p0, (stl 7 r).2, true) := by
        unfold bhO
        rw [hbt]
        simp only []
        rw [if_pos (Or.inr ⟨c_35, by omega⟩), if_pos (by omega), hr1]
        rfl
      exact c_iret (v := nI 1) (by rw [ebh]; exact (bI_t rfl).symm) hx hb hr rfl hlocks ⟨_, _, (by rw [ebh]; exact ZB_n (by simp; omega) hzb19), mH.to (by rw [ebh] <;> exact (putC_app (x0 + 75) (stl 1 P).1 ((23, nI 0) :: (stl 7 r).1) M n).symm) rfl rfl hw.1⟩ hw.2 dX2_behindOne_206
    refine lv_iload hx hb dX2_behindOne_61 (lv_at hl 0 rfl) ?_
    refine lv_bipush (v := nI 40) hx hb dX2_behindOne_63 (by decide) ?_
    refine n_icmp_eq (tgt := 91) hx hb dX2_behindOne_65 (by decide) (by omega) (by decide) (fun c_56 => ?_) (fun c_56 => ?_)
    · refine lv_aload_n hx hb dX2_behindOne_91 rfl (lv_at hl 3 rfl) ?_
      refine lv_iconst (v := nI 1) hx hb dX2_behindOne_92 (by decide) ?_
      refine c_call (va_runV (As := [.int (nI 1)]) (rest := []) ⟨hx, hb, hml, hown, hts⟩ (met_X2_settle l G ad M Z V tp t x0 n so p0 on w0 P hT ⟨hZ.1, hZ.2.1, hZ.2.2.1, hZ.2.2.2.1, hZ.2.2.2.2.1, hZ.2.2.2.2.2.1, hZ.2.2.2.2.2.2.1, hZ.2.2.2.2.2.2.2.1, hZ.2.2.2.2.2.2.2.2⟩ hx0 (by omega) (by omega) (by omega) 1 (by omega)) (cv_X2_X2_settle hts ⟨Nat.le_of_ble_eq_true rfl, Nat.le_of_ble_eq_true rfl⟩) (cP.preV hK hw.1 (hw.1.recv hK)) rfl rfl hl.1 rfl (lv_room (Nat.le_of_ble_eq_true rfl)) dX2_behindOne_93 ⟨by first | exact Nat.zero_le _ | omega | decide, by first | exact Nat.zero_le _ | omega | decide⟩) hw.2 (fun q _ h => h) (fun q h => h) (fun H locs hw _ _ hS => ?_)
      obtain ⟨Z20, V20, hzb20, hw⟩ := hw
      replace hw := MS.mk hw hS
      have hsl20 := stl_len 1 P
      obtain ⟨r, hr1, hr2, hr3⟩ := stl1_top hj hm1 (by omega)
      rw [hr1] at hzb20 hsl20
      have hsl9 : (stl 1 P).1.length + (r.length + 1) = P.length := hsl20
      have hop : opn (kOp P :: r) = opn r + 1 := by rw [opn_c, if_pos (by omega)]
      refine lv_aload_n hx hb dX2_behindOne_96 rfl (lv_at hl 3 rfl) ?_
      refine lv_dup hx hb dX2_behindOne_97 rfl ?_
      refine m_g_piled hx hb hts hown hK hw dX2_behindOne_98 ?_
      rw [show Z20 17 0 = nI (r.length + 1) from hzb20.2.2.2.1]
      refine lv_iconst (v := nI 1) hx hb dX2_behindOne_101 (by decide) ?_
      refine n_isub hx hb (by omega) dX2_behindOne_102 ?_
      refine m_p_piled hx hb hts hown hK hw dX2_behindOne_103 (fun H locs hw => ?_)
      refine lv_aload_n hx hb dX2_behindOne_106 rfl (lv_at hl 3 rfl) ?_
      refine lv_dup hx hb dX2_behindOne_107 rfl ?_
      refine m_g_opens hx hb hts hown hK hw dX2_behindOne_108 ?_
      rw [show (up2 Z20 17 0 (nI ((r.length + 1) - 1))) 18 0 = nI (opn (kOp P :: r)) from (up2_ne (Or.inl (by decide))).trans hzb20.2.2.2.2.2.1]
      refine lv_iconst (v := nI 1) hx hb dX2_behindOne_111 (by decide) ?_
      refine n_isub hx hb (by omega) dX2_behindOne_112 ?_
      refine m_p_opens hx hb hts hown hK hw dX2_behindOne_113 (fun H locs hw => ?_)
      have hop2 : opn r = opn (kOp P :: r) - 1 := by omega
      refine lv_iload hx hb dX2_behindOne_116 (lv_at hl 0 rfl) ?_
      refine lv_bipush (v := nI 43) hx hb dX2_behindOne_118 (by decide) ?_
      refine n_icmp_ne (tgt := 130) hx hb dX2_behindOne_120 (by decide) (by omega) (by decide) (fun c_57 => ?_) (fun c_57 => ?_)
      · refine lv_aload_n hx hb dX2_behindOne_130 rfl (lv_at hl 3 rfl) ?_
        refine c_call (va_runV (As := []) (rest := []) ⟨hx, hb, hml, hown, hts⟩ (met_X2_whole l G ad (putC M (x0 + 75) n (stl 1 P).1) (up2 (up2 Z20 17 0 (nI ((r.length + 1) - 1))) 18 0 (nI ((opn (kOp P :: r)) - 1))) V20 tp t x0 (n + (stl 1 P).1.length) so p0 on w0 r (show TP tp t (putC M (x0 + 75) n (stl 1 P).1) from TP_putC hT) ⟨(LX_k ((up2_ne (Or.inl (by decide))).trans ((up2_ne (Or.inl (by decide))).trans rfl)) ((up2_ne (Or.inl (by decide))).trans ((up2_ne (Or.inl (by decide))).trans rfl)) ((up2_ne (Or.inl (by decide))).trans ((up2_ne (Or.inl (by decide))).trans rfl)) ((up2_ne (Or.inl (by decide))).trans ((up2_ne (Or.inl (by decide))).trans rfl)) rfl hzb20.1), ((up2_ne (Or.inl (by decide))).trans ((up2_ne (Or.inl (by decide))).trans hzb20.2.1)), ((up2_ne (Or.inl (by decide))).trans ((up2_ne (Or.inl (by decide))).trans hzb20.2.2.1)), ((up2_ne (Or.inl (by decide))).trans up2_at), (kPl_k (fun j9 => (up2_ne (Or.inl (by decide))).trans ((up2_ne (Or.inl (by decide))).trans rfl)) _ hzb20.2.2.2.2.1.2.2), ((up2_at).trans (congrArg nI (hop2).symm)), ((up2_ne (Or.inl (by decide))).trans ((up2_ne (Or.inl (by decide))).trans hzb20.2.2.2.2.2.2.1)), ((up2_ne (Or.inl (by decide))).trans ((up2_ne (Or.inl (by decide))).trans hzb20.2.2.2.2.2.2.2.1)), ((up2_ne (Or.inl (by decide))).trans ((up2_ne (Or.inl (by decide))).trans hzb20.2.2.2.2.2.2.2.2))⟩ hx0 (by omega) (by omega) (by omega)) (cv_X2_X2_whole hts ⟨Nat.le_of_ble_eq_true rfl, Nat.le_of_ble_eq_true rfl⟩) (cP.preV hK hw.1 (hw.1.recv hK)) rfl rfl hl.1 rfl (lv_room (Nat.le_of_ble_eq_true rfl)) dX2_behindOne_131 ⟨by first | exact Nat.zero_le _ | omega | decide, by first | exact Nat.zero_le _ | omega | decide⟩) hw.2 (fun q _ h => h) (fun q h => h) (fun H locs hw _ _ hS => ?_)
        obtain ⟨Z21, V21, hzb21, hw⟩ := hw
        replace hw := MS.mk hw hS
        have hsl21 := stl_len 7 r
        refine lv_goto (tgt := 201) hx hb dX2_behindOne_134 (by decide) ?_
        refine lv_aload_n hx hb dX2_behindOne_201 rfl (lv_at hl 3 rfl) ?_
        refine c_call (va_runV (As := []) (rest := []) ⟨hx, hb, hml, hown, hts⟩ (met_X2_nextToken l G ad (putC (putC M (x0 + 75) n (stl 1 P).1) (x0 + 75) (n + (stl 1 P).1.length) (stl 7 r).1) Z21 V21 tp t (lxQ tp t p0) (show TP tp t (putC (putC M (x0 + 75) n (stl 1 P).1) (x0 + 75) (n + (stl 1 P).1.length) (stl 7 r).1) from TP_putC (show TP tp t (putC M (x0 + 75) n (stl 1 P).1) from TP_putC hT)) hzb21.1.1 (lxQ_le (by omega))) (cv_X2_X2_nextToken hts ⟨Nat.le_of_ble_eq_true rfl, Nat.le_of_ble_eq_true rfl⟩) (cP.preV hK hw.1 (hw.1.recv hK)) rfl rfl hl.1 rfl (lv_room (Nat.le_of_ble_eq_true rfl)) dX2_behindOne_202 ⟨by first | exact Nat.zero_le _ | omega | decide, by first | exact Nat.zero_le _ | omega | decide⟩) hw.2 (fun q _ h => h) (fun q h => h) (fun H locs hw _ _ hS => ?_)
        obtain ⟨Z22, V22, ⟨hlx22, hkz22⟩, hw⟩ := hw
        replace hw := MS.mk hw hS
        have hzb22 : ZB tp t x0 (n + (stl 1 P).1.length + (stl 7 r).1.length) so on (nI 1) (lxQ tp t p0) ((stl 7 r).2) Z22 V22 := ⟨hlx22, (congrFun (hkz22 12 (by decide) (by decide) (by decide) (by decide)) 0).trans hzb21.2.1, (congrFun (hkz22 14 (by decide) (by decide) (by decide) (by decide)) 0).trans hzb21.2.2.1, (congrFun (hkz22 17 (by decide) (by decide) (by decide) (by decide)) 0).trans hzb21.2.2.2.1, kPl_k (fun j9 => congrFun (hkz22 16 (by decide) (by decide) (by decide) (by decide)) j9) _ hzb21.2.2.2.2.1, (congrFun (hkz22 18 (by decide) (by decide) (by decide) (by decide)) 0).trans hzb21.2.2.2.2.2.1, (congrFun (hkz22 19 (by decide) (by decide) (by decide) (by decide)) 0).trans hzb21.2.2.2.2.2.2.1, (congrFun (hkz22 20 (by decide) (by decide) (by decide) (by decide)) 0).trans hzb21.2.2.2.2.2.2.2.1, (congrFun (hkz22 21 (by decide) (by decide) (by decide) (by decide)) 0).trans hzb21.2.2.2.2.2.2.2.2⟩
        have hlq22 := lxQ_le (tp := tp) (t := t) (p0 := p0) (by omega)
        refine lv_iconst (v := nI 1) hx hb dX2_behindOne_205 (by decide) ?_
        have ebh : bhO tp t p0 P = (true, (stl 1 P).1 ++ (stl 7 r).1, lxQ tp t p0, (stl 7 r).2, true) := by
          unfold bhO
          rw [hbt]
          simp only []
          rw [if_pos (Or.inl ⟨by omega, by omega, fun h9 => nI_ne_m1 (by omega) (hm1.symm.trans h9)⟩), if_neg (by omega), hr1]
          rfl
        exact c_iret (v := nI 1) (by rw [ebh]; exact (bI_t rfl).symm) hx hb hr rfl hlocks ⟨_, _, (by rw [ebh]; exact ZB_n (by simp; omega) hzb22), mH.to (by rw [ebh] <;> exact (putC_app _ _ _ _ _).symm) rfl rfl hw.1⟩ hw.2 dX2_behindOne_206
      exfalso; omega
    refine lv_aload_n hx hb dX2_behindOne_68 rfl (lv_at hl 3 rfl) ?_
    refine lv_bipush (v := nI 101) hx hb dX2_behindOne_69 (by decide) ?_
    refine lv_bipush (v := nI 110) hx hb dX2_behindOne_71 (by decide) ?_
    refine lv_bipush (v := nI 100) hx hb dX2_behindOne_73 (by decide) ?_
    refine c_read (va_runS (As := [.int (nI 101), .int (nI 110), .int (nI 100)]) (rest := [.ref (ad 0)]) ⟨hx, hb, hml, hown, hts⟩ (met_X2_w3 l G 101 110 100 (by decide) (by decide) (by decide)) (cs_X2_X2_w3 hts ⟨Nat.le_of_ble_eq_true rfl, Nat.le_of_ble_eq_true rfl⟩) (cP.pre hK trivial) rfl rfl hl.1 rfl (lv_room (Nat.le_of_ble_eq_true rfl)) dX2_behindOne_75 ⟨by first | exact Nat.zero_le _ | omega | decide, by first | exact Nat.zero_le _ | omega | decide⟩) ?_
    refine c_read (va_runV (As := [.long (w8 (w8 (lN 101) 110) 100)]) (rest := []) ⟨hx, hb, hml, hown, hts⟩ (met_X2_isWord l G ad M Z V tp t p0 hT hZ.1 (w8 (w8 (lN 101) 110) 100)) (cv_X2_X2_isWord hts ⟨Nat.le_of_ble_eq_true rfl, Nat.le_of_ble_eq_true rfl⟩) (cP.preV hK hw.1 (hw.1.recv hK)) rfl rfl hl.1 rfl (lv_room (Nat.le_of_ble_eq_true rfl)) dX2_behindOne_78 ⟨by first | exact Nat.zero_le _ | omega | decide, by first | exact Nat.zero_le _ | omega | decide⟩) ?_
    refine b_if_eq (tgt := 137) hx hb dX2_behindOne_81 (by decide) (fun c_58 => ?_) (fun c_58 => ?_)
    · refine lv_aload_n hx hb dX2_behindOne_137 rfl (lv_at hl 3 rfl) ?_
      refine m_g_token hx hb hts hown hK hw dX2_behindOne_138 ?_
      rw [show Z 9 0 = nI (lxT tp t p0) from hZ.1.2.2.1]
      refine lv_bipush (v := nI 63) hx hb dX2_behindOne_141 (by decide) ?_
      refine n_icmp_ne (tgt := 160) hx hb dX2_behindOne_143 (by decide) (by omega) (by decide) (fun c_59 => ?_) (fun c_59 => ?_)
      · refine lv_aload_n hx hb dX2_behindOne_160 rfl (lv_at hl 3 rfl) ?_
        refine m_g_token hx hb hts hown hK hw dX2_behindOne_161 ?_
        rw [show Z 9 0 = nI (lxT tp t p0) from hZ.1.2.2.1]
        refine lv_bipush (v := nI 58) hx hb dX2_behindOne_164 (by decide) ?_
        refine n_icmp_ne (tgt := 199) hx hb dX2_behindOne_166 (by decide) (by omega) (by decide) (fun c_60 => ?_) (fun c_60 => ?_)
        · refine lv_iconst (v := nI 0) hx hb dX2_behindOne_199 (by decide) ?_
          have ebh : bhO tp t p0 P = (false, [], p0, P, true) := by
            unfold bhO
            rw [hbt]
            simp only []
            rw [if_neg (fun h9 => by rcases h9 with ⟨a1, a2, a3⟩ | ⟨a1, a2⟩ <;> first | omega | exact a3 hm1 | exact absurd a1 (by assumption)), if_neg (fun h9 => by rcases h9 with ⟨a1, a2, a3⟩ | ⟨a1, a2⟩ <;> first | omega | exact absurd a3 (by assumption))]
          exact c_iret (v := nI 0) (by rw [ebh]; exact (bI_f (by simp)).symm) hx hb hr rfl hlocks ⟨_, _, (by rw [ebh]; exact hw1 ▸ hZ), mH.to (by rw [ebh] <;> exact rfl) rfl rfl hw.1⟩ hw.2 dX2_behindOne_200
        refine lv_iload hx hb dX2_behindOne_169 (lv_at hl 0 rfl) ?_
        refine lv_bipush (v := nI 42) hx hb dX2_behindOne_171 (by decide) ?_
        refine n_icmp_ne (tgt := 199) hx hb dX2_behindOne_173 (by decide) (by omega) (by decide) (fun c_61 => ?_) (fun c_61 => ?_)
        · refine lv_iconst (v := nI 0) hx hb dX2_behindOne_199 (by decide) ?_
          have ebh : bhO tp t p0 P = (false, [], p0, P, true) := by
            unfold bhO
            rw [hbt]
            simp only []
            rw [if_neg (fun h9 => by rcases h9 with ⟨a1, a2, a3⟩ | ⟨a1, a2⟩ <;> first | omega | exact a3 hm1 | exact absurd a1 (by assumption)), if_neg (fun h9 => by rcases h9 with ⟨a1, a2, a3⟩ | ⟨a1, a2⟩ <;> first | omega | exact absurd a3 (by assumption))]
          exact c_iret (v := nI 0) (by rw [ebh]; exact (bI_f (by simp)).symm) hx hb hr rfl hlocks ⟨_, _, (by rw [ebh]; exact hw1 ▸ hZ), mH.to (by rw [ebh] <;> exact rfl) rfl rfl hw.1⟩ hw.2 dX2_behindOne_200
        refine lv_aload_n hx hb dX2_behindOne_176 rfl (lv_at hl 3 rfl) ?_
        refine lv_iconst (v := nI 1) hx hb dX2_behindOne_177 (by decide) ?_
        refine c_call (va_runV (As := [.int (nI 1)]) (rest := []) ⟨hx, hb, hml, hown, hts⟩ (met_X2_settle l G ad M Z V tp t x0 n so p0 on w0 P hT ⟨hZ.1, hZ.2.1, hZ.2.2.1, hZ.2.2.2.1, hZ.2.2.2.2.1, hZ.2.2.2.2.2.1, hZ.2.2.2.2.2.2.1, hZ.2.2.2.2.2.2.2.1, hZ.2.2.2.2.2.2.2.2⟩ hx0 (by omega) (by omega) (by omega) 1 (by omega)) (cv_X2_X2_settle hts ⟨Nat.le_of_ble_eq_true rfl, Nat.le_of_ble_eq_true rfl⟩) (cP.preV hK hw.1 (hw.1.recv hK)) rfl rfl hl.1 rfl (lv_room (Nat.le_of_ble_eq_true rfl)) dX2_behindOne_178 ⟨by first | exact Nat.zero_le _ | omega | decide, by first | exact Nat.zero_le _ | omega | decide⟩) hw.2 (fun q _ h => h) (fun q h => h) (fun H locs hw _ _ hS => ?_)
        obtain ⟨Z23, V23, hzb23, hw⟩ := hw
        replace hw := MS.mk hw hS
        have hsl23 := stl_len 1 P
        obtain ⟨r, hr1, hr2, hr3⟩ := stl1_top hj hm1 (by omega)
        rw [hr1] at hzb23 hsl23
        have hsl9 : (stl 1 P).1.length + (r.length + 1) = P.length := hsl23
        have hop : opn (kOp P :: r) = opn r + 1 := by rw [opn_c, if_pos (by omega)]
        refine lv_aload_n hx hb dX2_behindOne_181 rfl (lv_at hl 3 rfl) ?_
        refine m_g_pile hx hb hts hown hK hw dX2_behindOne_182 ?_
        refine lv_iload_n hx hb dX2_behindOne_185 rfl (lv_at hl 1 rfl) ?_
        refine lv_iload hx hb dX2_behindOne_186 (lv_at hl 0 rfl) ?_
        refine lv_iconst (v := nI 1) hx hb dX2_behindOne_188 (by decide) ?_
        refine n_iadd hx hb dX2_behindOne_189 ?_
        refine m_s_pile (j := j) hx hb hK hw (by omega) dX2_behindOne_190 (fun H locs hw => ?_)
        have hop2 : opn ((kOp P + 1) :: r) = opn (kOp P :: r) := by rw [opn_c, opn_c, if_pos (by omega), if_pos (by omega)]
        refine lv_aload_n hx hb dX2_behindOne_191 rfl (lv_at hl 3 rfl) ?_
        refine lv_iconst (v := nI 0) hx hb dX2_behindOne_192 (by decide) ?_
        refine m_p_isWhole hx hb hts hown hK hw rfl rfl dX2_behindOne_193 (fun H locs hw => ?_)
        refine lv_goto (tgt := 201) hx hb dX2_behindOne_196 (by decide) ?_
        refine lv_aload_n hx hb dX2_behindOne_201 rfl (lv_at hl 3 rfl) ?_
        refine c_call (va_runV (As := []) (rest := []) ⟨hx, hb, hml, hown, hts⟩ (met_X2_nextToken l G ad (putC M (x0 + 75) n (stl 1 P).1) (up2 (up2 Z23 16 j (nI (kOp P + 1))) 19 0 (nI 0)) V23 tp t (lxQ tp t p0) (show TP tp t (putC M (x0 + 75) n (stl 1 P).1) from TP_putC hT) ((up2_ne (Or.inl (by decide))).trans ((up2_ne (Or.inl (by decide))).trans hzb23.1.1)) (lxQ_le (by omega))) (cv_X2_X2_nextToken hts ⟨Nat.le_of_ble_eq_true rfl, Nat.le_of_ble_eq_true rfl⟩) (cP.preV hK hw.1 (hw.1.recv hK)) rfl rfl hl.1 rfl (lv_room (Nat.le_of_ble_eq_true rfl)) dX2_behindOne_202 ⟨by first | exact Nat.zero_le _ | omega | decide, by first | exact Nat.zero_le _ | omega | decide⟩) hw.2 (fun q _ h => h) (fun q h => h) (fun H locs hw _ _ hS => ?_)
        obtain ⟨Z24, V24, ⟨hlx24, hkz24⟩, hw⟩ := hw
        replace hw := MS.mk hw hS
        have hzb24 : ZB tp t x0 (n + (stl 1 P).1.length) so on (nI 0) (lxQ tp t p0) ((kOp P + 1) :: r) Z24 V24 := ⟨hlx24, (congrFun (hkz24 12 (by decide) (by decide) (by decide) (by decide)) 0).trans ((up2_ne (Or.inl (by decide))).trans ((up2_ne (Or.inl (by decide))).trans hzb23.2.1)), (congrFun (hkz24 14 (by decide) (by decide) (by decide) (by decide)) 0).trans ((up2_ne (Or.inl (by decide))).trans ((up2_ne (Or.inl (by decide))).trans hzb23.2.2.1)), (congrFun (hkz24 17 (by decide) (by decide) (by decide) (by decide)) 0).trans ((up2_ne (Or.inl (by decide))).trans ((up2_ne (Or.inl (by decide))).trans hzb23.2.2.2.1)), kPl_k (fun j9 => congrFun (hkz24 16 (by decide) (by decide) (by decide) (by decide)) j9) _ (kPl_k (fun j9 => (up2_ne (Or.inl (by decide))).trans rfl) _ (kPl_top (by omega) (fun j9 => by rw [hr2]) hzb23.2.2.2.2.1)), ((congrFun (hkz24 18 (by decide) (by decide) (by decide) (by decide)) 0).trans ((up2_ne (Or.inl (by decide))).trans ((up2_ne (Or.inl (by decide))).trans hzb23.2.2.2.2.2.1))).trans (congrArg nI (hop2).symm), (congrFun (hkz24 19 (by decide) (by decide) (by decide) (by decide)) 0).trans up2_at, (congrFun (hkz24 20 (by decide) (by decide) (by decide) (by decide)) 0).trans ((up2_ne (Or.inl (by decide))).trans ((up2_ne (Or.inl (by decide))).trans hzb23.2.2.2.2.2.2.2.1)), (congrFun (hkz24 21 (by decide) (by decide) (by decide) (by decide)) 0).trans ((up2_ne (Or.inl (by decide))).trans ((up2_ne (Or.inl (by decide))).trans hzb23.2.2.2.2.2.2.2.2))⟩
        have hlq24 := lxQ_le (tp := tp) (t := t) (p0 := p0) (by omega)
        refine lv_iconst (v := nI 1) hx hb dX2_behindOne_205 (by decide) ?_
        have ebh : bhO tp t p0 P = (true, (stl 1 P).1, lxQ tp t p0, (kOp P + 1) :: r, false) := by
          unfold bhO
          rw [hbt]
          simp only []
          rw [if_neg (fun h9 => by rcases h9 with ⟨a1, a2, a3⟩ | ⟨a1, a2⟩ <;> first | omega | exact a3 hm1 | exact absurd a1 (by assumption)), if_pos (Or.inr ⟨by omega, by omega⟩), hr1]
          try rfl
        exact c_iret (v := nI 1) (by rw [ebh]; exact (bI_t rfl).symm) hx hb hr rfl hlocks ⟨_, _, (by rw [ebh]; exact hzb24), mH.to (by rw [ebh] <;> exact rfl) rfl rfl hw.1⟩ hw.2 dX2_behindOne_206
      refine lv_iload hx hb dX2_behindOne_146 (lv_at hl 0 rfl) ?_
      refine lv_bipush (v := nI 41) hx hb dX2_behindOne_148 (by decide) ?_
      refine n_icmp_ne (tgt := 160) hx hb dX2_behindOne_150 (by decide) (by omega) (by decide) (fun c_62 => ?_) (fun c_62 => ?_)
      · refine lv_aload_n hx hb dX2_behindOne_160 rfl (lv_at hl 3 rfl) ?_
        refine m_g_token hx hb hts hown hK hw dX2_behindOne_161 ?_
        rw [show Z 9 0 = nI (lxT tp t p0) from hZ.1.2.2.1]
        refine lv_bipush (v := nI 58) hx hb dX2_behindOne_164 (by decide) ?_
        refine n_icmp_ne (tgt := 199) hx hb dX2_behindOne_166 (by decide) (by omega) (by decide) (fun c_63 => ?_) (fun c_63 => ?_)
        · refine lv_iconst (v := nI 0) hx hb dX2_behindOne_199 (by decide) ?_
          have ebh : bhO tp t p0 P = (false, [], p0, P, true) := by
            unfold bhO
            rw [hbt]
            simp only []
            rw [if_neg (fun h9 => by rcases h9 with ⟨a1, a2, a3⟩ | ⟨a1, a2⟩ <;> first | omega | exact a3 hm1 | exact absurd a1 (by assumption)), if_neg (fun h9 => by rcases h9 with ⟨a1, a2, a3⟩ | ⟨a1, a2⟩ <;> first | omega | exact absurd a3 (by assumption))]
          exact c_iret (v := nI 0) (by rw [ebh]; exact (bI_f (by simp)).symm) hx hb hr rfl hlocks ⟨_, _, (by rw [ebh]; exact hw1 ▸ hZ), mH.to (by rw [ebh] <;> exact rfl) rfl rfl hw.1⟩ hw.2 dX2_behindOne_200
        refine lv_iload hx hb dX2_behindOne_169 (lv_at hl 0 rfl) ?_
        refine lv_bipush (v := nI 42) hx hb dX2_behindOne_171 (by decide) ?_
        refine n_icmp_ne (tgt := 199) hx hb dX2_behindOne_173 (by decide) (by omega) (by decide) (fun c_64 => ?_) (fun c_64 => ?_)
        · refine lv_iconst (v := nI 0) hx hb dX2_behindOne_199 (by decide) ?_
          have ebh : bhO tp t p0 P = (false, [], p0, P, true) := by
            unfold bhO
            rw [hbt]
            simp only []
            rw [if_neg (fun h9 => by rcases h9 with ⟨a1, a2, a3⟩ | ⟨a1, a2⟩ <;> first | omega | exact a3 hm1 | exact absurd a1 (by assumption)), if_neg (fun h9 => by rcases h9 with ⟨a1, a2, a3⟩ | ⟨a1, a2⟩ <;> first | omega | exact absurd a3 (by assumption))]
          exact c_iret (v := nI 0) (by rw [ebh]; exact (bI_f (by simp)).symm) hx hb hr rfl hlocks ⟨_, _, (by rw [ebh]; exact hw1 ▸ hZ), mH.to (by rw [ebh] <;> exact rfl) rfl rfl hw.1⟩ hw.2 dX2_behindOne_200
        refine lv_aload_n hx hb dX2_behindOne_176 rfl (lv_at hl 3 rfl) ?_
        refine lv_iconst (v := nI 1) hx hb dX2_behindOne_177 (by decide) ?_
        refine c_call (va_runV (As := [.int (nI 1)]) (rest := []) ⟨hx, hb, hml, hown, hts⟩ (met_X2_settle l G ad M Z V tp t x0 n so p0 on w0 P hT ⟨hZ.1, hZ.2.1, hZ.2.2.1, hZ.2.2.2.1, hZ.2.2.2.2.1, hZ.2.2.2.2.2.1, hZ.2.2.2.2.2.2.1, hZ.2.2.2.2.2.2.2.1, hZ.2.2.2.2.2.2.2.2⟩ hx0 (by omega) (by omega) (by omega) 1 (by omega)) (cv_X2_X2_settle hts ⟨Nat.le_of_ble_eq_true rfl, Nat.le_of_ble_eq_true rfl⟩) (cP.preV hK hw.1 (hw.1.recv hK)) rfl rfl hl.1 rfl (lv_room (Nat.le_of_ble_eq_true rfl)) dX2_behindOne_178 ⟨by first | exact Nat.zero_le _ | omega | decide, by first | exact Nat.zero_le _ | omega | decide⟩) hw.2 (fun q _ h => h) (fun q h => h) (fun H locs hw _ _ hS => ?_)
        obtain ⟨Z25, V25, hzb25, hw⟩ := hw
        replace hw := MS.mk hw hS
        have hsl25 := stl_len 1 P
        obtain ⟨r, hr1, hr2, hr3⟩ := stl1_top hj hm1 (by omega)
        rw [hr1] at hzb25 hsl25
        have hsl9 : (stl 1 P).1.length + (r.length + 1) = P.length := hsl25
        have hop : opn (kOp P :: r) = opn r + 1 := by rw [opn_c, if_pos (by omega)]
        refine lv_aload_n hx hb dX2_behindOne_181 rfl (lv_at hl 3 rfl) ?_
        refine m_g_pile hx hb hts hown hK hw dX2_behindOne_182 ?_
        refine lv_iload_n hx hb dX2_behindOne_185 rfl (lv_at hl 1 rfl) ?_
        refine lv_iload hx hb dX2_behindOne_186 (lv_at hl 0 rfl) ?_
        refine lv_iconst (v := nI 1) hx hb dX2_behindOne_188 (by decide) ?_
        refine n_iadd hx hb dX2_behindOne_189 ?_
        refine m_s_pile (j := j) hx hb hK hw (by omega) dX2_behindOne_190 (fun H locs hw => ?_)
        have hop2 : opn ((kOp P + 1) :: r) = opn (kOp P :: r) := by rw [opn_c, opn_c, if_pos (by omega), if_pos (by omega)]
        refine lv_aload_n hx hb dX2_behindOne_191 rfl (lv_at hl 3 rfl) ?_
        refine lv_iconst (v := nI 0) hx hb dX2_behindOne_192 (by decide) ?_
        refine m_p_isWhole hx hb hts hown hK hw rfl rfl dX2_behindOne_193 (fun H locs hw => ?_)
        refine lv_goto (tgt := 201) hx hb dX2_behindOne_196 (by decide) ?_
        refine lv_aload_n hx hb dX2_behindOne_201 rfl (lv_at hl 3 rfl) ?_
        refine c_call (va_runV (As := []) (rest := []) ⟨hx, hb, hml, hown, hts⟩ (met_X2_nextToken l G ad (putC M (x0 + 75) n (stl 1 P).1) (up2 (up2 Z25 16 j (nI (kOp P + 1))) 19 0 (nI 0)) V25 tp t (lxQ tp t p0) (show TP tp t (putC M (x0 + 75) n (stl 1 P).1) from TP_putC hT) ((up2_ne (Or.inl (by decide))).trans ((up2_ne (Or.inl (by decide))).trans hzb25.1.1)) (lxQ_le (by omega))) (cv_X2_X2_nextToken hts ⟨Nat.le_of_ble_eq_true rfl, Nat.le_of_ble_eq_true rfl⟩) (cP.preV hK hw.1 (hw.1.recv hK)) rfl rfl hl.1 rfl (lv_room (Nat.le_of_ble_eq_true rfl)) dX2_behindOne_202 ⟨by first | exact Nat.zero_le _ | omega | decide, by first | exact Nat.zero_le _ | omega | decide⟩) hw.2 (fun q _ h => h) (fun q h => h) (fun H locs hw _ _ hS => ?_)
        obtain ⟨Z26, V26, ⟨hlx26, hkz26⟩, hw⟩ := hw
        replace hw := MS.mk hw hS
        have hzb26 : ZB tp t x0 (n + (stl 1 P).1.length) so on (nI 0) (lxQ tp t p0) ((kOp P + 1) :: r) Z26 V26 := ⟨hlx26, (congrFun (hkz26 12 (by decide) (by decide) (by decide) (by decide)) 0).trans ((up2_ne (Or.inl (by decide))).trans ((up2_ne (Or.inl (by decide))).trans hzb25.2.1)), (congrFun (hkz26 14 (by decide) (by decide) (by decide) (by decide)) 0).trans ((up2_ne (Or.inl (by decide))).trans ((up2_ne (Or.inl (by decide))).trans hzb25.2.2.1)), (congrFun (hkz26 17 (by decide) (by decide) (by decide) (by decide)) 0).trans ((up2_ne (Or.inl (by decide))).trans ((up2_ne (Or.inl (by decide))).trans hzb25.2.2.2.1)), kPl_k (fun j9 => congrFun (hkz26 16 (by decide) (by decide) (by decide) (by decide)) j9) _ (kPl_k (fun j9 => (up2_ne (Or.inl (by decide))).trans rfl) _ (kPl_top (by omega) (fun j9 => by rw [hr2]) hzb25.2.2.2.2.1)), ((congrFun (hkz26 18 (by decide) (by decide) (by decide) (by decide)) 0).trans ((up2_ne (Or.inl (by decide))).trans ((up2_ne (Or.inl (by decide))).trans hzb25.2.2.2.2.2.1))).trans (congrArg nI (hop2).symm), (congrFun (hkz26 19 (by decide) (by decide) (by decide) (by decide)) 0).trans up2_at, (congrFun (hkz26 20 (by decide) (by decide) (by decide) (by decide)) 0).trans ((up2_ne (Or.inl (by decide))).trans ((up2_ne (Or.inl (by decide))).trans hzb25.2.2.2.2.2.2.2.1)), (congrFun (hkz26 21 (by decide) (by decide) (by decide) (by decide)) 0).trans ((up2_ne (Or.inl (by decide))).trans ((up2_ne (Or.inl (by decide))).trans hzb25.2.2.2.2.2.2.2.2))⟩
        have hlq26 := lxQ_le (tp := tp) (t := t) (p0 := p0) (by omega)
        refine lv_iconst (v := nI 1) hx hb dX2_behindOne_205 (by decide) ?_
        have ebh : bhO tp t p0 P = (true, (stl 1 P).1, lxQ tp t p0, (kOp P + 1) :: r, false) := by
          unfold bhO
          rw [hbt]
          simp only []
          rw [if_neg (fun h9 => by rcases h9 with ⟨a1, a2, a3⟩ | ⟨a1, a2⟩ <;> first | omega | exact a3 hm1 | exact absurd a1 (by assumption)), if_pos (Or.inr ⟨by omega, by omega⟩), hr1]
          try rfl
        exact c_iret (v := nI 1) (by rw [ebh]; exact (bI_t rfl).symm) hx hb hr rfl hlocks ⟨_, _, (by rw [ebh]; exact hzb26), mH.to (by rw [ebh] <;> exact rfl) rfl rfl hw.1⟩ hw.2 dX2_behindOne_206
      refine lv_aload_n hx hb dX2_behindOne_153 rfl (lv_at hl 3 rfl) ?_
      refine c_read (va_runV (As := []) (rest := []) ⟨hx, hb, hml, hown, hts⟩ (met_X2_isCompared l G ad M Z V P hZ.2.2.2.1 hZ.2.2.2.2.1 (by omega)) (cv_X2_X2_isCompared hts ⟨Nat.le_of_ble_eq_true rfl, Nat.le_of_ble_eq_true rfl⟩) (cP.preV hK hw.1 (hw.1.recv hK)) rfl rfl hl.1 rfl (lv_room (Nat.le_of_ble_eq_true rfl)) dX2_behindOne_154 ⟨by first | exact Nat.zero_le _ | omega | decide, by first | exact Nat.zero_le _ | omega | decide⟩) ?_
      refine b_if_ne (tgt := 176) hx hb dX2_behindOne_157 (by decide) (fun c_65 => ?_) (fun c_65 => ?_)
      · refine lv_aload_n hx hb dX2_behindOne_176 rfl (lv_at hl 3 rfl) ?_
        refine lv_iconst (v := nI 1) hx hb dX2_behindOne_177 (by decide) ?_
        refine c_call (va_runV (As := [.int (nI 1)]) (rest := []) ⟨hx, hb, hml, hown, hts⟩ (met_X2_settle l G ad M Z V tp t x0 n so p0 on w0 P hT ⟨hZ.1, hZ.2.1, hZ.2.2.1, hZ.2.2.2.1, hZ.2.2.2.2.1, hZ.2.2.2.2.2.1, hZ.2.2.2.2.2.2.1, hZ.2.2.2.2.2.2.2.1, hZ.2.2.2.2.2.2.2.2⟩ hx0 (by omega) (by omega) (by omega) 1 (by omega)) (cv_X2_X2_settle hts ⟨Nat.le_of_ble_eq_true rfl, Nat.le_of_ble_eq_true rfl⟩) (cP.preV hK hw.1 (hw.1.recv hK)) rfl rfl hl.1 rfl (lv_room (Nat.le_of_ble_eq_true rfl)) dX2_behindOne_178 ⟨by first | exact Nat.zero_le _ | omega | decide, by first | exact Nat.zero_le _ | omega | decide⟩) hw.2 (fun q _ h => h) (fun q h => h) (fun H locs hw _ _ hS => ?_)
        obtain ⟨Z27, V27, hzb27, hw⟩ := hw
        replace hw := MS.mk hw hS
        have hsl27 := stl_len 1 P
        obtain ⟨r, hr1, hr2, hr3⟩ := stl1_top hj hm1 (by omega)
        rw [hr1] at hzb27 hsl27
        have hsl9 : (stl 1 P).1.length + (r.length + 1) = P.length := hsl27
        have hop : opn (kOp P :: r) = opn r + 1 := by rw [opn_c, if_pos (by omega)]
        refine lv_aload_n hx hb dX2_behindOne_181 rfl (lv_at hl 3 rfl) ?_
        refine m_g_pile hx hb hts hown hK hw dX2_behindOne_182 ?_
        refine lv_iload_n hx hb dX2_behindOne_185 rfl (lv_at hl 1 rfl) ?_
        refine lv_iload hx hb dX2_behindOne_186 (lv_at hl 0 rfl) ?_
        refine lv_iconst (v := nI 1) hx hb dX2_behindOne_188 (by decide) ?_
        refine n_iadd hx hb dX2_behindOne_189 ?_
        refine m_s_pile (j := j) hx hb hK hw (by omega) dX2_behindOne_190 (fun H locs hw => ?_)
        have hop2 : opn ((kOp P + 1) :: r) = opn (kOp P :: r) := by rw [opn_c, opn_c, if_pos (by omega), if_pos (by omega)]
        refine lv_aload_n hx hb dX2_behindOne_191 rfl (lv_at hl 3 rfl) ?_
        refine lv_iconst (v := nI 0) hx hb dX2_behindOne_192 (by decide) ?_
        refine m_p_isWhole hx hb hts hown hK hw rfl rfl dX2_behindOne_193 (fun H locs hw => ?_)
        refine lv_goto (tgt := 201) hx hb dX2_behindOne_196 (by decide) ?_
        refine lv_aload_n hx hb dX2_behindOne_201 rfl (lv_at hl 3 rfl) ?_
        refine c_call (va_runV (As := []) (rest := []) ⟨hx, hb, hml, hown, hts⟩ (met_X2_nextToken l G ad (putC M (x0 + 75) n (stl 1 P).1) (up2 (up2 Z27 16 j (nI (kOp P + 1))) 19 0 (nI 0)) V27 tp t (lxQ tp t p0) (show TP tp t (putC M (x0 + 75) n (stl 1 P).1) from TP_putC hT) ((up2_ne (Or.inl (by decide))).trans ((up2_ne (Or.inl (by decide))).trans hzb27.1.1)) (lxQ_le (by omega))) (cv_X2_X2_nextToken hts ⟨Nat.le_of_ble_eq_true rfl, Nat.le_of_ble_eq_true rfl⟩) (cP.preV hK hw.1 (hw.1.recv hK)) rfl rfl hl.1 rfl (lv_room (Nat.le_of_ble_eq_true rfl)) dX2_behindOne_202 ⟨by first | exact Nat.zero_le _ | omega | decide, by first | exact Nat.zero_le _ | omega | decide⟩) hw.2 (fun q _ h => h) (fun q h => h) (fun H locs hw _ _ hS => ?_)
        obtain ⟨Z28, V28, ⟨hlx28, hkz28⟩, hw⟩ := hw
        replace hw := MS.mk hw hS
        have hzb28 : ZB tp t x0 (n + (stl 1 P).1.length) so on (nI 0) (lxQ tp t p0) ((kOp P + 1) :: r) Z28 V28 := ⟨hlx28, (congrFun (hkz28 12 (by decide) (by decide) (by decide) (by decide)) 0).trans ((up2_ne (Or.inl (by decide))).trans ((up2_ne (Or.inl (by decide))).trans hzb27.2.1)), (congrFun (hkz28 14 (by decide) (by decide) (by decide) (by decide)) 0).trans ((up2_ne (Or.inl (by decide))).trans ((up2_ne (Or.inl (by decide))).trans hzb27.2.2.1)), (congrFun (hkz28 17 (by decide) (by decide) (by decide) (by decide)) 0).trans ((up2_ne (Or.inl (by decide))).trans ((up2_ne (Or.inl (by decide))).trans hzb27.2.2.2.1)), kPl_k (fun j9 => congrFun (hkz28 16 (by decide) (by decide) (by decide) (by decide)) j9) _ (kPl_k (fun j9 => (up2_ne (Or.inl (by decide))).trans rfl) _ (kPl_top (by omega) (fun j9 => by rw [hr2]) hzb27.2.2.2.2.1)), ((congrFun (hkz28 18 (by decide) (by decide) (by decide) (by decide)) 0).trans ((up2_ne (Or.inl (by decide))).trans ((up2_ne (Or.inl (by decide))).trans hzb27.2.2.2.2.2.1))).trans (congrArg nI (hop2).symm), (congrFun (hkz28 19 (by decide) (by decide) (by decide) (by decide)) 0).trans up2_at, (congrFun (hkz28 20 (by decide) (by decide) (by decide) (by decide)) 0).trans ((up2_ne (Or.inl (by decide))).trans ((up2_ne (Or.inl (by decide))).trans hzb27.2.2.2.2.2.2.2.1)), (congrFun (hkz28 21 (by decide) (by decide) (by decide) (by decide)) 0).trans ((up2_ne (Or.inl (by decide))).trans ((up2_ne (Or.inl (by decide))).trans hzb27.2.2.2.2.2.2.2.2))⟩
        have hlq28 := lxQ_le (tp := tp) (t := t) (p0 := p0) (by omega)
        refine lv_iconst (v := nI 1) hx hb dX2_behindOne_205 (by decide) ?_
        have ebh : bhO tp t p0 P = (true, (stl 1 P).1, lxQ tp t p0, (kOp P + 1) :: r, false) := by
          unfold bhO
          rw [hbt]
          simp only []
          rw [if_neg (fun h9 => by rcases h9 with ⟨a1, a2, a3⟩ | ⟨a1, a2⟩ <;> first | omega | exact a3 hm1 | exact absurd a1 (by assumption)), if_pos (Or.inl ⟨by omega, by omega, c_65⟩), hr1]
          try rfl
        exact c_iret (v := nI 1) (by rw [ebh]; exact (bI_t rfl).symm) hx hb hr rfl hlocks ⟨_, _, (by rw [ebh]; exact hzb28), mH.to (by rw [ebh] <;> exact rfl) rfl rfl hw.1⟩ hw.2 dX2_behindOne_206
      refine lv_aload_n hx hb dX2_behindOne_160 rfl (lv_at hl 3 rfl) ?_
      refine m_g_token hx hb hts hown hK hw dX2_behindOne_161 ?_
      rw [show Z 9 0 = nI (lxT tp t p0) from hZ.1.2.2.1]
      refine lv_bipush (v := nI 58) hx hb dX2_behindOne_164 (by decide) ?_
      refine n_icmp_ne (tgt := 199) hx hb dX2_behindOne_166 (by decide) (by omega) (by decide) (fun c_66 => ?_) (fun c_66 => ?_)
      · refine lv_iconst (v := nI 0) hx hb dX2_behindOne_199 (by decide) ?_
        have ebh : bhO tp t p0 P = (false, [], p0, P, true) := by
          unfold bhO
          rw [hbt]
          simp only []
          rw [if_neg (fun h9 => by rcases h9 with ⟨a1, a2, a3⟩ | ⟨a1, a2⟩ <;> first | omega | exact a3 hm1 | exact absurd a1 (by assumption)), if_neg (fun h9 => by rcases h9 with ⟨a1, a2, a3⟩ | ⟨a1, a2⟩ <;> first | omega | exact absurd a3 (by assumption))]
        exact c_iret (v := nI 0) (by rw [ebh]; exact (bI_f (by simp)).symm) hx hb hr rfl hlocks ⟨_, _, (by rw [ebh]; exact hw1 ▸ hZ), mH.to (by rw [ebh] <;> exact rfl) rfl rfl hw.1⟩ hw.2 dX2_behindOne_200
      refine lv_iload hx hb dX2_behindOne_169 (lv_at hl 0 rfl) ?_
      refine lv_bipush (v := nI 42) hx hb dX2_behindOne_171 (by decide) ?_
      refine n_icmp_ne (tgt := 199) hx hb dX2_behindOne_173 (by decide) (by omega) (by decide) (fun c_67 => ?_) (fun c_67 => ?_)
      · refine lv_iconst (v := nI 0) hx hb dX2_behindOne_199 (by decide) ?_
        have ebh : bhO tp t p0 P = (false, [], p0, P, true) := by
          unfold bhO
          rw [hbt]
          simp only []
          rw [if_neg (fun h9 => by rcases h9 with ⟨a1, a2, a3⟩ | ⟨a1, a2⟩ <;> first | omega | exact a3 hm1 | exact absurd a1 (by assumption)), if_neg (fun h9 => by rcases h9 with ⟨a1, a2, a3⟩ | ⟨a1, a2⟩ <;> first | omega | exact absurd a3 (by assumption))]
        exact c_iret (v := nI 0) (by rw [ebh]; exact (bI_f (by simp)).symm) hx hb hr rfl hlocks ⟨_, _, (by rw [ebh]; exact hw1 ▸ hZ), mH.to (by rw [ebh] <;> exact rfl) rfl rfl hw.1⟩ hw.2 dX2_behindOne_200
      refine lv_aload_n hx hb dX2_behindOne_176 rfl (lv_at hl 3 rfl) ?_
      refine lv_iconst (v := nI 1) hx hb dX2_behindOne_177 (by decide) ?_
      refine c_call (va_runV (As := [.int (nI 1)]) (rest := []) ⟨hx, hb, hml, hown, hts⟩ (met_X2_settle l G ad M Z V tp t x0 n so p0 on w0 P hT ⟨hZ.1, hZ.2.1, hZ.2.2.1, hZ.2.2.2.1, hZ.2.2.2.2.1, hZ.2.2.2.2.2.1, hZ.2.2.2.2.2.2.1, hZ.2.2.2.2.2.2.2.1, hZ.2.2.2.2.2.2.2.2⟩ hx0 (by omega) (by omega) (by omega) 1 (by omega)) (cv_X2_X2_settle hts ⟨Nat.le_of_ble_eq_true rfl, Nat.le_of_ble_eq_true rfl⟩) (cP.preV hK hw.1 (hw.1.recv hK)) rfl rfl hl.1 rfl (lv_room (Nat.le_of_ble_eq_true rfl)) dX2_behindOne_178 ⟨by first | exact Nat.zero_le _ | omega | decide, by first | exact Nat.zero_le _ | omega | decide⟩) hw.2 (fun q _ h => h) (fun q h => h) (fun H locs hw _ _ hS => ?_)
      obtain ⟨Z29, V29, hzb29, hw⟩ := hw
      replace hw := MS.mk hw hS
      have hsl29 := stl_len 1 P
      obtain ⟨r, hr1, hr2, hr3⟩ := stl1_top hj hm1 (by omega)
      rw [hr1] at hzb29 hsl29
      have hsl9 : (stl 1 P).1.length + (r.length + 1) = P.length := hsl29
      have hop : opn (kOp P :: r) = opn r + 1 := by rw [opn_c, if_pos (by omega)]
      refine lv_aload_n hx hb dX2_behindOne_181 rfl (lv_at hl 3 rfl) ?_
      refine m_g_pile hx hb hts hown hK hw dX2_behindOne_182 ?_
      refine lv_iload_n hx hb dX2_behindOne_185 rfl (lv_at hl 1 rfl) ?_
      refine lv_iload hx hb dX2_behindOne_186 (lv_at hl 0 rfl) ?_
      refine lv_iconst (v := nI 1) hx hb dX2_behindOne_188 (by decide) ?_
      refine n_iadd hx hb dX2_behindOne_189 ?_
      refine m_s_pile (j := j) hx hb hK hw (by omega) dX2_behindOne_190 (fun H locs hw => ?_)
      have hop2 : opn ((kOp P + 1) :: r) = opn (kOp P :: r) := by rw [opn_c, opn_c, if_pos (by omega), if_pos (by omega)]
      refine lv_aload_n hx hb dX2_behindOne_191 rfl (lv_at hl 3 rfl) ?_
      refine lv_iconst (v := nI 0) hx hb dX2_behindOne_192 (by decide) ?_
      refine m_p_isWhole hx hb hts hown hK hw rfl rfl dX2_behindOne_193 (fun H locs hw => ?_)
      refine lv_goto (tgt := 201) hx hb dX2_behindOne_196 (by decide) ?_
      refine lv_aload_n hx hb dX2_behindOne_201 rfl (lv_at hl 3 rfl) ?_
      refine c_call (va_runV (As := []) (rest := []) ⟨hx, hb, hml, hown, hts⟩ (met_X2_nextToken l G ad (putC M (x0 + 75) n (stl 1 P).1) (up2 (up2 Z29 16 j (nI (kOp P + 1))) 19 0 (nI 0)) V29 tp t (lxQ tp t p0) (show TP tp t (putC M (x0 + 75) n (stl 1 P).1) from TP_putC hT) ((up2_ne (Or.inl (by decide))).trans ((up2_ne (Or.inl (by decide))).trans hzb29.1.1)) (lxQ_le (by omega))) (cv_X2_X2_nextToken hts ⟨Nat.le_of_ble_eq_true rfl, Nat.le_of_ble_eq_true rfl⟩) (cP.preV hK hw.1 (hw.1.recv hK)) rfl rfl hl.1 rfl (lv_room (Nat.le_of_ble_eq_true rfl)) dX2_behindOne_202 ⟨by first | exact Nat.zero_le _ | omega | decide, by first | exact Nat.zero_le _ | omega | decide⟩) hw.2 (fun q _ h => h) (fun q h => h) (fun H locs hw _ _ hS => ?_)
      obtain ⟨Z30, V30, ⟨hlx30, hkz30⟩, hw⟩ := hw
      replace hw := MS.mk hw hS
      have hzb30 : ZB tp t x0 (n + (stl 1 P).1.length) so on (nI 0) (lxQ tp t p0) ((kOp P + 1) :: r) Z30 V30 := ⟨hlx30, (congrFun (hkz30 12 (by decide) (by decide) (by decide) (by decide)) 0).trans ((up2_ne (Or.inl (by decide))).trans ((up2_ne (Or.inl (by decide))).trans hzb29.2.1)), (congrFun (hkz30 14 (by decide) (by decide) (by decide) (by decide)) 0).trans ((up2_ne (Or.inl (by decide))).trans ((up2_ne (Or.inl (by decide))).trans hzb29.2.2.1)), (congrFun (hkz30 17 (by decide) (by decide) (by decide) (by decide)) 0).trans ((up2_ne (Or.inl (by decide))).trans ((up2_ne (Or.inl (by decide))).trans hzb29.2.2.2.1)), kPl_k (fun j9 => congrFun (hkz30 16 (by decide) (by decide) (by decide) (by decide)) j9) _ (kPl_k (fun j9 => (up2_ne (Or.inl (by decide))).trans rfl) _ (kPl_top (by omega) (fun j9 => by rw [hr2]) hzb29.2.2.2.2.1)), ((congrFun (hkz30 18 (by decide) (by decide) (by decide) (by decide)) 0).trans ((up2_ne (Or.inl (by decide))).trans ((up2_ne (Or.inl (by decide))).trans hzb29.2.2.2.2.2.1))).trans (congrArg nI (hop2).symm), (congrFun (hkz30 19 (by decide) (by decide) (by decide) (by decide)) 0).trans up2_at, (congrFun (hkz30 20 (by decide) (by decide) (by decide) (by decide)) 0).trans ((up2_ne (Or.inl (by decide))).trans ((up2_ne (Or.inl (by decide))).trans hzb29.2.2.2.2.2.2.2.1)), (congrFun (hkz30 21 (by decide) (by decide) (by decide) (by decide)) 0).trans ((up2_ne (Or.inl (by decide))).trans ((up2_ne (Or.inl (by decide))).trans hzb29.2.2.2.2.2.2.2.2))⟩
      have hlq30 := lxQ_le (tp := tp) (t := t) (p0 := p0) (by omega)
      refine lv_iconst (v := nI 1) hx hb dX2_behindOne_205 (by decide) ?_
      have ebh : bhO tp t p0 P = (true, (stl 1 P).1, lxQ tp t p0, (kOp P + 1) :: r, false) := by
        unfold bhO
        rw [hbt]
        simp only []
        rw [if_neg (fun h9 => by rcases h9 with ⟨a1, a2, a3⟩ | ⟨a1, a2⟩ <;> first | omega | exact a3 hm1 | exact absurd a1 (by assumption)), if_pos (Or.inr ⟨by omega, by omega⟩), hr1]
        try rfl
      exact c_iret (v := nI 1) (by rw [ebh]; exact (bI_t rfl).symm) hx hb hr rfl hlocks ⟨_, _, (by rw [ebh]; exact hzb30), mH.to (by rw [ebh] <;> exact rfl) rfl rfl hw.1⟩ hw.2 dX2_behindOne_206
    refine lv_iload hx hb dX2_behindOne_84 (lv_at hl 0 rfl) ?_
    refine lv_bipush (v := nI 43) hx hb dX2_behindOne_86 (by decide) ?_
    refine n_icmp_ne (tgt := 137) hx hb dX2_behindOne_88 (by decide) (by omega) (by decide) (fun c_68 => ?_) (fun c_68 => ?_)
    · refine lv_aload_n hx hb dX2_behindOne_137 rfl (lv_at hl 3 rfl) ?_
      refine m_g_token hx hb hts hown hK hw dX2_behindOne_138 ?_
      rw [show Z 9 0 = nI (lxT tp t p0) from hZ.1.2.2.1]
      refine lv_bipush (v := nI 63) hx hb dX2_behindOne_141 (by decide) ?_
      refine n_icmp_ne (tgt := 160) hx hb dX2_behindOne_143 (by decide) (by omega) (by decide) (fun c_69 => ?_) (fun c_69 => ?_)
      · refine lv_aload_n hx hb dX2_behindOne_160 rfl (lv_at hl 3 rfl) ?_
        refine m_g_token hx hb hts hown hK hw dX2_behindOne_161 ?_
        rw [show Z 9 0 = nI (lxT tp t p0) from hZ.1.2.2.1]
        refine lv_bipush (v := nI 58) hx hb dX2_behindOne_164 (by decide) ?_
        refine n_icmp_ne (tgt := 199) hx hb dX2_behindOne_166 (by decide) (by omega) (by decide) (fun c_70 => ?_) (fun c_70 => ?_)
        · refine lv_iconst (v := nI 0) hx hb dX2_behindOne_199 (by decide) ?_
          have ebh : bhO tp t p0 P = (false, [], p0, P, true) := by
            unfold bhO
            rw [hbt]
            simp only []
            rw [if_neg (fun h9 => by rcases h9 with ⟨a1, a2, a3⟩ | ⟨a1, a2⟩ <;> first | omega | exact a3 hm1 | exact absurd a1 (by assumption)), if_neg (fun h9 => by rcases h9 with ⟨a1, a2, a3⟩ | ⟨a1, a2⟩ <;> first | omega | exact absurd a3 (by assumption))]
          exact c_iret (v := nI 0) (by rw [ebh]; exact (bI_f (by simp)).symm) hx hb hr rfl hlocks ⟨_, _, (by rw [ebh]; exact hw1 ▸ hZ), mH.to (by rw [ebh] <;> exact rfl) rfl rfl hw.1⟩ hw.2 dX2_behindOne_200
        refine lv_iload hx hb dX2_behindOne_169 (lv_at hl 0 rfl) ?_
        refine lv_bipush (v := nI 42) hx hb dX2_behindOne_171 (by decide) ?_
        refine n_icmp_ne (tgt := 199) hx hb dX2_behindOne_173 (by decide) (by omega) (by decide) (fun c_71 => ?_) (fun c_71 => ?_)
        · refine lv_iconst (v := nI 0) hx hb dX2_behindOne_199 (by decide) ?_
          have ebh : bhO tp t p0 P = (false, [], p0, P, true) := by
            unfold bhO
            rw [hbt]
            simp only []
            rw [if_neg (fun h9 => by rcases h9 with ⟨a1, a2, a3⟩ | ⟨a1, a2⟩ <;> first | omega | exact a3 hm1 | exact absurd a1 (by assumption)), if_neg (fun h9 => by rcases h9 with ⟨a1, a2, a3⟩ | ⟨a1, a2⟩ <;> first | omega | exact absurd a3 (by assumption))]
          exact c_iret (v := nI 0) (by rw [ebh]; exact (bI_f (by simp)).symm) hx hb hr rfl hlocks ⟨_, _, (by rw [ebh]; exact hw1 ▸ hZ), mH.to (by rw [ebh] <;> exact rfl) rfl rfl hw.1⟩ hw.2 dX2_behindOne_200
        refine lv_aload_n hx hb dX2_behindOne_176 rfl (lv_at hl 3 rfl) ?_
        refine lv_iconst (v := nI 1) hx hb dX2_behindOne_177 (by decide) ?_
        refine c_call (va_runV (As := [.int (nI 1)]) (rest := []) ⟨hx, hb, hml, hown, hts⟩ (met_X2_settle l G ad M Z V tp t x0 n so p0 on w0 P hT ⟨hZ.1, hZ.2.1, hZ.2.2.1, hZ.2.2.2.1, hZ.2.2.2.2.1, hZ.2.2.2.2.2.1, hZ.2.2.2.2.2.2.1, hZ.2.2.2.2.2.2.2.1, hZ.2.2.2.2.2.2.2.2⟩ hx0 (by omega) (by omega) (by omega) 1 (by omega)) (cv_X2_X2_settle hts ⟨Nat.le_of_ble_eq_true rfl, Nat.le_of_ble_eq_true rfl⟩) (cP.preV hK hw.1 (hw.1.recv hK)) rfl rfl hl.1 rfl (lv_room (Nat.le_of_ble_eq_true rfl)) dX2_behindOne_178 ⟨by first | exact Nat.zero_le _ | omega | decide, by first | exact Nat.zero_le _ | omega | decide⟩) hw.2 (fun q _ h => h) (fun q h => h) (fun H locs hw _ _ hS => ?_)
        obtain ⟨Z31, V31, hzb31, hw⟩ := hw
        replace hw := MS.mk hw hS
        have hsl31 := stl_len 1 P
        obtain ⟨r, hr1, hr2, hr3⟩ := stl1_top hj hm1 (by omega)
        rw [hr1] at hzb31 hsl31
        have hsl9 : (stl 1 P).1.length + (r.length + 1) = P.length := hsl31
        have hop : opn (kOp P :: r) = opn r + 1 := by rw [opn_c, if_pos (by omega)]
        refine lv_aload_n hx hb dX2_behindOne_181 rfl (lv_at hl 3 rfl) ?_
        refine m_g_pile hx hb hts hown hK hw dX2_behindOne_182 ?_
        refine lv_iload_n hx hb dX2_behindOne_185 rfl (lv_at hl 1 rfl) ?_
        refine lv_iload hx hb dX2_behindOne_186 (lv_at hl 0 rfl) ?_
        refine lv_iconst (v := nI 1) hx hb dX2_behindOne_188 (by decide) ?_
        refine n_iadd hx hb dX2_behindOne_189 ?_
        refine m_s_pile (j := j) hx hb hK hw (by omega) dX2_behindOne_190 (fun H locs hw => ?_)
        have hop2 : opn ((kOp P + 1) :: r) = opn (kOp P :: r) := by rw [opn_c, opn_c, if_pos (by omega), if_pos (by omega)]
        refine lv_aload_n hx hb dX2_behindOne_191 rfl (lv_at hl 3 rfl) ?_
        refine lv_iconst (v := nI 0) hx hb dX2_behindOne_192 (by decide) ?_
        refine m_p_isWhole hx hb hts hown hK hw rfl rfl dX2_behindOne_193 (fun H locs hw => ?_)
        refine lv_goto (tgt := 201) hx hb dX2_behindOne_196 (by decide) ?_
        refine lv_aload_n hx hb dX2_behindOne_201 rfl (lv_at hl 3 rfl) ?_
        refine c_call (va_runV (As := []) (rest := []) ⟨hx, hb, hml, hown, hts⟩ (met_X2_nextToken l G ad (putC M (x0 + 75) n (stl 1 P).1) (up2 (up2 Z31 16 j (nI (kOp P + 1))) 19 0 (nI 0)) V31 tp t (lxQ tp t p0) (show TP tp t (putC M (x0 + 75) n (stl 1 P).1) from TP_putC hT) ((up2_ne (Or.inl (by decide))).trans ((up2_ne (Or.inl (by decide))).trans hzb31.1.1)) (lxQ_le (by omega))) (cv_X2_X2_nextToken hts ⟨Nat.le_of_ble_eq_true rfl, Nat.le_of_ble_eq_true rfl⟩) (cP.preV hK hw.1 (hw.1.recv hK)) rfl rfl hl.1 rfl (lv_room (Nat.le_of_ble_eq_true rfl)) dX2_behindOne_202 ⟨by first | exact Nat.zero_le _ | omega | decide, by first | exact Nat.zero_le _ | omega | decide⟩) hw.2 (fun q _ h => h) (fun q h => h) (fun H locs hw _ _ hS => ?_)
        obtain ⟨Z32, V32, ⟨hlx32, hkz32⟩, hw⟩ := hw
        replace hw := MS.mk hw hS
        have hzb32 : ZB tp t x0 (n + (stl 1 P).1.length) so on (nI 0) (lxQ tp t p0) ((kOp P + 1) :: r) Z32 V32 := ⟨hlx32, (congrFun (hkz32 12 (by decide) (by decide) (by decide) (by decide)) 0).trans ((up2_ne (Or.inl (by decide))).trans ((up2_ne (Or.inl (by decide))).trans hzb31.2.1)), (congrFun (hkz32 14 (by decide) (by decide) (by decide) (by decide)) 0).trans ((up2_ne (Or.inl (by decide))).trans ((up2_ne (Or.inl (by decide))).trans hzb31.2.2.1)), (congrFun (hkz32 17 (by decide) (by decide) (by decide) (by decide)) 0).trans ((up2_ne (Or.inl (by decide))).trans ((up2_ne (Or.inl (by decide))).trans hzb31.2.2.2.1)), kPl_k (fun j9 => congrFun (hkz32 16 (by decide) (by decide) (by decide) (by decide)) j9) _ (kPl_k (fun j9 => (up2_ne (Or.inl (by decide))).trans rfl) _ (kPl_top (by omega) (fun j9 => by rw [hr2]) hzb31.2.2.2.2.1)), ((congrFun (hkz32 18 (by decide) (by decide) (by decide) (by decide)) 0).trans ((up2_ne (Or.inl (by decide))).trans ((up2_ne (Or.inl (by decide))).trans hzb31.2.2.2.2.2.1))).trans (congrArg nI (hop2).symm), (congrFun (hkz32 19 (by decide) (by decide) (by decide) (by decide)) 0).trans up2_at, (congrFun (hkz32 20 (by decide) (by decide) (by decide) (by decide)) 0).trans ((up2_ne (Or.inl (by decide))).trans ((up2_ne (Or.inl (by decide))).trans hzb31.2.2.2.2.2.2.2.1)), (congrFun (hkz32 21 (by decide) (by decide) (by decide) (by decide)) 0).trans ((up2_ne (Or.inl (by decide))).trans ((up2_ne (Or.inl (by decide))).trans hzb31.2.2.2.2.2.2.2.2))⟩
        have hlq32 := lxQ_le (tp := tp) (t := t) (p0 := p0) (by omega)
        refine lv_iconst (v := nI 1) hx hb dX2_behindOne_205 (by decide) ?_
        have ebh : bhO tp t p0 P = (true, (stl 1 P).1, lxQ tp t p0, (kOp P + 1) :: r, false) := by
          unfold bhO
          rw [hbt]
          simp only []
          rw [if_neg (fun h9 => by rcases h9 with ⟨a1, a2, a3⟩ | ⟨a1, a2⟩ <;> first | omega | exact a3 hm1 | exact absurd a1 (by assumption)), if_pos (Or.inr ⟨by omega, by omega⟩), hr1]
          try rfl
        exact c_iret (v := nI 1) (by rw [ebh]; exact (bI_t rfl).symm) hx hb hr rfl hlocks ⟨_, _, (by rw [ebh]; exact hzb32), mH.to (by rw [ebh] <;> exact rfl) rfl rfl hw.1⟩ hw.2 dX2_behindOne_206
      refine lv_iload hx hb dX2_behindOne_146 (lv_at hl 0 rfl) ?_
      refine lv_bipush (v := nI 41) hx hb dX2_behindOne_148 (by decide) ?_
      refine n_icmp_ne (tgt := 160) hx hb dX2_behindOne_150 (by decide) (by omega) (by decide) (fun c_72 => ?_) (fun c_72 => ?_)
      · refine lv_aload_n hx hb dX2_behindOne_160 rfl (lv_at hl 3 rfl) ?_
        refine m_g_token hx hb hts hown hK hw dX2_behindOne_161 ?_
        rw [show Z 9 0 = nI (lxT tp t p0) from hZ.1.2.2.1]
        refine lv_bipush (v := nI 58) hx hb dX2_behindOne_164 (by decide) ?_
        refine n_icmp_ne (tgt := 199) hx hb dX2_behindOne_166 (by decide) (by omega) (by decide) (fun c_73 => ?_) (fun c_73 => ?_)
        · refine lv_iconst (v := nI 0) hx hb dX2_behindOne_199 (by decide) ?_
          have ebh : bhO tp t p0 P = (false, [], p0, P, true) := by
            unfold bhO
            rw [hbt]
            simp only []
            rw [if_neg (fun h9 => by rcases h9 with ⟨a1, a2, a3⟩ | ⟨a1, a2⟩ <;> first | omega | exact a3 hm1 | exact absurd a1 (by assumption)), if_neg (fun h9 => by rcases h9 with ⟨a1, a2, a3⟩ | ⟨a1, a2⟩ <;> first | omega | exact absurd a3 (by assumption))]
          exact c_iret (v := nI 0) (by rw [ebh]; exact (bI_f (by simp)).symm) hx hb hr rfl hlocks ⟨_, _, (by rw [ebh]; exact hw1 ▸ hZ), mH.to (by rw [ebh] <;> exact rfl) rfl rfl hw.1⟩ hw.2 dX2_behindOne_200
        refine lv_iload hx hb dX2_behindOne_169 (lv_at hl 0 rfl) ?_
        refine lv_bipush (v := nI 42) hx hb dX2_behindOne_171 (by decide) ?_
        refine n_icmp_ne (tgt := 199) hx hb dX2_behindOne_173 (by decide) (by omega) (by decide) (fun c_74 => ?_) (fun c_74 => ?_)
        · refine lv_iconst (v := nI 0) hx hb dX2_behindOne_199 (by decide) ?_
          have ebh : bhO tp t p0 P = (false, [], p0, P, true) := by
            unfold bhO
            rw [hbt]
            simp only []
            rw [if_neg (fun h9 => by rcases h9 with ⟨a1, a2, a3⟩ | ⟨a1, a2⟩ <;> first | omega | exact a3 hm1 | exact absurd a1 (by assumption)), if_neg (fun h9 => by rcases h9 with ⟨a1, a2, a3⟩ | ⟨a1, a2⟩ <;> first | omega | exact absurd a3 (by assumption))]
          exact c_iret (v := nI 0) (by rw [ebh]; exact (bI_f (by simp)).symm) hx hb hr rfl hlocks ⟨_, _, (by rw [ebh]; exact hw1 ▸ hZ), mH.to (by rw [ebh] <;> exact rfl) rfl rfl hw.1⟩ hw.2 dX2_behindOne_200
        refine lv_aload_n hx hb dX2_behindOne_176 rfl (lv_at hl 3 rfl) ?_
        refine lv_iconst (v := nI 1) hx hb dX2_behindOne_177 (by decide) ?_
        refine c_call (va_runV (As := [.int (nI 1)]) (rest := []) ⟨hx, hb, hml, hown, hts⟩ (met_X2_settle l G ad M Z V tp t x0 n so p0 on w0 P hT ⟨hZ.1, hZ.2.1, hZ.2.2.1, hZ.2.2.2.1, hZ.2.2.2.2.1, hZ.2.2.2.2.2.1, hZ.2.2.2.2.2.2.1, hZ.2.2.2.2.2.2.2.1, hZ.2.2.2.2.2.2.2.2⟩ hx0 (by omega) (by omega) (by omega) 1 (by omega)) (cv_X2_X2_settle hts ⟨Nat.le_of_ble_eq_true rfl, Nat.le_of_ble_eq_true rfl⟩) (cP.preV hK hw.1 (hw.1.recv hK)) rfl rfl hl.1 rfl (lv_room (Nat.le_of_ble_eq_true rfl)) dX2_behindOne_178 ⟨by first | exact Nat.zero_le _ | omega | decide, by first | exact Nat.zero_le _ | omega | decide⟩) hw.2 (fun q _ h => h) (fun q h => h) (fun H locs hw _ _ hS => ?_)
        obtain ⟨Z33, V33, hzb33, hw⟩ := hw
        replace hw := MS.mk hw hS
        have hsl33 := stl_len 1 P
        obtain ⟨r, hr1, hr2, hr3⟩ := stl1_top hj hm1 (by omega)
        rw [hr1] at hzb33 hsl33
        have hsl9 : (stl 1 P).1.length + (r.length + 1) = P.length := hsl33
        have hop : opn (kOp P :: r) = opn r + 1 := by rw [opn_c, if_pos (by omega)]
        refine lv_aload_n hx hb dX2_behindOne_181 rfl (lv_at hl 3 rfl) ?_
        refine m_g_pile hx hb hts hown hK hw dX2_behindOne_182 ?_
        refine lv_iload_n hx hb dX2_behindOne_185 rfl (lv_at hl 1 rfl) ?_
        refine lv_iload hx hb dX2_behindOne_186 (lv_at hl 0 rfl) ?_
        refine lv_iconst (v := nI 1) hx hb dX2_behindOne_188 (by decide) ?_
        refine n_iadd hx hb dX2_behindOne_189 ?_
        refine m_s_pile (j := j) hx hb hK hw (by omega) dX2_behindOne_190 (fun H locs hw => ?_)
        have hop2 : opn ((kOp P + 1) :: r) = opn (kOp P :: r) := by rw [opn_c, opn_c, if_pos (by omega), if_pos (by omega)]
        refine lv_aload_n hx hb dX2_behindOne_191 rfl (lv_at hl 3 rfl) ?_
        refine lv_iconst (v := nI 0) hx hb dX2_behindOne_192 (by decide) ?_
        refine m_p_isWhole hx hb hts hown hK hw rfl rfl dX2_behindOne_193 (fun H locs hw => ?_)
        refine lv_goto (tgt := 201) hx hb dX2_behindOne_196 (by decide) ?_
        refine lv_aload_n hx hb dX2_behindOne_201 rfl (lv_at hl 3 rfl) ?_
        refine c_call (va_runV (As := []) (rest := []) ⟨hx, hb, hml, hown, hts⟩ (met_X2_nextToken l G ad (putC M (x0 + 75) n (stl 1 P).1) (up2 (up2 Z33 16 j (nI (kOp P + 1))) 19 0 (nI 0)) V33 tp t (lxQ tp t p0) (show TP tp t (putC M (x0 + 75) n (stl 1 P).1) from TP_putC hT) ((up2_ne (Or.inl (by decide))).trans ((up2_ne (Or.inl (by decide))).trans hzb33.1.1)) (lxQ_le (by omega))) (cv_X2_X2_nextToken hts ⟨Nat.le_of_ble_eq_true rfl, Nat.le_of_ble_eq_true rfl⟩) (cP.preV hK hw.1 (hw.1.recv hK)) rfl rfl hl.1 rfl (lv_room (Nat.le_of_ble_eq_true rfl)) dX2_behindOne_202 ⟨by first | exact Nat.zero_le _ | omega | decide, by first | exact Nat.zero_le _ | omega | decide⟩) hw.2 (fun q _ h => h) (fun q h => h) (fun H locs hw _ _ hS => ?_)
        obtain ⟨Z34, V34, ⟨hlx34, hkz34⟩, hw⟩ := hw
        replace hw := MS.mk hw hS
        have hzb34 : ZB tp t x0 (n + (stl 1 P).1.length) so on (nI 0) (lxQ tp t p0) ((kOp P + 1) :: r) Z34 V34 := ⟨hlx34, (congrFun (hkz34 12 (by decide) (by decide) (by decide) (by decide)) 0).trans ((up2_ne (Or.inl (by decide))).trans ((up2_ne (Or.inl (by decide))).trans hzb33.2.1)), (congrFun (hkz34 14 (by decide) (by decide) (by decide) (by decide)) 0).trans ((up2_ne (Or.inl (by decide))).trans ((up2_ne (Or.inl (by decide))).trans hzb33.2.2.1)), (congrFun (hkz34 17 (by decide) (by decide) (by decide) (by decide)) 0).trans ((up2_ne (Or.inl (by decide))).trans ((up2_ne (Or.inl (by decide))).trans hzb33.2.2.2.1)), kPl_k (fun j9 => congrFun (hkz34 16 (by decide) (by decide) (by decide) (by decide)) j9) _ (kPl_k (fun j9 => (up2_ne (Or.inl (by decide))).trans rfl) _ (kPl_top (by omega) (fun j9 => by rw [hr2]) hzb33.2.2.2.2.1)), ((congrFun (hkz34 18 (by decide) (by decide) (by decide) (by decide)) 0).trans ((up2_ne (Or.inl (by decide))).trans ((up2_ne (Or.inl (by decide))).trans hzb33.2.2.2.2.2.1))).trans (congrArg nI (hop2).symm), (congrFun (hkz34 19 (by decide) (by decide) (by decide) (by decide)) 0).trans up2_at, (congrFun (hkz34 20 (by decide) (by decide) (by decide) (by decide)) 0).trans ((up2_ne (Or.inl (by decide))).trans ((up2_ne (Or.inl (by decide))).trans hzb33.2.2.2.2.2.2.2.1)), (congrFun (hkz34 21 (by decide) (by decide) (by decide) (by decide)) 0).trans ((up2_ne (Or.inl (by decide))).trans ((up2_ne (Or.inl (by decide))).trans hzb33.2.2.2.2.2.2.2.2))⟩
        have hlq34 := lxQ_le (tp := tp) (t := t) (p0 := p0) (by omega)
        refine lv_iconst (v := nI 1) hx hb dX2_behindOne_205 (by decide) ?_
        have ebh : bhO tp t p0 P = (true, (stl 1 P).1, lxQ tp t p0, (kOp P + 1) :: r, false) := by
          unfold bhO
          rw [hbt]
          simp only []
          rw [if_neg (fun h9 => by rcases h9 with ⟨a1, a2, a3⟩ | ⟨a1, a2⟩ <;> first | omega | exact a3 hm1 | exact absurd a1 (by assumption)), if_pos (Or.inr ⟨by omega, by omega⟩), hr1]
          try rfl
        exact c_iret (v := nI 1) (by rw [ebh]; exact (bI_t rfl).symm) hx hb hr rfl hlocks ⟨_, _, (by rw [ebh]; exact hzb34), mH.to (by rw [ebh] <;> exact rfl) rfl rfl hw.1⟩ hw.2 dX2_behindOne_206
      refine lv_aload_n hx hb dX2_behindOne_153 rfl (lv_at hl 3 rfl) ?_
      refine c_read (va_runV (As := []) (rest := []) ⟨hx, hb, hml, hown, hts⟩ (met_X2_isCompared l G ad M Z V P hZ.2.2.2.1 hZ.2.2.2.2.1 (by omega)) (cv_X2_X2_isCompared hts ⟨Nat.le_of_ble_eq_true rfl, Nat.le_of_ble_eq_true rfl⟩) (cP.preV hK hw.1 (hw.1.recv hK)) rfl rfl hl.1 rfl (lv_room (Nat.le_of_ble_eq_true rfl)) dX2_behindOne_154 ⟨by first | exact Nat.zero_le _ | omega | decide, by first | exact Nat.zero_le _ | omega | decide⟩) ?_
      refine b_if_ne (tgt := 176) hx hb dX2_behindOne_157 (by decide) (fun c_75 => ?_) (fun c_75 => ?_)
      · refine lv_aload_n hx hb dX2_behindOne_176 rfl (lv_at hl 3 rfl) ?_
        refine lv_iconst (v := nI 1) hx hb dX2_behindOne_177 (by decide) ?_
        refine c_call (va_runV (As := [.int (nI 1)]) (rest := []) ⟨hx, hb, hml, hown, hts⟩ (met_X2_settle l G ad M Z V tp t x0 n so p0 on w0 P hT ⟨hZ.1, hZ.2.1, hZ.2.2.1, hZ.2.2.2.1, hZ.2.2.2.2.1, hZ.2.2.2.2.2.1, hZ.2.2.2.2.2.2.1, hZ.2.2.2.2.2.2.2.1, hZ.2.2.2.2.2.2.2.2⟩ hx0 (by omega) (by omega) (by omega) 1 (by omega)) (cv_X2_X2_settle hts ⟨Nat.le_of_ble_eq_true rfl, Nat.le_of_ble_eq_true rfl⟩) (cP.preV hK hw.1 (hw.1.recv hK)) rfl rfl hl.1 rfl (lv_room (Nat.le_of_ble_eq_true rfl)) dX2_behindOne_178 ⟨by first | exact Nat.zero_le _ | omega | decide, by first | exact Nat.zero_le _ | omega | decide⟩) hw.2 (fun q _ h => h) (fun q h => h) (fun H locs hw _ _ hS => ?_)
        obtain ⟨Z35, V35, hzb35, hw⟩ := hw
        replace hw := MS.mk hw hS
        have hsl35 := stl_len 1 P
        obtain ⟨r, hr1, hr2, hr3⟩ := stl1_top hj hm1 (by omega)
        rw [hr1] at hzb35 hsl35
        have hsl9 : (stl 1 P).1.length + (r.length + 1) = P.length := hsl35
        have hop : opn (kOp P :: r) = opn r + 1 := by rw [opn_c, if_pos (by omega)]
        refine lv_aload_n hx hb dX2_behindOne_181 rfl (lv_at hl 3 rfl) ?_
        refine m_g_pile hx hb hts hown hK hw dX2_behindOne_182 ?_
        refine lv_iload_n hx hb dX2_behindOne_185 rfl (lv_at hl 1 rfl) ?_
        refine lv_iload hx hb dX2_behindOne_186 (lv_at hl 0 rfl) ?_
        refine lv_iconst (v := nI 1) hx hb dX2_behindOne_188 (by decide) ?_
        refine n_iadd hx hb dX2_behindOne_189 ?_
        refine m_s_pile (j := j) hx hb hK hw (by omega) dX2_behindOne_190 (fun H locs hw => ?_)
        have hop2 : opn ((kOp P + 1) :: r) = opn (kOp P :: r) := by rw [opn_c, opn_c, if_pos (by omega), if_pos (by omega)]
        refine lv_aload_n hx hb dX2_behindOne_191 rfl (lv_at hl 3 rfl) ?_
        refine lv_iconst (v := nI 0) hx hb dX2_behindOne_192 (by decide) ?_
        refine m_p_isWhole hx hb hts hown hK hw rfl rfl dX2_behindOne_193 (fun H locs hw => ?_)
        refine lv_goto (tgt := 201) hx hb dX2_behindOne_196 (by decide) ?_
        refine lv_aload_n hx hb dX2_behindOne_201 rfl (lv_at hl 3 rfl) ?_
        refine c_call (va_runV (As := []) (rest := []) ⟨hx, hb, hml, hown, hts⟩ (met_X2_nextToken l G ad (putC M (x0 + 75) n (stl 1 P).1) (up2 (up2 Z35 16 j (nI (kOp P + 1))) 19 0 (nI 0)) V35 tp t (lxQ tp t p0) (show TP tp t (putC M (x0 + 75) n (stl 1 P).1) from TP_putC hT) ((up2_ne (Or.inl (by decide))).trans ((up2_ne (Or.inl (by decide))).trans hzb35.1.1)) (lxQ_le (by omega))) (cv_X2_X2_nextToken hts ⟨Nat.le_of_ble_eq_true rfl, Nat.le_of_ble_eq_true rfl⟩) (cP.preV hK hw.1 (hw.1.recv hK)) rfl rfl hl.1 rfl (lv_room (Nat.le_of_ble_eq_true rfl)) dX2_behindOne_202 ⟨by first | exact Nat.zero_le _ | omega | decide, by first | exact Nat.zero_le _ | omega | decide⟩) hw.2 (fun q _ h => h) (fun q h => h) (fun H locs hw _ _ hS => ?_)
        obtain ⟨Z36, V36, ⟨hlx36, hkz36⟩, hw⟩ := hw
        replace hw := MS.mk hw hS
        have hzb36 : ZB tp t x0 (n + (stl 1 P).1.length) so on (nI 0) (lxQ tp t p0) ((kOp P + 1) :: r) Z36 V36 := ⟨hlx36, (congrFun (hkz36 12 (by decide) (by decide) (by decide) (by decide)) 0).trans ((up2_ne (Or.inl (by decide))).trans ((up2_ne (Or.inl (by decide))).trans hzb35.2.1)), (congrFun (hkz36 14 (by decide) (by decide) (by decide) (by decide)) 0).trans ((up2_ne (Or.inl (by decide))).trans ((up2_ne (Or.inl (by decide))).trans hzb35.2.2.1)), (congrFun (hkz36 17 (by decide) (by decide) (by decide) (by decide)) 0).trans ((up2_ne (Or.inl (by decide))).trans ((up2_ne (Or.inl (by decide))).trans hzb35.2.2.2.1)), kPl_k (fun j9 => congrFun (hkz36 16 (by decide) (by decide) (by decide) (by decide)) j9) _ (kPl_k (fun j9 => (up2_ne (Or.inl (by decide))).trans rfl) _ (kPl_top (by omega) (fun j9 => by rw [hr2]) hzb35.2.2.2.2.1)), ((congrFun (hkz36 18 (by decide) (by decide) (by decide) (by decide)) 0).trans ((up2_ne (Or.inl (by decide))).trans ((up2_ne (Or.inl (by decide))).trans hzb35.2.2.2.2.2.1))).trans (congrArg nI (hop2).symm), (congrFun (hkz36 19 (by decide) (by decide) (by decide) (by decide)) 0).trans up2_at, (congrFun (hkz36 20 (by decide) (by decide) (by decide) (by decide)) 0).trans ((up2_ne (Or.inl (by decide))).trans ((up2_ne (Or.inl (by decide))).trans hzb35.2.2.2.2.2.2.2.1)), (congrFun (hkz36 21 (by decide) (by decide) (by decide) (by decide)) 0).trans ((up2_ne (Or.inl (by decide))).trans ((up2_ne (Or.inl (by decide))).trans hzb35.2.2.2.2.2.2.2.2))⟩
        have hlq36 := lxQ_le (tp := tp) (t := t) (p0 := p0) (by omega)
        refine lv_iconst (v := nI 1) hx hb dX2_behindOne_205 (by decide) ?_
        have ebh : bhO tp t p0 P = (true, (stl 1 P).1, lxQ tp t p0, (kOp P + 1) :: r, false) := by
          unfold bhO
          rw [hbt]
          simp only []
          rw [if_neg (fun h9 => by rcases h9 with ⟨a1, a2, a3⟩ | ⟨a1, a2⟩ <;> first | omega | exact a3 hm1 | exact absurd a1 (by assumption)), if_pos (Or.inl ⟨by omega, by omega, c_75⟩), hr1]
          try rfl
        exact c_iret (v := nI 1) (by rw [ebh]; exact (bI_t rfl).symm) hx hb hr rfl hlocks ⟨_, _, (by rw [ebh]; exact hzb36), mH.to (by rw [ebh] <;> exact rfl) rfl rfl hw.1⟩ hw.2 dX2_behindOne_206
      refine lv_aload_n hx hb dX2_behindOne_160 rfl (lv_at hl 3 rfl) ?_
      refine m_g_token hx hb hts hown hK hw dX2_behindOne_161 ?_
      rw [show Z 9 0 = nI (lxT tp t p0) from hZ.1.2.2.1]
      refine lv_bipush (v := nI 58) hx hb dX2_behindOne_164 (by decide) ?_
      refine n_icmp_ne (tgt := 199) hx hb dX2_behindOne_166 (by decide) (by omega) (by decide) (fun c_76 => ?_) (fun c_76 => ?_)
      · refine lv_iconst (v := nI 0) hx hb dX2_behindOne_199 (by decide) ?_
        have ebh : bhO tp t p0 P = (false, [], p0, P, true) := by
          unfold bhO
          rw [hbt]
          simp only []
          rw [if_neg (fun h9 => by rcases h9 with ⟨a1, a2, a3⟩ | ⟨a1, a2⟩ <;> first | omega | exact a3 hm1 | exact absurd a1 (by assumption)), if_neg (fun h9 => by rcases h9 with ⟨a1, a2, a3⟩ | ⟨a1, a2⟩ <;> first | omega | exact absurd a3 (by assumption))]
        exact c_iret (v := nI 0) (by rw [ebh]; exact (bI_f (by simp)).symm) hx hb hr rfl hlocks ⟨_, _, (by rw [ebh]; exact hw1 ▸ hZ), mH.to (by rw [ebh] <;> exact rfl) rfl rfl hw.1⟩ hw.2 dX2_behindOne_200
      refine lv_iload hx hb dX2_behindOne_169 (lv_at hl 0 rfl) ?_
      refine lv_bipush (v := nI 42) hx hb dX2_behindOne_171 (by decide) ?_
      refine n_icmp_ne (tgt := 199) hx hb dX2_behindOne_173 (by decide) (by omega) (by decide) (fun c_77 => ?_) (fun c_77 => ?_)
      · refine lv_iconst (v := nI 0) hx hb dX2_behindOne_199 (by decide) ?_
        have ebh : bhO tp t p0 P = (false, [], p0, P, true) := by
          unfold bhO
          rw [hbt]
          simp only []
          rw [if_neg (fun h9 => by rcases h9 with ⟨a1, a2, a3⟩ | ⟨a1, a2⟩ <;> first | omega | exact a3 hm1 | exact absurd a1 (by assumption)), if_neg (fun h9 => by rcases h9 with ⟨a1, a2, a3⟩ | ⟨a1, a2⟩ <;> first | omega | exact absurd a3 (by assumption))]
        exact c_iret (v := nI 0) (by rw [ebh]; exact (bI_f (by simp)).symm) hx hb hr rfl hlocks ⟨_, _, (by rw [ebh]; exact hw1 ▸ hZ), mH.to (by rw [ebh] <;> exact rfl) rfl rfl hw.1⟩ hw.2 dX2_behindOne_200
      refine lv_aload_n hx hb dX2_behindOne_176 rfl (lv_at hl 3 rfl) ?_
      refine lv_iconst (v := nI 1) hx hb dX2_behindOne_177 (by decide) ?_
      refine c_call (va_runV (As := [.int (nI 1)]) (rest := []) ⟨hx, hb, hml, hown, hts⟩ (met_X2_settle l G ad M Z V tp t x0 n so p0 on w0 P hT ⟨hZ.1, hZ.2.1, hZ.2.2.1, hZ.2.2.2.1, hZ.2.2.2.2.1, hZ.2.2.2.2.2.1, hZ.2.2.2.2.2.2.1, hZ.2.2.2.2.2.2.2.1, hZ.2.2.2.2.2.2.2.2⟩ hx0 (by omega) (by omega) (by omega) 1 (by omega)) (cv_X2_X2_settle hts ⟨Nat.le_of_ble_eq_true rfl, Nat.le_of_ble_eq_true rfl⟩) (cP.preV hK hw.1 (hw.1.recv hK)) rfl rfl hl.1 rfl (lv_room (Nat.le_of_ble_eq_true rfl)) dX2_behindOne_178 ⟨by first | exact Nat.zero_le _ | omega | decide, by first | exact Nat.zero_le _ | omega | decide⟩) hw.2 (fun q _ h => h) (fun q h => h) (fun H locs hw _ _ hS => ?_)
      obtain ⟨Z37, V37, hzb37, hw⟩ := hw
      replace hw := MS.mk hw hS
      have hsl37 := stl_len 1 P
      obtain ⟨r, hr1, hr2, hr3⟩ := stl1_top hj hm1 (by omega)
      rw [hr1] at hzb37 hsl37
      have hsl9 : (stl 1 P).1.length + (r.length + 1) = P.length := hsl37
      have hop : opn (kOp P :: r) = opn r + 1 := by rw [opn_c, if_pos (by omega)]
      refine lv_aload_n hx hb dX2_behindOne_181 rfl (lv_at hl 3 rfl) ?_
      refine m_g_pile hx hb hts hown hK hw dX2_behindOne_182 ?_
      refine lv_iload_n hx hb dX2_behindOne_185 rfl (lv_at hl 1 rfl) ?_
      refine lv_iload hx hb dX2_behindOne_186 (lv_at hl 0 rfl) ?_
      refine lv_iconst (v := nI 1) hx hb dX2_behindOne_188 (by decide) ?_
      refine n_iadd hx hb dX2_behindOne_189 ?_
      refine m_s_pile (j := j) hx hb hK hw (by omega) dX2_behindOne_190 (fun H locs hw => ?_)
      have hop2 : opn ((kOp P + 1) :: r) = opn (kOp P :: r) := by rw [opn_c, opn_c, if_pos (by omega), if_pos (by omega)]
      refine lv_aload_n hx hb dX2_behindOne_191 rfl (lv_at hl 3 rfl) ?_
      refine lv_iconst (v := nI 0) hx hb dX2_behindOne_192 (by decide) ?_
      refine m_p_isWhole hx hb hts hown hK hw rfl rfl dX2_behindOne_193 (fun H locs hw => ?_)
      refine lv_goto (tgt := 201) hx hb dX2_behindOne_196 (by decide) ?_
      refine lv_aload_n hx hb dX2_behindOne_201 rfl (lv_at hl 3 rfl) ?_
      refine c_call (va_runV (As := []) (rest := []) ⟨hx, hb, hml, hown, hts⟩ (met_X2_nextToken l G ad (putC M (x0 + 75) n (stl 1 P).1) (up2 (up2 Z37 16 j (nI (kOp P + 1))) 19 0 (nI 0)) V37 tp t (lxQ tp t p0) (show TP tp t (putC M (x0 + 75) n (stl 1 P).1) from TP_putC hT) ((up2_ne (Or.inl (by decide))).trans ((up2_ne (Or.inl (by decide))).trans hzb37.1.1)) (lxQ_le (by omega))) (cv_X2_X2_nextToken hts ⟨Nat.le_of_ble_eq_true rfl, Nat.le_of_ble_eq_true rfl⟩) (cP.preV hK hw.1 (hw.1.recv hK)) rfl rfl hl.1 rfl (lv_room (Nat.le_of_ble_eq_true rfl)) dX2_behindOne_202 ⟨by first | exact Nat.zero_le _ | omega | decide, by first | exact Nat.zero_le _ | omega | decide⟩) hw.2 (fun q _ h => h) (fun q h => h) (fun H locs hw _ _ hS => ?_)
      obtain ⟨Z38, V38, ⟨hlx38, hkz38⟩, hw⟩ := hw
      replace hw := MS.mk hw hS
      have hzb38 : ZB tp t x0 (n + (stl 1 P).1.length) so on (nI 0) (lxQ tp t p0) ((kOp P + 1) :: r) Z38 V38 := ⟨hlx38, (congrFun (hkz38 12 (by decide) (by decide) (by decide) (by decide)) 0).trans ((up2_ne (Or.inl (by decide))).trans ((up2_ne (Or.inl (by decide))).trans hzb37.2.1)), (congrFun (hkz38 14 (by decide) (by decide) (by decide) (by decide)) 0).trans ((up2_ne (Or.inl (by decide))).trans ((up2_ne (Or.inl (by decide))).trans hzb37.2.2.1)), (congrFun (hkz38 17 (by decide) (by decide) (by decide) (by decide)) 0).trans ((up2_ne (Or.inl (by decide))).trans ((up2_ne (Or.inl (by decide))).trans hzb37.2.2.2.1)), kPl_k (fun j9 => congrFun (hkz38 16 (by decide) (by decide) (by decide) (by decide)) j9) _ (kPl_k (fun j9 => (up2_ne (Or.inl (by decide))).trans rfl) _ (kPl_top (by omega) (fun j9 => by rw [hr2]) hzb37.2.2.2.2.1)), ((congrFun (hkz38 18 (by decide) (by decide) (by decide) (by decide)) 0).trans ((up2_ne (Or.inl (by decide))).trans ((up2_ne (Or.inl (by decide))).trans hzb37.2.2.2.2.2.1))).trans (congrArg nI (hop2).symm), (congrFun (hkz38 19 (by decide) (by decide) (by decide) (by decide)) 0).trans up2_at, (congrFun (hkz38 20 (by decide) (by decide) (by decide) (by decide)) 0).trans ((up2_ne (Or.inl (by decide))).trans ((up2_ne (Or.inl (by decide))).trans hzb37.2.2.2.2.2.2.2.1)), (congrFun (hkz38 21 (by decide) (by decide) (by decide) (by decide)) 0).trans ((up2_ne (Or.inl (by decide))).trans ((up2_ne (Or.inl (by decide))).trans hzb37.2.2.2.2.2.2.2.2))⟩
      have hlq38 := lxQ_le (tp := tp) (t := t) (p0 := p0) (by omega)
      refine lv_iconst (v := nI 1) hx hb dX2_behindOne_205 (by decide) ?_
      have ebh : bhO tp t p0 P = (true, (stl 1 P).1, lxQ tp t p0, (kOp P + 1) :: r, false) := by
        unfold bhO
        rw [hbt]
        simp only []
        rw [if_neg (fun h9 => by rcases h9 with ⟨a1, a2, a3⟩ | ⟨a1, a2⟩ <;> first | omega | exact a3 hm1 | exact absurd a1 (by assumption)), if_pos (Or.inr ⟨by omega, by omega⟩), hr1]
        try rfl
      exact c_iret (v := nI 1) (by rw [ebh]; exact (bI_t rfl).symm) hx hb hr rfl hlocks ⟨_, _, (by rw [ebh]; exact hzb38), mH.to (by rw [ebh] <;> exact rfl) rfl rfl hw.1⟩ hw.2 dX2_behindOne_206
    refine lv_aload_n hx hb dX2_behindOne_91 rfl (lv_at hl 3 rfl) ?_
    refine lv_iconst (v := nI 1) hx hb dX2_behindOne_92 (by decide) ?_
    refine c_call (va_runV (As := [.int (nI 1)]) (rest := []) ⟨hx, hb, hml, hown, hts⟩ (met_X2_settle l G ad M Z V tp t x0 n so p0 on w0 P hT ⟨hZ.1, hZ.2.1, hZ.2.2.1, hZ.2.2.2.1, hZ.2.2.2.2.1, hZ.2.2.2.2.2.1, hZ.2.2.2.2.2.2.1, hZ.2.2.2.2.2.2.2.1, hZ.2.2.2.2.2.2.2.2⟩ hx0 (by omega) (by omega) (by omega) 1 (by omega)) (cv_X2_X2_settle hts ⟨Nat.le_of_ble_eq_true rfl, Nat.le_of_ble_eq_true rfl⟩) (cP.preV hK hw.1 (hw.1.recv hK)) rfl rfl hl.1 rfl (lv_room (Nat.le_of_ble_eq_true rfl)) dX2_behindOne_93 ⟨by first | exact Nat.zero_le _ | omega | decide, by first | exact Nat.zero_le _ | omega | decide⟩) hw.2 (fun q _ h => h) (fun q h => h) (fun H locs hw _ _ hS => ?_)
    obtain ⟨Z39, V39, hzb39, hw⟩ := hw
    replace hw := MS.mk hw hS
    have hsl39 := stl_len 1 P
    obtain ⟨r, hr1, hr2, hr3⟩ := stl1_top hj hm1 (by omega)
    rw [hr1] at hzb39 hsl39
    have hsl9 : (stl 1 P).1.length + (r.length + 1) = P.length := hsl39
    have hop : opn (kOp P :: r) = opn r + 1 := by rw [opn_c, if_pos (by omega)]
    refine lv_aload_n hx hb dX2_behindOne_96 rfl (lv_at hl 3 rfl) ?_
    refine lv_dup hx hb dX2_behindOne_97 rfl ?_
    refine m_g_piled hx hb hts hown hK hw dX2_behindOne_98 ?_
    rw [show Z39 17 0 = nI (r.length + 1) from hzb39.2.2.2.1]
    refine lv_iconst (v := nI 1) hx hb dX2_behindOne_101 (by decide) ?_
    refine n_isub hx hb (by omega) dX2_behindOne_102 ?_
    refine m_p_piled hx hb hts hown hK hw dX2_behindOne_103 (fun H locs hw => ?_)
    refine lv_aload_n hx hb dX2_behindOne_106 rfl (lv_at hl 3 rfl) ?_
    refine lv_dup hx hb dX2_behindOne_107 rfl ?_
    refine m_g_opens hx hb hts hown hK hw dX2_behindOne_108 ?_
    rw [show (up2 Z39 17 0 (nI ((r.length + 1) - 1))) 18 0 = nI (opn (kOp P :: r)) from (up2_ne (Or.inl (by decide))).trans hzb39.2.2.2.2.2.1]
    refine lv_iconst (v := nI 1) hx hb dX2_behindOne_111 (by decide) ?_
    refine n_isub hx hb (by omega) dX2_behindOne_112 ?_
    refine m_p_opens hx hb hts hown hK hw dX2_behindOne_113 (fun H locs hw => ?_)
    have hop2 : opn r = opn (kOp P :: r) - 1 := by omega
    refine lv_iload hx hb dX2_behindOne_116 (lv_at hl 0 rfl) ?_
    refine lv_bipush (v := nI 43) hx hb dX2_behindOne_118 (by decide) ?_
    refine n_icmp_ne (tgt := 130) hx hb dX2_behindOne_120 (by decide) (by omega) (by decide) (fun c_78 => ?_) (fun c_78 => ?_)
    · exfalso; omega
    refine lv_aload_n hx hb dX2_behindOne_123 rfl (lv_at hl 3 rfl) ?_
    refine lv_bipush (v := nI 23) hx hb dX2_behindOne_124 (by decide) ?_
    refine lv_iconst (v := nI 0) hx hb dX2_behindOne_126 (by decide) ?_
    refine c_call (va_runV (As := [.int (nI 23), .int (nI 0)]) (rest := []) ⟨hx, hb, hml, hown, hts⟩ (met_X2_emit l G ad (putC M (x0 + 75) n (stl 1 P).1) (up2 (up2 Z39 17 0 (nI ((r.length + 1) - 1))) 18 0 (nI ((opn (kOp P :: r)) - 1))) V39 x0 (n + (stl 1 P).1.length) (nI 23) (nI 0) ((up2_ne (Or.inl (by decide))).trans ((up2_ne (Or.inl (by decide))).trans hzb39.2.1)) ((up2_ne (Or.inl (by decide))).trans ((up2_ne (Or.inl (by decide))).trans hzb39.2.2.1)) (by omega)) (cv_X2_X2_emit hts ⟨Nat.le_of_ble_eq_true rfl, Nat.le_of_ble_eq_true rfl⟩) (cP.preV hK hw.1 (hw.1.recv hK)) rfl rfl hl.1 rfl (lv_room (Nat.le_of_ble_eq_true rfl)) dX2_behindOne_127 ⟨by first | exact Nat.zero_le _ | omega | decide, by first | exact Nat.zero_le _ | omega | decide⟩) hw.2 (fun q _ h => h) (fun q h => h) (fun H locs hw _ _ hS => ?_)
    replace hw := MS.mk hw hS
    refine lv_aload_n hx hb dX2_behindOne_130 rfl (lv_at hl 3 rfl) ?_
    refine c_call (va_runV (As := []) (rest := []) ⟨hx, hb, hml, hown, hts⟩ (met_X2_whole l G ad (up2 (up2 (putC M (x0 + 75) n (stl 1 P).1) 2 (x0 + 75 + 2 * (n + (stl 1 P).1.length)) (nI 23)) 2 (x0 + 75 + 2 * (n + (stl 1 P).1.length) + 1) (nI 0)) (up2 (up2 (up2 Z39 17 0 (nI ((r.length + 1) - 1))) 18 0 (nI ((opn (kOp P :: r)) - 1))) 14 0 (nI (n + (stl 1 P).1.length + 1))) V39 tp t x0 (n + (stl 1 P).1.length + 1) so p0 on w0 r (⟨((up2_ne (Or.inl (by decide))).trans ((up2_ne (Or.inl (by decide))).trans rfl)).trans (show TP tp t (putC M (x0 + 75) n (stl 1 P).1) from TP_putC hT).1, (show TP tp t (putC M (x0 + 75) n (stl 1 P).1) from TP_putC hT).2.1, fun j9 h9 => ⟨((up2_ne (Or.inl (by decide))).trans ((up2_ne (Or.inl (by decide))).trans rfl)).trans ((show TP tp t (putC M (x0 + 75) n (stl 1 P).1) from TP_putC hT).2.2 j9 h9).1, ((show TP tp t (putC M (x0 + 75) n (stl 1 P).1) from TP_putC hT).2.2 j9 h9).2⟩⟩) ⟨(LX_k ((up2_ne (Or.inl (by decide))).trans ((up2_ne (Or.inl (by decide))).trans ((up2_ne (Or.inl (by decide))).trans rfl))) ((up2_ne (Or.inl (by decide))).trans ((up2_ne (Or.inl (by decide))).trans ((up2_ne (Or.inl (by decide))).trans rfl))) ((up2_ne (Or.inl (by decide))).trans ((up2_ne (Or.inl (by decide))).trans ((up2_ne (Or.inl (by decide))).trans rfl))) ((up2_ne (Or.inl (by decide))).trans ((up2_ne (Or.inl (by decide))).trans ((up2_ne (Or.inl (by decide))).trans rfl))) rfl hzb39.1), ((up2_ne (Or.inl (by decide))).trans ((up2_ne (Or.inl (by decide))).trans ((up2_ne (Or.inl (by decide))).trans hzb39.2.1))), up2_at, ((up2_ne (Or.inl (by decide))).trans ((up2_ne (Or.inl (by decide))).trans up2_at)), (kPl_k (fun j9 => (up2_ne (Or.inl (by decide))).trans rfl) _ (kPl_k (fun j9 => (up2_ne (Or.inl (by decide))).trans ((up2_ne (Or.inl (by decide))).trans rfl)) _ hzb39.2.2.2.2.1.2.2)), ((((up2_ne (Or.inl (by decide))).trans up2_at)).trans (congrArg nI (hop2).symm)), ((up2_ne (Or.inl (by decide))).trans ((up2_ne (Or.inl (by decide))).trans ((up2_ne (Or.inl (by decide))).trans hzb39.2.2.2.2.2.2.1))), ((up2_ne (Or.inl (by decide))).trans ((up2_ne (Or.inl (by decide))).trans ((up2_ne (Or.inl (by decide))).trans hzb39.2.2.2.2.2.2.2.1))), ((up2_ne (Or.inl (by decide))).trans ((up2_ne (Or.inl (by decide))).trans ((up2_ne (Or.inl (by decide))).trans hzb39.2.2.2.2.2.2.2.2)))⟩ hx0 (by omega) (by omega) (by omega)) (cv_X2_X2_whole hts ⟨Nat.le_of_ble_eq_true rfl, Nat.le_of_ble_eq_true rfl⟩) (cP.preV hK hw.1 (hw.1.recv hK)) rfl rfl hl.1 rfl (lv_room (Nat.le_of_ble_eq_true rfl)) dX2_behindOne_131 ⟨by first | exact Nat.zero_le _ | omega | decide, by first | exact Nat.zero_le _ | omega | decide⟩) hw.2 (fun q _ h => h) (fun q h => h) (fun H locs hw _ _ hS => ?_)
    obtain ⟨Z40, V40, hzb40, hw⟩ := hw
    replace hw := MS.mk hw hS
    have hsl40 := stl_len 7 r
    refine lv_goto (tgt := 201) hx hb dX2_behindOne_134 (by decide) ?_
    refine lv_aload_n hx hb dX2_behindOne_201 rfl (lv_at hl 3 rfl) ?_
    refine c_call (va_runV (As := []) (rest := []) ⟨hx, hb, hml, hown, hts⟩ (met_X2_nextToken l G ad (putC (up2 (up2 (putC M (x0 + 75) n (stl 1 P).1) 2 (x0 + 75 + 2 * (n + (stl 1 P).1.length)) (nI 23)) 2 (x0 + 75 + 2 * (n + (stl 1 P).1.length) + 1) (nI 0)) (x0 + 75) (n + (stl 1 P).1.length + 1) (stl 7 r).1) Z40 V40 tp t (lxQ tp t p0) (show TP tp t (putC (up2 (up2 (putC M (x0 + 75) n (stl 1 P).1) 2 (x0 + 75 + 2 * (n + (stl 1 P).1.length)) (nI 23)) 2 (x0 + 75 + 2 * (n + (stl 1 P).1.length) + 1) (nI 0)) (x0 + 75) (n + (stl 1 P).1.length + 1) (stl 7 r).1) from TP_putC (⟨((up2_ne (Or.inl (by decide))).trans ((up2_ne (Or.inl (by decide))).trans rfl)).trans (show TP tp t (putC M (x0 + 75) n (stl 1 P).1) from TP_putC hT).1, (show TP tp t (putC M (x0 + 75) n (stl 1 P).1) from TP_putC hT).2.1, fun j9 h9 => ⟨((up2_ne (Or.inl (by decide))).trans ((up2_ne (Or.inl (by decide))).trans rfl)).trans ((show TP tp t (putC M (x0 + 75) n (stl 1 P).1) from TP_putC hT).2.2 j9 h9).1, ((show TP tp t (putC M (x0 + 75) n (stl 1 P).1) from TP_putC hT).2.2 j9 h9).2⟩⟩)) hzb40.1.1 (lxQ_le (by omega))) (cv_X2_X2_nextToken hts ⟨Nat.le_of_ble_eq_true rfl, Nat.le_of_ble_eq_true rfl⟩) (cP.preV hK hw.1 (hw.1.recv hK)) rfl rfl hl.1 rfl (lv_room (Nat.le_of_ble_eq_true rfl)) dX2_behindOne_202 ⟨by first | exact Nat.zero_le _ | omega | decide, by first | exact Nat.zero_le _ | omega | decide⟩) hw.2 (fun q _ h => h) (fun q h => h) (fun H locs hw _ _ hS => ?_)
    obtain ⟨Z41, V41, ⟨hlx41, hkz41⟩, hw⟩ := hw
    replace hw := MS.mk hw hS
    have hzb41 : ZB tp t x0 (n + (stl 1 P).1.length + 1 + (stl 7 r).1.length) so on (nI 1) (lxQ tp t p0) ((stl 7 r).2) Z41 V41 := ⟨hlx41, (congrFun (hkz41 12 (by decide) (by decide) (by decide) (by decide)) 0).trans hzb40.2.1, (congrFun (hkz41 14 (by decide) (by decide) (by decide) (by decide)) 0).trans hzb40.2.2.1, (congrFun (hkz41 17 (by decide) (by decide) (by decide) (by decide)) 0).trans hzb40.2.2.2.1, kPl_k (fun j9 => congrFun (hkz41 16 (by decide) (by decide) (by decide) (by decide)) j9) _ hzb40.2.2.2.2.1, (congrFun (hkz41 18 (by decide) (by decide) (by decide) (by decide)) 0).trans hzb40.2.2.2.2.2.1, (congrFun (hkz41 19 (by decide) (by decide) (by decide) (by decide)) 0).trans hzb40.2.2.2.2.2.2.1, (congrFun (hkz41 20 (by decide) (by decide) (by decide) (by decide)) 0).trans hzb40.2.2.2.2.2.2.2.1, (congrFun (hkz41 21 (by decide) (by decide) (by decide) (by decide)) 0).trans hzb40.2.2.2.2.2.2.2.2⟩
    have hlq41 := lxQ_le (tp := tp) (t := t) (p0 := p0) (by omega)
    refine lv_iconst (v := nI 1) hx hb dX2_behindOne_205 (by decide) ?_
    have ebh : bhO tp t p0 P = (true, (stl 1 P).1 ++ ((23, nI 0) :: (stl 7 r).1), lxQ tp t p0, (stl 7 r).2, true) := by
      unfold bhO
      rw [hbt]
      simp only []
      rw [if_pos (Or.inr ⟨c_58, by omega⟩), if_pos (by omega), hr1]
      rfl
    exact c_iret (v := nI 1) (by rw [ebh]; exact (bI_t rfl).symm) hx hb hr rfl hlocks ⟨_, _, (by rw [ebh]; exact ZB_n (by simp; omega) hzb41), mH.to (by rw [ebh] <;> exact (putC_app (x0 + 75) (stl 1 P).1 ((23, nI 0) :: (stl 7 r).1) M n).symm) rfl rfl hw.1⟩ hw.2 dX2_behindOne_206
  rw [show oI (some b) = nI b from rfl]
  have hbi := btO_in hbt
  have hbr := rk_le b
  have hopb : ∀ r9, opn (b :: r9) = opn r9 := fun r9 => by rw [opn_c, if_neg (by omega)]; rfl
  refine lv_istore_n (lv' := [(2, .int (nI b)), (0, .ref (ad 0)), (1, .int (nI 0))]) hx hb dX2_behindOne_5 rfl hl (by decide) rfl (fun ls hl => ?_)
  refine lv_aload_n hx hb dX2_behindOne_6 rfl (lv_at hl 1 rfl) ?_
  refine c_read (va_runV (As := []) (rest := []) ⟨hx, hb, hml, hown, hts⟩ (met_X2_marker l G ad M Z V P hZ.2.2.2.1 hZ.2.2.2.2.1 (by omega)) (cv_X2_X2_marker hts ⟨Nat.le_of_ble_eq_true rfl, Nat.le_of_ble_eq_true rfl⟩) (cP.preV hK hw.1 (hw.1.recv hK)) rfl rfl hl.1 rfl (lv_room (Nat.le_of_ble_eq_true rfl)) dX2_behindOne_7 ⟨by first | exact Nat.zero_le _ | omega | decide, by first | exact Nat.zero_le _ | omega | decide⟩) ?_
  rcases mkI_split P with ⟨hm1, hm2⟩ | ⟨j, hj, hm1, hm2, hm3⟩
  · rw [hm1]
    refine lv_istore_n (lv' := [(3, .int (-1)), (2, .int (nI b)), (0, .ref (ad 0)), (1, .int (nI 0))]) hx hb dX2_behindOne_10 rfl hl (by decide) rfl (fun ls hl => ?_)
    refine lv_iload_n hx hb dX2_behindOne_11 rfl (lv_at hl 0 rfl) ?_
    refine lv_if_ge (tgt := 19) hx hb dX2_behindOne_12 (by decide) (fun h9 => absurd h9 (by decide)) (fun _ => ?_)
    refine lv_iconst (v := (-1)) hx hb dX2_behindOne_15 (by decide) ?_
    refine lv_goto (tgt := 25) hx hb dX2_behindOne_16 (by decide) ?_
    refine lv_istore (lv' := [(4, .int (-1)), (3, .int (-1)), (2, .int (nI b)), (0, .ref (ad 0)), (1, .int (nI 0))]) hx hb dX2_behindOne_25 hl (by decide) rfl (fun ls hl => ?_)
    refine lv_iload_n hx hb dX2_behindOne_27 rfl (lv_at hl 2 rfl) ?_
    refine n_if_lt (tgt := 52) hx hb dX2_behindOne_28 (by decide) (by omega) ?_
    refine lv_aload_n hx hb dX2_behindOne_31 rfl (lv_at hl 3 rfl) ?_
    refine lv_iload_n hx hb dX2_behindOne_32 rfl (lv_at hl 2 rfl) ?_
    refine c_read (va_runS (As := [.int (nI b)]) (rest := [.ref (ad 0)]) ⟨hx, hb, hml, hown, hts⟩ (met_X2_rank l G b (by omega)) (cs_X2_X2_rank hts ⟨Nat.le_of_ble_eq_true rfl, Nat.le_of_ble_eq_true rfl⟩) (cP.pre hK trivial) rfl rfl hl.1 rfl (lv_room (Nat.le_of_ble_eq_true rfl)) dX2_behindOne_33 ⟨by first | exact Nat.zero_le _ | omega | decide, by first | exact Nat.zero_le _ | omega | decide⟩) ?_
    refine c_call (va_runV (As := [.int (nI (rk b))]) (rest := []) ⟨hx, hb, hml, hown, hts⟩ (met_X2_settle l G ad M Z V tp t x0 n so p0 on w0 P hT ⟨hZ.1, hZ.2.1, hZ.2.2.1, hZ.2.2.2.1, hZ.2.2.2.2.1, hZ.2.2.2.2.2.1, hZ.2.2.2.2.2.2.1, hZ.2.2.2.2.2.2.2.1, hZ.2.2.2.2.2.2.2.2⟩ hx0 (by omega) (by omega) (by omega) (rk b) (by omega)) (cv_X2_X2_settle hts ⟨Nat.le_of_ble_eq_true rfl, Nat.le_of_ble_eq_true rfl⟩) (cP.preV hK hw.1 (hw.1.recv hK)) rfl rfl hl.1 rfl (lv_room (Nat.le_of_ble_eq_true rfl)) dX2_behindOne_36 ⟨by first | exact Nat.zero_le _ | omega | decide, by first | exact Nat.zero_le _ | omega | decide⟩) hw.2 (fun q _ h => h) (fun q h => h) (fun H locs hw _ _ hS => ?_)
    obtain ⟨Z42, V42, hzb42, hw⟩ := hw
    replace hw := MS.mk hw hS
    have hsl42 := stl_len (rk b) P
    have hop := hopb ((stl (rk b) P).2)
    refine lv_aload_n hx hb dX2_behindOne_39 rfl (lv_at hl 3 rfl) ?_
    refine lv_iload_n hx hb dX2_behindOne_40 rfl (lv_at hl 2 rfl) ?_
    refine c_call (va_runV (As := [.int (nI b)]) (rest := []) ⟨hx, hb, hml, hown, hts⟩ (met_X2_push l G ad (putC M (x0 + 75) n (stl (rk b) P).1) Z42 V42 (((stl (rk b) P).2).length) (nI b) hzb42.2.2.2.1 (by omega)) (cv_X2_X2_push hts ⟨Nat.le_of_ble_eq_true rfl, Nat.le_of_ble_eq_true rfl⟩) (cP.preV hK hw.1 (hw.1.recv hK)) rfl rfl hl.1 rfl (lv_room (Nat.le_of_ble_eq_true rfl)) dX2_behindOne_41 ⟨by first | exact Nat.zero_le _ | omega | decide, by first | exact Nat.zero_le _ | omega | decide⟩) hw.2 (fun q _ h => h) (fun q h => h) (fun H locs hw _ _ hS => ?_)
    replace hw := MS.mk hw hS
    refine lv_aload_n hx hb dX2_behindOne_44 rfl (lv_at hl 3 rfl) ?_
    refine lv_iconst (v := nI 0) hx hb dX2_behindOne_45 (by decide) ?_
    refine m_p_isWhole hx hb hts hown hK hw rfl rfl dX2_behindOne_46 (fun H locs hw => ?_)
    refine lv_goto (tgt := 201) hx hb dX2_behindOne_49 (by decide) ?_
    refine lv_aload_n hx hb dX2_behindOne_201 rfl (lv_at hl 3 rfl) ?_
    refine c_call (va_runV (As := []) (rest := []) ⟨hx, hb, hml, hown, hts⟩ (met_X2_nextToken l G ad (putC M (x0 + 75) n (stl (rk b) P).1) (up2 (up2 (up2 Z42 16 (((stl (rk b) P).2).length) (nI b)) 17 0 (nI (((stl (rk b) P).2).length + 1))) 19 0 (nI 0)) V42 tp t (lxQ tp t p0) (show TP tp t (putC M (x0 + 75) n (stl (rk b) P).1) from TP_putC hT) ((up2_ne (Or.inl (by decide))).trans ((up2_ne (Or.inl (by decide))).trans ((up2_ne (Or.inl (by decide))).trans hzb42.1.1))) (lxQ_le (by omega))) (cv_X2_X2_nextToken hts ⟨Nat.le_of_ble_eq_true rfl, Nat.le_of_ble_eq_true rfl⟩) (cP.preV hK hw.1 (hw.1.recv hK)) rfl rfl hl.1 rfl (lv_room (Nat.le_of_ble_eq_true rfl)) dX2_behindOne_202 ⟨by first | exact Nat.zero_le _ | omega | decide, by first | exact Nat.zero_le _ | omega | decide⟩) hw.2 (fun q _ h => h) (fun q h => h) (fun H locs hw _ _ hS => ?_)
    obtain ⟨Z43, V43, ⟨hlx43, hkz43⟩, hw⟩ := hw
    replace hw := MS.mk hw hS
    have hzb43 : ZB tp t x0 (n + (stl (rk b) P).1.length) so on (nI 0) (lxQ tp t p0) (b :: ((stl (rk b) P).2)) Z43 V43 := ⟨hlx43, (congrFun (hkz43 12 (by decide) (by decide) (by decide) (by decide)) 0).trans ((up2_ne (Or.inl (by decide))).trans ((up2_ne (Or.inl (by decide))).trans ((up2_ne (Or.inl (by decide))).trans hzb42.2.1))), (congrFun (hkz43 14 (by decide) (by decide) (by decide) (by decide)) 0).trans ((up2_ne (Or.inl (by decide))).trans ((up2_ne (Or.inl (by decide))).trans ((up2_ne (Or.inl (by decide))).trans hzb42.2.2.1))), (congrFun (hkz43 17 (by decide) (by decide) (by decide) (by decide)) 0).trans ((up2_ne (Or.inl (by decide))).trans up2_at), kPl_k (fun j9 => congrFun (hkz43 16 (by decide) (by decide) (by decide) (by decide)) j9) _ (kPl_k (fun j9 => (up2_ne (Or.inl (by decide))).trans rfl) _ (kPl_push (by omega) (fun j9 => up2_ne (Or.inl (by decide))) hzb42.2.2.2.2.1)), ((congrFun (hkz43 18 (by decide) (by decide) (by decide) (by decide)) 0).trans ((up2_ne (Or.inl (by decide))).trans ((up2_ne (Or.inl (by decide))).trans ((up2_ne (Or.inl (by decide))).trans hzb42.2.2.2.2.2.1)))).trans (congrArg nI (hop).symm), (congrFun (hkz43 19 (by decide) (by decide) (by decide) (by decide)) 0).trans up2_at, (congrFun (hkz43 20 (by decide) (by decide) (by decide) (by decide)) 0).trans ((up2_ne (Or.inl (by decide))).trans ((up2_ne (Or.inl (by decide))).trans ((up2_ne (Or.inl (by decide))).trans hzb42.2.2.2.2.2.2.2.1))), (congrFun (hkz43 21 (by decide) (by decide) (by decide) (by decide)) 0).trans ((up2_ne (Or.inl (by decide))).trans ((up2_ne (Or.inl (by decide))).trans ((up2_ne (Or.inl (by decide))).trans hzb42.2.2.2.2.2.2.2.2)))⟩
    have hlq43 := lxQ_le (tp := tp) (t := t) (p0 := p0) (by omega)
    refine lv_iconst (v := nI 1) hx hb dX2_behindOne_205 (by decide) ?_
    have ebh : bhO tp t p0 P = (true, (stl (rk b) P).1, lxQ tp t p0, b :: (stl (rk b) P).2, false) := by
      unfold bhO
      rw [hbt]
      try rfl
    exact c_iret (v := nI 1) (by rw [ebh]; exact (bI_t rfl).symm) hx hb hr rfl hlocks ⟨_, _, (by rw [ebh]; exact hzb43), mH.to (by rw [ebh] <;> exact rfl) rfl rfl hw.1⟩ hw.2 dX2_behindOne_206
  rw [hm1]
  obtain ⟨hm4, hm5⟩ := hm3 Z hZ.2.2.2.2.1
  refine lv_istore_n (lv' := [(3, .int (nI j)), (2, .int (nI b)), (0, .ref (ad 0)), (1, .int (nI 0))]) hx hb dX2_behindOne_10 rfl hl (by decide) rfl (fun ls hl => ?_)
  refine lv_iload_n hx hb dX2_behindOne_11 rfl (lv_at hl 0 rfl) ?_
  refine n_if_ge (tgt := 19) hx hb dX2_behindOne_12 (by decide) (by omega) ?_
  refine lv_aload_n hx hb dX2_behindOne_19 rfl (lv_at hl 2 rfl) ?_
  refine m_g_pile hx hb hts hown hK hw dX2_behindOne_20 ?_
  refine lv_iload_n hx hb dX2_behindOne_23 rfl (lv_at hl 0 rfl) ?_
  refine m_l_pile (j := j) (v := nI (kOp P)) hx hb hK hw hm4 (by omega) dX2_behindOne_24 ?_
  refine lv_istore (lv' := [(4, .int (nI (kOp P))), (3, .int (nI j)), (2, .int (nI b)), (0, .ref (ad 0)), (1, .int (nI 0))]) hx hb dX2_behindOne_25 hl (by decide) rfl (fun ls hl => ?_)
  refine lv_iload_n hx hb dX2_behindOne_27 rfl (lv_at hl 2 rfl) ?_
  refine n_if_lt (tgt := 52) hx hb dX2_behindOne_28 (by decide) (by omega) ?_
  refine lv_aload_n hx hb dX2_behindOne_31 rfl (lv_at hl 3 rfl) ?_
  refine lv_iload_n hx hb dX2_behindOne_32 rfl (lv_at hl 2 rfl) ?_
  refine c_read (va_runS (As := [.int (nI b)]) (rest := [.ref (ad 0)]) ⟨hx, hb, hml, hown, hts⟩ (met_X2_rank l G b (by omega)) (cs_X2_X2_rank hts ⟨Nat.le_of_ble_eq_true rfl, Nat.le_of_ble_eq_true rfl⟩) (cP.pre hK trivial) rfl rfl hl.1 rfl (lv_room (Nat.le_of_ble_eq_true rfl)) dX2_behindOne_33 ⟨by first | exact Nat.zero_le _ | omega | decide, by first | exact Nat.zero_le _ | omega | decide⟩) ?_
  refine c_call (va_runV (As := [.int (nI (rk b))]) (rest := []) ⟨hx, hb, hml, hown, hts⟩ (met_X2_settle l G ad M Z V tp t x0 n so p0 on w0 P hT ⟨hZ.1, hZ.2.1, hZ.2.2.1, hZ.2.2.2.1, hZ.2.2.2.2.1, hZ.2.2.2.2.2.1, hZ.2.2.2.2.2.2.1, hZ.2.2.2.2.2.2.2.1, hZ.2.2.2.2.2.2.2.2⟩ hx0 (by omega) (by omega) (by omega) (rk b) (by omega)) (cv_X2_X2_settle hts ⟨Nat.le_of_ble_eq_true rfl, Nat.le_of_ble_eq_true rfl⟩) (cP.preV hK hw.1 (hw.1.recv hK)) rfl rfl hl.1 rfl (lv_room (Nat.le_of_ble_eq_true rfl)) dX2_behindOne_36 ⟨by first | exact Nat.zero_le _ | omega | decide, by first | exact Nat.zero_le _ | omega | decide⟩) hw.2 (fun q _ h => h) (fun q h => h) (fun H locs hw _ _ hS => ?_)
  obtain ⟨Z44, V44, hzb44, hw⟩ := hw
  replace hw := MS.mk hw hS
  have hsl44 := stl_len (rk b) P
  have hop := hopb ((stl (rk b) P).2)
  refine lv_aload_n hx hb dX2_behindOne_39 rfl (lv_at hl 3 rfl) ?_
  refine lv_iload_n hx hb dX2_behindOne_40 rfl (lv_at hl 2 rfl) ?_
  refine c_call (va_runV (As := [.int (nI b)]) (rest := []) ⟨hx, hb, hml, hown, hts⟩ (met_X2_push l G ad (putC M (x0 + 75) n (stl (rk b) P).1) Z44 V44 (((stl (rk b) P).2).length) (nI b) hzb44.2.2.2.1 (by omega)) (cv_X2_X2_push hts ⟨Nat.le_of_ble_eq_true rfl, Nat.le_of_ble_eq_true rfl⟩) (cP.preV hK hw.1 (hw.1.recv hK)) rfl rfl hl.1 rfl (lv_room (Nat.le_of_ble_eq_true rfl)) dX2_behindOne_41 ⟨by first | exact Nat.zero_le _ | omega | decide, by first | exact Nat.zero_le _ | omega | decide⟩) hw.2 (fun q _ h => h) (fun q h => h) (fun H locs hw _ _ hS => ?_)
  replace hw := MS.mk hw hS
  refine lv_aload_n hx hb dX2_behindOne_44 rfl (lv_at hl 3 rfl) ?_
  refine lv_iconst (v := nI 0) hx hb dX2_behindOne_45 (by decide) ?_
  refine m_p_isWhole hx hb hts hown hK hw rfl rfl dX2_behindOne_46 (fun H locs hw => ?_)
  refine lv_goto (tgt := 201) hx hb dX2_behindOne_49 (by decide) ?_
  refine lv_aload_n hx hb dX2_behindOne_201 rfl (lv_at hl 3 rfl) ?_
  refine c_call (va_runV (As := []) (rest := []) ⟨hx, hb, hml, hown, hts⟩ (met_X2_nextToken l G ad (putC M (x0 + 75) n (stl (rk b) P).1) (up2 (up2 (up2 Z44 16 (((stl (rk b) P).2).length) (nI b)) 17 0 (nI (((stl (rk b) P).2).length + 1))) 19 0 (nI 0)) V44 tp t (lxQ tp t p0) (show TP tp t (putC M (x0 + 75) n (stl (rk b) P).1) from TP_putC hT) ((up2_ne (Or.inl (by decide))).trans ((up2_ne (Or.inl (by decide))).trans ((up2_ne (Or.inl (by decide))).trans hzb44.1.1))) (lxQ_le (by omega))) (cv_X2_X2_nextToken hts ⟨Nat.le_of_ble_eq_true rfl, Nat.le_of_ble_eq_true rfl⟩) (cP.preV hK hw.1 (hw.1.recv hK)) rfl rfl hl.1 rfl (lv_room (Nat.le_of_ble_eq_true rfl)) dX2_behindOne_202 ⟨by first | exact Nat.zero_le _ | omega | decide, by first | exact Nat.zero_le _ | omega | decide⟩) hw.2 (fun q _ h => h) (fun q h => h) (fun H locs hw _ _ hS => ?_)
  obtain ⟨Z45, V45, ⟨hlx45, hkz45⟩, hw⟩ := hw
  replace hw := MS.mk hw hS
  have hzb45 : ZB tp t x0 (n + (stl (rk b) P).1.length) so on (nI 0) (lxQ tp t p0) (b :: ((stl (rk b) P).2)) Z45 V45 := ⟨hlx45, (congrFun (hkz45 12 (by decide) (by decide) (by decide) (by decide)) 0).trans ((up2_ne (Or.inl (by decide))).trans ((up2_ne (Or.inl (by decide))).trans ((up2_ne (Or.inl (by decide))).trans hzb44.2.1))), (congrFun (hkz45 14 (by decide) (by decide) (by decide) (by decide)) 0).trans ((up2_ne (Or.inl (by decide))).trans ((up2_ne (Or.inl (by decide))).trans ((up2_ne (Or.inl (by decide))).trans hzb44.2.2.1))), (congrFun (hkz45 17 (by decide) (by decide) (by decide) (by decide)) 0).trans ((up2_ne (Or.inl (by decide))).trans up2_at), kPl_k (fun j9 => congrFun (hkz45 16 (by decide) (by decide) (by decide) (by decide)) j9) _ (kPl_k (fun j9 => (up2_ne (Or.inl (by decide))).trans rfl) _ (kPl_push (by omega) (fun j9 => up2_ne (Or.inl (by decide))) hzb44.2.2.2.2.1)), ((congrFun (hkz45 18 (by decide) (by decide) (by decide) (by decide)) 0).trans ((up2_ne (Or.inl (by decide))).trans ((up2_ne (Or.inl (by decide))).trans ((up2_ne (Or.inl (by decide))).trans hzb44.2.2.2.2.2.1)))).trans (congrArg nI (hop).symm), (congrFun (hkz45 19 (by decide) (by decide) (by decide) (by decide)) 0).trans up2_at, (congrFun (hkz45 20 (by decide) (by decide) (by decide) (by decide)) 0).trans ((up2_ne (Or.inl (by decide))).trans ((up2_ne (Or.inl (by decide))).trans ((up2_ne (Or.inl (by decide))).trans hzb44.2.2.2.2.2.2.2.1))), (congrFun (hkz45 21 (by decide) (by decide) (by decide) (by decide)) 0).trans ((up2_ne (Or.inl (by decide))).trans ((up2_ne (Or.inl (by decide))).trans ((up2_ne (Or.inl (by decide))).trans hzb44.2.2.2.2.2.2.2.2)))⟩
  have hlq45 := lxQ_le (tp := tp) (t := t) (p0 := p0) (by omega)
  refine lv_iconst (v := nI 1) hx hb dX2_behindOne_205 (by decide) ?_
  have ebh : bhO tp t p0 P = (true, (stl (rk b) P).1, lxQ tp t p0, b :: (stl (rk b) P).2, false) := by
    unfold bhO
    rw [hbt]
    try rfl
  exact c_iret (v := nI 1) (by rw [ebh]; exact (bI_t rfl).symm) hx hb hr rfl hlocks ⟨_, _, (by rw [ebh]; exact hzb45), mH.to (by rw [ebh] <;> exact rfl) rfl rfl hw.1⟩ hw.2 dX2_behindOne_206
