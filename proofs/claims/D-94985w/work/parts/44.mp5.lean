theorem nI_inj {a b : Nat} (ha : a < 2 ^ 31) (hb : b < 2 ^ 31) (e : nI a = nI b) : a = b := (nI_eq ha hb).mp e
theorem nI_ne_m1 {a : Nat} (ha : a < 2 ^ 31) : nI a ≠ -1 := fun e => by
  have h := (nI_leI (a := 0) (b := a) (by decide) ha).mpr (Nat.zero_le _)
  rw [e] at h
  exact absurd h (by decide)
theorem stl_len (a : Nat) : ∀ P : List Nat, (stl a P).1.length + (stl a P).2.length = P.length
  | [] => rfl
  | x :: r => by
    have := stl_len a r
    unfold stl
    split
    · simp; omega
    · simp
theorem kPl_push {Z Z' : Nat → Nat → Int32} {x : Nat} {P : List Nat} (hx : x < 64) (e : ∀ j, Z' 16 j = up2 Z 16 P.length (nI x) 16 j) (h : kPl Z P) : kPl Z' (x :: P) := ⟨(e _).trans up2_at, hx, kPl_k e P (kPl_up P (Nat.le_refl _) h)⟩
theorem kPl_top {Z Z' : Nat → Nat → Int32} {x y : Nat} {P : List Nat} (hx : x < 64) (e : ∀ j, Z' 16 j = up2 Z 16 P.length (nI x) 16 j) (h : kPl Z (y :: P)) : kPl Z' (x :: P) := kPl_push hx e h.2.2
theorem stl1_top : ∀ {P : List Nat} {j : Nat}, j < P.length → mkI P = nI j → P.length ≤ 160 → ∃ r, (stl 1 P).2 = kOp P :: r ∧ r.length = j ∧ opn (kOp P :: r) ≤ opn P
  | [], j, h, _, _ => absurd h (Nat.not_lt_zero _)
  | x :: r, j, h, e, h9 => by
    have h8 : r.length + 1 ≤ 160 := h9
    unfold mkI at e
    by_cases c : 40 ≤ x
    · rw [if_pos c] at e
      have e2 : r.length = j := nI_inj (by omega) (by simp at h; omega) e
      refine ⟨r, ?_, e2, ?_⟩
      · unfold stl kOp
        rw [if_neg (by rw [rk_0 c]; decide), if_pos c]
      · unfold kOp
        rw [if_pos c]
        exact Nat.le_refl _
    · rw [if_neg c] at e
      by_cases hj : j < r.length
      · obtain ⟨r', h1, h2, h3⟩ := stl1_top hj e (by omega)
        refine ⟨r', ?_, h2, ?_⟩
        · show (stl 1 (x :: r)).2 = kOp (x :: r) :: r'
          rw [show kOp (x :: r) = kOp r from if_neg c, ← h1]
          have h4 : 1 ≤ rk x := by unfold rk; rw [if_neg c]; (repeat' split) <;> omega
          rw [show stl 1 (x :: r) = ((x, nI 0) :: (stl 1 r).1, (stl 1 r).2) from if_pos h4]
        · rw [show kOp (x :: r) = kOp r from if_neg c]
          have : opn r ≤ opn (x :: r) := by rw [opn_c]; omega
          omega
      · rcases mkI_split r with ⟨h1, _⟩ | ⟨j2, h1, h2, _⟩
        · rw [h1] at e
          exact absurd e.symm (nI_ne_m1 (by simp at h; omega))
        · rw [h2] at e
          have := nI_inj (by omega) (by simp at h; omega) e
          omega
set_option maxHeartbeats 4000000 in
set_option maxRecDepth 100000 in
theorem met_X2_whole (l : Launch) (G : gG) (ad : Nat → Nat) (M Z : Nat → Nat → Int32) (V : Nat → Nat → Int64) (tp : Nat → Nat) (t x0 n so p0 : Nat) (on w0 : Int32) (P : List Nat) (hT : TP tp t M) (hZ : ZB tp t x0 n so on w0 p0 P Z V) (hx0 : x0 ≤ 2040) (hp0 : p0 ≤ t) (hnP : n + P.length ≤ 302) (hP160 : P.length ≤ 159) : Met l yX2_whole (ws_ yX2_whole cX2_whole 1 none) ({ frames := 2, cells := 0, slots := 0, locals := 43 } : Room) (cP G [.ref (ad 0)] (mH G ad M Z V)) (cQ none (fun H => ∃ Z9 V9, ZB tp t x0 (n + (stl 7 P).1.length) so on (nI 1) p0 ((stl 7 P).2) Z9 V9 ∧ mH G ad (putC M (x0 + 75) n (stl 7 P).1) Z9 V9 H) (mA ad)) 0 0 (mA ad) := by
  refine c_start (by decide) (Nat.le_of_ble_eq_true rfl) ?_
  intro p e s m below meth c hx hb hr hlocks hml hown hts hB hK ls hl
  have hw := MS.of hB
  have hl : lv_has ls 1 [(0, .ref (ad 0))] := hl
  have hT9 := lxT_lt hT p0
  refine lv_aload_n hx hb dX2_whole_0 rfl (lv_at hl 0 rfl) ?_
  refine lv_iconst (v := nI 1) hx hb dX2_whole_1 (by decide) ?_
  refine m_p_isWhole hx hb hts hown hK hw rfl rfl dX2_whole_2 (fun H locs hw => ?_)
  refine lv_aload_n hx hb dX2_whole_5 rfl (lv_at hl 0 rfl) ?_
  refine lv_bipush (v := nI 7) hx hb dX2_whole_6 (by decide) ?_
  refine c_call (va_runV (As := [.int (nI 7)]) (rest := []) ⟨hx, hb, hml, hown, hts⟩ (met_X2_settle l G ad M (up2 Z 19 0 (nI 1)) V tp t x0 n so p0 on (nI 1) P hT ⟨(LX_k ((up2_ne (Or.inl (by decide))).trans rfl) ((up2_ne (Or.inl (by decide))).trans rfl) ((up2_ne (Or.inl (by decide))).trans rfl) ((up2_ne (Or.inl (by decide))).trans rfl) rfl hZ.1), ((up2_ne (Or.inl (by decide))).trans hZ.2.1), ((up2_ne (Or.inl (by decide))).trans hZ.2.2.1), ((up2_ne (Or.inl (by decide))).trans hZ.2.2.2.1), (kPl_k (fun j9 => (up2_ne (Or.inl (by decide))).trans rfl) _ hZ.2.2.2.2.1), ((up2_ne (Or.inl (by decide))).trans hZ.2.2.2.2.2.1), up2_at, ((up2_ne (Or.inl (by decide))).trans hZ.2.2.2.2.2.2.2.1), ((up2_ne (Or.inl (by decide))).trans hZ.2.2.2.2.2.2.2.2)⟩ hx0 (by omega) (by omega) (by omega) 7 (by omega)) (cv_X2_X2_settle hts ⟨Nat.le_of_ble_eq_true rfl, Nat.le_of_ble_eq_true rfl⟩) (cP.preV hK hw.1 (hw.1.recv hK)) rfl rfl hl.1 rfl (lv_room (Nat.le_of_ble_eq_true rfl)) dX2_whole_8 ⟨by first | exact Nat.zero_le _ | omega | decide, by first | exact Nat.zero_le _ | omega | decide⟩) hw.2 (fun q _ h => h) (fun q h => h) (fun H locs hw _ _ hS => ?_)
  obtain ⟨Z1, V1, hzb1, hw⟩ := hw
  replace hw := MS.mk hw hS
  have hsl1 := stl_len 7 P
  exact c_vret hx hb hr hlocks ⟨_, _, hzb1, mH.to rfl rfl rfl hw.1⟩ hw.2 dX2_whole_11
set_option maxHeartbeats 4000000 in
set_option maxRecDepth 100000 in
theorem met_X2_opensBy (l : Launch) (G : gG) (ad : Nat → Nat) (M Z : Nat → Nat → Int32) (V : Nat → Nat → Int64) (tp : Nat → Nat) (t x0 n so p0 : Nat) (on w0 : Int32) (P : List Nat) (hT : TP tp t M) (hZ : ZB tp t x0 n so on w0 p0 P Z V) (hx0 : x0 ≤ 2040) (hp0 : p0 ≤ t) (hnP : n + P.length ≤ 302) (hP160 : P.length ≤ 159) (x : Nat) (hx64 : x < 64) (hxo : x = 2 ∨ x = 20 ∨ 40 ≤ x) : Met l yX2_opensBy (ws_ yX2_opensBy cX2_opensBy 2 (some .int)) ({ frames := 3, cells := 0, slots := 0, locals := 64 } : Room) (cP G [.ref (ad 0), .int (nI x)] (mH G ad M Z V)) (cQ (some (.int (nI (if opn P = 8 then 3 else 0)))) (fun H => ∃ Z9 V9, ZB tp t x0 n so on w0 (if opn P = 8 then p0 else lxQ tp t p0) (if opn P = 8 then P else x :: P) Z9 V9 ∧ mH G ad M Z9 V9 H) (mA ad)) 0 0 (mA ad) := by
  refine c_start (by decide) (Nat.le_of_ble_eq_true rfl) ?_
  intro p e s m below meth c hx hb hr hlocks hml hown hts hB hK ls hl
  have hw := MS.of hB
  have hl : lv_has ls 2 [(0, .ref (ad 0)), (1, .int (nI x))] := hl
  have hT9 := lxT_lt hT p0
  have hopl := opn_le P
  refine lv_aload_n hx hb dX2_opensBy_0 rfl (lv_at hl 0 rfl) ?_
  refine m_g_opens hx hb hts hown hK hw dX2_opensBy_1 ?_
  rw [show Z 18 0 = nI (opn P) from hZ.2.2.2.2.2.1]
  refine lv_bipush (v := nI 8) hx hb dX2_opensBy_4 (by decide) ?_
  refine n_icmp_ne (tgt := 11) hx hb dX2_opensBy_6 (by decide) (by omega) (by decide) (fun c_1 => ?_) (fun c_1 => ?_)
  · have hop : opn (x :: P) = opn P + 1 := by rw [opn_c, if_pos hxo]
    refine lv_aload_n hx hb dX2_opensBy_11 rfl (lv_at hl 0 rfl) ?_
    refine lv_dup hx hb dX2_opensBy_12 rfl ?_
    refine m_g_opens hx hb hts hown hK hw dX2_opensBy_13 ?_
    rw [show Z 18 0 = nI (opn P) from hZ.2.2.2.2.2.1]
    refine lv_iconst (v := nI 1) hx hb dX2_opensBy_16 (by decide) ?_
    refine n_iadd hx hb dX2_opensBy_17 ?_
    refine m_p_opens hx hb hts hown hK hw dX2_opensBy_18 (fun H locs hw => ?_)
    refine lv_aload_n hx hb dX2_opensBy_21 rfl (lv_at hl 0 rfl) ?_
    refine lv_iload_n hx hb dX2_opensBy_22 rfl (lv_at hl 1 rfl) ?_
    refine c_call (va_runV (As := [.int (nI x)]) (rest := []) ⟨hx, hb, hml, hown, hts⟩ (met_X2_push l G ad M (up2 Z 18 0 (nI (opn P + 1))) V P.length (nI x) ((up2_ne (Or.inl (by decide))).trans hZ.2.2.2.1) (by omega)) (cv_X2_X2_push hts ⟨Nat.le_of_ble_eq_true rfl, Nat.le_of_ble_eq_true rfl⟩) (cP.preV hK hw.1 (hw.1.recv hK)) rfl rfl hl.1 rfl (lv_room (Nat.le_of_ble_eq_true rfl)) dX2_opensBy_23 ⟨by first | exact Nat.zero_le _ | omega | decide, by first | exact Nat.zero_le _ | omega | decide⟩) hw.2 (fun q _ h => h) (fun q h => h) (fun H locs hw _ _ hS => ?_)
    replace hw := MS.mk hw hS
    refine lv_aload_n hx hb dX2_opensBy_26 rfl (lv_at hl 0 rfl) ?_
    refine c_call (va_runV (As := []) (rest := []) ⟨hx, hb, hml, hown, hts⟩ (met_X2_nextToken l G ad M (up2 (up2 (up2 Z 18 0 (nI (opn P + 1))) 16 P.length (nI x)) 17 0 (nI (P.length + 1))) V tp t (lxQ tp t p0) hT ((up2_ne (Or.inl (by decide))).trans ((up2_ne (Or.inl (by decide))).trans ((up2_ne (Or.inl (by decide))).trans hZ.1.1))) (lxQ_le (by omega))) (cv_X2_X2_nextToken hts ⟨Nat.le_of_ble_eq_true rfl, Nat.le_of_ble_eq_true rfl⟩) (cP.preV hK hw.1 (hw.1.recv hK)) rfl rfl hl.1 rfl (lv_room (Nat.le_of_ble_eq_true rfl)) dX2_opensBy_27 ⟨by first | exact Nat.zero_le _ | omega | decide, by first | exact Nat.zero_le _ | omega | decide⟩) hw.2 (fun q _ h => h) (fun q h => h) (fun H locs hw _ _ hS => ?_)
    obtain ⟨Z1, V1, ⟨hlx1, hkz1⟩, hw⟩ := hw
    replace hw := MS.mk hw hS
    have hzb1 : ZB tp t x0 n so on w0 (lxQ tp t p0) (x :: P) Z1 V1 := ⟨hlx1, (congrFun (hkz1 12 (by decide) (by decide) (by decide) (by decide)) 0).trans ((up2_ne (Or.inl (by decide))).trans ((up2_ne (Or.inl (by decide))).trans ((up2_ne (Or.inl (by decide))).trans hZ.2.1))), (congrFun (hkz1 14 (by decide) (by decide) (by decide) (by decide)) 0).trans ((up2_ne (Or.inl (by decide))).trans ((up2_ne (Or.inl (by decide))).trans ((up2_ne (Or.inl (by decide))).trans hZ.2.2.1))), (congrFun (hkz1 17 (by decide) (by decide) (by decide) (by decide)) 0).trans up2_at, kPl_k (fun j9 => congrFun (hkz1 16 (by decide) (by decide) (by decide) (by decide)) j9) _ (kPl_push (by omega) (fun j9 => up2_ne (Or.inl (by decide))) (kPl_k (fun j9 => (up2_ne (Or.inl (by decide))).trans rfl) _ hZ.2.2.2.2.1)), ((congrFun (hkz1 18 (by decide) (by decide) (by decide) (by decide)) 0).trans ((up2_ne (Or.inl (by decide))).trans ((up2_ne (Or.inl (by decide))).trans up2_at))).trans (congrArg nI (hop).symm), (congrFun (hkz1 19 (by decide) (by decide) (by decide) (by decide)) 0).trans ((up2_ne (Or.inl (by decide))).trans ((up2_ne (Or.inl (by decide))).trans ((up2_ne (Or.inl (by decide))).trans hZ.2.2.2.2.2.2.1))), (congrFun (hkz1 20 (by decide) (by decide) (by decide) (by decide)) 0).trans ((up2_ne (Or.inl (by decide))).trans ((up2_ne (Or.inl (by decide))).trans ((up2_ne (Or.inl (by decide))).trans hZ.2.2.2.2.2.2.2.1))), (congrFun (hkz1 21 (by decide) (by decide) (by decide) (by decide)) 0).trans ((up2_ne (Or.inl (by decide))).trans ((up2_ne (Or.inl (by decide))).trans ((up2_ne (Or.inl (by decide))).trans hZ.2.2.2.2.2.2.2.2)))⟩
    have hlq1 := lxQ_le (tp := tp) (t := t) (p0 := p0) (by omega)
    refine lv_iconst (v := nI 0) hx hb dX2_opensBy_30 (by decide) ?_
    exact c_iret (v := nI 0) (by rw [if_neg c_1]) hx hb hr rfl hlocks ⟨_, _, (by rw [if_neg c_1, if_neg c_1]; exact hzb1), mH.to rfl rfl rfl hw.1⟩ hw.2 dX2_opensBy_31
  refine lv_iconst (v := nI 3) hx hb dX2_opensBy_9 (by decide) ?_
  exact c_iret (v := nI 3) (by rw [if_pos c_1]) hx hb hr rfl hlocks ⟨_, _, (by rw [if_pos c_1, if_pos c_1]; exact hZ), mH.to rfl rfl rfl hw.1⟩ hw.2 dX2_opensBy_10
