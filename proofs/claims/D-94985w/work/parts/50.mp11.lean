theorem lxQ_ge {tp : Nat → Nat} {t p : Nat} : p ≤ lxQ tp t p := Nat.le_trans (lxS_ge tp t p) lxQ_geS
theorem fgO_le (tp : Nat → Nat) (t p lo hi : Nat) : fgO tp t p lo hi ≤ 2 := by
  rcases fgO_c tp t p lo hi with h | h | h <;> omega
theorem blw_p {tp : Nat → Nat} {t k p : Nat} {M : Nat → Nat → Int32} (hp : p ≤ t) : p ≤ (blw tp t k p M).2.2 ∧ (blw tp t k p M).2.2 ≤ t ∧ (blw tp t k p M).1 ≤ 2 := by
  have a1 : p ≤ (lxQ tp t p) := lxQ_ge
  have b1 := lxQ_le (tp := tp) hp
  have a2 : (lxQ tp t p) ≤ (lxQ tp t (lxQ tp t p)) := lxQ_ge
  have b2 := lxQ_le (tp := tp) b1
  have a3 : (lxQ tp t (lxQ tp t p)) ≤ (lxQ tp t (lxQ tp t (lxQ tp t p))) := lxQ_ge
  have b3 := lxQ_le (tp := tp) b2
  have a4 : (lxQ tp t (lxQ tp t (lxQ tp t p))) ≤ (lxQ tp t (lxQ tp t (lxQ tp t (lxQ tp t p)))) := lxQ_ge
  have b4 := lxQ_le (tp := tp) b3
  have a5 : (lxQ tp t (lxQ tp t (lxQ tp t (lxQ tp t p)))) ≤ (lxQ tp t (lxQ tp t (lxQ tp t (lxQ tp t (lxQ tp t p))))) := lxQ_ge
  have b5 := lxQ_le (tp := tp) b4
  have f1 := fgO_le tp t p 0 9
  have f2 := fgO_le tp t (lxQ tp t (lxQ tp t p)) 0 5
  have f3 := fgO_le tp t (lxQ tp t (lxQ tp t (lxQ tp t (lxQ tp t p)))) 1 9
  unfold blw
  repeat' split
  all_goals (dsimp only; omega)
theorem lin_p {tp : Nat → Nat} {t s k p : Nat} {M : Nat → Nat → Int32} (hp : p ≤ t) : p ≤ (lin tp t s k p M).2.2 ∧ (lin tp t s k p M).2.2 ≤ t ∧ (lin tp t s k p M).1 ≤ 2 := by
  have a1 : p ≤ (lxQ tp t p) := lxQ_ge
  have b1 := lxQ_le (tp := tp) hp
  have f1 := fgO_le tp t p 0 5
  have f2 := fgO_le tp t p 1 99
  unfold lin
  by_cases c4 : s = 4
  · rw [if_pos c4]; dsimp only; split <;> omega
  · rw [if_neg c4]
    by_cases c6 : s = 6
    · rw [if_pos c6]; dsimp only; split <;> omega
    · rw [if_neg c6]; exact blw_p hp
theorem prs_le {tp : Nat → Nat} {t so : Nat} : ∀ (f p : Nat) (P : List Nat) (w : Bool), (prs tp t so f p P w).1 ≤ 5
  | 0, _, _, _ => Nat.zero_le _
  | f + 1, p, P, true => by
    by_cases cb : (bhO tp t p P).1 = true
    · have e : prs tp t so (f + 1) p P true = _ := pif_t cb
      rw [e]
      exact prs_le f _ _ _
    · have e : prs tp t so (f + 1) p P true = (if mkI P = -1 then 0 else 1, [], p, P, true) := pif_f cb
      rw [e]
      show (if mkI P = -1 then 0 else 1) ≤ 5
      split <;> omega
  | f + 1, p, P, false => by
    by_cases cb : (bgO tp t so p P).1 = 0
    · have e : prs tp t so (f + 1) p P false = _ := pif_t cb
      rw [e]
      exact prs_le f _ _ _
    · have e : prs tp t so (f + 1) p P false = bgO tp t so p P := pif_f cb
      rw [e]
      rcases bgO_e (tp := tp) (t := t) (so := so) (p := p) (P := P) with h | h <;> omega
theorem psd_le {tp : Nat → Nat} {t so p0 : Nat} : (psd tp t so p0).1 ≤ 5 := by
  unfold psd
  split
  · exact Nat.zero_le _
  · exact prs_le _ _ _ _
set_option maxHeartbeats 4000000 in
set_option maxRecDepth 100000 in
theorem met_X2_clause (l : Launch) (G : gG) (ad : Nat → Nat) (M Z : Nat → Nat → Int32) (V : Nat → Nat → Int64) (tp : Nat → Nat) (t x0 n so p0 cn : Nat) (on w0 : Int32) (hT : TP tp t M) (hZ : ZC tp t x0 n so on w0 p0 Z V) (hx0 : x0 ≤ 2040) (hp0 : p0 ≤ t) (hnp : n ≤ p0) (hc : M 2 x0 = nI cn) (hc24 : cn ≤ 24) : Met l yX2_clause (ws_ yX2_clause cX2_clause 6 (some .int)) ({ frames := 6, cells := 0, slots := 0, locals := 136 } : Room) (cP G [.ref (ad 0)] (mH G ad M Z V)) (cQ (some (.int (nI (cls tp t x0 cn p0 n on M).1))) (fun H => ∃ Z9 V9, (Z9 8 0 = nI (lxS tp t (cls tp t x0 cn p0 n on M).2.2.1) ∧ ((cls tp t x0 cn p0 n on M).1 = 0 → ∃ so9 w9, ZC tp t x0 (cls tp t x0 cn p0 n on M).2.2.2.1 so9 (cls tp t x0 cn p0 n on M).2.2.2.2 w9 (cls tp t x0 cn p0 n on M).2.2.1 Z9 V9)) ∧ mH G ad ((cls tp t x0 cn p0 n on M).2.1) Z9 V9 H) (mA ad)) 0 0 (mA ad) := by
  refine c_start (by decide) (Nat.le_of_ble_eq_true rfl) ?_
  intro p e s m below meth c hx hb hr hlocks hml hown hts hB hK ls hl
  have hw := MS.of hB
  have hl : lv_has ls 6 [(0, .ref (ad 0))] := hl
  have ht3 := hT.2.1
  have hN9 := lxN_lt tp t
  have hT9 := lxT_lt hT
  have hl0 : ([] : List Nat).length = 0 := rfl
  refine lv_aload_n hx hb dX2_clause_0 rfl (lv_at hl 0 rfl) ?_
  refine c_read (va_runV (As := []) (rest := []) ⟨hx, hb, hml, hown, hts⟩ (met_X2_sortOf l G ad M Z V tp t x0 n so p0 on w0 hT ⟨hZ.1, hZ.2.1, hZ.2.2.1, trivial, trivial, hZ.2.2.2.2.2.1, hZ.2.2.2.2.2.2.1, hZ.2.2.2.2.2.2.2.1, hZ.2.2.2.2.2.2.2.2⟩ hx0 (by omega)) (cv_X2_X2_sortOf hts ⟨Nat.le_of_ble_eq_true rfl, Nat.le_of_ble_eq_true rfl⟩) (cP.preV hK hw.1 (hw.1.recv hK)) rfl rfl hl.1 rfl (lv_room (Nat.le_of_ble_eq_true rfl)) dX2_clause_1 ⟨by first | exact Nat.zero_le _ | omega | decide, by first | exact Nat.zero_le _ | omega | decide⟩) ?_
  rcases hso : soO tp t p0 with _ | sr
  · rw [show oI none = (-1) from rfl]
    refine lv_istore_n (lv' := [(1, .int (-1)), (0, .ref (ad 0))]) hx hb dX2_clause_4 rfl hl (by decide) rfl (fun ls hl => ?_)
    refine lv_iload_n hx hb dX2_clause_5 rfl (lv_at hl 0 rfl) ?_
    refine lv_if_ge (tgt := 11) hx hb dX2_clause_6 (by decide) (fun h9 => absurd h9 (by decide)) (fun _ => ?_)
    refine lv_iconst (v := nI 1) hx hb dX2_clause_9 (by decide) ?_
    have ecl : cls tp t x0 cn p0 n on M = (1, M, p0, n, on) := by
      unfold cls
      rw [hso]
    exact c_iret (v := nI 1) (by rw [ecl]) hx hb hr rfl hlocks ⟨_, _, (by rw [ecl]; exact ⟨hZ.1.2.1, fun h9 => absurd h9 (by dsimp only; omega)⟩), mH.to (by rw [ecl]) rfl rfl hw.1⟩ hw.2 dX2_clause_10
  rw [show oI (some sr) = nI sr from rfl]
  have hs7 := (soO_lt hso).1
  have hlt0 := (soO_lt hso).2
  have hgt0 := lxQ_gt hlt0
  refine lv_istore_n (lv' := [(1, .int (nI sr)), (0, .ref (ad 0))]) hx hb dX2_clause_4 rfl hl (by decide) rfl (fun ls hl => ?_)
  refine lv_iload_n hx hb dX2_clause_5 rfl (lv_at hl 0 rfl) ?_
  refine n_if_ge (tgt := 11) hx hb dX2_clause_6 (by decide) (by omega) ?_
  refine lv_iload_n hx hb dX2_clause_11 rfl (lv_at hl 0 rfl) ?_
  refine lv_iconst (v := nI 4) hx hb dX2_clause_12 (by decide) ?_
  refine n_icmp_ge (tgt := 30) hx hb dX2_clause_13 (by decide) (by omega) (by decide) (fun c_2 => ?_) (fun c_2 => ?_)
  · refine lv_aload_n hx hb dX2_clause_30 rfl (lv_at hl 1 rfl) ?_
    refine m_g_texts hx hb hts hown hK hw dX2_clause_31 ?_
    refine lv_aload_n hx hb dX2_clause_34 rfl (lv_at hl 1 rfl) ?_
    refine m_g_text0 hx hb hts hown hK hw dX2_clause_35 ?_
    rw [show Z 12 0 = nI x0 from hZ.2.1]
    refine m_l_texts (j := x0) (v := nI cn) hx hb hK hw hc (by omega) dX2_clause_38 ?_
    refine lv_istore_n (lv' := [(2, .int (nI cn)), (1, .int (nI sr)), (0, .ref (ad 0))]) hx hb dX2_clause_39 rfl hl (by decide) rfl (fun ls hl => ?_)
    refine lv_iload_n hx hb dX2_clause_40 rfl (lv_at hl 0 rfl) ?_
    refine lv_bipush (v := nI 24) hx hb dX2_clause_41 (by decide) ?_
    refine n_icmp_ne (tgt := 49) hx hb dX2_clause_43 (by decide) (by omega) (by decide) (fun c_3 => ?_) (fun c_3 => ?_)
    · refine lv_iload_n hx hb dX2_clause_49 rfl (lv_at hl 1 rfl) ?_
      refine lv_iconst (v := nI 4) hx hb dX2_clause_50 (by decide) ?_
      refine n_icmp_ge (tgt := 66) hx hb dX2_clause_51 (by decide) (by omega) (by decide) (fun c_4 => ?_) (fun c_4 => ?_)
      · refine lv_aload_n hx hb dX2_clause_66 rfl (lv_at hl 2 rfl) ?_
        refine lv_iload_n hx hb dX2_clause_67 rfl (lv_at hl 1 rfl) ?_
        refine m_p_sort0 hx hb hts hown hK hw dX2_clause_68 (fun H locs hw => ?_)
        refine lv_aload_n hx hb dX2_clause_71 rfl (lv_at hl 2 rfl) ?_
        refine c_call (va_runV (As := []) (rest := []) ⟨hx, hb, hml, hown, hts⟩ (met_X2_nextToken l G ad M (up2 Z 20 0 (nI sr)) V tp t (lxQ tp t p0) hT ((up2_ne (Or.inl (by decide))).trans hZ.1.1) (lxQ_le (by omega))) (cv_X2_X2_nextToken hts ⟨Nat.le_of_ble_eq_true rfl, Nat.le_of_ble_eq_true rfl⟩) (cP.preV hK hw.1 (hw.1.recv hK)) rfl rfl hl.1 rfl (lv_room (Nat.le_of_ble_eq_true rfl)) dX2_clause_72 ⟨by first | exact Nat.zero_le _ | omega | decide, by first | exact Nat.zero_le _ | omega | decide⟩) hw.2 (fun q _ h => h) (fun q h => h) (fun H locs hw _ _ hS => ?_)
        obtain ⟨Z1, V1, ⟨hlx1, hkz1⟩, hw⟩ := hw
        replace hw := MS.mk hw hS
        have hzb1 : ZC tp t x0 n sr on w0 (lxQ tp t p0) Z1 V1 := ⟨hlx1, (congrFun (hkz1 12 (by decide) (by decide) (by decide) (by decide)) 0).trans ((up2_ne (Or.inl (by decide))).trans hZ.2.1), (congrFun (hkz1 14 (by decide) (by decide) (by decide) (by decide)) 0).trans ((up2_ne (Or.inl (by decide))).trans hZ.2.2.1), trivial, trivial, (congrFun (hkz1 18 (by decide) (by decide) (by decide) (by decide)) 0).trans ((up2_ne (Or.inl (by decide))).trans hZ.2.2.2.2.2.1), (congrFun (hkz1 19 (by decide) (by decide) (by decide) (by decide)) 0).trans ((up2_ne (Or.inl (by decide))).trans hZ.2.2.2.2.2.2.1), (congrFun (hkz1 20 (by decide) (by decide) (by decide) (by decide)) 0).trans up2_at, (congrFun (hkz1 21 (by decide) (by decide) (by decide) (by decide)) 0).trans ((up2_ne (Or.inl (by decide))).trans hZ.2.2.2.2.2.2.2.2)⟩
        have hlq1 := lxQ_le (tp := tp) (t := t) (p0 := p0) (by omega)
        refine lv_aload_n hx hb dX2_clause_75 rfl (lv_at hl 2 rfl) ?_
        refine m_g_text0 hx hb hts hown hK hw dX2_clause_76 ?_
        rw [show Z1 12 0 = nI x0 from hzb1.2.1]
        refine lv_iconst (v := nI 1) hx hb dX2_clause_79 (by decide) ?_
        refine n_iadd hx hb dX2_clause_80 ?_
        refine lv_iconst (v := nI 3) hx hb dX2_clause_81 (by decide) ?_
        refine lv_iload_n hx hb dX2_clause_82 rfl (lv_at hl 0 rfl) ?_
        refine n_imul hx hb dX2_clause_83 ?_
        refine n_iadd hx hb dX2_clause_84 ?_
        refine lv_istore_n (lv' := [(3, .int (nI (x0 + 1 + 3 * cn))), (2, .int (nI cn)), (1, .int (nI sr)), (0, .ref (ad 0))]) hx hb dX2_clause_85 rfl hl (by decide) rfl (fun ls hl => ?_)
        refine lv_aload_n hx hb dX2_clause_86 rfl (lv_at hl 3 rfl) ?_
        refine m_g_texts hx hb hts hown hK hw dX2_clause_87 ?_
        refine lv_iload_n hx hb dX2_clause_90 rfl (lv_at hl 0 rfl) ?_
        refine lv_iload_n hx hb dX2_clause_91 rfl (lv_at hl 2 rfl) ?_
        refine m_s_texts (j := x0 + 1 + 3 * cn) hx hb hK hw (by omega) dX2_clause_92 (fun H locs hw => ?_)
        refine lv_aload_n hx hb dX2_clause_93 rfl (lv_at hl 3 rfl) ?_
        refine m_g_written hx hb hts hown hK hw dX2_clause_94 ?_
        rw [show Z1 14 0 = nI n from hzb1.2.2.1]
        refine lv_istore (lv' := [(4, .int (nI n)), (3, .int (nI (x0 + 1 + 3 * cn))), (2, .int (nI cn)), (1, .int (nI sr)), (0, .ref (ad 0))]) hx hb dX2_clause_97 hl (by decide) rfl (fun ls hl => ?_)
        refine lv_iload_n hx hb dX2_clause_99 rfl (lv_at hl 3 rfl) ?_
        refine lv_iconst (v := nI 4) hx hb dX2_clause_100 (by decide) ?_
        refine n_icmp_ge (tgt := 112) hx hb dX2_clause_101 (by decide) (by omega) (by decide) (fun c_5 => ?_) (fun c_5 => ?_)
        · refine lv_aload_n hx hb dX2_clause_112 rfl (lv_at hl 4 rfl) ?_
          refine lv_iload_n hx hb dX2_clause_113 rfl (lv_at hl 3 rfl) ?_
          refine lv_iload_n hx hb dX2_clause_114 rfl (lv_at hl 1 rfl) ?_
          refine c_call (va_runV (As := [.int (nI sr), .int (nI (x0 + 1 + 3 * cn))]) (rest := []) ⟨hx, hb, hml, hown, hts⟩ (met_X2_line l G ad (up2 M 2 (x0 + 1 + 3 * cn) (nI sr)) Z1 V1 tp t x0 n sr (lxQ tp t p0) on w0 (⟨((up2_ne (Or.inl (by decide))).trans rfl).trans hT.1, hT.2.1, fun j9 h9 => ⟨((up2_ne (Or.inl (by decide))).trans rfl).trans (hT.2.2 j9 h9).1, (hT.2.2 j9 h9).2⟩⟩) ⟨hzb1.1, hzb1.2.1, hzb1.2.2.1, trivial, trivial, hzb1.2.2.2.2.2.1, hzb1.2.2.2.2.2.2.1, hzb1.2.2.2.2.2.2.2.1, hzb1.2.2.2.2.2.2.2.2⟩ hx0 (by omega) sr (x0 + 1 + 3 * cn) (by omega) (by omega)) (cv_X2_X2_line hts ⟨Nat.le_of_ble_eq_true rfl, Nat.le_of_ble_eq_true rfl⟩) (cP.preV hK hw.1 (hw.1.recv hK)) rfl rfl hl.1 rfl (lv_room (Nat.le_of_ble_eq_true rfl)) dX2_clause_115 ⟨by first | exact Nat.zero_le _ | omega | decide, by first | exact Nat.zero_le _ | omega | decide⟩) hw.2 (fun q _ h => h) (fun q h => h) (fun H locs hw _ _ hS => ?_)
          obtain ⟨Z2, V2, hzb2, hw⟩ := hw
          replace hw := MS.mk hw hS
          have hlp := lin_p (tp := tp) (t := t) (s := sr) (k := x0 + 1 + 3 * cn) (p := lxQ tp t p0) (M := (up2 M 2 (x0 + 1 + 3 * cn) (nI sr))) (by omega)
          have hcx : ((lin tp t sr (x0 + 1 + 3 * cn) (lxQ tp t p0) (up2 M 2 (x0 + 1 + 3 * cn) (nI sr))).2.1) 2 x0 = nI cn := (lin_k (Or.inr (by omega)) (Or.inr (by omega))).trans ((up2_ne (Or.inr (by omega))).trans hc)
          refine lv_istore (lv' := [(5, .int (nI ((lin tp t sr (x0 + 1 + 3 * cn) (lxQ tp t p0) (up2 M 2 (x0 + 1 + 3 * cn) (nI sr))).1))), (4, .int (nI n)), (3, .int (nI (x0 + 1 + 3 * cn))), (2, .int (nI cn)), (1, .int (nI sr)), (0, .ref (ad 0))]) hx hb dX2_clause_118 hl (by decide) rfl (fun ls hl => ?_)
          refine lv_iload hx hb dX2_clause_120 (lv_at hl 0 rfl) ?_
          refine n_if_eq (tgt := 128) hx hb dX2_clause_122 (by decide) (by omega) (fun c_6 => ?_) (fun c_6 => ?_)
          · refine lv_iload_n hx hb dX2_clause_128 rfl (lv_at hl 4 rfl) ?_
            refine lv_iconst (v := nI 4) hx hb dX2_clause_129 (by decide) ?_
            refine n_icmp_ge (tgt := 155) hx hb dX2_clause_130 (by decide) (by omega) (by decide) (fun c_7 => ?_) (fun c_7 => ?_)
            · refine lv_aload_n hx hb dX2_clause_155 rfl (lv_at hl 5 rfl) ?_
              refine m_g_texts hx hb hts hown hK hw dX2_clause_156 ?_
              refine lv_aload_n hx hb dX2_clause_159 rfl (lv_at hl 5 rfl) ?_
              refine m_g_text0 hx hb hts hown hK hw dX2_clause_160 ?_
              rw [show Z2 12 0 = nI x0 from hzb2.2.1]
              refine lv_dup2_11 hx hb dX2_clause_163 rfl rfl ?_
              refine m_l_texts (j := x0) (v := nI cn) hx hb hK hw hcx (by omega) dX2_clause_164 ?_
              refine lv_iconst (v := nI 1) hx hb dX2_clause_165 (by decide) ?_
              refine n_iadd hx hb dX2_clause_166 ?_
              refine m_s_texts (j := x0) hx hb hK hw (by omega) dX2_clause_167 (fun H locs hw => ?_)
              refine lv_aload_n hx hb dX2_clause_168 rfl (lv_at hl 5 rfl) ?_
              have hT8 := hT9 ((lin tp t sr (x0 + 1 + 3 * cn) (lxQ tp t p0) (up2 M 2 (x0 + 1 + 3 * cn) (nI sr))).2.2)
              refine m_g_token hx hb hts hown hK hw dX2_clause_169 ?_
              rw [show Z2 9 0 = nI (lxT tp t ((lin tp t sr (x0 + 1 + 3 * cn) (lxQ tp t p0) (up2 M 2 (x0 + 1 + 3 * cn) (nI sr))).2.2)) from hzb2.1.2.2.1]
              refine lv_bipush (v := nI 59) hx hb dX2_clause_172 (by decide) ?_
              refine n_icmp_eq (tgt := 179) hx hb dX2_clause_174 (by decide) (by omega) (by decide) (fun c_8 => ?_) (fun c_8 => ?_)
              · refine lv_aload_n hx hb dX2_clause_179 rfl (lv_at hl 5 rfl) ?_
                refine c_call (va_runV (As := []) (rest := []) ⟨hx, hb, hml, hown, hts⟩ (met_X2_nextToken l G ad (up2 ((lin tp t sr (x0 + 1 + 3 * cn) (lxQ tp t p0) (up2 M 2 (x0 + 1 + 3 * cn) (nI sr))).2.1) 2 x0 (nI (cn + 1))) Z2 V2 tp t (lxQ tp t ((lin tp t sr (x0 + 1 + 3 * cn) (lxQ tp t p0) (up2 M 2 (x0 + 1 + 3 * cn) (nI sr))).2.2)) (⟨((up2_ne (Or.inl (by decide))).trans rfl).trans (show TP tp t ((lin tp t sr (x0 + 1 + 3 * cn) (lxQ tp t p0) (up2 M 2 (x0 + 1 + 3 * cn) (nI sr))).2.1) from TP_lin (⟨((up2_ne (Or.inl (by decide))).trans rfl).trans hT.1, hT.2.1, fun j9 h9 => ⟨((up2_ne (Or.inl (by decide))).trans rfl).trans (hT.2.2 j9 h9).1, (hT.2.2 j9 h9).2⟩⟩)).1, (show TP tp t ((lin tp t sr (x0 + 1 + 3 * cn) (lxQ tp t p0) (up2 M 2 (x0 + 1 + 3 * cn) (nI sr))).2.1) from TP_lin (⟨((up2_ne (Or.inl (by decide))).trans rfl).trans hT.1, hT.2.1, fun j9 h9 => ⟨((up2_ne (Or.inl (by decide))).trans rfl).trans (hT.2.2 j9 h9).1, (hT.2.2 j9 h9).2⟩⟩)).2.1, fun j9 h9 => ⟨((up2_ne (Or.inl (by decide))).trans rfl).trans ((show TP tp t ((lin tp t sr (x0 + 1 + 3 * cn) (lxQ tp t p0) (up2 M 2 (x0 + 1 + 3 * cn) (nI sr))).2.1) from TP_lin (⟨((up2_ne (Or.inl (by decide))).trans rfl).trans hT.1, hT.2.1, fun j9 h9 => ⟨((up2_ne (Or.inl (by decide))).trans rfl).trans (hT.2.2 j9 h9).1, (hT.2.2 j9 h9).2⟩⟩)).2.2 j9 h9).1, ((show TP tp t ((lin tp t sr (x0 + 1 + 3 * cn) (lxQ tp t p0) (up2 M 2 (x0 + 1 + 3 * cn) (nI sr))).2.1) from TP_lin (⟨((up2_ne (Or.inl (by decide))).trans rfl).trans hT.1, hT.2.1, fun j9 h9 => ⟨((up2_ne (Or.inl (by decide))).trans rfl).trans (hT.2.2 j9 h9).1, (hT.2.2 j9 h9).2⟩⟩)).2.2 j9 h9).2⟩⟩) hzb2.1.1 (lxQ_le (by omega))) (cv_X2_X2_nextToken hts ⟨Nat.le_of_ble_eq_true rfl, Nat.le_of_ble_eq_true rfl⟩) (cP.preV hK hw.1 (hw.1.recv hK)) rfl rfl hl.1 rfl (lv_room (Nat.le_of_ble_eq_true rfl)) dX2_clause_180 ⟨by first | exact Nat.zero_le _ | omega | decide, by first | exact Nat.zero_le _ | omega | decide⟩) hw.2 (fun q _ h => h) (fun q h => h) (fun H locs hw _ _ hS => ?_)
                obtain ⟨Z3, V3, ⟨hlx3, hkz3⟩, hw⟩ := hw
                replace hw := MS.mk hw hS
                have hzb3 : ZC tp t x0 n sr on w0 (lxQ tp t ((lin tp t sr (x0 + 1 + 3 * cn) (lxQ tp t p0) (up2 M 2 (x0 + 1 + 3 * cn) (nI sr))).2.2)) Z3 V3 := ⟨hlx3, (congrFun (hkz3 12 (by decide) (by decide) (by decide) (by decide)) 0).trans hzb2.2.1, (congrFun (hkz3 14 (by decide) (by decide) (by decide) (by decide)) 0).trans hzb2.2.2.1, trivial, trivial, (congrFun (hkz3 18 (by decide) (by decide) (by decide) (by decide)) 0).trans hzb2.2.2.2.2.2.1, (congrFun (hkz3 19 (by decide) (by decide) (by decide) (by decide)) 0).trans hzb2.2.2.2.2.2.2.1, (congrFun (hkz3 20 (by decide) (by decide) (by decide) (by decide)) 0).trans hzb2.2.2.2.2.2.2.2.1, (congrFun (hkz3 21 (by decide) (by decide) (by decide) (by decide)) 0).trans hzb2.2.2.2.2.2.2.2.2⟩
                have hlq3 := lxQ_le (tp := tp) (t := t) (p0 := (lin tp t sr (x0 + 1 + 3 * cn) (lxQ tp t p0) (up2 M 2 (x0 + 1 + 3 * cn) (nI sr))).2.2) (by omega)
                refine lv_iconst (v := nI 0) hx hb dX2_clause_183 (by decide) ?_
                have ecl : cls tp t x0 cn p0 n on M = (0, (up2 ((lin tp t sr (x0 + 1 + 3 * cn) (lxQ tp t p0) (up2 M 2 (x0 + 1 + 3 * cn) (nI sr))).2.1) 2 x0 (nI (cn + 1))), lxQ tp t ((lin tp t sr (x0 + 1 + 3 * cn) (lxQ tp t p0) (up2 M 2 (x0 + 1 + 3 * cn) (nI sr))).2.2), n, on) := by
                  unfold cls
                  rw [hso]
                  simp only []
                  rw [if_neg (by omega), if_neg (by omega)]
                  unfold clt
                  rw [if_pos c_6, if_pos c_8]
                exact c_iret (v := nI 0) (by rw [ecl]) hx hb hr rfl hlocks ⟨_, _, (by rw [ecl]; exact ⟨hzb3.1.2.1, fun _ => ⟨_, _, ⟨hzb3.1, hzb3.2.1, hzb3.2.2.1, trivial, trivial, hzb3.2.2.2.2.2.1, hzb3.2.2.2.2.2.2.1, hzb3.2.2.2.2.2.2.2.1, hzb3.2.2.2.2.2.2.2.2⟩⟩⟩), mH.to (by rw [ecl]) rfl rfl hw.1⟩ hw.2 dX2_clause_184
              refine lv_iconst (v := nI 1) hx hb dX2_clause_177 (by decide) ?_
              have ecl : cls tp t x0 cn p0 n on M = (1, (up2 ((lin tp t sr (x0 + 1 + 3 * cn) (lxQ tp t p0) (up2 M 2 (x0 + 1 + 3 * cn) (nI sr))).2.1) 2 x0 (nI (cn + 1))), (lin tp t sr (x0 + 1 + 3 * cn) (lxQ tp t p0) (up2 M 2 (x0 + 1 + 3 * cn) (nI sr))).2.2, n, on) := by
                unfold cls
                rw [hso]
                simp only []
                rw [if_neg (by omega), if_neg (by omega)]
                unfold clt
                rw [if_pos c_6, if_neg c_8]
              exact c_iret (v := nI 1) (by rw [ecl]) hx hb hr rfl hlocks ⟨_, _, (by rw [ecl]; exact ⟨hzb2.1.2.1, fun h9 => absurd h9 (by dsimp only; omega)⟩), mH.to (by rw [ecl]) rfl rfl hw.1⟩ hw.2 dX2_clause_178
            exfalso; omega
          refine lv_iload hx hb dX2_clause_125 (lv_at hl 0 rfl) ?_
          have ecl : cls tp t x0 cn p0 n on M = ((lin tp t sr (x0 + 1 + 3 * cn) (lxQ tp t p0) (up2 M 2 (x0 + 1 + 3 * cn) (nI sr))).1, ((lin tp t sr (x0 + 1 + 3 * cn) (lxQ tp t p0) (up2 M 2 (x0 + 1 + 3 * cn) (nI sr))).2.1), (lin tp t sr (x0 + 1 + 3 * cn) (lxQ tp t p0) (up2 M 2 (x0 + 1 + 3 * cn) (nI sr))).2.2, n, on) := by
            unfold cls
            rw [hso]
            simp only []
            rw [if_neg (by omega), if_neg (by omega)]
            unfold clt
            rw [if_neg (by omega)]
          exact c_iret (v := nI ((lin tp t sr (x0 + 1 + 3 * cn) (lxQ tp t p0) (up2 M 2 (x0 + 1 + 3 * cn) (nI sr))).1)) (by rw [ecl]) hx hb hr rfl hlocks ⟨_, _, (by rw [ecl]; exact ⟨hzb2.1.2.1, fun h9 => absurd h9 (by dsimp only; omega)⟩), mH.to (by rw [ecl]) rfl rfl hw.1⟩ hw.2 dX2_clause_127
        exfalso; omega
      exfalso; omega
    refine lv_bipush (v := nI 6) hx hb dX2_clause_46 (by decide) ?_
    have ecl : cls tp t x0 cn p0 n on M = (6, M, p0, n, on) := by
      unfold cls
      rw [hso]
      simp only []
      rw [if_neg (by omega), if_pos c_3]
    exact c_iret (v := nI 6) (by rw [ecl]) hx hb hr rfl hlocks ⟨_, _, (by rw [ecl]; exact ⟨hZ.1.2.1, fun h9 => absurd h9 (by dsimp only; omega)⟩), mH.to (by rw [ecl]) rfl rfl hw.1⟩ hw.2 dX2_clause_48
  refine lv_aload_n hx hb dX2_clause_16 rfl (lv_at hl 1 rfl) ?_
  refine m_g_once hx hb hts hown hK hw dX2_clause_17 ?_
  rw [show Z 21 0 = on from hZ.2.2.2.2.2.2.2.2]
  refine lv_iload_n hx hb dX2_clause_20 rfl (lv_at hl 0 rfl) ?_
  refine lv_ishr hx hb dX2_clause_21 ?_
  refine lv_iconst (v := nI 1) hx hb dX2_clause_22 (by decide) ?_
  refine lv_iand hx hb dX2_clause_23 ?_
  refine lv_iconst (v := nI 1) hx hb dX2_clause_24 (by decide) ?_
  refine lv_icmp_ne (tgt := 30) hx hb dX2_clause_25 (by decide) (fun c_9 => ?_) (fun c_9 => ?_)
  · refine lv_aload_n hx hb dX2_clause_30 rfl (lv_at hl 1 rfl) ?_
    refine m_g_texts hx hb hts hown hK hw dX2_clause_31 ?_
    refine lv_aload_n hx hb dX2_clause_34 rfl (lv_at hl 1 rfl) ?_
    refine m_g_text0 hx hb hts hown hK hw dX2_clause_35 ?_
    rw [show Z 12 0 = nI x0 from hZ.2.1]
    refine m_l_texts (j := x0) (v := nI cn) hx hb hK hw hc (by omega) dX2_clause_38 ?_
    refine lv_istore_n (lv' := [(2, .int (nI cn)), (1, .int (nI sr)), (0, .ref (ad 0))]) hx hb dX2_clause_39 rfl hl (by decide) rfl (fun ls hl => ?_)
    refine lv_iload_n hx hb dX2_clause_40 rfl (lv_at hl 0 rfl) ?_
    refine lv_bipush (v := nI 24) hx hb dX2_clause_41 (by decide) ?_
    refine n_icmp_ne (tgt := 49) hx hb dX2_clause_43 (by decide) (by omega) (by decide) (fun c_10 => ?_) (fun c_10 => ?_)
    · refine lv_iload_n hx hb dX2_clause_49 rfl (lv_at hl 1 rfl) ?_
      refine lv_iconst (v := nI 4) hx hb dX2_clause_50 (by decide) ?_
      refine n_icmp_ge (tgt := 66) hx hb dX2_clause_51 (by decide) (by omega) (by decide) (fun c_11 => ?_) (fun c_11 => ?_)
      · exfalso; omega
      refine lv_aload_n hx hb dX2_clause_54 rfl (lv_at hl 2 rfl) ?_
      refine lv_dup hx hb dX2_clause_55 rfl ?_
      refine m_g_once hx hb hts hown hK hw dX2_clause_56 ?_
      rw [show Z 21 0 = on from hZ.2.2.2.2.2.2.2.2]
      refine lv_iconst (v := nI 1) hx hb dX2_clause_59 (by decide) ?_
      refine lv_iload_n hx hb dX2_clause_60 rfl (lv_at hl 1 rfl) ?_
      refine lv_ishl hx hb dX2_clause_61 ?_
      refine lv_ior hx hb dX2_clause_62 ?_
      refine m_p_once hx hb hts hown hK hw dX2_clause_63 (fun H locs hw => ?_)
      refine lv_aload_n hx hb dX2_clause_66 rfl (lv_at hl 2 rfl) ?_
      refine lv_iload_n hx hb dX2_clause_67 rfl (lv_at hl 1 rfl) ?_
      refine m_p_sort0 hx hb hts hown hK hw dX2_clause_68 (fun H locs hw => ?_)
      refine lv_aload_n hx hb dX2_clause_71 rfl (lv_at hl 2 rfl) ?_
      refine c_call (va_runV (As := []) (rest := []) ⟨hx, hb, hml, hown, hts⟩ (met_X2_nextToken l G ad M (up2 (up2 Z 21 0 (on ||| ((nI 1) <<< ((nI sr) &&& 31)))) 20 0 (nI sr)) V tp t (lxQ tp t p0) hT ((up2_ne (Or.inl (by decide))).trans ((up2_ne (Or.inl (by decide))).trans hZ.1.1)) (lxQ_le (by omega))) (cv_X2_X2_nextToken hts ⟨Nat.le_of_ble_eq_true rfl, Nat.le_of_ble_eq_true rfl⟩) (cP.preV hK hw.1 (hw.1.recv hK)) rfl rfl hl.1 rfl (lv_room (Nat.le_of_ble_eq_true rfl)) dX2_clause_72 ⟨by first | exact Nat.zero_le _ | omega | decide, by first | exact Nat.zero_le _ | omega | decide⟩) hw.2 (fun q _ h => h) (fun q h => h) (fun H locs hw _ _ hS => ?_)
      obtain ⟨Z4, V4, ⟨hlx4, hkz4⟩, hw⟩ := hw
      replace hw := MS.mk hw hS
      have hzb4 : ZC tp t x0 n sr (on ||| ((nI 1) <<< ((nI sr) &&& 31))) w0 (lxQ tp t p0) Z4 V4 := ⟨hlx4, (congrFun (hkz4 12 (by decide) (by decide) (by decide) (by decide)) 0).trans ((up2_ne (Or.inl (by decide))).trans ((up2_ne (Or.inl (by decide))).trans hZ.2.1)), (congrFun (hkz4 14 (by decide) (by decide) (by decide) (by decide)) 0).trans ((up2_ne (Or.inl (by decide))).trans ((up2_ne (Or.inl (by decide))).trans hZ.2.2.1)), trivial, trivial, (congrFun (hkz4 18 (by decide) (by decide) (by decide) (by decide)) 0).trans ((up2_ne (Or.inl (by decide))).trans ((up2_ne (Or.inl (by decide))).trans hZ.2.2.2.2.2.1)), (congrFun (hkz4 19 (by decide) (by decide) (by decide) (by decide)) 0).trans ((up2_ne (Or.inl (by decide))).trans ((up2_ne (Or.inl (by decide))).trans hZ.2.2.2.2.2.2.1)), (congrFun (hkz4 20 (by decide) (by decide) (by decide) (by decide)) 0).trans up2_at, (congrFun (hkz4 21 (by decide) (by decide) (by decide) (by decide)) 0).trans ((up2_ne (Or.inl (by decide))).trans up2_at)⟩
      have hlq4 := lxQ_le (tp := tp) (t := t) (p0 := p0) (by omega)
      refine lv_aload_n hx hb dX2_clause_75 rfl (lv_at hl 2 rfl) ?_
      refine m_g_text0 hx hb hts hown hK hw dX2_clause_76 ?_
      rw [show Z4 12 0 = nI x0 from hzb4.2.1]
      refine lv_iconst (v := nI 1) hx hb dX2_clause_79 (by decide) ?_
      refine n_iadd hx hb dX2_clause_80 ?_
      refine lv_iconst (v := nI 3) hx hb dX2_clause_81 (by decide) ?_
      refine lv_iload_n hx hb dX2_clause_82 rfl (lv_at hl 0 rfl) ?_
      refine n_imul hx hb dX2_clause_83 ?_
      refine n_iadd hx hb dX2_clause_84 ?_
      refine lv_istore_n (lv' := [(3, .int (nI (x0 + 1 + 3 * cn))), (2, .int (nI cn)), (1, .int (nI sr)), (0, .ref (ad 0))]) hx hb dX2_clause_85 rfl hl (by decide) rfl (fun ls hl => ?_)
      refine lv_aload_n hx hb dX2_clause_86 rfl (lv_at hl 3 rfl) ?_
      refine m_g_texts hx hb hts hown hK hw dX2_clause_87 ?_
      refine lv_iload_n hx hb dX2_clause_90 rfl (lv_at hl 0 rfl) ?_
      refine lv_iload_n hx hb dX2_clause_91 rfl (lv_at hl 2 rfl) ?_
      refine m_s_texts (j := x0 + 1 + 3 * cn) hx hb hK hw (by omega) dX2_clause_92 (fun H locs hw => ?_)
      refine lv_aload_n hx hb dX2_clause_93 rfl (lv_at hl 3 rfl) ?_
      refine m_g_written hx hb hts hown hK hw dX2_clause_94 ?_
      rw [show Z4 14 0 = nI n from hzb4.2.2.1]
      refine lv_istore (lv' := [(4, .int (nI n)), (3, .int (nI (x0 + 1 + 3 * cn))), (2, .int (nI cn)), (1, .int (nI sr)), (0, .ref (ad 0))]) hx hb dX2_clause_97 hl (by decide) rfl (fun ls hl => ?_)
      refine lv_iload_n hx hb dX2_clause_99 rfl (lv_at hl 3 rfl) ?_
      refine lv_iconst (v := nI 4) hx hb dX2_clause_100 (by decide) ?_
      refine n_icmp_ge (tgt := 112) hx hb dX2_clause_101 (by decide) (by omega) (by decide) (fun c_12 => ?_) (fun c_12 => ?_)
      · exfalso; omega
      refine lv_aload_n hx hb dX2_clause_104 rfl (lv_at hl 4 rfl) ?_
      refine lv_iconst (v := nI 0) hx hb dX2_clause_105 (by decide) ?_
      refine c_call (va_runV (As := [.int (nI 0)]) (rest := []) ⟨hx, hb, hml, hown, hts⟩ (met_X2_parsed l G ad (up2 M 2 (x0 + 1 + 3 * cn) (nI sr)) Z4 V4 tp t x0 n sr (lxQ tp t p0) (on ||| ((nI 1) <<< ((nI sr) &&& 31))) w0 (⟨((up2_ne (Or.inl (by decide))).trans rfl).trans hT.1, hT.2.1, fun j9 h9 => ⟨((up2_ne (Or.inl (by decide))).trans rfl).trans (hT.2.2 j9 h9).1, (hT.2.2 j9 h9).2⟩⟩) ⟨hzb4.1, hzb4.2.1, hzb4.2.2.1, trivial, trivial, hzb4.2.2.2.2.2.1, hzb4.2.2.2.2.2.2.1, hzb4.2.2.2.2.2.2.2.1, hzb4.2.2.2.2.2.2.2.2⟩ hx0 (by omega) (by omega) (by omega)) (cv_X2_X2_parsed hts ⟨Nat.le_of_ble_eq_true rfl, Nat.le_of_ble_eq_true rfl⟩) (cP.preV hK hw.1 (hw.1.recv hK)) rfl rfl hl.1 rfl (lv_room (Nat.le_of_ble_eq_true rfl)) dX2_clause_106 ⟨by first | exact Nat.zero_le _ | omega | decide, by first | exact Nat.zero_le _ | omega | decide⟩) hw.2 (fun q _ h => h) (fun q h => h) (fun H locs hw _ _ hS => ?_)
      obtain ⟨Z5, V5, hzb5, hw⟩ := hw
      replace hw := MS.mk hw hS
      have hpl5 : (psd tp t sr (lxQ tp t p0)).1 ≤ 5 := psd_le
      have hcx : (putC (up2 M 2 (x0 + 1 + 3 * cn) (nI sr)) (x0 + 75) n (psd tp t sr (lxQ tp t p0)).2.1) 2 x0 = nI cn := (putC_lo _ _ _ _ _ (by omega)).trans ((up2_ne (Or.inr (by omega))).trans hc)
      refine lv_goto (tgt := 118) hx hb dX2_clause_109 (by decide) ?_
      refine lv_istore (lv' := [(5, .int (nI ((psd tp t sr (lxQ tp t p0)).1))), (4, .int (nI n)), (3, .int (nI (x0 + 1 + 3 * cn))), (2, .int (nI cn)), (1, .int (nI sr)), (0, .ref (ad 0))]) hx hb dX2_clause_118 hl (by decide) rfl (fun ls hl => ?_)
      refine lv_iload hx hb dX2_clause_120 (lv_at hl 0 rfl) ?_
      refine n_if_eq (tgt := 128) hx hb dX2_clause_122 (by decide) (by omega) (fun c_13 => ?_) (fun c_13 => ?_)
      · obtain ⟨k1, k2, k3, k4⟩ := psd_ok (c := n) (by omega) ht3 (by omega) c_13
        rw [k1] at hzb5
        have hzd := ZB_ZC hzb5
        refine lv_iload_n hx hb dX2_clause_128 rfl (lv_at hl 4 rfl) ?_
        refine lv_iconst (v := nI 4) hx hb dX2_clause_129 (by decide) ?_
        refine n_icmp_ge (tgt := 155) hx hb dX2_clause_130 (by decide) (by omega) (by decide) (fun c_14 => ?_) (fun c_14 => ?_)
        · exfalso; omega
        refine lv_aload_n hx hb dX2_clause_133 rfl (lv_at hl 5 rfl) ?_
        refine m_g_texts hx hb hts hown hK hw dX2_clause_134 ?_
        refine lv_iload_n hx hb dX2_clause_137 rfl (lv_at hl 2 rfl) ?_
        refine lv_iconst (v := nI 1) hx hb dX2_clause_138 (by decide) ?_
        refine n_iadd hx hb dX2_clause_139 ?_
        refine lv_iload hx hb dX2_clause_140 (lv_at hl 1 rfl) ?_
        refine m_s_texts (j := x0 + 1 + 3 * cn + 1) hx hb hK hw (by omega) dX2_clause_142 (fun H locs hw => ?_)
        refine lv_aload_n hx hb dX2_clause_143 rfl (lv_at hl 5 rfl) ?_
        refine m_g_texts hx hb hts hown hK hw dX2_clause_144 ?_
        refine lv_iload_n hx hb dX2_clause_147 rfl (lv_at hl 2 rfl) ?_
        refine lv_iconst (v := nI 2) hx hb dX2_clause_148 (by decide) ?_
        refine n_iadd hx hb dX2_clause_149 ?_
        refine lv_aload_n hx hb dX2_clause_150 rfl (lv_at hl 5 rfl) ?_
        refine m_g_written hx hb hts hown hK hw dX2_clause_151 ?_
        rw [show Z5 14 0 = nI (n + (psd tp t sr (lxQ tp t p0)).2.1.length) from hzd.2.2.1]
        refine m_s_texts (j := x0 + 1 + 3 * cn + 2) hx hb hK hw (by omega) dX2_clause_154 (fun H locs hw => ?_)
        refine lv_aload_n hx hb dX2_clause_155 rfl (lv_at hl 5 rfl) ?_
        refine m_g_texts hx hb hts hown hK hw dX2_clause_156 ?_
        refine lv_aload_n hx hb dX2_clause_159 rfl (lv_at hl 5 rfl) ?_
        refine m_g_text0 hx hb hts hown hK hw dX2_clause_160 ?_
        rw [show Z5 12 0 = nI x0 from hzd.2.1]
        refine lv_dup2_11 hx hb dX2_clause_163 rfl rfl ?_
        refine m_l_texts (j := x0) (v := nI cn) hx hb hK hw ((up2_ne (Or.inr (by omega))).trans ((up2_ne (Or.inr (by omega))).trans hcx)) (by omega) dX2_clause_164 ?_
        refine lv_iconst (v := nI 1) hx hb dX2_clause_165 (by decide) ?_
        refine n_iadd hx hb dX2_clause_166 ?_
        refine m_s_texts (j := x0) hx hb hK hw (by omega) dX2_clause_167 (fun H locs hw => ?_)
        refine lv_aload_n hx hb dX2_clause_168 rfl (lv_at hl 5 rfl) ?_
        have hT8 := hT9 ((psd tp t sr (lxQ tp t p0)).2.2.1)
        refine m_g_token hx hb hts hown hK hw dX2_clause_169 ?_
        rw [show Z5 9 0 = nI (lxT tp t ((psd tp t sr (lxQ tp t p0)).2.2.1)) from hzd.1.2.2.1]
        refine lv_bipush (v := nI 59) hx hb dX2_clause_172 (by decide) ?_
        refine n_icmp_eq (tgt := 179) hx hb dX2_clause_174 (by decide) (by omega) (by decide) (fun c_15 => ?_) (fun c_15 => ?_)
        · refine lv_aload_n hx hb dX2_clause_179 rfl (lv_at hl 5 rfl) ?_
          refine c_call (va_runV (As := []) (rest := []) ⟨hx, hb, hml, hown, hts⟩ (met_X2_nextToken l G ad (up2 (up2 (up2 (putC (up2 M 2 (x0 + 1 + 3 * cn) (nI sr)) (x0 + 75) n (psd tp t sr (lxQ tp t p0)).2.1) 2 (x0 + 1 + 3 * cn + 1) (nI n)) 2 (x0 + 1 + 3 * cn + 2) (nI (n + (psd tp t sr (lxQ tp t p0)).2.1.length))) 2 x0 (nI (cn + 1))) Z5 V5 tp t (lxQ tp t ((psd tp t sr (lxQ tp t p0)).2.2.1)) (⟨((up2_ne (Or.inl (by decide))).trans ((up2_ne (Or.inl (by decide))).trans ((up2_ne (Or.inl (by decide))).trans rfl))).trans (show TP tp t (putC (up2 M 2 (x0 + 1 + 3 * cn) (nI sr)) (x0 + 75) n (psd tp t sr (lxQ tp t p0)).2.1) from TP_putC (⟨((up2_ne (Or.inl (by decide))).trans rfl).trans hT.1, hT.2.1, fun j9 h9 => ⟨((up2_ne (Or.inl (by decide))).trans rfl).trans (hT.2.2 j9 h9).1, (hT.2.2 j9 h9).2⟩⟩)).1, (show TP tp t (putC (up2 M 2 (x0 + 1 + 3 * cn) (nI sr)) (x0 + 75) n (psd tp t sr (lxQ tp t p0)).2.1) from TP_putC (⟨((up2_ne (Or.inl (by decide))).trans rfl).trans hT.1, hT.2.1, fun j9 h9 => ⟨((up2_ne (Or.inl (by decide))).trans rfl).trans (hT.2.2 j9 h9).1, (hT.2.2 j9 h9).2⟩⟩)).2.1, fun j9 h9 => ⟨((up2_ne (Or.inl (by decide))).trans ((up2_ne (Or.inl (by decide))).trans ((up2_ne (Or.inl (by decide))).trans rfl))).trans ((show TP tp t (putC (up2 M 2 (x0 + 1 + 3 * cn) (nI sr)) (x0 + 75) n (psd tp t sr (lxQ tp t p0)).2.1) from TP_putC (⟨((up2_ne (Or.inl (by decide))).trans rfl).trans hT.1, hT.2.1, fun j9 h9 => ⟨((up2_ne (Or.inl (by decide))).trans rfl).trans (hT.2.2 j9 h9).1, (hT.2.2 j9 h9).2⟩⟩)).2.2 j9 h9).1, ((show TP tp t (putC (up2 M 2 (x0 + 1 + 3 * cn) (nI sr)) (x0 + 75) n (psd tp t sr (lxQ tp t p0)).2.1) from TP_putC (⟨((up2_ne (Or.inl (by decide))).trans rfl).trans hT.1, hT.2.1, fun j9 h9 => ⟨((up2_ne (Or.inl (by decide))).trans rfl).trans (hT.2.2 j9 h9).1, (hT.2.2 j9 h9).2⟩⟩)).2.2 j9 h9).2⟩⟩) hzd.1.1 (lxQ_le (by omega))) (cv_X2_X2_nextToken hts ⟨Nat.le_of_ble_eq_true rfl, Nat.le_of_ble_eq_true rfl⟩) (cP.preV hK hw.1 (hw.1.recv hK)) rfl rfl hl.1 rfl (lv_room (Nat.le_of_ble_eq_true rfl)) dX2_clause_180 ⟨by first | exact Nat.zero_le _ | omega | decide, by first | exact Nat.zero_le _ | omega | decide⟩) hw.2 (fun q _ h => h) (fun q h => h) (fun H locs hw _ _ hS => ?_)
          obtain ⟨Z6, V6, ⟨hlx6, hkz6⟩, hw⟩ := hw
          replace hw := MS.mk hw hS
          have hzb6 : ZC tp t x0 (n + (psd tp t sr (lxQ tp t p0)).2.1.length) sr (on ||| ((nI 1) <<< ((nI sr) &&& 31))) (if (psd tp t sr (lxQ tp t p0)).2.2.2.2 = true then nI 1 else nI 0) (lxQ tp t ((psd tp t sr (lxQ tp t p0)).2.2.1)) Z6 V6 := ⟨hlx6, (congrFun (hkz6 12 (by decide) (by decide) (by decide) (by decide)) 0).trans hzd.2.1, (congrFun (hkz6 14 (by decide) (by decide) (by decide) (by decide)) 0).trans hzd.2.2.1, trivial, trivial, (congrFun (hkz6 18 (by decide) (by decide) (by decide) (by decide)) 0).trans hzd.2.2.2.2.2.1, (congrFun (hkz6 19 (by decide) (by decide) (by decide) (by decide)) 0).trans hzd.2.2.2.2.2.2.1, (congrFun (hkz6 20 (by decide) (by decide) (by decide) (by decide)) 0).trans hzd.2.2.2.2.2.2.2.1, (congrFun (hkz6 21 (by decide) (by decide) (by decide) (by decide)) 0).trans hzd.2.2.2.2.2.2.2.2⟩
          have hlq6 := lxQ_le (tp := tp) (t := t) (p0 := (psd tp t sr (lxQ tp t p0)).2.2.1) (by omega)
          refine lv_iconst (v := nI 0) hx hb dX2_clause_183 (by decide) ?_
          have ecl : cls tp t x0 cn p0 n on M = (0, (up2 (up2 (up2 (putC (up2 M 2 (x0 + 1 + 3 * cn) (nI sr)) (x0 + 75) n (psd tp t sr (lxQ tp t p0)).2.1) 2 (x0 + 1 + 3 * cn + 1) (nI n)) 2 (x0 + 1 + 3 * cn + 2) (nI (n + (psd tp t sr (lxQ tp t p0)).2.1.length))) 2 x0 (nI (cn + 1))), lxQ tp t ((psd tp t sr (lxQ tp t p0)).2.2.1), (n + (psd tp t sr (lxQ tp t p0)).2.1.length), (on ||| ((nI 1) <<< ((nI sr) &&& 31)))) := by
            unfold cls
            rw [hso]
            simp only []
            rw [if_pos c_2, if_neg c_9, if_neg (by omega)]
            unfold clr
            rw [if_pos c_13, if_pos c_15]
          exact c_iret (v := nI 0) (by rw [ecl]) hx hb hr rfl hlocks ⟨_, _, (by rw [ecl]; exact ⟨hzb6.1.2.1, fun _ => ⟨_, _, ⟨hzb6.1, hzb6.2.1, hzb6.2.2.1, trivial, trivial, hzb6.2.2.2.2.2.1, hzb6.2.2.2.2.2.2.1, hzb6.2.2.2.2.2.2.2.1, hzb6.2.2.2.2.2.2.2.2⟩⟩⟩), mH.to (by rw [ecl]) rfl rfl hw.1⟩ hw.2 dX2_clause_184
        refine lv_iconst (v := nI 1) hx hb dX2_clause_177 (by decide) ?_
        have ecl : cls tp t x0 cn p0 n on M = (1, (up2 (up2 (up2 (putC (up2 M 2 (x0 + 1 + 3 * cn) (nI sr)) (x0 + 75) n (psd tp t sr (lxQ tp t p0)).2.1) 2 (x0 + 1 + 3 * cn + 1) (nI n)) 2 (x0 + 1 + 3 * cn + 2) (nI (n + (psd tp t sr (lxQ tp t p0)).2.1.length))) 2 x0 (nI (cn + 1))), (psd tp t sr (lxQ tp t p0)).2.2.1, (n + (psd tp t sr (lxQ tp t p0)).2.1.length), (on ||| ((nI 1) <<< ((nI sr) &&& 31)))) := by
          unfold cls
          rw [hso]
          simp only []
          rw [if_pos c_2, if_neg c_9, if_neg (by omega)]
          unfold clr
          rw [if_pos c_13, if_neg c_15]
        exact c_iret (v := nI 1) (by rw [ecl]) hx hb hr rfl hlocks ⟨_, _, (by rw [ecl]; exact ⟨hzd.1.2.1, fun h9 => absurd h9 (by dsimp only; omega)⟩), mH.to (by rw [ecl]) rfl rfl hw.1⟩ hw.2 dX2_clause_178
      refine lv_iload hx hb dX2_clause_125 (lv_at hl 0 rfl) ?_
      have ecl : cls tp t x0 cn p0 n on M = ((psd tp t sr (lxQ tp t p0)).1, (putC (up2 M 2 (x0 + 1 + 3 * cn) (nI sr)) (x0 + 75) n (psd tp t sr (lxQ tp t p0)).2.1), (psd tp t sr (lxQ tp t p0)).2.2.1, (n + (psd tp t sr (lxQ tp t p0)).2.1.length), (on ||| ((nI 1) <<< ((nI sr) &&& 31)))) := by
        unfold cls
        rw [hso]
        simp only []
        rw [if_pos c_2, if_neg c_9, if_neg (by omega)]
        unfold clr
        rw [if_neg (by omega)]
      exact c_iret (v := nI ((psd tp t sr (lxQ tp t p0)).1)) (by rw [ecl]) hx hb hr rfl hlocks ⟨_, _, (by rw [ecl]; exact ⟨hzb5.1.2.1, fun h9 => absurd h9 (by dsimp only; omega)⟩), mH.to (by rw [ecl]) rfl rfl hw.1⟩ hw.2 dX2_clause_127
    refine lv_bipush (v := nI 6) hx hb dX2_clause_46 (by decide) ?_
    have ecl : cls tp t x0 cn p0 n on M = (6, M, p0, n, on) := by
      unfold cls
      rw [hso]
      simp only []
      rw [if_pos c_2, if_neg c_9, if_pos c_10]
    exact c_iret (v := nI 6) (by rw [ecl]) hx hb hr rfl hlocks ⟨_, _, (by rw [ecl]; exact ⟨hZ.1.2.1, fun h9 => absurd h9 (by dsimp only; omega)⟩), mH.to (by rw [ecl]) rfl rfl hw.1⟩ hw.2 dX2_clause_48
  refine lv_iconst (v := nI 4) hx hb dX2_clause_28 (by decide) ?_
  have ecl : cls tp t x0 cn p0 n on M = (4, M, p0, n, on) := by
    unfold cls
    rw [hso]
    simp only []
    rw [if_pos c_2, if_pos c_9]
  exact c_iret (v := nI 4) (by rw [ecl]) hx hb hr rfl hlocks ⟨_, _, (by rw [ecl]; exact ⟨hZ.1.2.1, fun h9 => absurd h9 (by dsimp only; omega)⟩), mH.to (by rw [ecl]) rfl rfl hw.1⟩ hw.2 dX2_clause_29
