theorem cls_ok {tp : Nat → Nat} {t x0 c p n : Nat} {on : Int32} {M : Nat → Nat → Int32} (hT : TP tp t M) (hp : p ≤ t) (hn : n ≤ p) (hc : c ≤ 24) (hx : M 2 x0 = nI c) (h : (cls tp t x0 c p n on M).1 = 0) : p < (cls tp t x0 c p n on M).2.2.1 ∧ (cls tp t x0 c p n on M).2.2.1 ≤ t ∧ (cls tp t x0 c p n on M).2.2.2.1 ≤ (cls tp t x0 c p n on M).2.2.1 ∧ c < 24 ∧ (cls tp t x0 c p n on M).2.1 2 x0 = nI (c + 1) ∧ TP tp t (cls tp t x0 c p n on M).2.1 := by
  have ht := hT.2.1
  rcases hso : soO tp t p with _ | s
  · have e : (cls tp t x0 c p n on M) = (1, M, p, n, on) := by unfold cls; rw [hso]
    rw [e] at h; cases h
  obtain ⟨hs7, hl⟩ := soO_lt hso
  have hg := lxQ_gt hl
  have hq := lxQ_le (tp := tp) hp
  by_cases c24 : c = 24
  · have e : (cls tp t x0 c p n on M) = (if s < 4 then (if (on >>> (nI s &&& 31)) &&& nI 1 = nI 1 then (4, M, p, n, on) else (6, M, p, n, on)) else (6, M, p, n, on)) := by
      unfold cls; rw [hso]; simp only [if_pos c24]
    rw [e] at h
    by_cases a1 : s < 4
    · rw [if_pos a1] at h
      by_cases a2 : (on >>> (nI s &&& 31)) &&& nI 1 = nI 1
      · rw [if_pos a2] at h; cases h
      · rw [if_neg a2] at h; cases h
    · rw [if_neg a1] at h; cases h
  by_cases a1 : s < 4
  · by_cases a2 : (on >>> (nI s &&& 31)) &&& nI 1 = nI 1
    · have e : (cls tp t x0 c p n on M) = (4, M, p, n, on) := by unfold cls; rw [hso]; simp only []; rw [if_pos a1, if_pos a2]
      rw [e] at h; cases h
    · have e : (cls tp t x0 c p n on M) = clr tp t x0 c s (lxQ tp t p) n (on ||| (nI 1 <<< (nI s &&& 31))) (up2 M 2 (x0 + 1 + 3 * c) (nI s)) := by unfold cls; rw [hso]; simp only []; rw [if_pos a1, if_neg a2, if_neg c24]
      rw [e] at h ⊢
      unfold clr at h ⊢
      by_cases b1 : (psd tp t s (lxQ tp t p)).1 = 0
      · rw [if_pos b1] at h ⊢
        by_cases b2 : lxT tp t (psd tp t s (lxQ tp t p)).2.2.1 = 59
        · rw [if_pos b2]
          obtain ⟨k1, k2, k3, k4⟩ := psd_ok (c := n) hq ht (by omega) b1
          have k5 := lxQ_gt (tp := tp) (t := t) (p0 := (psd tp t s (lxQ tp t p)).2.2.1) (by omega)
          have k6 := lxQ_le (tp := tp) k3
          exact ⟨by dsimp only; omega, k6, by dsimp only; omega, by omega, (by dsimp only; exact up2_at), TP_up (TP_up (TP_up (TP_putC (TP_up hT))))⟩
        · rw [if_neg b2] at h; cases h
      · rw [if_neg b1] at h; exact absurd h b1
  · have e : (cls tp t x0 c p n on M) = clt tp t x0 c s (lxQ tp t p) n on (up2 M 2 (x0 + 1 + 3 * c) (nI s)) := by unfold cls; rw [hso]; simp only []; rw [if_neg a1, if_neg c24]
    rw [e] at h ⊢
    unfold clt at h ⊢
    by_cases b1 : (lin tp t s (x0 + 1 + 3 * c) (lxQ tp t p) (up2 M 2 (x0 + 1 + 3 * c) (nI s))).1 = 0
    · rw [if_pos b1] at h ⊢
      by_cases b2 : lxT tp t (lin tp t s (x0 + 1 + 3 * c) (lxQ tp t p) (up2 M 2 (x0 + 1 + 3 * c) (nI s))).2.2 = 59
      · rw [if_pos b2]
        obtain ⟨k1, k2, k3⟩ := lin_p (tp := tp) (t := t) (s := s) (k := (x0 + 1 + 3 * c)) (p := lxQ tp t p) (M := up2 M 2 (x0 + 1 + 3 * c) (nI s)) hq
        have k5 := lxQ_gt (tp := tp) (t := t) (p0 := (lin tp t s (x0 + 1 + 3 * c) (lxQ tp t p) (up2 M 2 (x0 + 1 + 3 * c) (nI s))).2.2) (by omega)
        have k6 := lxQ_le (tp := tp) k2
        exact ⟨by dsimp only; omega, k6, by dsimp only; omega, by omega, (by dsimp only; exact up2_at), TP_up (TP_lin (TP_up hT))⟩
      · rw [if_neg b2] at h; cases h
    · rw [if_neg b1] at h; exact absurd h b1
theorem cls_le {tp : Nat → Nat} {t x0 c p n : Nat} {on : Int32} {M : Nat → Nat → Int32} (hp : p ≤ t) : (cls tp t x0 c p n on M).1 ≤ 6 := by
  have hq := lxQ_le (tp := tp) hp
  unfold cls
  rcases hso : soO tp t p with _ | s
  · show 1 ≤ 6; decide
  · have h1 : ∀ on2 M2, (clr tp t x0 c s (lxQ tp t p) n on2 M2).1 ≤ 6 := by
      intro on2 M2
      have := psd_le (tp := tp) (t := t) (so := s) (p0 := lxQ tp t p)
      unfold clr
      repeat' split
      all_goals (dsimp only; omega)
    have h2 : ∀ on2 M2, (clt tp t x0 c s (lxQ tp t p) n on2 M2).1 ≤ 6 := by
      intro on2 M2
      have := lin_p (tp := tp) (t := t) (s := s) (k := (x0 + 1 + 3 * c)) (p := lxQ tp t p) (M := M2) hq
      unfold clt
      repeat' split
      all_goals (dsimp only; omega)
    simp only []
    repeat' split
    all_goals first | exact h1 _ _ | exact h2 _ _ | (dsimp only; omega)
/-- all the clauses from a place on: fault, the object, place -/
noncomputable def rdl (tp : Nat → Nat) (t x0 : Nat) : Nat → Nat → Nat → Nat → Int32 → (Nat → Nat → Int32) → Nat × (Nat → Nat → Int32) × Nat
  | 0, _, p, _, _, M => (0, M, p)
  | f + 1, c, p, n, on, M => if lxT tp t p = 0 then (0, M, p) else if (cls tp t x0 c p n on M).1 = 0 then rdl tp t x0 f (c + 1) (cls tp t x0 c p n on M).2.2.1 (cls tp t x0 c p n on M).2.2.2.1 (cls tp t x0 c p n on M).2.2.2.2 (cls tp t x0 c p n on M).2.1 else ((cls tp t x0 c p n on M).1, (cls tp t x0 c p n on M).2.1, (cls tp t x0 c p n on M).2.2.1)
noncomputable def rdt (tp : Nat → Nat) (t x0 : Nat) (M : Nat → Nat → Int32) : Nat × (Nat → Nat → Int32) × Nat := rdl tp t x0 (t + 1) 0 0 0 (nI 0) (up2 M 2 x0 (nI 0))
set_option maxHeartbeats 4000000 in
set_option maxRecDepth 100000 in
theorem met_X2_readText (l : Launch) (G : gG) (ad : Nat → Nat) (M Z : Nat → Nat → Int32) (V : Nat → Nat → Int64) (tp : Nat → Nat) (t tx : Nat) (hT : TP tp t M) (ha : M 0 4 = nI tx) (htx : tx ≤ 3) : Met l yX2_readText (ws_ yX2_readText cX2_readText 2 (some .int)) ({ frames := 7, cells := 0, slots := 0, locals := 161 } : Room) (cP G [.ref (ad 0)] (mH G ad M Z V)) (cQ (some (.int (nI (rdt tp t (680 * tx) M).1))) (fun H => ∃ Z9 V9, Z9 8 0 = nI (lxS tp t (rdt tp t (680 * tx) M).2.2) ∧ mH G ad ((rdt tp t (680 * tx) M).2.1) Z9 V9 H) (mA ad)) 0 0 (mA ad) := by
  refine c_start (by decide) (Nat.le_of_ble_eq_true rfl) ?_
  intro p e s m below meth c hx hb hr hlocks hml hown hts hB hK ls hl
  have hw := MS.of hB
  have hl : lv_has ls 2 [(0, .ref (ad 0))] := hl
  have ht3 := hT.2.1
  obtain ⟨so0, hso0⟩ := nI_any (Z 20 0)
  refine lv_aload_n hx hb dX2_readText_0 rfl (lv_at hl 0 rfl) ?_
  refine lv_sipush (v := nI 680) hx hb dX2_readText_1 (by decide) ?_
  refine lv_aload_n hx hb dX2_readText_4 rfl (lv_at hl 0 rfl) ?_
  refine m_g_a hx hb hts hown hK hw dX2_readText_5 ?_
  refine lv_iconst (v := nI 4) hx hb dX2_readText_8 (by decide) ?_
  refine m_l_a (j := 4) (v := nI tx) hx hb hK hw ha (by decide) dX2_readText_9 ?_
  refine n_imul hx hb dX2_readText_10 ?_
  refine m_p_text0 hx hb hts hown hK hw dX2_readText_11 (fun H locs hw => ?_)
  refine lv_aload_n hx hb dX2_readText_14 rfl (lv_at hl 0 rfl) ?_
  refine m_g_texts hx hb hts hown hK hw dX2_readText_15 ?_
  refine lv_aload_n hx hb dX2_readText_18 rfl (lv_at hl 0 rfl) ?_
  refine m_g_text0 hx hb hts hown hK hw dX2_readText_19 ?_
  rw [show (up2 Z 12 0 (nI (680 * tx))) 12 0 = nI (680 * tx) from up2_at]
  refine lv_iconst (v := nI 0) hx hb dX2_readText_22 (by decide) ?_
  refine m_s_texts (j := 680 * tx) hx hb hK hw (by omega) dX2_readText_23 (fun H locs hw => ?_)
  refine lv_aload_n hx hb dX2_readText_24 rfl (lv_at hl 0 rfl) ?_
  refine lv_iconst (v := nI 0) hx hb dX2_readText_25 (by decide) ?_
  refine m_p_written hx hb hts hown hK hw dX2_readText_26 (fun H locs hw => ?_)
  refine lv_aload_n hx hb dX2_readText_29 rfl (lv_at hl 0 rfl) ?_
  refine lv_iconst (v := nI 0) hx hb dX2_readText_30 (by decide) ?_
  refine m_p_opens hx hb hts hown hK hw dX2_readText_31 (fun H locs hw => ?_)
  refine lv_aload_n hx hb dX2_readText_34 rfl (lv_at hl 0 rfl) ?_
  refine lv_iconst (v := nI 0) hx hb dX2_readText_35 (by decide) ?_
  refine m_p_once hx hb hts hown hK hw dX2_readText_36 (fun H locs hw => ?_)
  refine lv_aload_n hx hb dX2_readText_39 rfl (lv_at hl 0 rfl) ?_
  refine lv_iconst (v := nI 0) hx hb dX2_readText_40 (by decide) ?_
  refine m_p_at hx hb hts hown hK hw dX2_readText_41 (fun H locs hw => ?_)
  refine lv_aload_n hx hb dX2_readText_44 rfl (lv_at hl 0 rfl) ?_
  refine c_call (va_runV (As := []) (rest := []) ⟨hx, hb, hml, hown, hts⟩ (met_X2_nextToken l G ad (up2 M 2 (680 * tx) (nI 0)) (up2 (up2 (up2 (up2 (up2 Z 12 0 (nI (680 * tx))) 14 0 (nI 0)) 18 0 (nI 0)) 21 0 (nI 0)) 7 0 (nI 0)) V tp t 0 (TP_up hT) up2_at (Nat.zero_le _)) (cv_X2_X2_nextToken hts ⟨Nat.le_of_ble_eq_true rfl, Nat.le_of_ble_eq_true rfl⟩) (cP.preV hK hw.1 (hw.1.recv hK)) rfl rfl hl.1 rfl (lv_room (Nat.le_of_ble_eq_true rfl)) dX2_readText_45 ⟨by first | exact Nat.zero_le _ | omega | decide, by first | exact Nat.zero_le _ | omega | decide⟩) hw.2 (fun q _ h => h) (fun q h => h) (fun H locs hw _ _ hS => ?_)
  obtain ⟨Z1, V1, ⟨hlx1, hkz1⟩, hw⟩ := hw
  replace hw := MS.mk hw hS
  have hzb1 : ZC tp t (680 * tx) 0 so0 (nI 0) (Z 19 0) 0 Z1 V1 := ⟨hlx1, (congrFun (hkz1 12 (by decide) (by decide) (by decide) (by decide)) 0).trans ((up2_ne (Or.inl (by decide))).trans ((up2_ne (Or.inl (by decide))).trans ((up2_ne (Or.inl (by decide))).trans ((up2_ne (Or.inl (by decide))).trans up2_at)))), (congrFun (hkz1 14 (by decide) (by decide) (by decide) (by decide)) 0).trans ((up2_ne (Or.inl (by decide))).trans ((up2_ne (Or.inl (by decide))).trans ((up2_ne (Or.inl (by decide))).trans up2_at))), trivial, trivial, (congrFun (hkz1 18 (by decide) (by decide) (by decide) (by decide)) 0).trans ((up2_ne (Or.inl (by decide))).trans ((up2_ne (Or.inl (by decide))).trans up2_at)), (congrFun (hkz1 19 (by decide) (by decide) (by decide) (by decide)) 0).trans ((up2_ne (Or.inl (by decide))).trans ((up2_ne (Or.inl (by decide))).trans ((up2_ne (Or.inl (by decide))).trans ((up2_ne (Or.inl (by decide))).trans ((up2_ne (Or.inl (by decide))).trans rfl))))), (congrFun (hkz1 20 (by decide) (by decide) (by decide) (by decide)) 0).trans ((up2_ne (Or.inl (by decide))).trans ((up2_ne (Or.inl (by decide))).trans ((up2_ne (Or.inl (by decide))).trans ((up2_ne (Or.inl (by decide))).trans ((up2_ne (Or.inl (by decide))).trans hso0))))), (congrFun (hkz1 21 (by decide) (by decide) (by decide) (by decide)) 0).trans ((up2_ne (Or.inl (by decide))).trans up2_at)⟩
  have L_48 : ∀ (fuel : Nat) (F1 : Nat) (c1 : Nat) (p1 : Nat) (n1 : Nat) (on1 : Int32) (so1 : Nat) (w1 : Int32) (M1 : Nat → Nat → Int32) (Za : Nat → Nat → Int32) (Va : Nat → Nat → Int64), F1 < fuel → (t - p1 < F1) → (p1 ≤ t) → (n1 ≤ p1) → (c1 ≤ 24) → ((rdl tp t (680 * tx) F1 c1 p1 n1 on1 M1) = (rdt tp t (680 * tx) M)) → (M1 2 (680 * tx) = nI c1) → (TP tp t M1) → (ZC tp t (680 * tx) n1 so1 on1 w1 p1 Za Va) → ∀ (H : Heap) (locs : List Loc), MS G ad s.heap M1 Za Va H locs → ∀ (ls : Array Slot), lv_has ls 2 [(0, .ref (ad 0))] → W p l e ({ frames := 7, cells := 0, slots := 0, locals := 161 } : Room) s m ([.ref (ad 0)] : List Value).toArray below meth c H locs 0 0 (MQ below (cQ (some (.int (nI (rdt tp t (680 * tx) M).1))) (fun H => ∃ Z9 V9, Z9 8 0 = nI (lxS tp t (rdt tp t (680 * tx) M).2.2) ∧ mH G ad ((rdt tp t (680 * tx) M).2.1) Z9 V9 H) (mA ad)) ([.ref (ad 0)] : List Value).toArray s 0 0 (mA ad)) (F0 m 48 ls []) := by
    intro fuel
    induction fuel with
    | zero => intro F1 c1 p1 n1 on1 so1 w1 M1 Za Va hf; exact absurd hf (Nat.not_lt_zero _)
    | succ fuel ih =>
      intro F1 c1 p1 n1 on1 so1 w1 M1 Za Va hf hF hp1 hn1 hc1 hM1 hx1 hT1 hZ1 H locs hw ls hl
      have ih48 := ih
      obtain ⟨f, rfl⟩ : ∃ f, F1 = f + 1 := ⟨F1 - 1, by omega⟩
      have hT8 := lxT_lt hT1 p1
      refine lv_aload_n hx hb dX2_readText_48 rfl (lv_at hl 0 rfl) ?_
      refine m_g_token hx hb hts hown hK hw dX2_readText_49 ?_
      rw [show Za 9 0 = nI (lxT tp t p1) from hZ1.1.2.2.1]
      refine n_if_eq (tgt := 69) hx hb dX2_readText_52 (by decide) (by omega) (fun c_1 => ?_) (fun c_1 => ?_)
      · refine lv_iconst (v := nI 0) hx hb dX2_readText_69 (by decide) ?_
        have ee : (rdt tp t (680 * tx) M) = (0, M1, p1) := hM1.symm.trans (if_pos (by omega))
        exact c_iret (v := nI 0) (by rw [ee]) hx hb hr rfl hlocks ⟨_, _, (by rw [ee]; exact hZ1.1.2.1), mH.to (by rw [ee]) rfl rfl hw.1⟩ hw.2 dX2_readText_70
      have hntok : ¬ lxT tp t p1 = 0 := by omega
      refine lv_aload_n hx hb dX2_readText_55 rfl (lv_at hl 0 rfl) ?_
      refine c_call (va_runV (As := []) (rest := []) ⟨hx, hb, hml, hown, hts⟩ (met_X2_clause l G ad M1 Za Va tp t (680 * tx) n1 so1 p1 c1 on1 w1 hT1 ⟨hZ1.1, hZ1.2.1, hZ1.2.2.1, trivial, trivial, hZ1.2.2.2.2.2.1, hZ1.2.2.2.2.2.2.1, hZ1.2.2.2.2.2.2.2.1, hZ1.2.2.2.2.2.2.2.2⟩ (by omega) (by omega) (by omega) hx1 (by omega)) (cv_X2_X2_clause hts ⟨Nat.le_of_ble_eq_true rfl, Nat.le_of_ble_eq_true rfl⟩) (cP.preV hK hw.1 (hw.1.recv hK)) rfl rfl hl.1 rfl (lv_room (Nat.le_of_ble_eq_true rfl)) dX2_readText_56 ⟨by first | exact Nat.zero_le _ | omega | decide, by first | exact Nat.zero_le _ | omega | decide⟩) hw.2 (fun q _ h => h) (fun q h => h) (fun H locs hw _ _ hS => ?_)
      obtain ⟨Z2, V2, ⟨hpl2, hcz2⟩, hw⟩ := hw
      replace hw := MS.mk hw hS
      have hcl6 : (cls tp t (680 * tx) c1 p1 n1 on1 M1).1 ≤ 6 := cls_le (by omega)
      refine lv_istore_n (lv' := [(1, .int (nI ((cls tp t (680 * tx) c1 p1 n1 on1 M1).1))), (0, .ref (ad 0))]) hx hb dX2_readText_59 rfl hl (by decide) rfl (fun ls hl => ?_)
      refine lv_iload_n hx hb dX2_readText_60 rfl (lv_at hl 0 rfl) ?_
      refine n_if_eq (tgt := 66) hx hb dX2_readText_61 (by decide) (by omega) (fun c_2 => ?_) (fun c_2 => ?_)
      · refine lv_goto (tgt := 48) hx hb dX2_readText_66 (by decide) ?_
        obtain ⟨i1, i2, i3, i4, i5, i6⟩ := cls_ok hT1 hp1 hn1 hc1 hx1 c_2
        obtain ⟨so9, w9, hzn⟩ := hcz2 c_2
        have ee : rdl tp t (680 * tx) (f + 1) c1 p1 n1 on1 M1 = _ := (if_neg hntok).trans (if_pos c_2)
        exact ih48 f (c1 + 1) ((cls tp t (680 * tx) c1 p1 n1 on1 M1).2.2.1) ((cls tp t (680 * tx) c1 p1 n1 on1 M1).2.2.2.1) ((cls tp t (680 * tx) c1 p1 n1 on1 M1).2.2.2.2) so9 w9 ((cls tp t (680 * tx) c1 p1 n1 on1 M1).2.1) Z2 V2 (by omega) (by omega) i2 i3 (by omega) (ee.symm.trans hM1) i5 i6 hzn _ _ hw ls (lv_sub hl [1] rfl)
      refine lv_iload_n hx hb dX2_readText_64 rfl (lv_at hl 0 rfl) ?_
      have ee : (rdt tp t (680 * tx) M) = ((cls tp t (680 * tx) c1 p1 n1 on1 M1).1, (cls tp t (680 * tx) c1 p1 n1 on1 M1).2.1, (cls tp t (680 * tx) c1 p1 n1 on1 M1).2.2.1) := hM1.symm.trans ((if_neg hntok).trans (if_neg (by omega)))
      exact c_iret (v := nI ((cls tp t (680 * tx) c1 p1 n1 on1 M1).1)) (by rw [ee]) hx hb hr rfl hlocks ⟨_, _, (by rw [ee]; exact hpl2), mH.to (by rw [ee]) rfl rfl hw.1⟩ hw.2 dX2_readText_65
  exact L_48 _ (t + 1) 0 0 0 (nI 0) so0 (Z 19 0) (up2 M 2 (680 * tx) (nI 0)) Z1 V1 (Nat.lt_succ_self _) (by omega) (Nat.zero_le _) (Nat.le_refl _) (Nat.zero_le _) rfl up2_at (TP_up hT) hzb1 _ _ hw ls (lv_sub hl [0] rfl)
