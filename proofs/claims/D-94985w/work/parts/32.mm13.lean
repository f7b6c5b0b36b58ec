noncomputable def mMany (M : Nat → Nat → Int32) (q nb : Nat) : Int32 := it (fun b g => pif (M 0 (150 + 10 * q + 4 + b) = 0) g (g + nI 1)) (nb - 0) 0 (nI 0)
noncomputable def mQuar1 (M : Nat → Nat → Int32) (q b : Nat) (g : Int32) : Int32 := it (fun d g => g + pif (0 < M 0 (150 + 10 * q + 4 + d) ∧ mHas (M 0 (10 + 5 * b + 4)) d) (nI 1) (nI 0)) (b - 0) 0 g
noncomputable def mQuar (M : Nat → Nat → Int32) (q nb : Nat) : Int32 := it (fun b g => pif (M 0 (150 + 10 * q + 4 + b) = 0) g (mQuar1 M q b g)) (nb - 0) 0 (nI 0)
def nmR (M : Nat → Nat → Int32) (k : Nat) (g9 g10 : Int32) (w : Nat) : Int32 := if w = 0 then M 0 3 else if w = 5 then nI k else if w = 6 then M 0 (40 + 3 * k) else if w = 7 then M 0 (40 + 3 * k + 2) else if w = 9 then g9 else if w = 10 then g10 else 0
noncomputable def mBrittle (tx : kT) (M : Nat → Nat → Int32) (q k nb : Nat) : Int32 := mSumT tx (nmR M k (mQuar M q nb) (mMany M q nb)) 2 (nI 10) (nI 0)
set_option maxHeartbeats 4000000 in
set_option maxRecDepth 100000 in
theorem met_X2_brittleOf (l : Launch) (G : gG) (ad : Nat → Nat) (M Z : Nat → Nat → Int32) (V : Nat → Nat → Int64) (tx : kT) (htx : mTx M tx) (q k : Nat) (hq : q < 10) (hk : k < 6) (ek : M 0 (150 + 10 * q) = nI k) (nb : Nat) (en : M 0 0 = nI nb) (hn : nb ≤ 6) : Met l yX2_brittleOf (ws_ yX2_brittleOf cX2_brittleOf 4 (some .int)) ({ frames := 4, cells := 0, slots := 0, locals := 97 } : Room) (cP G [.ref (ad 0), .int (nI q)] (mH G ad M Z V)) (cQ (some (.int (mBrittle tx M q k nb))) (fun H => ∃ Z9 V9, (∀ k9, k9 ≠ 22 → k9 ≠ 24 → Z9 k9 = Z k9) ∧ mH G ad M Z9 V9 H) (mA ad)) 0 0 (mA ad) := by
  refine c_start (by decide) (Nat.le_of_ble_eq_true rfl) ?_
  intro p e s m below meth c hx hb hr hlocks hml hown hts hB hK ls hl
  have hw := MS.of hB
  have hl : lv_has ls 4 [(0, .ref (ad 0)), (1, .int (nI q))] := hl
  refine lv_aload_n hx hb dX2_brittleOf_0 rfl (lv_at hl 0 rfl) ?_
  refine m_g_named hx hb hts hown hK hw dX2_brittleOf_1 ?_
  refine lv_iconst (v := nI 0) hx hb dX2_brittleOf_4 (by decide) ?_
  refine lv_aload_n hx hb dX2_brittleOf_5 rfl (lv_at hl 0 rfl) ?_
  refine m_g_a hx hb hts hown hK hw dX2_brittleOf_6 ?_
  refine lv_iconst (v := nI 3) hx hb dX2_brittleOf_9 (by decide) ?_
  refine m_l_a (j := 3) (v := M 0 3) hx hb hK hw rfl (by decide) dX2_brittleOf_10 ?_
  refine m_s_named (j := 0) hx hb hK hw (by decide) dX2_brittleOf_11 (fun H locs hw => ?_)
  refine lv_aload_n hx hb dX2_brittleOf_12 rfl (lv_at hl 0 rfl) ?_
  refine lv_aload_n hx hb dX2_brittleOf_13 rfl (lv_at hl 0 rfl) ?_
  refine m_g_a hx hb hts hown hK hw dX2_brittleOf_14 ?_
  refine lv_iload_n hx hb dX2_brittleOf_17 rfl (lv_at hl 1 rfl) ?_
  refine c_read (va_runS (As := [.int (nI q)]) (rest := [.ref (ad 1), .ref (ad 0)]) ⟨hx, hb, hml, hown, hts⟩ (met_X2_pieceAt l G q) (cs_X2_X2_pieceAt hts ⟨Nat.le_of_ble_eq_true rfl, Nat.le_of_ble_eq_true rfl⟩) (cP.pre hK trivial) rfl rfl hl.1 rfl (lv_room (Nat.le_of_ble_eq_true rfl)) dX2_brittleOf_18 ⟨by first | exact Nat.zero_le _ | omega | decide, by first | exact Nat.zero_le _ | omega | decide⟩) ?_
  refine m_l_a (j := 150 + 10 * q) (v := nI k) hx hb hK hw ek (by omega) dX2_brittleOf_21 ?_
  refine c_call (va_runV (As := [.int (nI k)]) (rest := []) ⟨hx, hb, hml, hown, hts⟩ (met_X2_nameKind l G ad M (up2 Z 22 0 (M 0 3)) V k (by omega)) (cv_X2_X2_nameKind hts ⟨Nat.le_of_ble_eq_true rfl, Nat.le_of_ble_eq_true rfl⟩) (cP.preV hK hw.1 (hw.1.recv hK)) rfl rfl hl.1 rfl (lv_room (Nat.le_of_ble_eq_true rfl)) dX2_brittleOf_22 ⟨by first | exact Nat.zero_le _ | omega | decide, by first | exact Nat.zero_le _ | omega | decide⟩) hw.2 (fun q _ h => h) (fun q h => h) (fun H locs hw _ _ hS => ?_)
  replace hw := MS.mk hw hS
  refine lv_aload_n hx hb dX2_brittleOf_25 rfl (lv_at hl 0 rfl) ?_
  refine m_g_named hx hb hts hown hK hw dX2_brittleOf_26 ?_
  refine lv_bipush (v := nI 9) hx hb dX2_brittleOf_29 (by decide) ?_
  refine lv_iconst (v := nI 0) hx hb dX2_brittleOf_31 (by decide) ?_
  refine m_s_named (j := 9) hx hb hK hw (by decide) dX2_brittleOf_32 (fun H locs hw => ?_)
  refine lv_aload_n hx hb dX2_brittleOf_33 rfl (lv_at hl 0 rfl) ?_
  refine m_g_named hx hb hts hown hK hw dX2_brittleOf_34 ?_
  refine lv_bipush (v := nI 10) hx hb dX2_brittleOf_37 (by decide) ?_
  refine lv_iconst (v := nI 0) hx hb dX2_brittleOf_39 (by decide) ?_
  refine m_s_named (j := 10) hx hb hK hw (by decide) dX2_brittleOf_40 (fun H locs hw => ?_)
  refine lv_iconst (v := nI 0) hx hb dX2_brittleOf_41 (by decide) ?_
  refine lv_istore_n (lv' := [(2, .int (nI 0)), (0, .ref (ad 0)), (1, .int (nI q))]) hx hb dX2_brittleOf_42 rfl hl (by decide) rfl (fun ls hl => ?_)
  have L_43 : ∀ (fuel : Nat) (b : Nat) (g9 : Int32) (g10 : Int32) (Za : Nat → Nat → Int32), nb - b < fuel → (b ≤ nb) → (it (fun b g => pif (M 0 (150 + 10 * q + 4 + b) = 0) g (g + nI 1)) (nb - b) b g10 = mMany M q nb) → (it (fun b g => pif (M 0 (150 + 10 * q + 4 + b) = 0) g (mQuar1 M q b g)) (nb - b) b g9 = mQuar M q nb) → (Za 22 0 = M 0 3) → (Za 22 5 = nI k) → (Za 22 6 = M 0 (40 + 3 * k)) → (Za 22 7 = M 0 (40 + 3 * k + 2)) → (Za 22 9 = g9) → (Za 22 10 = g10) → (∀ k9, k9 ≠ 22 → Za k9 = Z k9) → ∀ (H : Heap) (locs : List Loc), MS G ad s.heap M Za V H locs → ∀ (ls : Array Slot), lv_has ls 4 [(0, .ref (ad 0)), (1, .int (nI q)), (2, .int (nI b))] → W p l e ({ frames := 4, cells := 0, slots := 0, locals := 97 } : Room) s m ([.ref (ad 0), .int (nI q)] : List Value).toArray below meth c H locs 0 0 (MQ below (cQ (some (.int (mBrittle tx M q k nb))) (fun H => ∃ Z9 V9, (∀ k9, k9 ≠ 22 → k9 ≠ 24 → Z9 k9 = Z k9) ∧ mH G ad M Z9 V9 H) (mA ad)) ([.ref (ad 0), .int (nI q)] : List Value).toArray s 0 0 (mA ad)) (F0 m 43 ls []) := by
    intro fuel
    induction fuel with
    | zero => intro b g9 g10 Za hf; exact absurd hf (Nat.not_lt_zero _)
    | succ fuel ih =>
      intro b g9 g10 Za hf hi_b hm hq2 a0 a5 a6 a7 b9 b10 hzz H locs hw ls hl
      have ih43 := ih
      refine lv_iload_n hx hb dX2_brittleOf_43 rfl (lv_at hl 2 rfl) ?_
      refine lv_aload_n hx hb dX2_brittleOf_44 rfl (lv_at hl 0 rfl) ?_
      refine m_g_a hx hb hts hown hK hw dX2_brittleOf_45 ?_
      refine lv_iconst (v := nI 0) hx hb dX2_brittleOf_48 (by decide) ?_
      refine m_l_a (j := 0) (v := nI nb) hx hb hK hw en (by decide) dX2_brittleOf_49 ?_
      refine n_icmp_ge (tgt := 132) hx hb dX2_brittleOf_50 (by decide) (by omega) (by omega) (fun c_1 => ?_) (fun c_1 => ?_)
      · obtain rfl : g10 = mMany M q nb := (it_z (by omega)).symm.trans hm
        obtain rfl : g9 = mQuar M q nb := (it_z (by omega)).symm.trans hq2
        refine lv_aload_n hx hb dX2_brittleOf_132 rfl (lv_at hl 0 rfl) ?_
        refine lv_iconst (v := nI 2) hx hb dX2_brittleOf_133 (by decide) ?_
        refine lv_bipush (v := nI 10) hx hb dX2_brittleOf_134 (by decide) ?_
        refine lv_iconst (v := nI 0) hx hb dX2_brittleOf_136 (by decide) ?_
        refine c_call (va_runV (As := [.int (nI 2), .int (nI 10), .int (nI 0)]) (rest := []) ⟨hx, hb, hml, hown, hts⟩ (met_X2_sumOf l G ad M Za V tx htx 2 (by decide) (nI 10) (nI 0)) (cv_X2_X2_sumOf hts ⟨Nat.le_of_ble_eq_true rfl, Nat.le_of_ble_eq_true rfl⟩) (cP.preV hK hw.1 (hw.1.recv hK)) rfl rfl hl.1 rfl (lv_room (Nat.le_of_ble_eq_true rfl)) dX2_brittleOf_137 ⟨by first | exact Nat.zero_le _ | omega | decide, by first | exact Nat.zero_le _ | omega | decide⟩) hw.2 (fun q _ h => h) (fun q h => h) (fun H locs hw _ _ hS => ?_)
        obtain ⟨Z1, V1, hz1, hw⟩ := hw
        replace hw := MS.mk hw hS
        exact c_iret (v := mSumT tx (Za 22) 2 (nI 10) (nI 0)) (mSumT_congr (M := M) (by decide) htx (fun v9 h9 => by (have h8 : v9 = 0 ∨ v9 = 5 ∨ v9 = 6 ∨ v9 = 7 ∨ v9 = 9 ∨ v9 = 10 := by (unfold nmOk at h9; omega)); obtain rfl | rfl | rfl | rfl | rfl | rfl := h8 <;> first | exact a0 | exact a5 | exact a6 | exact a7 | exact b9 | exact b10)) hx hb hr rfl hlocks ⟨_, _, (fun k9 h9 h8 => by rw [hz1 k9 h8]; exact hzz k9 h9), mH.to rfl rfl rfl hw.1⟩ hw.2 dX2_brittleOf_140
      refine lv_aload_n hx hb dX2_brittleOf_53 rfl (lv_at hl 0 rfl) ?_
      refine lv_iload_n hx hb dX2_brittleOf_54 rfl (lv_at hl 1 rfl) ?_
      refine lv_iload_n hx hb dX2_brittleOf_55 rfl (lv_at hl 2 rfl) ?_
      refine c_read (va_runV (As := [.int (nI q), .int (nI b)]) (rest := []) ⟨hx, hb, hml, hown, hts⟩ (met_X2_gave l G ad M Za V q b (M 0 (150 + 10 * q + 4 + b)) (by omega) rfl) (cv_X2_X2_gave hts ⟨Nat.le_of_ble_eq_true rfl, Nat.le_of_ble_eq_true rfl⟩) (cP.preV hK hw.1 (hw.1.recv hK)) rfl rfl hl.1 rfl (lv_room (Nat.le_of_ble_eq_true rfl)) dX2_brittleOf_56 ⟨by first | exact Nat.zero_le _ | omega | decide, by first | exact Nat.zero_le _ | omega | decide⟩) ?_
      refine lv_if_ne (tgt := 65) hx hb dX2_brittleOf_59 (by decide) (fun c_2 => ?_) (fun c_2 => ?_)
      · refine lv_aload_n hx hb dX2_brittleOf_65 rfl (lv_at hl 0 rfl) ?_
        refine m_g_named hx hb hts hown hK hw dX2_brittleOf_66 ?_
        refine lv_bipush (v := nI 10) hx hb dX2_brittleOf_69 (by decide) ?_
        refine lv_dup2_11 hx hb dX2_brittleOf_71 rfl rfl ?_
        refine m_l_named (j := 10) (v := g10) hx hb hK hw b10 (by decide) dX2_brittleOf_72 ?_
        refine lv_iconst (v := nI 1) hx hb dX2_brittleOf_73 (by decide) ?_
        refine lv_iadd hx hb dX2_brittleOf_74 ?_
        refine m_s_named (j := 10) hx hb hK hw (by decide) dX2_brittleOf_75 (fun H locs hw => ?_)
        refine lv_iconst (v := nI 0) hx hb dX2_brittleOf_76 (by decide) ?_
        refine lv_istore_n (lv' := [(3, .int (nI 0)), (0, .ref (ad 0)), (1, .int (nI q)), (2, .int (nI b))]) hx hb dX2_brittleOf_77 rfl hl (by decide) rfl (fun ls hl => ?_)
        have L78_3 : ∀ (fuel : Nat) (d : Nat) (g : Int32) (Zb : Nat → Nat → Int32), b - d < fuel → (d ≤ b) → (it (fun d g => g + pif (0 < M 0 (150 + 10 * q + 4 + d) ∧ mHas (M 0 (10 + 5 * b + 4)) d) (nI 1) (nI 0)) (b - d) d g = mQuar1 M q b g9) → (Zb 22 0 = M 0 3) → (Zb 22 5 = nI k) → (Zb 22 6 = M 0 (40 + 3 * k)) → (Zb 22 7 = M 0 (40 + 3 * k + 2)) → (Zb 22 9 = g) → (Zb 22 10 = g10 + nI 1) → (∀ k9, k9 ≠ 22 → Zb k9 = Z k9) → ∀ (H : Heap) (locs : List Loc), MS G ad s.heap M Zb V H locs → ∀ (ls : Array Slot), lv_has ls 4 [(0, .ref (ad 0)), (1, .int (nI q)), (2, .int (nI b)), (3, .int (nI d))] → W p l e ({ frames := 4, cells := 0, slots := 0, locals := 97 } : Room) s m ([.ref (ad 0), .int (nI q)] : List Value).toArray below meth c H locs 0 0 (MQ below (cQ (some (.int (mBrittle tx M q k nb))) (fun H => ∃ Z9 V9, (∀ k9, k9 ≠ 22 → k9 ≠ 24 → Z9 k9 = Z k9) ∧ mH G ad M Z9 V9 H) (mA ad)) ([.ref (ad 0), .int (nI q)] : List Value).toArray s 0 0 (mA ad)) (F0 m 78 ls []) := by
          intro fuel
          induction fuel with
          | zero => intro d g Zb hf; exact absurd hf (Nat.not_lt_zero _)
          | succ fuel ih =>
            intro d g Zb hf hi_d hqi a0n a5n a6n a7n b9n b10n hzzn H locs hw ls hl
            have ih78 := ih
            refine lv_iload_n hx hb dX2_brittleOf_78 rfl (lv_at hl 3 rfl) ?_
            refine lv_iload_n hx hb dX2_brittleOf_79 rfl (lv_at hl 2 rfl) ?_
            refine n_icmp_ge (tgt := 126) hx hb dX2_brittleOf_80 (by decide) (by omega) (by omega) (fun c_4 => ?_) (fun c_4 => ?_)
            · have hge : g = mQuar1 M q b g9 := (it_z (by omega)).symm.trans hqi
              refine lv_iinc (v := nI (b + 1)) (lv' := [(2, .int (nI (b + 1))), (0, .ref (ad 0)), (1, .int (nI q)), (3, .int (nI d))]) hx hb dX2_brittleOf_126 hl (k := 2) rfl (n_inc b 1) (by decide) rfl (fun ls hl => ?_)
              refine lv_goto (tgt := 43) hx hb dX2_brittleOf_129 (by decide) ?_
              exact ih43 (b + 1) g (g10 + nI 1) Zb (by omega) (by first | assumption | omega | rfl) (by refine Eq.trans ?_ ((it_s (by omega)).symm.trans hm); congr 1; rw [pif_f c_2]) (by refine Eq.trans ?_ ((it_s (by omega)).symm.trans hq2); congr 1; rw [pif_f c_2]; exact hge) a0n a5n a6n a7n b9n b10n (fun k9 h9 => by funext j9; (try simp only [up2_eq, h9, false_and, if_false]); first | done | rfl | rw [hzzn k9 h9] | rw [hzz k9 h9]) _ _ hw ls (lv_sub hl [1, 2, 0] rfl)
            refine lv_aload_n hx hb dX2_brittleOf_83 rfl (lv_at hl 0 rfl) ?_
            refine m_g_named hx hb hts hown hK hw dX2_brittleOf_84 ?_
            refine lv_bipush (v := nI 9) hx hb dX2_brittleOf_87 (by decide) ?_
            refine lv_dup2_11 hx hb dX2_brittleOf_89 rfl rfl ?_
            refine m_l_named (j := 9) (v := g) hx hb hK hw b9n (by decide) dX2_brittleOf_90 ?_
            refine lv_aload_n hx hb dX2_brittleOf_91 rfl (lv_at hl 0 rfl) ?_
            refine lv_iload_n hx hb dX2_brittleOf_92 rfl (lv_at hl 1 rfl) ?_
            refine lv_iload_n hx hb dX2_brittleOf_93 rfl (lv_at hl 3 rfl) ?_
            refine c_read (va_runV (As := [.int (nI q), .int (nI d)]) (rest := [.int g, .int (nI 9), .ref (ad 6)]) ⟨hx, hb, hml, hown, hts⟩ (met_X2_gave l G ad M Zb V q d (M 0 (150 + 10 * q + 4 + d)) (by omega) rfl) (cv_X2_X2_gave hts ⟨Nat.le_of_ble_eq_true rfl, Nat.le_of_ble_eq_true rfl⟩) (cP.preV hK hw.1 (hw.1.recv hK)) rfl rfl hl.1 rfl (lv_room (Nat.le_of_ble_eq_true rfl)) dX2_brittleOf_94 ⟨by first | exact Nat.zero_le _ | omega | decide, by first | exact Nat.zero_le _ | omega | decide⟩) ?_
            refine lv_if_le (tgt := 117) hx hb dX2_brittleOf_97 (by decide) (fun c_5 => ?_) (fun c_5 => ?_)
            · refine lv_iconst (v := nI 0) hx hb dX2_brittleOf_117 (by decide) ?_
              refine lv_iadd hx hb dX2_brittleOf_118 ?_
              refine m_s_named (j := 9) hx hb hK hw (by decide) dX2_brittleOf_119 (fun H locs hw => ?_)
              refine lv_iinc (v := nI (d + 1)) (lv' := [(3, .int (nI (d + 1))), (0, .ref (ad 0)), (1, .int (nI q)), (2, .int (nI b))]) hx hb dX2_brittleOf_120 hl (k := 3) rfl (n_inc d 1) (by decide) rfl (fun ls hl => ?_)
              refine lv_goto (tgt := 78) hx hb dX2_brittleOf_123 (by decide) ?_
              exact ih78 (d + 1) (g + (nI 0)) (up2 Zb 22 9 (g + (nI 0))) (by omega) (by first | assumption | omega | rfl) (by refine Eq.trans ?_ ((it_s (by omega)).symm.trans hqi); congr 1; first | rw [pif_t ⟨by first | assumption | exact Int32.not_le.mp (by assumption), by assumption⟩] | rw [pif_f (fun h9 => by first | exact absurd h9.1 (Int32.not_lt.mpr (by assumption)) | exact absurd h9.2 (by assumption))]) ((up2_ne (Or.inr (by decide))).trans a0n) ((up2_ne (Or.inr (by decide))).trans a5n) ((up2_ne (Or.inr (by decide))).trans a6n) ((up2_ne (Or.inr (by decide))).trans a7n) up2_at ((up2_ne (Or.inr (by decide))).trans b10n) (fun k9 h9 => by funext j9; (try simp only [up2_eq, h9, false_and, if_false]); first | done | rfl | rw [hzzn k9 h9] | rw [hzz k9 h9]) _ _ hw ls (lv_sub hl [1, 2, 3, 0] rfl)
            refine lv_aload_n hx hb dX2_brittleOf_100 rfl (lv_at hl 0 rfl) ?_
            refine lv_iload_n hx hb dX2_brittleOf_101 rfl (lv_at hl 2 rfl) ?_
            refine lv_iconst (v := nI 4) hx hb dX2_brittleOf_102 (by decide) ?_
            refine c_read (va_runV (As := [.int (nI b), .int (nI 4)]) (rest := [.int g, .int (nI 9), .ref (ad 6)]) ⟨hx, hb, hml, hown, hts⟩ (met_X2_get l G ad M Zb V b 4 (M 0 (10 + 5 * b + 4)) (by omega) rfl) (cv_X2_X2_get hts ⟨Nat.le_of_ble_eq_true rfl, Nat.le_of_ble_eq_true rfl⟩) (cP.preV hK hw.1 (hw.1.recv hK)) rfl rfl hl.1 rfl (lv_room (Nat.le_of_ble_eq_true rfl)) dX2_brittleOf_103 ⟨by first | exact Nat.zero_le _ | omega | decide, by first | exact Nat.zero_le _ | omega | decide⟩) ?_
            refine lv_iload_n hx hb dX2_brittleOf_106 rfl (lv_at hl 3 rfl) ?_
            refine c_read (va_runS (As := [.int (M 0 (10 + 5 * b + 4)), .int (nI d)]) (rest := [.int g, .int (nI 9), .ref (ad 6)]) ⟨hx, hb, hml, hown, hts⟩ (met_X2_has l G (M 0 (10 + 5 * b + 4)) (nI d)) (cs_X2_X2_has hts ⟨Nat.le_of_ble_eq_true rfl, Nat.le_of_ble_eq_true rfl⟩) (cP.pre hK trivial) rfl rfl hl.1 rfl (lv_room (Nat.le_of_ble_eq_true rfl)) dX2_brittleOf_107 ⟨by first | exact Nat.zero_le _ | omega | decide, by first | exact Nat.zero_le _ | omega | decide⟩) ?_
            refine b_if_eq (tgt := 117) hx hb dX2_brittleOf_110 (by decide) (fun c_6 => ?_) (fun c_6 => ?_)
            · refine lv_iconst (v := nI 0) hx hb dX2_brittleOf_117 (by decide) ?_
              refine lv_iadd hx hb dX2_brittleOf_118 ?_
              refine m_s_named (j := 9) hx hb hK hw (by decide) dX2_brittleOf_119 (fun H locs hw => ?_)
              refine lv_iinc (v := nI (d + 1)) (lv' := [(3, .int (nI (d + 1))), (0, .ref (ad 0)), (1, .int (nI q)), (2, .int (nI b))]) hx hb dX2_brittleOf_120 hl (k := 3) rfl (n_inc d 1) (by decide) rfl (fun ls hl => ?_)
              refine lv_goto (tgt := 78) hx hb dX2_brittleOf_123 (by decide) ?_
              exact ih78 (d + 1) (g + (nI 0)) (up2 Zb 22 9 (g + (nI 0))) (by omega) (by first | assumption | omega | rfl) (by refine Eq.trans ?_ ((it_s (by omega)).symm.trans hqi); congr 1; first | rw [pif_t ⟨by first | assumption | exact Int32.not_le.mp (by assumption), by assumption⟩] | rw [pif_f (fun h9 => by first | exact absurd h9.1 (Int32.not_lt.mpr (by assumption)) | exact absurd h9.2 (by assumption))]) ((up2_ne (Or.inr (by decide))).trans a0n) ((up2_ne (Or.inr (by decide))).trans a5n) ((up2_ne (Or.inr (by decide))).trans a6n) ((up2_ne (Or.inr (by decide))).trans a7n) up2_at ((up2_ne (Or.inr (by decide))).trans b10n) (fun k9 h9 => by funext j9; (try simp only [up2_eq, h9, false_and, if_false]); first | done | rfl | rw [hzzn k9 h9] | rw [hzz k9 h9]) _ _ hw ls (lv_sub hl [1, 2, 3, 0] rfl)
            refine lv_iconst (v := nI 1) hx hb dX2_brittleOf_113 (by decide) ?_
            refine lv_goto (tgt := 118) hx hb dX2_brittleOf_114 (by decide) ?_
            refine lv_iadd hx hb dX2_brittleOf_118 ?_
            refine m_s_named (j := 9) hx hb hK hw (by decide) dX2_brittleOf_119 (fun H locs hw => ?_)
            refine lv_iinc (v := nI (d + 1)) (lv' := [(3, .int (nI (d + 1))), (0, .ref (ad 0)), (1, .int (nI q)), (2, .int (nI b))]) hx hb dX2_brittleOf_120 hl (k := 3) rfl (n_inc d 1) (by decide) rfl (fun ls hl => ?_)
            refine lv_goto (tgt := 78) hx hb dX2_brittleOf_123 (by decide) ?_
            exact ih78 (d + 1) (g + (nI 1)) (up2 Zb 22 9 (g + (nI 1))) (by omega) (by first | assumption | omega | rfl) (by refine Eq.trans ?_ ((it_s (by omega)).symm.trans hqi); congr 1; first | rw [pif_t ⟨by first | assumption | exact Int32.not_le.mp (by assumption), by assumption⟩] | rw [pif_f (fun h9 => by first | exact absurd h9.1 (Int32.not_lt.mpr (by assumption)) | exact absurd h9.2 (by assumption))]) ((up2_ne (Or.inr (by decide))).trans a0n) ((up2_ne (Or.inr (by decide))).trans a5n) ((up2_ne (Or.inr (by decide))).trans a6n) ((up2_ne (Or.inr (by decide))).trans a7n) up2_at ((up2_ne (Or.inr (by decide))).trans b10n) (fun k9 h9 => by funext j9; (try simp only [up2_eq, h9, false_and, if_false]); first | done | rfl | rw [hzzn k9 h9] | rw [hzz k9 h9]) _ _ hw ls (lv_sub hl [1, 2, 3, 0] rfl)
        exact L78_3 _ 0 g9 (up2 Za 22 10 (g10 + (nI 1))) (Nat.lt_succ_self _) (by first | assumption | omega | rfl) rfl ((up2_ne (Or.inr (by decide))).trans a0) ((up2_ne (Or.inr (by decide))).trans a5) ((up2_ne (Or.inr (by decide))).trans a6) ((up2_ne (Or.inr (by decide))).trans a7) ((up2_ne (Or.inr (by decide))).trans b9) up2_at (fun k9 h9 => by funext j9; (try simp only [up2_eq, h9, false_and, if_false]); first | done | rfl | rw [hzzn k9 h9] | rw [hzz k9 h9]) _ _ hw ls (lv_sub hl [1, 2, 3, 0] rfl)
      refine lv_goto (tgt := 126) hx hb dX2_brittleOf_62 (by decide) ?_
      refine lv_iinc (v := nI (b + 1)) (lv' := [(2, .int (nI (b + 1))), (0, .ref (ad 0)), (1, .int (nI q))]) hx hb dX2_brittleOf_126 hl (k := 2) rfl (n_inc b 1) (by decide) rfl (fun ls hl => ?_)
      refine lv_goto (tgt := 43) hx hb dX2_brittleOf_129 (by decide) ?_
      exact ih43 (b + 1) g9 g10 Za (by omega) (by first | assumption | omega | rfl) (by refine Eq.trans ?_ ((it_s (by omega)).symm.trans hm); congr 1; rw [pif_t c_2]) (by refine Eq.trans ?_ ((it_s (by omega)).symm.trans hq2); congr 1; rw [pif_t c_2]) a0 a5 a6 a7 b9 b10 (fun k9 h9 => by funext j9; (try simp only [up2_eq, h9, false_and, if_false]); first | done | rfl | rw [hzzn k9 h9] | rw [hzz k9 h9]) _ _ hw ls (lv_sub hl [1, 2, 0] rfl)
  exact L_43 _ 0 (nI 0) (nI 0) (up2 (up2 (up2 (up2 (up2 (up2 Z 22 0 (M 0 3)) 22 5 (nI k)) 22 6 (M 0 (40 + 3 * k))) 22 7 (M 0 (40 + 3 * k + 2))) 22 9 (nI 0)) 22 10 (nI 0)) (Nat.lt_succ_self _) (by first | assumption | omega | rfl) rfl rfl ((up2_ne (Or.inr (by decide))).trans ((up2_ne (Or.inr (by decide))).trans ((up2_ne (Or.inr (by decide))).trans ((up2_ne (Or.inr (by decide))).trans ((up2_ne (Or.inr (by decide))).trans up2_at))))) ((up2_ne (Or.inr (by decide))).trans ((up2_ne (Or.inr (by decide))).trans ((up2_ne (Or.inr (by decide))).trans ((up2_ne (Or.inr (by decide))).trans up2_at)))) ((up2_ne (Or.inr (by decide))).trans ((up2_ne (Or.inr (by decide))).trans ((up2_ne (Or.inr (by decide))).trans up2_at))) ((up2_ne (Or.inr (by decide))).trans ((up2_ne (Or.inr (by decide))).trans up2_at)) ((up2_ne (Or.inr (by decide))).trans up2_at) up2_at (fun k9 h9 => by funext j9; (try simp only [up2_eq, h9, false_and, if_false]); first | done | rfl | rw [hzzn k9 h9] | rw [hzz k9 h9]) _ _ hw ls (lv_sub hl [1, 2, 0] rfl)
