def mSellOk (M : Nat → Nat → Int32) (np : Nat) (x : Int32) : Prop := vp_in x np ∧ M 0 (150 + 10 * cl x + 1) = nI 1 ∧ ¬ M 0 (150 + 10 * cl x + 3) = nI 1
def mSell1 (M : Nat → Nat → Int32) (q : Nat) : Nat → Nat → Int32 := up2 (mKeepC M) 0 (150 + 10 * q + 3) (nI 1)
noncomputable def mShr (tx : kT) (M : Nat → Nat → Int32) (q k b : Nat) : Int32 := pif (M 0 (150 + 10 * q + 4 + b) ≤ 0) (nI 0) (mShare tx M q b k)
noncomputable def mShAll (tx : kT) (M : Nat → Nat → Int32) (q k nb : Nat) : Int32 := it (fun b g => g + mShr tx M q k b) (nb - 0) 0 (nI 0)
noncomputable def mMore (v bd : Int32) : Int32 := pif (bd + v ≤ nI 999) v (nI 999 - bd)
noncomputable def mSellF (tx : kT) (M : Nat → Nat → Int32) (q k nb b : Nat) (st : (Nat → Nat → Int32) × Int32) : (Nat → Nat → Int32) × Int32 :=
  (up2 st.1 0 (10 + 5 * b + 2) (st.1 0 (10 + 5 * b + 2) + mMore (M 0 (40 + 3 * k + 2) * mShr tx M q k b / mShAll tx M q k nb) (st.1 0 (10 + 5 * b + 2))), st.2 + mMore (M 0 (40 + 3 * k + 2) * mShr tx M q k b / mShAll tx M q k nb) (st.1 0 (10 + 5 * b + 2)))
noncomputable def mSell2 (tx : kT) (M : Nat → Nat → Int32) (q k nb : Nat) : (Nat → Nat → Int32) × Int32 := pif (mShAll tx M q k nb ≤ 0) (M, nI 0) (it (mSellF tx M q k nb) (nb - 0) 0 (M, nI 0))
noncomputable def mSell (tx : kT) (M : Nat → Nat → Int32) (np nb : Nat) (x : Int32) : (Nat → Nat → Int32) × Int32 := pif (mSellOk M np x) (mSell2 tx (mSell1 M (cl x)) (cl x) (cl (M 0 (150 + 10 * cl x))) nb) (M, -1)
set_option maxHeartbeats 4000000 in
set_option maxRecDepth 100000 in
theorem met_X2_sell (l : Launch) (G : gG) (ad : Nat → Nat) (M Z : Nat → Nat → Int32) (V : Nat → Nat → Int64) (tx : kT) (htx : mTx M tx) (x : Int32) (np : Nat) (ep : M 0 2 = nI np) (hp : np ≤ 10) (nb : Nat) (en : M 0 0 = nI nb) (hn : nb ≤ 6) (ns : Nat) (es : M 0 6 = nI ns) (hs : ns ≤ 30) (hkd : ∀ q, q < np → ∃ k, k < 6 ∧ M 0 (150 + 10 * q) = nI k) : Met l yX2_sell (ws_ yX2_sell cX2_sell 6 (some .int)) ({ frames := 5, cells := 0, slots := 0, locals := 119 } : Room) (cP G [.ref (ad 0), .int x] (mH G ad M Z V)) (cQ (some (.int ((mSell tx M np nb x).2))) (fun H => ∃ Z9 V9, mH G ad ((mSell tx M np nb x).1) Z9 V9 H) (mA ad)) 0 0 (mA ad) := by
  refine c_start (by decide) (Nat.le_of_ble_eq_true rfl) ?_
  intro p e s m below meth c hx hb hr hlocks hml hown hts hB hK ls hl
  have hw := MS.of hB
  have hl : lv_has ls 6 [(0, .ref (ad 0)), (1, .int x)] := hl
  refine lv_aload_n hx hb dX2_sell_0 rfl (lv_at hl 0 rfl) ?_
  refine lv_iload_n hx hb dX2_sell_1 rfl (lv_at hl 1 rfl) ?_
  refine c_read (va_runV (As := [.int x]) (rest := []) ⟨hx, hb, hml, hown, hts⟩ (met_X2_isPiece l G ad M Z V x np ep (by omega)) (cv_X2_X2_isPiece hts ⟨Nat.le_of_ble_eq_true rfl, Nat.le_of_ble_eq_true rfl⟩) (cP.preV hK hw.1 (hw.1.recv hK)) rfl rfl hl.1 rfl (lv_room (Nat.le_of_ble_eq_true rfl)) dX2_sell_2 ⟨by first | exact Nat.zero_le _ | omega | decide, by first | exact Nat.zero_le _ | omega | decide⟩) ?_
  refine b_if_eq (tgt := 38) hx hb dX2_sell_5 (by decide) (fun c_1 => ?_) (fun c_1 => ?_)
  · refine lv_iconst (v := (-1)) hx hb dX2_sell_38 (by decide) ?_
    exact c_iret (v := (-1)) (by unfold mSell; rw [pif_f (fun h9 => by simp only [mSellOk, cl] at h9; first | exact absurd h9.1 (by assumption) | exact absurd h9.2.1 (by assumption) | exact absurd (by assumption) h9.2.2)]) hx hb hr rfl hlocks ⟨_, _, mH.to (by unfold mSell; rw [pif_f (fun h9 => by simp only [mSellOk, cl] at h9; first | exact absurd h9.1 (by assumption) | exact absurd h9.2.1 (by assumption) | exact absurd (by assumption) h9.2.2)]) rfl rfl hw.1⟩ hw.2 dX2_sell_39
  obtain ⟨jx, h_jx, rfl⟩ := vp_in_of c_1 (by omega)
  have k_jx : (nI jx).toNatClampNeg = jx := nI_clamp (by omega)
  refine lv_aload_n hx hb dX2_sell_8 rfl (lv_at hl 0 rfl) ?_
  refine m_g_a hx hb hts hown hK hw dX2_sell_9 ?_
  refine lv_iload_n hx hb dX2_sell_12 rfl (lv_at hl 1 rfl) ?_
  refine c_read (va_runS (As := [.int (nI jx)]) (rest := [.ref (ad 1)]) ⟨hx, hb, hml, hown, hts⟩ (met_X2_pieceAt l G jx) (cs_X2_X2_pieceAt hts ⟨Nat.le_of_ble_eq_true rfl, Nat.le_of_ble_eq_true rfl⟩) (cP.pre hK trivial) rfl rfl hl.1 rfl (lv_room (Nat.le_of_ble_eq_true rfl)) dX2_sell_13 ⟨by first | exact Nat.zero_le _ | omega | decide, by first | exact Nat.zero_le _ | omega | decide⟩) ?_
  refine lv_iconst (v := nI 1) hx hb dX2_sell_16 (by decide) ?_
  refine n_iadd hx hb dX2_sell_17 ?_
  refine m_l_a (j := 150 + 10 * jx + 1) (v := M 0 (150 + 10 * jx + 1)) hx hb hK hw rfl (by omega) dX2_sell_18 ?_
  refine lv_iconst (v := nI 1) hx hb dX2_sell_19 (by decide) ?_
  refine lv_icmp_ne (tgt := 38) hx hb dX2_sell_20 (by decide) (fun c_2 => ?_) (fun c_2 => ?_)
  · refine lv_iconst (v := (-1)) hx hb dX2_sell_38 (by decide) ?_
    exact c_iret (v := (-1)) (by unfold mSell; rw [pif_f (fun h9 => by simp only [mSellOk, cl, k_jx] at h9; first | exact absurd h9.1 (by assumption) | exact absurd h9.2.1 (by assumption) | exact absurd (by assumption) h9.2.2)]) hx hb hr rfl hlocks ⟨_, _, mH.to (by unfold mSell; rw [pif_f (fun h9 => by simp only [mSellOk, cl, k_jx] at h9; first | exact absurd h9.1 (by assumption) | exact absurd h9.2.1 (by assumption) | exact absurd (by assumption) h9.2.2)]) rfl rfl hw.1⟩ hw.2 dX2_sell_39
  refine lv_aload_n hx hb dX2_sell_23 rfl (lv_at hl 0 rfl) ?_
  refine m_g_a hx hb hts hown hK hw dX2_sell_24 ?_
  refine lv_iload_n hx hb dX2_sell_27 rfl (lv_at hl 1 rfl) ?_
  refine c_read (va_runS (As := [.int (nI jx)]) (rest := [.ref (ad 1)]) ⟨hx, hb, hml, hown, hts⟩ (met_X2_pieceAt l G jx) (cs_X2_X2_pieceAt hts ⟨Nat.le_of_ble_eq_true rfl, Nat.le_of_ble_eq_true rfl⟩) (cP.pre hK trivial) rfl rfl hl.1 rfl (lv_room (Nat.le_of_ble_eq_true rfl)) dX2_sell_28 ⟨by first | exact Nat.zero_le _ | omega | decide, by first | exact Nat.zero_le _ | omega | decide⟩) ?_
  refine lv_iconst (v := nI 3) hx hb dX2_sell_31 (by decide) ?_
  refine n_iadd hx hb dX2_sell_32 ?_
  refine m_l_a (j := 150 + 10 * jx + 3) (v := M 0 (150 + 10 * jx + 3)) hx hb hK hw rfl (by omega) dX2_sell_33 ?_
  refine lv_iconst (v := nI 1) hx hb dX2_sell_34 (by decide) ?_
  refine lv_icmp_ne (tgt := 40) hx hb dX2_sell_35 (by decide) (fun c_3 => ?_) (fun c_3 => ?_)
  · obtain ⟨k, hk6, ek⟩ := hkd jx h_jx
    have oks : mSellOk M np (nI jx) := ⟨by assumption, by rw [show cl (nI jx) = jx from k_jx]; assumption, by rw [show cl (nI jx) = jx from k_jx]; assumption⟩
    refine lv_aload_n hx hb dX2_sell_40 rfl (lv_at hl 0 rfl) ?_
    refine c_call (va_runV (As := []) (rest := []) ⟨hx, hb, hml, hown, hts⟩ (met_X2_keep l G ad M Z V ns es (by omega)) (cv_X2_X2_keep hts ⟨Nat.le_of_ble_eq_true rfl, Nat.le_of_ble_eq_true rfl⟩) (cP.preV hK hw.1 (hw.1.recv hK)) rfl rfl hl.1 rfl (lv_room (Nat.le_of_ble_eq_true rfl)) dX2_sell_41 ⟨by first | exact Nat.zero_le _ | omega | decide, by first | exact Nat.zero_le _ | omega | decide⟩) hw.2 (fun q _ h => h) (fun q h => h) (fun H locs hw _ _ hS => ?_)
    replace hw := MS.mk hw hS
    refine lv_aload_n hx hb dX2_sell_44 rfl (lv_at hl 0 rfl) ?_
    refine m_g_a hx hb hts hown hK hw dX2_sell_45 ?_
    refine lv_iload_n hx hb dX2_sell_48 rfl (lv_at hl 1 rfl) ?_
    refine c_read (va_runS (As := [.int (nI jx)]) (rest := [.ref (ad 1)]) ⟨hx, hb, hml, hown, hts⟩ (met_X2_pieceAt l G jx) (cs_X2_X2_pieceAt hts ⟨Nat.le_of_ble_eq_true rfl, Nat.le_of_ble_eq_true rfl⟩) (cP.pre hK trivial) rfl rfl hl.1 rfl (lv_room (Nat.le_of_ble_eq_true rfl)) dX2_sell_49 ⟨by first | exact Nat.zero_le _ | omega | decide, by first | exact Nat.zero_le _ | omega | decide⟩) ?_
    refine lv_iconst (v := nI 3) hx hb dX2_sell_52 (by decide) ?_
    refine n_iadd hx hb dX2_sell_53 ?_
    refine lv_iconst (v := nI 1) hx hb dX2_sell_54 (by decide) ?_
    refine m_s_a (j := 150 + 10 * jx + 3) hx hb hK hw (by omega) dX2_sell_55 (fun H locs hw => ?_)
    obtain ⟨M1, eM1⟩ : ∃ M9, M9 = mSell1 M jx := ⟨_, rfl⟩
    replace hw : MS G ad s.heap M1 Z V H locs := by rw [eM1]; exact hw
    have f0_M1 : M1 0 0 = nI nb := by rw [eM1]; exact (up2_ne (Or.inr (by omega))).trans ((mKeepC_lo (by omega) (by omega)).trans en)
    have f1_M1 : M1 0 (150 + 10 * jx) = nI k := by rw [eM1]; exact (up2_ne (Or.inr (by omega))).trans ((mKeepC_lo (by omega) (by omega)).trans ek)
    have htx_M1 : mTx M1 tx := by rw [eM1]; exact (mTx_congr ((up2_ne (Or.inr (by omega))).trans ((mKeepC_lo (by omega) (by omega)).trans rfl)) (funext fun j9 => (up2_ne (Or.inl (by decide))).trans ((mKeepC_k (by decide)).trans rfl)) htx)
    refine lv_iconst (v := nI 0) hx hb dX2_sell_56 (by decide) ?_
    refine lv_istore_n (lv' := [(2, .int (nI 0)), (0, .ref (ad 0)), (1, .int (nI jx))]) hx hb dX2_sell_57 rfl hl (by decide) rfl (fun ls hl => ?_)
    refine lv_iconst (v := nI 0) hx hb dX2_sell_58 (by decide) ?_
    refine lv_istore_n (lv' := [(3, .int (nI 0)), (2, .int (nI 0)), (0, .ref (ad 0)), (1, .int (nI jx))]) hx hb dX2_sell_59 rfl hl (by decide) rfl (fun ls hl => ?_)
    have L60_4 : ∀ (fuel : Nat) (b : Nat) (g : Int32) (Zs : Nat → Nat → Int32) (Vs : Nat → Nat → Int64), nb - b < fuel → (b ≤ nb) → (it (fun b g => g + mShr tx M1 jx k b) (nb - b) b g = mShAll tx M1 jx k nb) → (∀ j9, j9 < b → Zs 25 j9 = mShr tx M1 jx k j9) → ∀ (H : Heap) (locs : List Loc), MS G ad s.heap M1 Zs Vs H locs → ∀ (ls : Array Slot), lv_has ls 6 [(0, .ref (ad 0)), (1, .int (nI jx)), (2, .int g), (3, .int (nI b))] → W p l e ({ frames := 5, cells := 0, slots := 0, locals := 119 } : Room) s m ([.ref (ad 0), .int (nI jx)] : List Value).toArray below meth c H locs 0 0 (MQ below (cQ (some (.int ((mSell tx M np nb (nI jx)).2))) (fun H => ∃ Z9 V9, mH G ad ((mSell tx M np nb (nI jx)).1) Z9 V9 H) (mA ad)) ([.ref (ad 0), .int (nI jx)] : List Value).toArray s 0 0 (mA ad)) (F0 m 60 ls []) := by
      intro fuel
      induction fuel with
      | zero => intro b g Zs Vs hf; exact absurd hf (Nat.not_lt_zero _)
      | succ fuel ih =>
        intro b g Zs Vs hf hi_b hg hsh H locs hw ls hl
        have ih60 := ih
        refine lv_iload_n hx hb dX2_sell_60 rfl (lv_at hl 3 rfl) ?_
        refine lv_aload_n hx hb dX2_sell_61 rfl (lv_at hl 0 rfl) ?_
        refine m_g_a hx hb hts hown hK hw dX2_sell_62 ?_
        refine lv_iconst (v := nI 0) hx hb dX2_sell_65 (by decide) ?_
        refine m_l_a (j := 0) (v := nI nb) hx hb hK hw f0_M1 (by decide) dX2_sell_66 ?_
        refine n_icmp_ge (tgt := 110) hx hb dX2_sell_67 (by decide) (by omega) (by omega) (fun c_5 => ?_) (fun c_5 => ?_)
        · have hg2 : g = mShAll tx M1 jx k nb := by rw [← hg, it_z (by omega)]
          subst hg2
          have hsh2 : ∀ j9, j9 < nb → Zs 25 j9 = mShr tx M1 jx k j9 := fun j9 h9 => hsh j9 (by omega)
          refine lv_iconst (v := nI 0) hx hb dX2_sell_110 (by decide) ?_
          refine lv_istore_n (lv' := [(3, .int (nI 0)), (0, .ref (ad 0)), (1, .int (nI jx)), (2, .int (mShAll tx M1 jx k nb))]) hx hb dX2_sell_111 rfl hl (by decide) rfl (fun ls hl => ?_)
          refine lv_iconst (v := nI 0) hx hb dX2_sell_112 (by decide) ?_
          refine lv_istore (lv' := [(4, .int (nI 0)), (3, .int (nI 0)), (0, .ref (ad 0)), (1, .int (nI jx)), (2, .int (mShAll tx M1 jx k nb))]) hx hb dX2_sell_113 hl (by decide) rfl (fun ls hl => ?_)
          have L115_6 : ∀ (fuel : Nat) (d : Nat) (u : Int32) (M2 : Nat → Nat → Int32), nb - d < fuel → (d ≤ nb) → (pif (mShAll tx M1 jx k nb ≤ 0) (M2, u) (it (mSellF tx M1 jx k nb) (nb - d) d (M2, u)) = mSell2 tx M1 jx k nb) → (M2 0 0 = nI nb) → (M2 0 (150 + 10 * jx) = nI k) → (M2 0 (40 + 3 * k + 2) = M1 0 (40 + 3 * k + 2)) → ∀ (H : Heap) (locs : List Loc), MS G ad s.heap M2 Zs Vs H locs → ∀ (ls : Array Slot), lv_has ls 6 [(0, .ref (ad 0)), (1, .int (nI jx)), (2, .int (mShAll tx M1 jx k nb)), (3, .int u), (4, .int (nI d))] → W p l e ({ frames := 5, cells := 0, slots := 0, locals := 119 } : Room) s m ([.ref (ad 0), .int (nI jx)] : List Value).toArray below meth c H locs 0 0 (MQ below (cQ (some (.int ((mSell tx M np nb (nI jx)).2))) (fun H => ∃ Z9 V9, mH G ad ((mSell tx M np nb (nI jx)).1) Z9 V9 H) (mA ad)) ([.ref (ad 0), .int (nI jx)] : List Value).toArray s 0 0 (mA ad)) (F0 m 115 ls []) := by
            intro fuel
            induction fuel with
            | zero => intro d u M2 hf; exact absurd hf (Nat.not_lt_zero _)
            | succ fuel ih =>
              intro d u M2 hf hi_d hq g0 g1 g2 H locs hw ls hl
              have ih115 := ih
              refine lv_iload hx hb dX2_sell_115 (lv_at hl 4 rfl) ?_
              refine lv_aload_n hx hb dX2_sell_117 rfl (lv_at hl 0 rfl) ?_
              refine m_g_a hx hb hts hown hK hw dX2_sell_118 ?_
              refine lv_iconst (v := nI 0) hx hb dX2_sell_121 (by decide) ?_
              refine m_l_a (j := 0) (v := nI nb) hx hb hK hw g0 (by decide) dX2_sell_122 ?_
              refine n_icmp_ge (tgt := 220) hx hb dX2_sell_123 (by decide) (by omega) (by omega) (fun c_7 => ?_) (fun c_7 => ?_)
              · have hfin : (M2, u) = mSell2 tx M1 jx k nb := by
                  rw [← hq]
                  by_cases h0 : mShAll tx M1 jx k nb ≤ 0
                  · rw [pif_t h0]
                  · first | (rw [pif_f h0, it_z (by omega)]) | exact absurd (by assumption) h0
                refine lv_iload_n hx hb dX2_sell_220 rfl (lv_at hl 3 rfl) ?_
                exact c_iret (v := u) (by unfold mSell; rw [pif_t oks, show cl (nI jx) = jx from k_jx, ek, show cl (nI k) = k from nI_clamp (by omega), ← eM1, ← hfin]) hx hb hr rfl hlocks ⟨_, _, mH.to (by unfold mSell; rw [pif_t oks, show cl (nI jx) = jx from k_jx, ek, show cl (nI k) = k from nI_clamp (by omega), ← eM1, ← hfin]) rfl rfl hw.1⟩ hw.2 dX2_sell_221
              refine lv_iload_n hx hb dX2_sell_126 rfl (lv_at hl 2 rfl) ?_
              refine lv_if_le (tgt := 220) hx hb dX2_sell_127 (by decide) (fun c_8 => ?_) (fun c_8 => ?_)
              · have hfin : (M2, u) = mSell2 tx M1 jx k nb := by
                  rw [← hq]
                  by_cases h0 : mShAll tx M1 jx k nb ≤ 0
                  · rw [pif_t h0]
                  · first | (rw [pif_f h0, it_z (by omega)]) | exact absurd (by assumption) h0
                refine lv_iload_n hx hb dX2_sell_220 rfl (lv_at hl 3 rfl) ?_
                exact c_iret (v := u) (by unfold mSell; rw [pif_t oks, show cl (nI jx) = jx from k_jx, ek, show cl (nI k) = k from nI_clamp (by omega), ← eM1, ← hfin]) hx hb hr rfl hlocks ⟨_, _, mH.to (by unfold mSell; rw [pif_t oks, show cl (nI jx) = jx from k_jx, ek, show cl (nI k) = k from nI_clamp (by omega), ← eM1, ← hfin]) rfl rfl hw.1⟩ hw.2 dX2_sell_221
              refine lv_aload_n hx hb dX2_sell_130 rfl (lv_at hl 0 rfl) ?_
              refine m_g_a hx hb hts hown hK hw dX2_sell_131 ?_
              refine lv_bipush (v := nI 40) hx hb dX2_sell_134 (by decide) ?_
              refine lv_iconst (v := nI 3) hx hb dX2_sell_136 (by decide) ?_
              refine lv_aload_n hx hb dX2_sell_137 rfl (lv_at hl 0 rfl) ?_
              refine m_g_a hx hb hts hown hK hw dX2_sell_138 ?_
              refine lv_iload_n hx hb dX2_sell_141 rfl (lv_at hl 1 rfl) ?_
              refine c_read (va_runS (As := [.int (nI jx)]) (rest := [.ref (ad 1), .int (nI 3), .int (nI 40), .ref (ad 1)]) ⟨hx, hb, hml, hown, hts⟩ (met_X2_pieceAt l G jx) (cs_X2_X2_pieceAt hts ⟨Nat.le_of_ble_eq_true rfl, Nat.le_of_ble_eq_true rfl⟩) (cP.pre hK trivial) rfl rfl hl.1 rfl (lv_room (Nat.le_of_ble_eq_true rfl)) dX2_sell_142 ⟨by first | exact Nat.zero_le _ | omega | decide, by first | exact Nat.zero_le _ | omega | decide⟩) ?_
              refine m_l_a (j := 150 + 10 * jx) (v := nI k) hx hb hK hw g1 (by omega) dX2_sell_145 ?_
              refine n_imul hx hb dX2_sell_146 ?_
              refine n_iadd hx hb dX2_sell_147 ?_
              refine lv_iconst (v := nI 2) hx hb dX2_sell_148 (by decide) ?_
              refine n_iadd hx hb dX2_sell_149 ?_
              refine m_l_a (j := 40 + 3 * k + 2) (v := M1 0 (40 + 3 * k + 2)) hx hb hK hw g2 (by omega) dX2_sell_150 ?_
              refine lv_aload_n hx hb dX2_sell_151 rfl (lv_at hl 0 rfl) ?_
              refine m_g_shares hx hb hts hown hK hw dX2_sell_152 ?_
              refine lv_iload hx hb dX2_sell_155 (lv_at hl 4 rfl) ?_
              refine m_l_shares (j := d) (v := mShr tx M1 jx k d) hx hb hK hw (hsh2 d (by omega)) (by omega) dX2_sell_157 ?_
              refine lv_imul hx hb dX2_sell_158 ?_
              refine lv_iload_n hx hb dX2_sell_159 rfl (lv_at hl 2 rfl) ?_
              refine lv_idiv hx hb dX2_sell_160 (fun q9 => absurd (show mShAll tx M1 jx k nb ≤ (0 : Int32) by rw [q9]; exact Int32.le_refl _) (by assumption)) ?_
              refine lv_istore (lv' := [(5, .int (((M1 0 (40 + 3 * k + 2)) * (mShr tx M1 jx k d)) / (mShAll tx M1 jx k nb))), (0, .ref (ad 0)), (1, .int (nI jx)), (2, .int (mShAll tx M1 jx k nb)), (3, .int u), (4, .int (nI d))]) hx hb dX2_sell_161 hl (by decide) rfl (fun ls hl => ?_)
              refine lv_aload_n hx hb dX2_sell_163 rfl (lv_at hl 1 rfl) ?_
              refine lv_iload hx hb dX2_sell_164 (lv_at hl 5 rfl) ?_
              refine lv_iconst (v := nI 2) hx hb dX2_sell_166 (by decide) ?_
              refine c_read (va_runV (As := [.int (nI d), .int (nI 2)]) (rest := []) ⟨hx, hb, hml, hown, hts⟩ (met_X2_get l G ad M2 Zs Vs d 2 (M2 0 (10 + 5 * d + 2)) (by omega) rfl) (cv_X2_X2_get hts ⟨Nat.le_of_ble_eq_true rfl, Nat.le_of_ble_eq_true rfl⟩) (cP.preV hK hw.1 (hw.1.recv hK)) rfl rfl hl.1 rfl (lv_room (Nat.le_of_ble_eq_true rfl)) dX2_sell_167 ⟨by first | exact Nat.zero_le _ | omega | decide, by first | exact Nat.zero_le _ | omega | decide⟩) ?_
              refine lv_iload hx hb dX2_sell_170 (lv_at hl 0 rfl) ?_
              refine lv_iadd hx hb dX2_sell_172 ?_
              refine lv_sipush (v := nI 999) hx hb dX2_sell_173 (by decide) ?_
              refine lv_icmp_le (tgt := 192) hx hb dX2_sell_176 (by decide) (fun c_9 => ?_) (fun c_9 => ?_)
              · refine lv_aload_n hx hb dX2_sell_192 rfl (lv_at hl 1 rfl) ?_
                refine lv_iload hx hb dX2_sell_193 (lv_at hl 5 rfl) ?_
                refine lv_iconst (v := nI 2) hx hb dX2_sell_195 (by decide) ?_
                refine lv_aload_n hx hb dX2_sell_196 rfl (lv_at hl 1 rfl) ?_
                refine lv_iload hx hb dX2_sell_197 (lv_at hl 5 rfl) ?_
                refine lv_iconst (v := nI 2) hx hb dX2_sell_199 (by decide) ?_
                refine c_read (va_runV (As := [.int (nI d), .int (nI 2)]) (rest := [.int (nI 2), .int (nI d), .ref (ad 0)]) ⟨hx, hb, hml, hown, hts⟩ (met_X2_get l G ad M2 Zs Vs d 2 (M2 0 (10 + 5 * d + 2)) (by omega) rfl) (cv_X2_X2_get hts ⟨Nat.le_of_ble_eq_true rfl, Nat.le_of_ble_eq_true rfl⟩) (cP.preV hK hw.1 (hw.1.recv hK)) rfl rfl hl.1 rfl (lv_room (Nat.le_of_ble_eq_true rfl)) dX2_sell_200 ⟨by first | exact Nat.zero_le _ | omega | decide, by first | exact Nat.zero_le _ | omega | decide⟩) ?_
                refine lv_iload hx hb dX2_sell_203 (lv_at hl 0 rfl) ?_
                refine lv_iadd hx hb dX2_sell_205 ?_
                refine c_call (va_runV (As := [.int (nI d), .int (nI 2), .int ((M2 0 (10 + 5 * d + 2)) + (((M1 0 (40 + 3 * k + 2)) * (mShr tx M1 jx k d)) / (mShAll tx M1 jx k nb)))]) (rest := []) ⟨hx, hb, hml, hown, hts⟩ (met_X2_set l G ad M2 Zs Vs d 2 ((M2 0 (10 + 5 * d + 2)) + (((M1 0 (40 + 3 * k + 2)) * (mShr tx M1 jx k d)) / (mShAll tx M1 jx k nb))) (by omega)) (cv_X2_X2_set hts ⟨Nat.le_of_ble_eq_true rfl, Nat.le_of_ble_eq_true rfl⟩) (cP.preV hK hw.1 (hw.1.recv hK)) rfl rfl hl.1 rfl (lv_room (Nat.le_of_ble_eq_true rfl)) dX2_sell_206 ⟨by first | exact Nat.zero_le _ | omega | decide, by first | exact Nat.zero_le _ | omega | decide⟩) hw.2 (fun q _ h => h) (fun q h => h) (fun H locs hw _ _ hS => ?_)
                replace hw := MS.mk hw hS
                refine lv_iload_n hx hb dX2_sell_209 rfl (lv_at hl 4 rfl) ?_
                refine lv_iload hx hb dX2_sell_210 (lv_at hl 0 rfl) ?_
                refine lv_iadd hx hb dX2_sell_212 ?_
                refine lv_istore_n (lv' := [(3, .int (u + (((M1 0 (40 + 3 * k + 2)) * (mShr tx M1 jx k d)) / (mShAll tx M1 jx k nb)))), (5, .int (((M1 0 (40 + 3 * k + 2)) * (mShr tx M1 jx k d)) / (mShAll tx M1 jx k nb))), (0, .ref (ad 0)), (1, .int (nI jx)), (2, .int (mShAll tx M1 jx k nb)), (4, .int (nI d))]) hx hb dX2_sell_213 rfl hl (by decide) rfl (fun ls hl => ?_)
                refine lv_iinc (v := nI (d + 1)) (lv' := [(4, .int (nI (d + 1))), (3, .int (u + (((M1 0 (40 + 3 * k + 2)) * (mShr tx M1 jx k d)) / (mShAll tx M1 jx k nb)))), (5, .int (((M1 0 (40 + 3 * k + 2)) * (mShr tx M1 jx k d)) / (mShAll tx M1 jx k nb))), (0, .ref (ad 0)), (1, .int (nI jx)), (2, .int (mShAll tx M1 jx k nb))]) hx hb dX2_sell_214 hl (k := 5) rfl (n_inc d 1) (by decide) rfl (fun ls hl => ?_)
                refine lv_goto (tgt := 115) hx hb dX2_sell_217 (by decide) ?_
                exact ih115 (d + 1) (u + (((M1 0 (40 + 3 * k + 2)) * (mShr tx M1 jx k d)) / (mShAll tx M1 jx k nb))) (up2 M2 0 (10 + 5 * d + 2) ((M2 0 (10 + 5 * d + 2)) + (((M1 0 (40 + 3 * k + 2)) * (mShr tx M1 jx k d)) / (mShAll tx M1 jx k nb)))) (by omega) (by first | assumption | omega | rfl) (by rw [pif_f (by assumption)] at hq ⊢; refine Eq.trans ?_ ((it_s (by omega)).symm.trans hq); congr 1; unfold mSellF mMore; first | rw [pif_t (by assumption)] | (rw [pif_f (by first | assumption | exact Int32.not_le.mpr (by assumption))])) (((up2_ne (Or.inr (by omega))).trans g0)) (((up2_ne (Or.inr (by omega))).trans g1)) (((up2_ne (Or.inr (by omega))).trans g2)) _ _ hw ls (lv_sub hl [3, 4, 5, 1, 0] rfl)
              refine lv_sipush (v := nI 999) hx hb dX2_sell_179 (by decide) ?_
              refine lv_aload_n hx hb dX2_sell_182 rfl (lv_at hl 1 rfl) ?_
              refine lv_iload hx hb dX2_sell_183 (lv_at hl 5 rfl) ?_
              refine lv_iconst (v := nI 2) hx hb dX2_sell_185 (by decide) ?_
              refine c_read (va_runV (As := [.int (nI d), .int (nI 2)]) (rest := [.int (nI 999)]) ⟨hx, hb, hml, hown, hts⟩ (met_X2_get l G ad M2 Zs Vs d 2 (M2 0 (10 + 5 * d + 2)) (by omega) rfl) (cv_X2_X2_get hts ⟨Nat.le_of_ble_eq_true rfl, Nat.le_of_ble_eq_true rfl⟩) (cP.preV hK hw.1 (hw.1.recv hK)) rfl rfl hl.1 rfl (lv_room (Nat.le_of_ble_eq_true rfl)) dX2_sell_186 ⟨by first | exact Nat.zero_le _ | omega | decide, by first | exact Nat.zero_le _ | omega | decide⟩) ?_
              refine lv_isub hx hb dX2_sell_189 ?_
              refine lv_istore (lv' := [(5, .int ((nI 999) - (M2 0 (10 + 5 * d + 2)))), (0, .ref (ad 0)), (1, .int (nI jx)), (2, .int (mShAll tx M1 jx k nb)), (3, .int u), (4, .int (nI d))]) hx hb dX2_sell_190 hl (by decide) rfl (fun ls hl => ?_)
              refine lv_aload_n hx hb dX2_sell_192 rfl (lv_at hl 1 rfl) ?_
              refine lv_iload hx hb dX2_sell_193 (lv_at hl 5 rfl) ?_
              refine lv_iconst (v := nI 2) hx hb dX2_sell_195 (by decide) ?_
              refine lv_aload_n hx hb dX2_sell_196 rfl (lv_at hl 1 rfl) ?_
              refine lv_iload hx hb dX2_sell_197 (lv_at hl 5 rfl) ?_
              refine lv_iconst (v := nI 2) hx hb dX2_sell_199 (by decide) ?_
              refine c_read (va_runV (As := [.int (nI d), .int (nI 2)]) (rest := [.int (nI 2), .int (nI d), .ref (ad 0)]) ⟨hx, hb, hml, hown, hts⟩ (met_X2_get l G ad M2 Zs Vs d 2 (M2 0 (10 + 5 * d + 2)) (by omega) rfl) (cv_X2_X2_get hts ⟨Nat.le_of_ble_eq_true rfl, Nat.le_of_ble_eq_true rfl⟩) (cP.preV hK hw.1 (hw.1.recv hK)) rfl rfl hl.1 rfl (lv_room (Nat.le_of_ble_eq_true rfl)) dX2_sell_200 ⟨by first | exact Nat.zero_le _ | omega | decide, by first | exact Nat.zero_le _ | omega | decide⟩) ?_
              refine lv_iload hx hb dX2_sell_203 (lv_at hl 0 rfl) ?_
              refine lv_iadd hx hb dX2_sell_205 ?_
              refine c_call (va_runV (As := [.int (nI d), .int (nI 2), .int ((M2 0 (10 + 5 * d + 2)) + ((nI 999) - (M2 0 (10 + 5 * d + 2))))]) (rest := []) ⟨hx, hb, hml, hown, hts⟩ (met_X2_set l G ad M2 Zs Vs d 2 ((M2 0 (10 + 5 * d + 2)) + ((nI 999) - (M2 0 (10 + 5 * d + 2)))) (by omega)) (cv_X2_X2_set hts ⟨Nat.le_of_ble_eq_true rfl, Nat.le_of_ble_eq_true rfl⟩) (cP.preV hK hw.1 (hw.1.recv hK)) rfl rfl hl.1 rfl (lv_room (Nat.le_of_ble_eq_true rfl)) dX2_sell_206 ⟨by first | exact Nat.zero_le _ | omega | decide, by first | exact Nat.zero_le _ | omega | decide⟩) hw.2 (fun q _ h => h) (fun q h => h) (fun H locs hw _ _ hS => ?_)
              replace hw := MS.mk hw hS
              refine lv_iload_n hx hb dX2_sell_209 rfl (lv_at hl 4 rfl) ?_
              refine lv_iload hx hb dX2_sell_210 (lv_at hl 0 rfl) ?_
              refine lv_iadd hx hb dX2_sell_212 ?_
              refine lv_istore_n (lv' := [(3, .int (u + ((nI 999) - (M2 0 (10 + 5 * d + 2))))), (5, .int ((nI 999) - (M2 0 (10 + 5 * d + 2)))), (0, .ref (ad 0)), (1, .int (nI jx)), (2, .int (mShAll tx M1 jx k nb)), (4, .int (nI d))]) hx hb dX2_sell_213 rfl hl (by decide) rfl (fun ls hl => ?_)
              refine lv_iinc (v := nI (d + 1)) (lv' := [(4, .int (nI (d + 1))), (3, .int (u + ((nI 999) - (M2 0 (10 + 5 * d + 2))))), (5, .int ((nI 999) - (M2 0 (10 + 5 * d + 2)))), (0, .ref (ad 0)), (1, .int (nI jx)), (2, .int (mShAll tx M1 jx k nb))]) hx hb dX2_sell_214 hl (k := 5) rfl (n_inc d 1) (by decide) rfl (fun ls hl => ?_)
              refine lv_goto (tgt := 115) hx hb dX2_sell_217 (by decide) ?_
              exact ih115 (d + 1) (u + ((nI 999) - (M2 0 (10 + 5 * d + 2)))) (up2 M2 0 (10 + 5 * d + 2) ((M2 0 (10 + 5 * d + 2)) + ((nI 999) - (M2 0 (10 + 5 * d + 2))))) (by omega) (by first | assumption | omega | rfl) (by rw [pif_f (by assumption)] at hq ⊢; refine Eq.trans ?_ ((it_s (by omega)).symm.trans hq); congr 1; unfold mSellF mMore; first | rw [pif_t (by assumption)] | (rw [pif_f (by first | assumption | exact Int32.not_le.mpr (by assumption))])) (((up2_ne (Or.inr (by omega))).trans g0)) (((up2_ne (Or.inr (by omega))).trans g1)) (((up2_ne (Or.inr (by omega))).trans g2)) _ _ hw ls (lv_sub hl [3, 4, 5, 1, 0] rfl)
          exact L115_6 _ 0 (nI 0) M1 (Nat.lt_succ_self _) (by first | assumption | omega | rfl) rfl f0_M1 f1_M1 rfl _ _ hw ls (lv_sub hl [2, 3, 4, 1, 0] rfl)
        refine lv_aload_n hx hb dX2_sell_70 rfl (lv_at hl 0 rfl) ?_
        refine m_g_shares hx hb hts hown hK hw dX2_sell_71 ?_
        refine lv_iload_n hx hb dX2_sell_74 rfl (lv_at hl 3 rfl) ?_
        refine lv_aload_n hx hb dX2_sell_75 rfl (lv_at hl 0 rfl) ?_
        refine lv_iload_n hx hb dX2_sell_76 rfl (lv_at hl 1 rfl) ?_
        refine lv_iload_n hx hb dX2_sell_77 rfl (lv_at hl 3 rfl) ?_
        refine c_read (va_runV (As := [.int (nI jx), .int (nI b)]) (rest := [.int (nI b), .ref (ad 9)]) ⟨hx, hb, hml, hown, hts⟩ (met_X2_gave l G ad M1 Zs Vs jx b (M1 0 (150 + 10 * jx + 4 + b)) (by omega) rfl) (cv_X2_X2_gave hts ⟨Nat.le_of_ble_eq_true rfl, Nat.le_of_ble_eq_true rfl⟩) (cP.preV hK hw.1 (hw.1.recv hK)) rfl rfl hl.1 rfl (lv_room (Nat.le_of_ble_eq_true rfl)) dX2_sell_78 ⟨by first | exact Nat.zero_le _ | omega | decide, by first | exact Nat.zero_le _ | omega | decide⟩) ?_
        refine lv_if_le (tgt := 93) hx hb dX2_sell_81 (by decide) (fun c_10 => ?_) (fun c_10 => ?_)
        · refine lv_iconst (v := nI 0) hx hb dX2_sell_93 (by decide) ?_
          refine m_s_shares (j := b) hx hb hK hw (by omega) dX2_sell_94 (fun H locs hw => ?_)
          refine lv_iload_n hx hb dX2_sell_95 rfl (lv_at hl 2 rfl) ?_
          refine lv_aload_n hx hb dX2_sell_96 rfl (lv_at hl 0 rfl) ?_
          refine m_g_shares hx hb hts hown hK hw dX2_sell_97 ?_
          refine lv_iload_n hx hb dX2_sell_100 rfl (lv_at hl 3 rfl) ?_
          refine m_l_shares (j := b) (v := nI 0) hx hb hK hw up2_at (by omega) dX2_sell_101 ?_
          refine lv_iadd hx hb dX2_sell_102 ?_
          refine lv_istore_n (lv' := [(2, .int (g + (nI 0))), (0, .ref (ad 0)), (1, .int (nI jx)), (3, .int (nI b))]) hx hb dX2_sell_103 rfl hl (by decide) rfl (fun ls hl => ?_)
          refine lv_iinc (v := nI (b + 1)) (lv' := [(3, .int (nI (b + 1))), (2, .int (g + (nI 0))), (0, .ref (ad 0)), (1, .int (nI jx))]) hx hb dX2_sell_104 hl (k := 3) rfl (n_inc b 1) (by decide) rfl (fun ls hl => ?_)
          refine lv_goto (tgt := 60) hx hb dX2_sell_107 (by decide) ?_
          exact ih60 (b + 1) (g + (nI 0)) (up2 Zs 25 b (nI 0)) Vs (by omega) (by first | assumption | omega | rfl) ((show it (fun b g => g + mShr tx M1 jx k b) (nb - (b + 1)) (b + 1) _ = _ from (by rw [show nI 0 = mShr tx M1 jx k b from (by unfold mShr; rw [pif_t c_10])]; exact (it_s (by omega)).symm.trans hg))) (fun j9 h9 => by rcases Nat.lt_succ_iff_lt_or_eq.mp h9 with h8 | h8; (exact (up2_ne (Or.inr (by omega))).trans (rfl.trans (hsh j9 h8))); (subst h8; exact up2_at.trans (by unfold mShr; rw [pif_t c_10]))) _ _ hw ls (lv_sub hl [2, 3, 1, 0] rfl)
        refine lv_aload_n hx hb dX2_sell_84 rfl (lv_at hl 0 rfl) ?_
        refine lv_iload_n hx hb dX2_sell_85 rfl (lv_at hl 1 rfl) ?_
        refine lv_iload_n hx hb dX2_sell_86 rfl (lv_at hl 3 rfl) ?_
        refine c_call (va_runV (As := [.int (nI jx), .int (nI b)]) (rest := [.int (nI b), .ref (ad 9)]) ⟨hx, hb, hml, hown, hts⟩ (met_X2_shareOf l G ad M1 Zs Vs tx htx_M1 jx b k (by omega) (by omega) (by omega) f1_M1) (cv_X2_X2_shareOf hts ⟨Nat.le_of_ble_eq_true rfl, Nat.le_of_ble_eq_true rfl⟩) (cP.preV hK hw.1 (hw.1.recv hK)) rfl rfl hl.1 rfl (lv_room (Nat.le_of_ble_eq_true rfl)) dX2_sell_87 ⟨by first | exact Nat.zero_le _ | omega | decide, by first | exact Nat.zero_le _ | omega | decide⟩) hw.2 (fun q _ h => h) (fun q h => h) (fun H locs hw _ _ hS => ?_)
        obtain ⟨Z1, V1, hz1, hw⟩ := hw
        replace hw := MS.mk hw hS
        refine lv_goto (tgt := 94) hx hb dX2_sell_90 (by decide) ?_
        refine m_s_shares (j := b) hx hb hK hw (by omega) dX2_sell_94 (fun H locs hw => ?_)
        refine lv_iload_n hx hb dX2_sell_95 rfl (lv_at hl 2 rfl) ?_
        refine lv_aload_n hx hb dX2_sell_96 rfl (lv_at hl 0 rfl) ?_
        refine m_g_shares hx hb hts hown hK hw dX2_sell_97 ?_
        refine lv_iload_n hx hb dX2_sell_100 rfl (lv_at hl 3 rfl) ?_
        refine m_l_shares (j := b) (v := mShare tx M1 jx b k) hx hb hK hw up2_at (by omega) dX2_sell_101 ?_
        refine lv_iadd hx hb dX2_sell_102 ?_
        refine lv_istore_n (lv' := [(2, .int (g + (mShare tx M1 jx b k))), (0, .ref (ad 0)), (1, .int (nI jx)), (3, .int (nI b))]) hx hb dX2_sell_103 rfl hl (by decide) rfl (fun ls hl => ?_)
        refine lv_iinc (v := nI (b + 1)) (lv' := [(3, .int (nI (b + 1))), (2, .int (g + (mShare tx M1 jx b k))), (0, .ref (ad 0)), (1, .int (nI jx))]) hx hb dX2_sell_104 hl (k := 3) rfl (n_inc b 1) (by decide) rfl (fun ls hl => ?_)
        refine lv_goto (tgt := 60) hx hb dX2_sell_107 (by decide) ?_
        exact ih60 (b + 1) (g + (mShare tx M1 jx b k)) (up2 Z1 25 b (mShare tx M1 jx b k)) V1 (by omega) (by first | assumption | omega | rfl) ((show it (fun b g => g + mShr tx M1 jx k b) (nb - (b + 1)) (b + 1) _ = _ from (by rw [show mShare tx M1 jx b k = mShr tx M1 jx k b from (by unfold mShr; rw [pif_f c_10])]; exact (it_s (by omega)).symm.trans hg))) (fun j9 h9 => by rcases Nat.lt_succ_iff_lt_or_eq.mp h9 with h8 | h8; (exact (up2_ne (Or.inr (by omega))).trans ((congrFun (hz1 25 (by decide) (by decide)) j9).trans (hsh j9 h8))); (subst h8; exact up2_at.trans (by unfold mShr; rw [pif_f c_10]))) _ _ hw ls (lv_sub hl [2, 3, 1, 0] rfl)
    exact L60_4 _ 0 (nI 0) Z V (Nat.lt_succ_self _) (by first | assumption | omega | rfl) rfl (fun _ h9 => absurd h9 (Nat.not_lt_zero _)) _ _ hw ls (lv_sub hl [2, 3, 1, 0] rfl)
  refine lv_iconst (v := (-1)) hx hb dX2_sell_38 (by decide) ?_
  exact c_iret (v := (-1)) (by unfold mSell; rw [pif_f (fun h9 => by simp only [mSellOk, cl, k_jx] at h9; first | exact absurd h9.1 (by assumption) | exact absurd h9.2.1 (by assumption) | exact absurd (by assumption) h9.2.2)]) hx hb hr rfl hlocks ⟨_, _, mH.to (by unfold mSell; rw [pif_f (fun h9 => by simp only [mSellOk, cl, k_jx] at h9; first | exact absurd h9.1 (by assumption) | exact absurd h9.2.1 (by assumption) | exact absurd (by assumption) h9.2.2)]) rfl rfl hw.1⟩ hw.2 dX2_sell_39
