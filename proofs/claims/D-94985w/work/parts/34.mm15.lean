noncomputable def mC0 (M : Nat → Nat → Int32) (lo ot : Nat) : Int32 := M 0 (10 + 5 * lo) + pif (ot = lo) (nI 0) (M 0 (10 + 5 * ot))
noncomputable def mC1 (M : Nat → Nat → Int32) (sk : Nat → Int32) (lo ot h : Nat) : Int32 := pif (mC0 M lo ot ≤ sk h) (mC0 M lo ot) (sk h)
noncomputable def mC2 (M : Nat → Nat → Int32) (sk : Nat → Int32) (lo ot h : Nat) (want : Int32) : Int32 := pif (mC1 M sk lo ot h ≤ want) (mC1 M sk lo ot h) want
noncomputable def mF1 (M : Nat → Nat → Int32) (sk : Nat → Int32) (lo ot h : Nat) (want : Int32) : Int32 := pif (mC2 M sk lo ot h want ≤ M 0 (10 + 5 * lo)) (mC2 M sk lo ot h want) (M 0 (10 + 5 * lo))
noncomputable def mG1 (M : Nat → Nat → Int32) (sk ck : Nat → Int32) (lo ot h : Nat) (want g : Int32) : Int32 := g - (mF1 M sk lo ot h want * ck (6 * h + lo) + (mC2 M sk lo ot h want - mF1 M sk lo ot h want) * ck (6 * h + ot))
noncomputable def mVa (M : Nat → Nat → Int32) (sk : Nat → Int32) (lo ot h : Nat) (want : Int32) : Int32 := pif (mF1 M sk lo ot h want ≤ 0) (nI 0) (nI 1 <<< (M 0 (10 + 5 * lo + 1) &&& 31))
noncomputable def mVb (M : Nat → Nat → Int32) (sk : Nat → Int32) (lo ot h : Nat) (want : Int32) : Int32 := pif (mC2 M sk lo ot h want ≤ mF1 M sk lo ot h want) (nI 0) (nI 1 <<< (M 0 (10 + 5 * ot + 1) &&& 31))
noncomputable def mDoneL (M : Nat → Nat → Int32) (sk ck : Nat → Int32) (k lo ot : Nat) : Nat → Nat → Int32 → Int32 → Int32 → Int32 → Prop × Int32 × Int32
  | 0, _, _, _, g, be => (False, g, be)
  | n + 1, h, want, vo, g, be => pif (want - mC2 M sk lo ot h want = 0)
      (M 0 (40 + 3 * k + 1) &&& (((vo ||| mVa M sk lo ot h want) ||| mVb M sk lo ot h want) ^^^ (-1)) = 0, mG1 M sk ck lo ot h want g, nI (h + 1))
      (mDoneL M sk ck k lo ot n (h + 1) (want - mC2 M sk lo ot h want) ((vo ||| mVa M sk lo ot h want) ||| mVb M sk lo ot h want) (mG1 M sk ck lo ot h want g) (nI (h + 1)))
theorem mDoneL_s {M : Nat → Nat → Int32} {sk ck : Nat → Int32} {k lo ot e h : Nat} {want vo g be : Int32} (hh : h < e) : mDoneL M sk ck k lo ot (e - h) h want vo g be = pif (want - mC2 M sk lo ot h want = 0)
      (M 0 (40 + 3 * k + 1) &&& (((vo ||| mVa M sk lo ot h want) ||| mVb M sk lo ot h want) ^^^ (-1)) = 0, mG1 M sk ck lo ot h want g, nI (h + 1))
      (mDoneL M sk ck k lo ot (e - (h + 1)) (h + 1) (want - mC2 M sk lo ot h want) ((vo ||| mVa M sk lo ot h want) ||| mVb M sk lo ot h want) (mG1 M sk ck lo ot h want g) (nI (h + 1))) := by
  rw [show e - h = (e - (h + 1)) + 1 by omega]
  rfl
theorem mDoneL_z {M : Nat → Nat → Int32} {sk ck : Nat → Int32} {k lo ot e h : Nat} {want vo g be : Int32} (hh : e ≤ h) : mDoneL M sk ck k lo ot (e - h) h want vo g be = (False, g, be) := by
  rw [show e - h = 0 by omega]
  rfl
noncomputable def mDone (M : Nat → Nat → Int32) (sk ck : Nat → Int32) (k t f e : Nat) (be : Int32) : Prop × Int32 × Int32 := mDoneL M sk ck k (t / 10) (t % 10) (e - f) f (M 0 (40 + 3 * k)) (nI 0) (M 0 (40 + 3 * k + 2)) be
theorem mDoneL_be {M : Nat → Nat → Int32} {sk ck : Nat → Int32} {k lo ot e : Nat} : ∀ (n h : Nat) (want vo g be : Int32), n + h = e → (mDoneL M sk ck k lo ot n h want vo g be).1 → ∃ b, b ≤ e ∧ h < b ∧ (mDoneL M sk ck k lo ot n h want vo g be).2.2 = nI b
  | 0, h, want, vo, g, be, _, hp => hp.elim
  | n + 1, h, want, vo, g, be, hn, hp => by
    unfold mDoneL at hp ⊢
    by_cases c : want - mC2 M sk lo ot h want = 0
    · rw [pif_t c]
      exact ⟨h + 1, by omega, by omega, rfl⟩
    · rw [pif_f c] at hp ⊢
      obtain ⟨b, h1, h2, h3⟩ := mDoneL_be (e := e) n (h + 1) _ _ _ _ (by omega) hp
      exact ⟨b, h1, by omega, h3⟩
set_option maxHeartbeats 4000000 in
set_option maxRecDepth 100000 in
theorem met_X2_isDone (l : Launch) (G : gG) (ad : Nat → Nat) (M Z : Nat → Nat → Int32) (V : Nat → Nat → Int64) (k t f e1 : Nat) (hk : k < 6) (h10 : t / 10 < 6) (h11 : t % 10 < 6) (ht : t < 100) (hfe : f ≤ e1) (he : e1 ≤ 24) : Met l yX2_isDone (ws_ yX2_isDone cX2_isDone 12 (some .boolean)) ({ frames := 1, cells := 0, slots := 0, locals := 22 } : Room) (cP G [.ref (ad 0), .int (nI k), .int (nI t), .int (nI f), .int (nI e1)] (mH G ad M Z V)) (cQ (some (.int (bI (mDone M (Z 30) (Z 31) k t f e1 (Z 29 0)).1))) (fun H => ∃ Z9 V9, (Z9 28 0 = (mDone M (Z 30) (Z 31) k t f e1 (Z 29 0)).2.1 ∧ Z9 29 0 = (mDone M (Z 30) (Z 31) k t f e1 (Z 29 0)).2.2 ∧ ∀ k9, k9 ≠ 28 → k9 ≠ 29 → Z9 k9 = Z k9) ∧ mH G ad M Z9 V9 H) (mA ad)) 0 0 (mA ad) := by
  refine c_start (by decide) (Nat.le_of_ble_eq_true rfl) ?_
  intro p e s m below meth c hx hb hr hlocks hml hown hts hB hK ls hl
  have hw := MS.of hB
  have hl : lv_has ls 12 [(0, .ref (ad 0)), (1, .int (nI k)), (2, .int (nI t)), (3, .int (nI f)), (4, .int (nI e1))] := hl
  refine lv_iload_n hx hb dX2_isDone_0 rfl (lv_at hl 2 rfl) ?_
  refine lv_bipush (v := nI 10) hx hb dX2_isDone_1 (by decide) ?_
  refine n_idiv hx hb (by omega) (by decide) (by decide) dX2_isDone_3 ?_
  refine lv_istore (lv' := [(5, .int (nI (t / 10))), (0, .ref (ad 0)), (1, .int (nI k)), (2, .int (nI t)), (3, .int (nI f)), (4, .int (nI e1))]) hx hb dX2_isDone_4 hl (by decide) rfl (fun ls hl => ?_)
  refine lv_iload_n hx hb dX2_isDone_6 rfl (lv_at hl 3 rfl) ?_
  refine lv_bipush (v := nI 10) hx hb dX2_isDone_7 (by decide) ?_
  refine n_irem hx hb (by omega) (by decide) (by decide) dX2_isDone_9 ?_
  refine lv_istore (lv' := [(6, .int (nI (t % 10))), (5, .int (nI (t / 10))), (0, .ref (ad 0)), (1, .int (nI k)), (2, .int (nI t)), (3, .int (nI f)), (4, .int (nI e1))]) hx hb dX2_isDone_10 hl (by decide) rfl (fun ls hl => ?_)
  refine lv_aload_n hx hb dX2_isDone_12 rfl (lv_at hl 2 rfl) ?_
  refine m_g_a hx hb hts hown hK hw dX2_isDone_13 ?_
  refine lv_bipush (v := nI 40) hx hb dX2_isDone_16 (by decide) ?_
  refine lv_iconst (v := nI 3) hx hb dX2_isDone_18 (by decide) ?_
  refine lv_iload_n hx hb dX2_isDone_19 rfl (lv_at hl 3 rfl) ?_
  refine n_imul hx hb dX2_isDone_20 ?_
  refine n_iadd hx hb dX2_isDone_21 ?_
  refine m_l_a (j := 40 + 3 * k) (v := M 0 (40 + 3 * k)) hx hb hK hw rfl (by omega) dX2_isDone_22 ?_
  refine lv_istore (lv' := [(7, .int (M 0 (40 + 3 * k))), (6, .int (nI (t % 10))), (5, .int (nI (t / 10))), (0, .ref (ad 0)), (1, .int (nI k)), (2, .int (nI t)), (3, .int (nI f)), (4, .int (nI e1))]) hx hb dX2_isDone_23 hl (by decide) rfl (fun ls hl => ?_)
  refine lv_iconst (v := nI 0) hx hb dX2_isDone_25 (by decide) ?_
  refine lv_istore (lv' := [(8, .int (nI 0)), (7, .int (M 0 (40 + 3 * k))), (6, .int (nI (t % 10))), (5, .int (nI (t / 10))), (0, .ref (ad 0)), (1, .int (nI k)), (2, .int (nI t)), (3, .int (nI f)), (4, .int (nI e1))]) hx hb dX2_isDone_26 hl (by decide) rfl (fun ls hl => ?_)
  refine lv_aload_n hx hb dX2_isDone_28 rfl (lv_at hl 4 rfl) ?_
  refine lv_aload_n hx hb dX2_isDone_29 rfl (lv_at hl 4 rfl) ?_
  refine m_g_a hx hb hts hown hK hw dX2_isDone_30 ?_
  refine lv_bipush (v := nI 40) hx hb dX2_isDone_33 (by decide) ?_
  refine lv_iconst (v := nI 3) hx hb dX2_isDone_35 (by decide) ?_
  refine lv_iload_n hx hb dX2_isDone_36 rfl (lv_at hl 5 rfl) ?_
  refine n_imul hx hb dX2_isDone_37 ?_
  refine n_iadd hx hb dX2_isDone_38 ?_
  refine lv_iconst (v := nI 2) hx hb dX2_isDone_39 (by decide) ?_
  refine n_iadd hx hb dX2_isDone_40 ?_
  refine m_l_a (j := 40 + 3 * k + 2) (v := M 0 (40 + 3 * k + 2)) hx hb hK hw rfl (by omega) dX2_isDone_41 ?_
  refine m_p_gain hx hb hts hown hK hw dX2_isDone_42 (fun H locs hw => ?_)
  refine lv_iload_n hx hb dX2_isDone_45 rfl (lv_at hl 7 rfl) ?_
  refine lv_istore (lv' := [(9, .int (nI f)), (8, .int (nI 0)), (7, .int (M 0 (40 + 3 * k))), (6, .int (nI (t % 10))), (5, .int (nI (t / 10))), (0, .ref (ad 0)), (1, .int (nI k)), (2, .int (nI t)), (3, .int (nI f)), (4, .int (nI e1))]) hx hb dX2_isDone_46 hl (by decide) rfl (fun ls hl => ?_)
  have L_48 : ∀ (fuel : Nat) (h : Nat) (want : Int32) (vo : Int32) (g : Int32) (be : Int32) (Za : Nat → Nat → Int32), e1 - h < fuel → (f ≤ h) → (h ≤ e1) → (mDoneL M (Z 30) (Z 31) k (t / 10) (t % 10) (e1 - h) h want vo g be = mDone M (Z 30) (Z 31) k t f e1 (Z 29 0)) → (Za 28 0 = g) → (Za 29 0 = be) → (∀ k9, k9 ≠ 28 → k9 ≠ 29 → Za k9 = Z k9) → ∀ (H : Heap) (locs : List Loc), MS G ad s.heap M Za V H locs → ∀ (ls : Array Slot), lv_has ls 12 [(0, .ref (ad 0)), (1, .int (nI k)), (2, .int (nI t)), (3, .int (nI f)), (4, .int (nI e1)), (5, .int (nI (t / 10))), (6, .int (nI (t % 10))), (7, .int want), (8, .int vo), (9, .int (nI h))] → W p l e ({ frames := 1, cells := 0, slots := 0, locals := 22 } : Room) s m ([.ref (ad 0), .int (nI k), .int (nI t), .int (nI f), .int (nI e1)] : List Value).toArray below meth c H locs 0 0 (MQ below (cQ (some (.int (bI (mDone M (Z 30) (Z 31) k t f e1 (Z 29 0)).1))) (fun H => ∃ Z9 V9, (Z9 28 0 = (mDone M (Z 30) (Z 31) k t f e1 (Z 29 0)).2.1 ∧ Z9 29 0 = (mDone M (Z 30) (Z 31) k t f e1 (Z 29 0)).2.2 ∧ ∀ k9, k9 ≠ 28 → k9 ≠ 29 → Z9 k9 = Z k9) ∧ mH G ad M Z9 V9 H) (mA ad)) ([.ref (ad 0), .int (nI k), .int (nI t), .int (nI f), .int (nI e1)] : List Value).toArray s 0 0 (mA ad)) (F0 m 48 ls []) := by
    intro fuel
    induction fuel with
    | zero => intro h want vo g be Za hf; exact absurd hf (Nat.not_lt_zero _)
    | succ fuel ih =>
      intro h want vo g be Za hf hfh hhe hq hg hbe hz H locs hw ls hl
      have ih48 := ih
      refine lv_iload hx hb dX2_isDone_48 (lv_at hl 9 rfl) ?_
      refine lv_iload hx hb dX2_isDone_50 (lv_at hl 4 rfl) ?_
      refine n_icmp_ge (tgt := 287) hx hb dX2_isDone_52 (by decide) (by omega) (by omega) (fun c_1 => ?_) (fun c_1 => ?_)
      · refine lv_iconst (v := nI 0) hx hb dX2_isDone_287 (by decide) ?_
        exact c_iret (v := nI 0) (by rw [(show mDone M (Z 30) (Z 31) k t f e1 (Z 29 0) = (False, g, be) by rw [← hq, mDoneL_z (by omega)])]; exact (bI_f (fun h9 => h9)).symm) hx hb hr rfl hlocks ⟨_, _, ⟨by rw [(show mDone M (Z 30) (Z 31) k t f e1 (Z 29 0) = (False, g, be) by rw [← hq, mDoneL_z (by omega)])]; exact hg, by rw [(show mDone M (Z 30) (Z 31) k t f e1 (Z 29 0) = (False, g, be) by rw [← hq, mDoneL_z (by omega)])]; exact hbe, hz⟩, mH.to rfl rfl rfl hw.1⟩ hw.2 dX2_isDone_288
      refine lv_aload_n hx hb dX2_isDone_55 rfl (lv_at hl 0 rfl) ?_
      refine lv_iload hx hb dX2_isDone_56 (lv_at hl 5 rfl) ?_
      refine lv_iconst (v := nI 0) hx hb dX2_isDone_58 (by decide) ?_
      refine c_read (va_runV (As := [.int (nI (t / 10)), .int (nI 0)]) (rest := []) ⟨hx, hb, hml, hown, hts⟩ (met_X2_get l G ad M Za V (t / 10) 0 (M 0 (10 + 5 * (t / 10))) (by omega) rfl) (cv_X2_X2_get hts ⟨Nat.le_of_ble_eq_true rfl, Nat.le_of_ble_eq_true rfl⟩) (cP.preV hK hw.1 (hw.1.recv hK)) rfl rfl hl.1 rfl (lv_room (Nat.le_of_ble_eq_true rfl)) dX2_isDone_59 ⟨by first | exact Nat.zero_le _ | omega | decide, by first | exact Nat.zero_le _ | omega | decide⟩) ?_
      have J_80 : ∀ (v0 : Int32), (v0 = pif ((t % 10) = (t / 10)) (nI 0) (M 0 (10 + 5 * (t % 10)))) → ∀ (H : Heap) (locs : List Loc), MS G ad s.heap M Za V H locs → ∀ (ls : Array Slot), lv_has ls 12 [(0, .ref (ad 0)), (1, .int (nI k)), (2, .int (nI t)), (3, .int (nI f)), (4, .int (nI e1)), (5, .int (nI (t / 10))), (6, .int (nI (t % 10))), (7, .int want), (8, .int vo), (9, .int (nI h))] → W p l e ({ frames := 1, cells := 0, slots := 0, locals := 22 } : Room) s m ([.ref (ad 0), .int (nI k), .int (nI t), .int (nI f), .int (nI e1)] : List Value).toArray below meth c H locs 0 0 (MQ below (cQ (some (.int (bI (mDone M (Z 30) (Z 31) k t f e1 (Z 29 0)).1))) (fun H => ∃ Z9 V9, (Z9 28 0 = (mDone M (Z 30) (Z 31) k t f e1 (Z 29 0)).2.1 ∧ Z9 29 0 = (mDone M (Z 30) (Z 31) k t f e1 (Z 29 0)).2.2 ∧ ∀ k9, k9 ≠ 28 → k9 ≠ 29 → Z9 k9 = Z k9) ∧ mH G ad M Z9 V9 H) (mA ad)) ([.ref (ad 0), .int (nI k), .int (nI t), .int (nI f), .int (nI e1)] : List Value).toArray s 0 0 (mA ad)) (F0 m 80 ls [.int v0, .int (M 0 (10 + 5 * (t / 10)))]) := by
        intro v0 h_v0 H locs hw ls hl
        subst h_v0
        refine lv_iadd hx hb dX2_isDone_80 ?_
        refine lv_istore (lv' := [(10, .int ((M 0 (10 + 5 * (t / 10))) + (pif ((t % 10) = (t / 10)) (nI 0) (M 0 (10 + 5 * (t % 10)))))), (0, .ref (ad 0)), (1, .int (nI k)), (2, .int (nI t)), (3, .int (nI f)), (4, .int (nI e1)), (5, .int (nI (t / 10))), (6, .int (nI (t % 10))), (7, .int want), (8, .int vo), (9, .int (nI h))]) hx hb dX2_isDone_81 hl (by decide) rfl (fun ls hl => ?_)
        have hl : lv_has ls 12 [(10, .int (mC0 M (t / 10) (t % 10))), (0, .ref (ad 0)), (1, .int (nI k)), (2, .int (nI t)), (3, .int (nI f)), (4, .int (nI e1)), (5, .int (nI (t / 10))), (6, .int (nI (t % 10))), (7, .int want), (8, .int vo), (9, .int (nI h))] := hl
        have J_104 : ∀ (v1 : Int32), (v1 = mC1 M (Z 30) (t / 10) (t % 10) h) → ∀ (H : Heap) (locs : List Loc), MS G ad s.heap M Za V H locs → ∀ (ls : Array Slot), lv_has ls 12 [(0, .ref (ad 0)), (1, .int (nI k)), (2, .int (nI t)), (3, .int (nI f)), (4, .int (nI e1)), (5, .int (nI (t / 10))), (6, .int (nI (t % 10))), (7, .int want), (8, .int vo), (9, .int (nI h)), (10, .int v1)] → W p l e ({ frames := 1, cells := 0, slots := 0, locals := 22 } : Room) s m ([.ref (ad 0), .int (nI k), .int (nI t), .int (nI f), .int (nI e1)] : List Value).toArray below meth c H locs 0 0 (MQ below (cQ (some (.int (bI (mDone M (Z 30) (Z 31) k t f e1 (Z 29 0)).1))) (fun H => ∃ Z9 V9, (Z9 28 0 = (mDone M (Z 30) (Z 31) k t f e1 (Z 29 0)).2.1 ∧ Z9 29 0 = (mDone M (Z 30) (Z 31) k t f e1 (Z 29 0)).2.2 ∧ ∀ k9, k9 ≠ 28 → k9 ≠ 29 → Z9 k9 = Z k9) ∧ mH G ad M Z9 V9 H) (mA ad)) ([.ref (ad 0), .int (nI k), .int (nI t), .int (nI f), .int (nI e1)] : List Value).toArray s 0 0 (mA ad)) (F0 m 104 ls []) := by
          intro v1 h_v1 H locs hw ls hl
          subst h_v1
          have J_115 : ∀ (v3 : Int32), (v3 = mC2 M (Z 30) (t / 10) (t % 10) h want) → ∀ (H : Heap) (locs : List Loc), MS G ad s.heap M Za V H locs → ∀ (ls : Array Slot), lv_has ls 12 [(0, .ref (ad 0)), (1, .int (nI k)), (2, .int (nI t)), (3, .int (nI f)), (4, .int (nI e1)), (5, .int (nI (t / 10))), (6, .int (nI (t % 10))), (7, .int want), (8, .int vo), (9, .int (nI h)), (10, .int v3)] → W p l e ({ frames := 1, cells := 0, slots := 0, locals := 22 } : Room) s m ([.ref (ad 0), .int (nI k), .int (nI t), .int (nI f), .int (nI e1)] : List Value).toArray below meth c H locs 0 0 (MQ below (cQ (some (.int (bI (mDone M (Z 30) (Z 31) k t f e1 (Z 29 0)).1))) (fun H => ∃ Z9 V9, (Z9 28 0 = (mDone M (Z 30) (Z 31) k t f e1 (Z 29 0)).2.1 ∧ Z9 29 0 = (mDone M (Z 30) (Z 31) k t f e1 (Z 29 0)).2.2 ∧ ∀ k9, k9 ≠ 28 → k9 ≠ 29 → Z9 k9 = Z k9) ∧ mH G ad M Z9 V9 H) (mA ad)) ([.ref (ad 0), .int (nI k), .int (nI t), .int (nI f), .int (nI e1)] : List Value).toArray s 0 0 (mA ad)) (F0 m 115 ls []) := by
            intro v3 h_v3 H locs hw ls hl
            subst h_v3
            have J_139 : ∀ (v4 : Int32), (v4 = mF1 M (Z 30) (t / 10) (t % 10) h want) → ∀ (H : Heap) (locs : List Loc), MS G ad s.heap M Za V H locs → ∀ (ls : Array Slot), lv_has ls 12 [(0, .ref (ad 0)), (1, .int (nI k)), (2, .int (nI t)), (3, .int (nI f)), (4, .int (nI e1)), (5, .int (nI (t / 10))), (6, .int (nI (t % 10))), (7, .int want), (8, .int vo), (9, .int (nI h)), (10, .int (mC2 M (Z 30) (t / 10) (t % 10) h want))] → W p l e ({ frames := 1, cells := 0, slots := 0, locals := 22 } : Room) s m ([.ref (ad 0), .int (nI k), .int (nI t), .int (nI f), .int (nI e1)] : List Value).toArray below meth c H locs 0 0 (MQ below (cQ (some (.int (bI (mDone M (Z 30) (Z 31) k t f e1 (Z 29 0)).1))) (fun H => ∃ Z9 V9, (Z9 28 0 = (mDone M (Z 30) (Z 31) k t f e1 (Z 29 0)).2.1 ∧ Z9 29 0 = (mDone M (Z 30) (Z 31) k t f e1 (Z 29 0)).2.2 ∧ ∀ k9, k9 ≠ 28 → k9 ≠ 29 → Z9 k9 = Z k9) ∧ mH G ad M Z9 V9 H) (mA ad)) ([.ref (ad 0), .int (nI k), .int (nI t), .int (nI f), .int (nI e1)] : List Value).toArray s 0 0 (mA ad)) (F0 m 139 ls [.int v4]) := by
              intro v4 h_v4 H locs hw ls hl
              subst h_v4
              refine lv_istore (lv' := [(11, .int (mF1 M (Z 30) (t / 10) (t % 10) h want)), (0, .ref (ad 0)), (1, .int (nI k)), (2, .int (nI t)), (3, .int (nI f)), (4, .int (nI e1)), (5, .int (nI (t / 10))), (6, .int (nI (t % 10))), (7, .int want), (8, .int vo), (9, .int (nI h)), (10, .int (mC2 M (Z 30) (t / 10) (t % 10) h want))]) hx hb dX2_isDone_139 hl (by decide) rfl (fun ls hl => ?_)
              refine lv_aload_n hx hb dX2_isDone_141 rfl (lv_at hl 1 rfl) ?_
              refine lv_dup hx hb dX2_isDone_142 rfl ?_
              refine m_g_gain hx hb hts hown hK hw dX2_isDone_143 ?_
              rw [show Za 28 0 = g from hg]
              refine lv_iload hx hb dX2_isDone_146 (lv_at hl 0 rfl) ?_
              refine lv_aload_n hx hb dX2_isDone_148 rfl (lv_at hl 1 rfl) ?_
              refine m_g_costs hx hb hts hown hK hw dX2_isDone_149 ?_
              refine lv_bipush (v := nI 6) hx hb dX2_isDone_152 (by decide) ?_
              refine lv_iload hx hb dX2_isDone_154 (lv_at hl 10 rfl) ?_
              refine n_imul hx hb dX2_isDone_156 ?_
              refine lv_iload hx hb dX2_isDone_157 (lv_at hl 6 rfl) ?_
              refine n_iadd hx hb dX2_isDone_159 ?_
              refine m_l_costs (j := 6 * h + t / 10) (v := Z 31 (6 * h + t / 10)) hx hb hK hw ((congrFun (hz 31 (by decide) (by decide)) (6 * h + t / 10)).trans rfl) (by omega) dX2_isDone_160 ?_
              refine lv_imul hx hb dX2_isDone_161 ?_
              refine lv_iload hx hb dX2_isDone_162 (lv_at hl 11 rfl) ?_
              refine lv_iload hx hb dX2_isDone_164 (lv_at hl 0 rfl) ?_
              refine lv_isub hx hb dX2_isDone_166 ?_
              refine lv_aload_n hx hb dX2_isDone_167 rfl (lv_at hl 1 rfl) ?_
              refine m_g_costs hx hb hts hown hK hw dX2_isDone_168 ?_
              refine lv_bipush (v := nI 6) hx hb dX2_isDone_171 (by decide) ?_
              refine lv_iload hx hb dX2_isDone_173 (lv_at hl 10 rfl) ?_
              refine n_imul hx hb dX2_isDone_175 ?_
              refine lv_iload hx hb dX2_isDone_176 (lv_at hl 7 rfl) ?_
              refine n_iadd hx hb dX2_isDone_178 ?_
              refine m_l_costs (j := 6 * h + t % 10) (v := Z 31 (6 * h + t % 10)) hx hb hK hw ((congrFun (hz 31 (by decide) (by decide)) (6 * h + t % 10)).trans rfl) (by omega) dX2_isDone_179 ?_
              refine lv_imul hx hb dX2_isDone_180 ?_
              refine lv_iadd hx hb dX2_isDone_181 ?_
              refine lv_isub hx hb dX2_isDone_182 ?_
              refine m_p_gain hx hb hts hown hK hw dX2_isDone_183 (fun H locs hw => ?_)
              have J_206 : ∀ (v5 : Int32), (v5 = mVa M (Z 30) (t / 10) (t % 10) h want) → ∀ (H : Heap) (locs : List Loc), MS G ad s.heap M (up2 Za 28 0 (g - (((mF1 M (Z 30) (t / 10) (t % 10) h want) * (Z 31 (6 * h + t / 10))) + (((mC2 M (Z 30) (t / 10) (t % 10) h want) - (mF1 M (Z 30) (t / 10) (t % 10) h want)) * (Z 31 (6 * h + t % 10)))))) V H locs → ∀ (ls : Array Slot), lv_has ls 12 [(0, .ref (ad 0)), (1, .int (nI k)), (2, .int (nI t)), (3, .int (nI f)), (4, .int (nI e1)), (5, .int (nI (t / 10))), (6, .int (nI (t % 10))), (7, .int want), (8, .int vo), (9, .int (nI h)), (10, .int (mC2 M (Z 30) (t / 10) (t % 10) h want)), (11, .int (mF1 M (Z 30) (t / 10) (t % 10) h want))] → W p l e ({ frames := 1, cells := 0, slots := 0, locals := 22 } : Room) s m ([.ref (ad 0), .int (nI k), .int (nI t), .int (nI f), .int (nI e1)] : List Value).toArray below meth c H locs 0 0 (MQ below (cQ (some (.int (bI (mDone M (Z 30) (Z 31) k t f e1 (Z 29 0)).1))) (fun H => ∃ Z9 V9, (Z9 28 0 = (mDone M (Z 30) (Z 31) k t f e1 (Z 29 0)).2.1 ∧ Z9 29 0 = (mDone M (Z 30) (Z 31) k t f e1 (Z 29 0)).2.2 ∧ ∀ k9, k9 ≠ 28 → k9 ≠ 29 → Z9 k9 = Z k9) ∧ mH G ad M Z9 V9 H) (mA ad)) ([.ref (ad 0), .int (nI k), .int (nI t), .int (nI f), .int (nI e1)] : List Value).toArray s 0 0 (mA ad)) (F0 m 206 ls [.int v5, .int vo]) := by
                intro v5 h_v5 H locs hw ls hl
                subst h_v5
                refine lv_ior hx hb dX2_isDone_206 ?_
                refine lv_istore (lv' := [(8, .int (vo ||| (mVa M (Z 30) (t / 10) (t % 10) h want))), (0, .ref (ad 0)), (1, .int (nI k)), (2, .int (nI t)), (3, .int (nI f)), (4, .int (nI e1)), (5, .int (nI (t / 10))), (6, .int (nI (t % 10))), (7, .int want), (9, .int (nI h)), (10, .int (mC2 M (Z 30) (t / 10) (t % 10) h want)), (11, .int (mF1 M (Z 30) (t / 10) (t % 10) h want))]) hx hb dX2_isDone_207 hl (by decide) rfl (fun ls hl => ?_)
                have J_231 : ∀ (v6 : Int32), (v6 = mVb M (Z 30) (t / 10) (t % 10) h want) → ∀ (H : Heap) (locs : List Loc), MS G ad s.heap M (up2 Za 28 0 (g - (((mF1 M (Z 30) (t / 10) (t % 10) h want) * (Z 31 (6 * h + t / 10))) + (((mC2 M (Z 30) (t / 10) (t % 10) h want) - (mF1 M (Z 30) (t / 10) (t % 10) h want)) * (Z 31 (6 * h + t % 10)))))) V H locs → ∀ (ls : Array Slot), lv_has ls 12 [(0, .ref (ad 0)), (1, .int (nI k)), (2, .int (nI t)), (3, .int (nI f)), (4, .int (nI e1)), (5, .int (nI (t / 10))), (6, .int (nI (t % 10))), (7, .int want), (8, .int (vo ||| (mVa M (Z 30) (t / 10) (t % 10) h want))), (9, .int (nI h)), (10, .int (mC2 M (Z 30) (t / 10) (t % 10) h want)), (11, .int (mF1 M (Z 30) (t / 10) (t % 10) h want))] → W p l e ({ frames := 1, cells := 0, slots := 0, locals := 22 } : Room) s m ([.ref (ad 0), .int (nI k), .int (nI t), .int (nI f), .int (nI e1)] : List Value).toArray below meth c H locs 0 0 (MQ below (cQ (some (.int (bI (mDone M (Z 30) (Z 31) k t f e1 (Z 29 0)).1))) (fun H => ∃ Z9 V9, (Z9 28 0 = (mDone M (Z 30) (Z 31) k t f e1 (Z 29 0)).2.1 ∧ Z9 29 0 = (mDone M (Z 30) (Z 31) k t f e1 (Z 29 0)).2.2 ∧ ∀ k9, k9 ≠ 28 → k9 ≠ 29 → Z9 k9 = Z k9) ∧ mH G ad M Z9 V9 H) (mA ad)) ([.ref (ad 0), .int (nI k), .int (nI t), .int (nI f), .int (nI e1)] : List Value).toArray s 0 0 (mA ad)) (F0 m 231 ls [.int v6, .int (vo ||| (mVa M (Z 30) (t / 10) (t % 10) h want))]) := by
                  intro v6 h_v6 H locs hw ls hl
                  subst h_v6
                  refine lv_ior hx hb dX2_isDone_231 ?_
                  refine lv_istore (lv' := [(8, .int ((vo ||| (mVa M (Z 30) (t / 10) (t % 10) h want)) ||| (mVb M (Z 30) (t / 10) (t % 10) h want))), (0, .ref (ad 0)), (1, .int (nI k)), (2, .int (nI t)), (3, .int (nI f)), (4, .int (nI e1)), (5, .int (nI (t / 10))), (6, .int (nI (t % 10))), (7, .int want), (9, .int (nI h)), (10, .int (mC2 M (Z 30) (t / 10) (t % 10) h want)), (11, .int (mF1 M (Z 30) (t / 10) (t % 10) h want))]) hx hb dX2_isDone_232 hl (by decide) rfl (fun ls hl => ?_)
                  refine lv_iload hx hb dX2_isDone_234 (lv_at hl 8 rfl) ?_
                  refine lv_iload hx hb dX2_isDone_236 (lv_at hl 10 rfl) ?_
                  refine lv_isub hx hb dX2_isDone_238 ?_
                  refine lv_istore (lv' := [(7, .int (want - (mC2 M (Z 30) (t / 10) (t % 10) h want))), (8, .int ((vo ||| (mVa M (Z 30) (t / 10) (t % 10) h want)) ||| (mVb M (Z 30) (t / 10) (t % 10) h want))), (0, .ref (ad 0)), (1, .int (nI k)), (2, .int (nI t)), (3, .int (nI f)), (4, .int (nI e1)), (5, .int (nI (t / 10))), (6, .int (nI (t % 10))), (9, .int (nI h)), (10, .int (mC2 M (Z 30) (t / 10) (t % 10) h want)), (11, .int (mF1 M (Z 30) (t / 10) (t % 10) h want))]) hx hb dX2_isDone_239 hl (by decide) rfl (fun ls hl => ?_)
                  refine lv_aload_n hx hb dX2_isDone_241 rfl (lv_at hl 2 rfl) ?_
                  refine lv_iload hx hb dX2_isDone_242 (lv_at hl 9 rfl) ?_
                  refine lv_iconst (v := nI 1) hx hb dX2_isDone_244 (by decide) ?_
                  refine n_iadd hx hb dX2_isDone_245 ?_
                  refine m_p_behind hx hb hts hown hK hw dX2_isDone_246 (fun H locs hw => ?_)
                  refine lv_iload hx hb dX2_isDone_249 (lv_at hl 0 rfl) ?_
                  refine lv_if_ne (tgt := 281) hx hb dX2_isDone_251 (by decide) (fun c_2 => ?_) (fun c_2 => ?_)
                  · refine lv_iinc (v := nI (h + 1)) (lv' := [(9, .int (nI (h + 1))), (7, .int (want - (mC2 M (Z 30) (t / 10) (t % 10) h want))), (8, .int ((vo ||| (mVa M (Z 30) (t / 10) (t % 10) h want)) ||| (mVb M (Z 30) (t / 10) (t % 10) h want))), (0, .ref (ad 0)), (1, .int (nI k)), (2, .int (nI t)), (3, .int (nI f)), (4, .int (nI e1)), (5, .int (nI (t / 10))), (6, .int (nI (t % 10))), (10, .int (mC2 M (Z 30) (t / 10) (t % 10) h want)), (11, .int (mF1 M (Z 30) (t / 10) (t % 10) h want))]) hx hb dX2_isDone_281 hl (k := 9) rfl (n_inc h 1) (by decide) rfl (fun ls hl => ?_)
                    refine lv_goto (tgt := 48) hx hb dX2_isDone_284 (by decide) ?_
                    exact ih48 (h + 1) (want - mC2 M (Z 30) (t / 10) (t % 10) h want) ((vo ||| mVa M (Z 30) (t / 10) (t % 10) h want) ||| mVb M (Z 30) (t / 10) (t % 10) h want) (mG1 M (Z 30) (Z 31) (t / 10) (t % 10) h want g) (nI (h + 1)) (up2 (up2 Za 28 0 (g - (((mF1 M (Z 30) (t / 10) (t % 10) h want) * (Z 31 (6 * h + t / 10))) + (((mC2 M (Z 30) (t / 10) (t % 10) h want) - (mF1 M (Z 30) (t / 10) (t % 10) h want)) * (Z 31 (6 * h + t % 10)))))) 29 0 (nI (h + 1))) (by omega) (by first | assumption | omega | rfl) (by first | assumption | omega | rfl) (((mDoneL_s (show h < e1 by omega)).trans (pif_f c_2)).symm.trans hq) ((up2_ne (Or.inl (by decide))).trans up2_at) up2_at (fun k9 h9 h8 => by funext j9; simp only [up2_eq, h9, h8, false_and, if_false]; rw [hz k9 h9 h8]) _ _ hw ls (lv_sub hl [3, 4, 5, 6, 7, 8, 9, 1, 2, 0] rfl)
                  have c0_ := c_2
                  refine lv_aload_n hx hb dX2_isDone_254 rfl (lv_at hl 2 rfl) ?_
                  refine m_g_a hx hb hts hown hK hw dX2_isDone_255 ?_
                  refine lv_bipush (v := nI 40) hx hb dX2_isDone_258 (by decide) ?_
                  refine lv_iconst (v := nI 3) hx hb dX2_isDone_260 (by decide) ?_
                  refine lv_iload_n hx hb dX2_isDone_261 rfl (lv_at hl 3 rfl) ?_
                  refine n_imul hx hb dX2_isDone_262 ?_
                  refine n_iadd hx hb dX2_isDone_263 ?_
                  refine lv_iconst (v := nI 1) hx hb dX2_isDone_264 (by decide) ?_
                  refine n_iadd hx hb dX2_isDone_265 ?_
                  refine m_l_a (j := 40 + 3 * k + 1) (v := M 0 (40 + 3 * k + 1)) hx hb hK hw rfl (by omega) dX2_isDone_266 ?_
                  refine lv_iload hx hb dX2_isDone_267 (lv_at hl 1 rfl) ?_
                  refine lv_iconst (v := (-1)) hx hb dX2_isDone_269 (by decide) ?_
                  refine lv_ixor hx hb dX2_isDone_270 ?_
                  refine lv_iand hx hb dX2_isDone_271 ?_
                  refine lv_if_ne (tgt := 279) hx hb dX2_isDone_272 (by decide) (fun c_3 => ?_) (fun c_3 => ?_)
                  · refine lv_iconst (v := nI 0) hx hb dX2_isDone_279 (by decide) ?_
                    exact c_iret (v := nI 0) (by rw [(show mDone M (Z 30) (Z 31) k t f e1 (Z 29 0) = _ by rw [← hq, mDoneL_s (by omega), pif_t c0_])]; exact (bI_f c_3).symm) hx hb hr rfl hlocks ⟨_, _, ⟨by rw [(show mDone M (Z 30) (Z 31) k t f e1 (Z 29 0) = _ by rw [← hq, mDoneL_s (by omega), pif_t c0_])]; exact (up2_ne (Or.inl (by decide))).trans up2_at, by rw [(show mDone M (Z 30) (Z 31) k t f e1 (Z 29 0) = _ by rw [← hq, mDoneL_s (by omega), pif_t c0_])]; exact up2_at, fun k9 h9 h8 => by funext j9; simp only [up2_eq, h9, h8, false_and, if_false]; rw [hz k9 h9 h8]⟩, mH.to rfl rfl rfl hw.1⟩ hw.2 dX2_isDone_280
                  refine lv_iconst (v := nI 1) hx hb dX2_isDone_275 (by decide) ?_
                  refine lv_goto (tgt := 280) hx hb dX2_isDone_276 (by decide) ?_
                  exact c_iret (v := nI 1) (by rw [(show mDone M (Z 30) (Z 31) k t f e1 (Z 29 0) = _ by rw [← hq, mDoneL_s (by omega), pif_t c0_])]; exact (bI_t c_3).symm) hx hb hr rfl hlocks ⟨_, _, ⟨by rw [(show mDone M (Z 30) (Z 31) k t f e1 (Z 29 0) = _ by rw [← hq, mDoneL_s (by omega), pif_t c0_])]; exact (up2_ne (Or.inl (by decide))).trans up2_at, by rw [(show mDone M (Z 30) (Z 31) k t f e1 (Z 29 0) = _ by rw [← hq, mDoneL_s (by omega), pif_t c0_])]; exact up2_at, fun k9 h9 h8 => by funext j9; simp only [up2_eq, h9, h8, false_and, if_false]; rw [hz k9 h9 h8]⟩, mH.to rfl rfl rfl hw.1⟩ hw.2 dX2_isDone_280
                refine lv_iload hx hb dX2_isDone_209 (lv_at hl 0 rfl) ?_
                refine lv_iload hx hb dX2_isDone_211 (lv_at hl 10 rfl) ?_
                refine lv_iload hx hb dX2_isDone_213 (lv_at hl 11 rfl) ?_
                refine lv_icmp_le (tgt := 230) hx hb dX2_isDone_215 (by decide) (fun c_4 => ?_) (fun c_4 => ?_)
                · refine lv_iconst (v := nI 0) hx hb dX2_isDone_230 (by decide) ?_
                  exact J_231 (nI 0)  (by unfold mVb; first | rw [pif_t c_4] | rw [pif_f c_4]) _ _ hw ls (lv_sub hl [1, 2, 3, 4, 5, 6, 7, 8, 0, 9, 10, 11] rfl)
                refine lv_iconst (v := nI 1) hx hb dX2_isDone_218 (by decide) ?_
                refine lv_aload_n hx hb dX2_isDone_219 rfl (lv_at hl 1 rfl) ?_
                refine lv_iload hx hb dX2_isDone_220 (lv_at hl 7 rfl) ?_
                refine lv_iconst (v := nI 1) hx hb dX2_isDone_222 (by decide) ?_
                refine c_read (va_runV (As := [.int (nI (t % 10)), .int (nI 1)]) (rest := [.int (nI 1), .int (vo ||| (mVa M (Z 30) (t / 10) (t % 10) h want))]) ⟨hx, hb, hml, hown, hts⟩ (met_X2_get l G ad M (up2 Za 28 0 (g - (((mF1 M (Z 30) (t / 10) (t % 10) h want) * (Z 31 (6 * h + t / 10))) + (((mC2 M (Z 30) (t / 10) (t % 10) h want) - (mF1 M (Z 30) (t / 10) (t % 10) h want)) * (Z 31 (6 * h + t % 10)))))) V (t % 10) 1 (M 0 (10 + 5 * (t % 10) + 1)) (by omega) rfl) (cv_X2_X2_get hts ⟨Nat.le_of_ble_eq_true rfl, Nat.le_of_ble_eq_true rfl⟩) (cP.preV hK hw.1 (hw.1.recv hK)) rfl rfl hl.1 rfl (lv_room (Nat.le_of_ble_eq_true rfl)) dX2_isDone_223 ⟨by first | exact Nat.zero_le _ | omega | decide, by first | exact Nat.zero_le _ | omega | decide⟩) ?_
                refine lv_ishl hx hb dX2_isDone_226 ?_
                refine lv_goto (tgt := 231) hx hb dX2_isDone_227 (by decide) ?_
                exact J_231 ((nI 1) <<< ((M 0 (10 + 5 * (t % 10) + 1)) &&& 31))  (by unfold mVb; first | rw [pif_t c_4] | rw [pif_f c_4]) _ _ hw ls (lv_sub hl [1, 2, 3, 4, 5, 6, 7, 8, 0, 9, 10, 11] rfl)
              refine lv_iload hx hb dX2_isDone_186 (lv_at hl 9 rfl) ?_
              refine lv_iload hx hb dX2_isDone_188 (lv_at hl 0 rfl) ?_
              refine lv_if_le (tgt := 205) hx hb dX2_isDone_190 (by decide) (fun c_5 => ?_) (fun c_5 => ?_)
              · refine lv_iconst (v := nI 0) hx hb dX2_isDone_205 (by decide) ?_
                exact J_206 (nI 0)  (by unfold mVa; first | rw [pif_t c_5] | rw [pif_f c_5]) _ _ hw ls (lv_sub hl [1, 2, 3, 4, 5, 6, 7, 8, 9, 10, 11, 0] rfl)
              refine lv_iconst (v := nI 1) hx hb dX2_isDone_193 (by decide) ?_
              refine lv_aload_n hx hb dX2_isDone_194 rfl (lv_at hl 1 rfl) ?_
              refine lv_iload hx hb dX2_isDone_195 (lv_at hl 6 rfl) ?_
              refine lv_iconst (v := nI 1) hx hb dX2_isDone_197 (by decide) ?_
              refine c_read (va_runV (As := [.int (nI (t / 10)), .int (nI 1)]) (rest := [.int (nI 1), .int vo]) ⟨hx, hb, hml, hown, hts⟩ (met_X2_get l G ad M (up2 Za 28 0 (g - (((mF1 M (Z 30) (t / 10) (t % 10) h want) * (Z 31 (6 * h + t / 10))) + (((mC2 M (Z 30) (t / 10) (t % 10) h want) - (mF1 M (Z 30) (t / 10) (t % 10) h want)) * (Z 31 (6 * h + t % 10)))))) V (t / 10) 1 (M 0 (10 + 5 * (t / 10) + 1)) (by omega) rfl) (cv_X2_X2_get hts ⟨Nat.le_of_ble_eq_true rfl, Nat.le_of_ble_eq_true rfl⟩) (cP.preV hK hw.1 (hw.1.recv hK)) rfl rfl hl.1 rfl (lv_room (Nat.le_of_ble_eq_true rfl)) dX2_isDone_198 ⟨by first | exact Nat.zero_le _ | omega | decide, by first | exact Nat.zero_le _ | omega | decide⟩) ?_
              refine lv_ishl hx hb dX2_isDone_201 ?_
              refine lv_goto (tgt := 206) hx hb dX2_isDone_202 (by decide) ?_
              exact J_206 ((nI 1) <<< ((M 0 (10 + 5 * (t / 10) + 1)) &&& 31))  (by unfold mVa; first | rw [pif_t c_5] | rw [pif_f c_5]) _ _ hw ls (lv_sub hl [1, 2, 3, 4, 5, 6, 7, 8, 9, 10, 11, 0] rfl)
            refine lv_iload hx hb dX2_isDone_115 (lv_at hl 10 rfl) ?_
            refine lv_aload_n hx hb dX2_isDone_117 rfl (lv_at hl 0 rfl) ?_
            refine lv_iload hx hb dX2_isDone_118 (lv_at hl 5 rfl) ?_
            refine lv_iconst (v := nI 0) hx hb dX2_isDone_120 (by decide) ?_
            refine c_read (va_runV (As := [.int (nI (t / 10)), .int (nI 0)]) (rest := [.int (mC2 M (Z 30) (t / 10) (t % 10) h want)]) ⟨hx, hb, hml, hown, hts⟩ (met_X2_get l G ad M Za V (t / 10) 0 (M 0 (10 + 5 * (t / 10))) (by omega) rfl) (cv_X2_X2_get hts ⟨Nat.le_of_ble_eq_true rfl, Nat.le_of_ble_eq_true rfl⟩) (cP.preV hK hw.1 (hw.1.recv hK)) rfl rfl hl.1 rfl (lv_room (Nat.le_of_ble_eq_true rfl)) dX2_isDone_121 ⟨by first | exact Nat.zero_le _ | omega | decide, by first | exact Nat.zero_le _ | omega | decide⟩) ?_
            refine lv_icmp_le (tgt := 137) hx hb dX2_isDone_124 (by decide) (fun c_6 => ?_) (fun c_6 => ?_)
            · refine lv_iload hx hb dX2_isDone_137 (lv_at hl 10 rfl) ?_
              exact J_139 (mC2 M (Z 30) (t / 10) (t % 10) h want)  (by unfold mF1; first | rw [pif_t c_6] | rw [pif_f c_6]) _ _ hw ls (lv_sub hl [0, 1, 2, 3, 4, 5, 6, 7, 8, 9, 10] rfl)
            refine lv_aload_n hx hb dX2_isDone_127 rfl (lv_at hl 0 rfl) ?_
            refine lv_iload hx hb dX2_isDone_128 (lv_at hl 5 rfl) ?_
            refine lv_iconst (v := nI 0) hx hb dX2_isDone_130 (by decide) ?_
            refine c_read (va_runV (As := [.int (nI (t / 10)), .int (nI 0)]) (rest := []) ⟨hx, hb, hml, hown, hts⟩ (met_X2_get l G ad M Za V (t / 10) 0 (M 0 (10 + 5 * (t / 10))) (by omega) rfl) (cv_X2_X2_get hts ⟨Nat.le_of_ble_eq_true rfl, Nat.le_of_ble_eq_true rfl⟩) (cP.preV hK hw.1 (hw.1.recv hK)) rfl rfl hl.1 rfl (lv_room (Nat.le_of_ble_eq_true rfl)) dX2_isDone_131 ⟨by first | exact Nat.zero_le _ | omega | decide, by first | exact Nat.zero_le _ | omega | decide⟩) ?_
            refine lv_goto (tgt := 139) hx hb dX2_isDone_134 (by decide) ?_
            exact J_139 (M 0 (10 + 5 * (t / 10)))  (by unfold mF1; first | rw [pif_t c_6] | rw [pif_f c_6]) _ _ hw ls (lv_sub hl [0, 1, 2, 3, 4, 5, 6, 7, 8, 9, 10] rfl)
          refine lv_iload hx hb dX2_isDone_104 (lv_at hl 10 rfl) ?_
          refine lv_iload hx hb dX2_isDone_106 (lv_at hl 7 rfl) ?_
          refine lv_icmp_le (tgt := 115) hx hb dX2_isDone_108 (by decide) (fun c_7 => ?_) (fun c_7 => ?_)
          · exact J_115 (mC1 M (Z 30) (t / 10) (t % 10) h)  (by unfold mC2; first | rw [pif_t c_7] | rw [pif_f c_7]) _ _ hw ls (lv_sub hl [0, 1, 2, 3, 4, 5, 6, 7, 8, 9, 10] rfl)
          refine lv_iload hx hb dX2_isDone_111 (lv_at hl 7 rfl) ?_
          refine lv_istore (lv' := [(10, .int want), (0, .ref (ad 0)), (1, .int (nI k)), (2, .int (nI t)), (3, .int (nI f)), (4, .int (nI e1)), (5, .int (nI (t / 10))), (6, .int (nI (t % 10))), (7, .int want), (8, .int vo), (9, .int (nI h))]) hx hb dX2_isDone_113 hl (by decide) rfl (fun ls hl => ?_)
          exact J_115 want  (by unfold mC2; first | rw [pif_t c_7] | rw [pif_f c_7]) _ _ hw ls (lv_sub hl [1, 2, 3, 4, 5, 6, 7, 8, 9, 10, 0] rfl)
        refine lv_iload hx hb dX2_isDone_83 (lv_at hl 0 rfl) ?_
        refine lv_aload_n hx hb dX2_isDone_85 rfl (lv_at hl 1 rfl) ?_
        refine m_g_smokes hx hb hts hown hK hw dX2_isDone_86 ?_
        refine lv_iload hx hb dX2_isDone_89 (lv_at hl 10 rfl) ?_
        refine m_l_smokes (j := h) (v := Z 30 h) hx hb hK hw ((congrFun (hz 30 (by decide) (by decide)) h).trans rfl) (by omega) dX2_isDone_91 ?_
        refine lv_icmp_le (tgt := 104) hx hb dX2_isDone_92 (by decide) (fun c_8 => ?_) (fun c_8 => ?_)
        · exact J_104 (mC0 M (t / 10) (t % 10))  (by unfold mC1; first | rw [pif_t c_8] | rw [pif_f c_8]) _ _ hw ls (lv_sub hl [1, 2, 3, 4, 5, 6, 7, 8, 9, 10, 0] rfl)
        refine lv_aload_n hx hb dX2_isDone_95 rfl (lv_at hl 1 rfl) ?_
        refine m_g_smokes hx hb hts hown hK hw dX2_isDone_96 ?_
        refine lv_iload hx hb dX2_isDone_99 (lv_at hl 10 rfl) ?_
        refine m_l_smokes (j := h) (v := Z 30 h) hx hb hK hw ((congrFun (hz 30 (by decide) (by decide)) h).trans rfl) (by omega) dX2_isDone_101 ?_
        refine lv_istore (lv' := [(10, .int (Z 30 h)), (0, .ref (ad 0)), (1, .int (nI k)), (2, .int (nI t)), (3, .int (nI f)), (4, .int (nI e1)), (5, .int (nI (t / 10))), (6, .int (nI (t % 10))), (7, .int want), (8, .int vo), (9, .int (nI h))]) hx hb dX2_isDone_102 hl (by decide) rfl (fun ls hl => ?_)
        exact J_104 (Z 30 h)  (by unfold mC1; first | rw [pif_t c_8] | rw [pif_f c_8]) _ _ hw ls (lv_sub hl [1, 2, 3, 4, 5, 6, 7, 8, 9, 10, 0] rfl)
      refine lv_iload hx hb dX2_isDone_62 (lv_at hl 6 rfl) ?_
      refine lv_iload hx hb dX2_isDone_64 (lv_at hl 5 rfl) ?_
      refine n_icmp_ne (tgt := 73) hx hb dX2_isDone_66 (by decide) (by omega) (by omega) (fun c_9 => ?_) (fun c_9 => ?_)
      · refine lv_aload_n hx hb dX2_isDone_73 rfl (lv_at hl 0 rfl) ?_
        refine lv_iload hx hb dX2_isDone_74 (lv_at hl 6 rfl) ?_
        refine lv_iconst (v := nI 0) hx hb dX2_isDone_76 (by decide) ?_
        refine c_read (va_runV (As := [.int (nI (t % 10)), .int (nI 0)]) (rest := [.int (M 0 (10 + 5 * (t / 10)))]) ⟨hx, hb, hml, hown, hts⟩ (met_X2_get l G ad M Za V (t % 10) 0 (M 0 (10 + 5 * (t % 10))) (by omega) rfl) (cv_X2_X2_get hts ⟨Nat.le_of_ble_eq_true rfl, Nat.le_of_ble_eq_true rfl⟩) (cP.preV hK hw.1 (hw.1.recv hK)) rfl rfl hl.1 rfl (lv_room (Nat.le_of_ble_eq_true rfl)) dX2_isDone_77 ⟨by first | exact Nat.zero_le _ | omega | decide, by first | exact Nat.zero_le _ | omega | decide⟩) ?_
        exact J_80 (M 0 (10 + 5 * (t % 10)))  (by first | rw [pif_t c_9] | rw [pif_f c_9]) _ _ hw ls (lv_sub hl [0, 1, 2, 3, 4, 5, 6, 7, 8, 9] rfl)
      refine lv_iconst (v := nI 0) hx hb dX2_isDone_69 (by decide) ?_
      refine lv_goto (tgt := 80) hx hb dX2_isDone_70 (by decide) ?_
      exact J_80 (nI 0)  (by first | rw [pif_t c_9] | rw [pif_f c_9]) _ _ hw ls (lv_sub hl [0, 1, 2, 3, 4, 5, 6, 7, 8, 9] rfl)
  exact L_48 _ f (M 0 (40 + 3 * k)) (nI 0) (M 0 (40 + 3 * k + 2)) (Z 29 0) (up2 Z 28 0 (M 0 (40 + 3 * k + 2))) (Nat.lt_succ_self _) (by first | assumption | omega | rfl) (by first | assumption | omega | rfl) rfl up2_at (up2_ne (Or.inl (by decide))) (fun k9 h9 h8 => by funext j9; simp only [up2_eq, h9, false_and, if_false]) _ _ hw ls (lv_sub hl [5, 6, 7, 8, 9, 4, 3, 2, 1, 0] rfl)
