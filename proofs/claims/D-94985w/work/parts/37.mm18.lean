theorem mC1_congr {M : Nat → Nat → Int32} {sk sk' : Nat → Int32} {lo ot h : Nat} (e : sk h = sk' h) : mC1 M sk lo ot h = mC1 M sk' lo ot h := by unfold mC1; rw [e]
theorem mC2_congr {M : Nat → Nat → Int32} {sk sk' : Nat → Int32} {lo ot h : Nat} {want : Int32} (e : sk h = sk' h) : mC2 M sk lo ot h want = mC2 M sk' lo ot h want := by unfold mC2; rw [mC1_congr e]
theorem mF1_congr {M : Nat → Nat → Int32} {sk sk' : Nat → Int32} {lo ot h : Nat} {want : Int32} (e : sk h = sk' h) : mF1 M sk lo ot h want = mF1 M sk' lo ot h want := by unfold mF1; rw [mC2_congr e]
theorem mDoneL_congr {M : Nat → Nat → Int32} {sk ck sk' ck' : Nat → Int32} {k lo ot e1 : Nat} (hs : ∀ j, j < e1 → sk j = sk' j) (hc : ∀ j, j < e1 → ck (6 * j + lo) = ck' (6 * j + lo) ∧ ck (6 * j + ot) = ck' (6 * j + ot)) : ∀ (n h : Nat) (want vo g be : Int32), n + h ≤ e1 → mDoneL M sk ck k lo ot n h want vo g be = mDoneL M sk' ck' k lo ot n h want vo g be
  | 0, h, want, vo, g, be, _ => rfl
  | n + 1, h, want, vo, g, be, hn => by
    have e := hs h (by omega)
    obtain ⟨e2, e3⟩ := hc h (by omega)
    unfold mDoneL mVa mVb mG1
    rw [mC2_congr e, mF1_congr e, e2, e3]
    congr 1
    exact mDoneL_congr hs hc n (h + 1) _ _ _ _ (by omega)
theorem mDone_congr {M : Nat → Nat → Int32} {sk ck sk' ck' : Nat → Int32} {k t f e1 nb : Nat} {be : Int32} (hs : ∀ j, j < e1 → sk j = sk' j) (hc : ∀ j b, j < e1 → b < nb → ck (6 * j + b) = ck' (6 * j + b)) (hf : f ≤ e1) (ht : t / 10 ≤ t % 10 ∧ t % 10 < nb) : mDone M sk ck k t f e1 be = mDone M sk' ck' k t f e1 be := by
  unfold mDone
  exact mDoneL_congr hs (fun j hj => ⟨hc j _ hj (by omega), hc j _ hj (by omega)⟩) _ _ _ _ _ _ (by omega)
section PC
variable {M : Nat → Nat → Int32} {sk ck sk' ck' : Nat → Int32} {nb kk e1 : Nat}
theorem mByOk_congr (hs : ∀ j, j < e1 → sk j = sk' j) (hc : ∀ j b, j < e1 → b < nb → ck (6 * j + b) = ck' (6 * j + b)) {d h ch : Nat} (hh : h ≤ e1) : mByOk M sk ck nb kk e1 d h ch ↔ mByOk M sk' ck' nb kk e1 d h ch := by
  unfold mByOk
  constructor
  · rintro ⟨h1, h2, h3⟩
    exact ⟨h1, h2, by rw [← mDone_congr hs hc hh h2]; exact h3⟩
  · rintro ⟨h1, h2, h3⟩
    exact ⟨h1, h2, by rw [mDone_congr hs hc hh h2]; exact h3⟩
theorem mByI_congr (hs : ∀ j, j < e1 → sk j = sk' j) (hc : ∀ j b, j < e1 → b < nb → ck (6 * j + b) = ck' (6 * j + b)) {d h ch : Nat} (hh : h ≤ e1) (ok : mByOk M sk ck nb kk e1 d h ch) : mByI M sk ck e1 d h ch = mByI M sk' ck' e1 d h ch := by
  unfold mByI mByB
  rw [mDone_congr hs hc hh ok.2.1]
theorem mByV_congr2 (hs : ∀ j, j < e1 → sk j = sk' j) (hc : ∀ j b, j < e1 → b < nb → ck (6 * j + b) = ck' (6 * j + b)) {lf : Nat → Int32} {d h ch : Nat} (hh : h ≤ e1) : mByV M sk ck lf nb kk e1 d h ch = mByV M sk' ck' lf nb kk e1 d h ch := by
  unfold mByV
  by_cases ok : mByOk M sk ck nb kk e1 d h ch
  · rw [pif_t ok, pif_t ((mByOk_congr hs hc hh).mp ok), mByI_congr hs hc hh ok, mDone_congr hs hc hh ok.2.1]
  · rw [pif_f ok, pif_f (fun q => ok ((mByOk_congr hs hc hh).mpr q))]
theorem mReF_congr (hs : ∀ j, j < e1 → sk j = sk' j) (hc : ∀ j b, j < e1 → b < nb → ck (6 * j + b) = ck' (6 * j + b)) {lf wk : Nat → Int32} {d h ch : Nat} {st : Int32 × Int32} (hh : h ≤ e1) : mReF M sk ck lf wk nb kk e1 d h ch st = mReF M sk' ck' lf wk nb kk e1 d h ch st := by
  unfold mReF
  rw [mByV_congr2 hs hc hh]
  by_cases c : mByV M sk' ck' lf nb kk e1 d h ch = (-100000000)
  · rw [pif_t c, pif_t c]
  · have ok := mByOk_of c
    rw [mByI_congr hs hc hh ((mByOk_congr hs hc hh).mpr ok)]
theorem mReLW_congr (hs : ∀ j, j < e1 → sk j = sk' j) (hc : ∀ j b, j < e1 → b < nb → ck (6 * j + b) = ck' (6 * j + b)) {lf wk : Nat → Int32} {d h : Nat} (hh : h ≤ e1) : mReLW M sk ck lf wk nb kk e1 d h = mReLW M sk' ck' lf wk nb kk e1 d h := by
  unfold mReLW
  rw [show mReF M sk ck lf wk nb kk e1 d h = mReF M sk' ck' lf wk nb kk e1 d h from funext fun ch => funext fun st => mReF_congr hs hc hh]
theorem mReck_congr (hs : ∀ j, j < e1 → sk j = sk' j) (hc : ∀ j b, j < e1 → b < nb → ck (6 * j + b) = ck' (6 * j + b)) {st : (Nat → Int32) × (Nat → Int32)} {d h : Nat} (hh : h ≤ e1) : mReck M sk ck nb kk e1 st d h = mReck M sk' ck' nb kk e1 st d h := by
  unfold mReck
  rw [mReLW_congr hs hc hh]
end PC
noncomputable def mPlanH (M : Nat → Nat → Int32) (sk ck : Nat → Int32) (nb kk e1 d : Nat) : Nat → (Nat → Int32) × (Nat → Int32) → (Nat → Int32) × (Nat → Int32)
  | 0, st => st
  | h + 1, st => mPlanH M sk ck nb kk e1 d h (mReck M sk ck nb kk e1 st d h)
noncomputable def mPlanD (M : Nat → Nat → Int32) (sk ck : Nat → Int32) (nb kk e1 : Nat) : Nat → (Nat → Int32) × (Nat → Int32) → (Nat → Int32) × (Nat → Int32)
  | 0, st => st
  | d + 1, st => mPlanD M sk ck nb kk e1 d (pif (nI d &&& (nI kk ^^^ (-1)) = 0) (mPlanH M sk ck nb kk e1 d (e1 + 1) st) st)
noncomputable def skC (tx : kT) (h : Nat) (j : Nat) : Int32 := mSmoke tx (nI (h + j))
noncomputable def ckC (tx : kT) (M : Nat → Nat → Int32) (h : Nat) (i : Nat) : Int32 := mCost tx M (i % 6) (nI (h + i / 6))
def mHit (M : Nat → Nat → Int32) (sk ck : Nat → Int32) (st : (Nat → Int32) × (Nat → Int32)) (nb kk e1 d h ch : Nat) : Prop := mByV M sk ck st.1 nb kk e1 d h ch = st.1 (26 * d + h) ∧ st.2 (mByI M sk ck e1 d h ch) + nI 1 = st.2 (26 * d + h)
/-- the works of a plan, up to the i-th: what is done, from which hour on, the choice -/
def mChain (M : Nat → Nat → Int32) (sk ck : Nat → Int32) (st : (Nat → Int32) × (Nat → Int32)) (nb kk e1 i : Nat) (ds hs cs : Nat → Nat) : Prop :=
  ds 0 = 0 ∧ hs 0 = 0 ∧ ∀ k, k ≤ i → cs k < 600 ∧ mHit M sk ck st nb kk e1 (ds k) (hs k) (cs k) ∧ (∀ c, c < cs k → ¬ mHit M sk ck st nb kk e1 (ds k) (hs k) c) ∧ (∀ c, mByV M sk ck st.1 nb kk e1 (ds k) (hs k) c = st.1 (26 * ds k + hs k) → mByOk M sk ck nb kk e1 (ds k) (hs k) c) ∧ ds (k + 1) = ds k ||| 2 ^ (cs k / 100) ∧ hs (k + 1) = mByB M sk ck e1 (hs k) (cs k)
set_option maxHeartbeats 4000000 in
set_option maxRecDepth 100000 in
theorem met_X2_workOf (l : Launch) (G : gG) (ad : Nat → Nat) (M Z : Nat → Nat → Int32) (V : Nat → Nat → Int64) (nb : Nat) (en : M 0 0 = nI nb) (hn : nb ≤ 6) (kk e1 i : Nat) (he : e1 ≤ 24) (hkk : kk < 64) (hi : i < 2 ^ 30) (ds hs cs : Nat → Nat) (hch : mChain M (Z 30) (Z 31) (Z 26, Z 27) nb kk e1 i ds hs cs) : Met l yX2_workOf (ws_ yX2_workOf cX2_workOf 9 (some .int)) ({ frames := 3, cells := 0, slots := 0, locals := 79 } : Room) (cP G [.ref (ad 0), .int (nI kk), .int (nI e1), .int (nI i)] (mH G ad M Z V)) (cQ (some (.int (nI (cs i)))) (fun H => ∃ Z9 V9, mH G ad M Z9 V9 H) (mA ad)) 0 0 (mA ad) := by
  refine c_start (by decide) (Nat.le_of_ble_eq_true rfl) ?_
  intro p e s m below meth c hx hb hr hlocks hml hown hts hB hK ls hl
  have hw := MS.of hB
  have hl : lv_has ls 9 [(0, .ref (ad 0)), (1, .int (nI kk)), (2, .int (nI e1)), (3, .int (nI i))] := hl
  refine lv_iconst (v := nI 0) hx hb dX2_workOf_0 (by decide) ?_
  refine lv_istore (lv' := [(4, .int (nI 0)), (0, .ref (ad 0)), (1, .int (nI kk)), (2, .int (nI e1)), (3, .int (nI i))]) hx hb dX2_workOf_1 hl (by decide) rfl (fun ls hl => ?_)
  refine lv_iconst (v := nI 0) hx hb dX2_workOf_3 (by decide) ?_
  refine lv_istore (lv' := [(5, .int (nI 0)), (4, .int (nI 0)), (0, .ref (ad 0)), (1, .int (nI kk)), (2, .int (nI e1)), (3, .int (nI i))]) hx hb dX2_workOf_4 hl (by decide) rfl (fun ls hl => ?_)
  refine lv_iconst (v := nI 0) hx hb dX2_workOf_6 (by decide) ?_
  refine lv_istore (lv' := [(6, .int (nI 0)), (5, .int (nI 0)), (4, .int (nI 0)), (0, .ref (ad 0)), (1, .int (nI kk)), (2, .int (nI e1)), (3, .int (nI i))]) hx hb dX2_workOf_7 hl (by decide) rfl (fun ls hl => ?_)
  refine lv_iconst (v := nI 0) hx hb dX2_workOf_9 (by decide) ?_
  refine lv_istore (lv' := [(7, .int (nI 0)), (6, .int (nI 0)), (5, .int (nI 0)), (4, .int (nI 0)), (0, .ref (ad 0)), (1, .int (nI kk)), (2, .int (nI e1)), (3, .int (nI i))]) hx hb dX2_workOf_10 hl (by decide) rfl (fun ls hl => ?_)
  have L_12 : ∀ (fuel : Nat) (k : Nat) (c6 : Nat) (Za : Nat → Nat → Int32) (Va : Nat → Nat → Int64), i + 1 - k < fuel → (k ≤ i + 1) → (ds k < 64) → (hs k ≤ e1) → (0 < k → c6 = cs (k - 1)) → (∀ k9, k9 ≠ 28 → k9 ≠ 29 → Za k9 = Z k9) → ∀ (H : Heap) (locs : List Loc), MS G ad s.heap M Za Va H locs → ∀ (ls : Array Slot), lv_has ls 9 [(0, .ref (ad 0)), (1, .int (nI kk)), (2, .int (nI e1)), (3, .int (nI i)), (4, .int (nI (ds k))), (5, .int (nI (hs k))), (6, .int (nI c6)), (7, .int (nI k))] → W p l e ({ frames := 3, cells := 0, slots := 0, locals := 79 } : Room) s m ([.ref (ad 0), .int (nI kk), .int (nI e1), .int (nI i)] : List Value).toArray below meth c H locs 0 0 (MQ below (cQ (some (.int (nI (cs i)))) (fun H => ∃ Z9 V9, mH G ad M Z9 V9 H) (mA ad)) ([.ref (ad 0), .int (nI kk), .int (nI e1), .int (nI i)] : List Value).toArray s 0 0 (mA ad)) (F0 m 12 ls []) := by
    intro fuel
    induction fuel with
    | zero => intro k c6 Za Va hf; exact absurd hf (Nat.not_lt_zero _)
    | succ fuel ih =>
      intro k c6 Za Va hf hki hdk hhk hc6 hza H locs hw ls hl
      have ih12 := ih
      refine lv_iload hx hb dX2_workOf_12 (lv_at hl 7 rfl) ?_
      refine lv_iload_n hx hb dX2_workOf_14 rfl (lv_at hl 3 rfl) ?_
      refine n_icmp_gt (tgt := 118) hx hb dX2_workOf_15 (by decide) (by omega) (by omega) (fun c_1 => ?_) (fun c_1 => ?_)
      · refine lv_iload hx hb dX2_workOf_118 (lv_at hl 6 rfl) ?_
        exact c_iret (v := nI c6) (by rw [hc6 (by omega), show k - 1 = i by omega]) hx hb hr rfl hlocks ⟨_, _, mH.to rfl rfl rfl hw.1⟩ hw.2 dX2_workOf_120
      have hst := hch.2.2 k (by omega)
      have hc600 := hst.1
      refine lv_bipush (v := nI 26) hx hb dX2_workOf_18 (by decide) ?_
      refine lv_iload hx hb dX2_workOf_20 (lv_at hl 4 rfl) ?_
      refine n_imul hx hb dX2_workOf_22 ?_
      refine lv_iload hx hb dX2_workOf_23 (lv_at hl 5 rfl) ?_
      refine n_iadd hx hb dX2_workOf_25 ?_
      refine lv_istore (lv' := [(8, .int (nI (26 * (ds k) + hs k))), (0, .ref (ad 0)), (1, .int (nI kk)), (2, .int (nI e1)), (3, .int (nI i)), (4, .int (nI (ds k))), (5, .int (nI (hs k))), (6, .int (nI c6)), (7, .int (nI k))]) hx hb dX2_workOf_26 hl (by decide) rfl (fun ls hl => ?_)
      refine lv_iconst (v := nI 0) hx hb dX2_workOf_28 (by decide) ?_
      refine lv_istore (lv' := [(6, .int (nI 0)), (8, .int (nI (26 * (ds k) + hs k))), (0, .ref (ad 0)), (1, .int (nI kk)), (2, .int (nI e1)), (3, .int (nI i)), (4, .int (nI (ds k))), (5, .int (nI (hs k))), (7, .int (nI k))]) hx hb dX2_workOf_29 hl (by decide) rfl (fun ls hl => ?_)
      have L31_2 : ∀ (fuel : Nat) (ch : Nat) (Zb : Nat → Nat → Int32) (Vb : Nat → Nat → Int64), 600 - ch < fuel → (ch ≤ cs k) → (∀ k9, k9 ≠ 28 → k9 ≠ 29 → Zb k9 = Z k9) → ∀ (H : Heap) (locs : List Loc), MS G ad s.heap M Zb Vb H locs → ∀ (ls : Array Slot), lv_has ls 9 [(0, .ref (ad 0)), (1, .int (nI kk)), (2, .int (nI e1)), (3, .int (nI i)), (4, .int (nI (ds k))), (5, .int (nI (hs k))), (6, .int (nI ch)), (7, .int (nI k)), (8, .int (nI (26 * ds k + hs k)))] → W p l e ({ frames := 3, cells := 0, slots := 0, locals := 79 } : Room) s m ([.ref (ad 0), .int (nI kk), .int (nI e1), .int (nI i)] : List Value).toArray below meth c H locs 0 0 (MQ below (cQ (some (.int (nI (cs i)))) (fun H => ∃ Z9 V9, mH G ad M Z9 V9 H) (mA ad)) ([.ref (ad 0), .int (nI kk), .int (nI e1), .int (nI i)] : List Value).toArray s 0 0 (mA ad)) (F0 m 31 ls []) := by
        intro fuel
        induction fuel with
        | zero => intro ch Zb Vb hf; exact absurd hf (Nat.not_lt_zero _)
        | succ fuel ih =>
          intro ch Zb Vb hf hcc hzb H locs hw ls hl
          have ih31 := ih
          refine lv_aload_n hx hb dX2_workOf_31 rfl (lv_at hl 0 rfl) ?_
          refine lv_iload hx hb dX2_workOf_32 (lv_at hl 4 rfl) ?_
          refine lv_iload hx hb dX2_workOf_34 (lv_at hl 5 rfl) ?_
          refine lv_iload hx hb dX2_workOf_36 (lv_at hl 6 rfl) ?_
          refine lv_iload_n hx hb dX2_workOf_38 rfl (lv_at hl 1 rfl) ?_
          refine lv_iload_n hx hb dX2_workOf_39 rfl (lv_at hl 2 rfl) ?_
          refine c_call (va_runV (As := [.int (nI (ds k)), .int (nI (hs k)), .int (nI ch), .int (nI kk), .int (nI e1)]) (rest := []) ⟨hx, hb, hml, hown, hts⟩ (met_X2_by_2 l G ad M Zb Vb (ds k) (hs k) ch kk e1 (by omega) (by omega) (by omega) (by omega) (by omega) nb en (by omega)) (cv_X2_X2_by_2 hts ⟨Nat.le_of_ble_eq_true rfl, Nat.le_of_ble_eq_true rfl⟩) (cP.preV hK hw.1 (hw.1.recv hK)) rfl rfl hl.1 rfl (lv_room (Nat.le_of_ble_eq_true rfl)) dX2_workOf_40 ⟨by first | exact Nat.zero_le _ | omega | decide, by first | exact Nat.zero_le _ | omega | decide⟩) hw.2 (fun q _ h => h) (fun q h => h) (fun H locs hw _ _ hS => ?_)
          obtain ⟨Z1, V1, ⟨hb1, hz1⟩, hw⟩ := hw
          replace hw := MS.mk hw hS
          have h30 : Zb 30 = Z 30 := hzb 30 (by decide) (by decide)
          have h31 : Zb 31 = Z 31 := hzb 31 (by decide) (by decide)
          have h26 : Zb 26 = Z 26 := hzb 26 (by decide) (by decide)
          rw [h30, h31, h26]
          refine lv_aload_n hx hb dX2_workOf_43 rfl (lv_at hl 0 rfl) ?_
          refine m_g_left hx hb hts hown hK hw dX2_workOf_44 ?_
          refine lv_iload hx hb dX2_workOf_47 (lv_at hl 8 rfl) ?_
          refine m_l_left (j := 26 * ds k + hs k) (v := Z 26 (26 * ds k + hs k)) hx hb hK hw ((congrFun (hz1 26 (by decide) (by decide)) (26 * ds k + hs k)).trans ((congrFun (hzb 26 (by decide) (by decide)) (26 * ds k + hs k)).trans rfl)) (by omega) dX2_workOf_49 ?_
          refine lv_icmp_ne (tgt := 88) hx hb dX2_workOf_50 (by decide) (fun c_3 => ?_) (fun c_3 => ?_)
          · have hnh : ¬ mHit M (Z 30) (Z 31) (Z 26, Z 27) nb kk e1 (ds k) (hs k) ch := fun h9 => by first | exact absurd h9.1 c_3 | exact absurd h9.2 c_3
            refine lv_iinc (v := nI (ch + 1)) (lv' := [(6, .int (nI (ch + 1))), (0, .ref (ad 0)), (1, .int (nI kk)), (2, .int (nI e1)), (3, .int (nI i)), (4, .int (nI (ds k))), (5, .int (nI (hs k))), (7, .int (nI k)), (8, .int (nI (26 * ds k + hs k)))]) hx hb dX2_workOf_88 hl (k := 6) rfl (n_inc ch 1) (by decide) rfl (fun ls hl => ?_)
            refine lv_goto (tgt := 31) hx hb dX2_workOf_91 (by decide) ?_
            exact ih31 (ch + 1) Z1 V1 (by omega) (by have : ch ≠ cs k := fun e9 => absurd hst.2.1 (by rw [← e9]; exact hnh); omega) (fun k9 h9 h8 => by rw [hz1 k9 h9 h8]; exact hzb k9 h9 h8) _ _ hw ls (lv_sub hl [1, 2, 3, 4, 5, 6, 0, 7, 8] rfl)
          have ev := c_3
          have okb := hst.2.2.2.1 ch ev
          have hbe := hb1 (by rw [h30, h31]; exact okb)
          rw [h30, h31] at hbe
          have hb24 := (mByB_of (by omega) (by omega) okb).1
          have hor : ds k ||| 2 ^ (ch / 100) < 64 := or_lt (by omega) (by omega)
          refine lv_aload_n hx hb dX2_workOf_53 rfl (lv_at hl 0 rfl) ?_
          refine m_g_works hx hb hts hown hK hw dX2_workOf_54 ?_
          refine lv_bipush (v := nI 26) hx hb dX2_workOf_57 (by decide) ?_
          refine lv_iload hx hb dX2_workOf_59 (lv_at hl 4 rfl) ?_
          refine lv_iconst (v := nI 1) hx hb dX2_workOf_61 (by decide) ?_
          refine lv_iload hx hb dX2_workOf_62 (lv_at hl 6 rfl) ?_
          refine lv_bipush (v := nI 100) hx hb dX2_workOf_64 (by decide) ?_
          refine n_idiv hx hb (by omega) (by decide) (by decide) dX2_workOf_66 ?_
          refine lv_ishl hx hb dX2_workOf_67 ?_
          rw [shl1 (ch / 100) (by omega)]
          refine lv_ior hx hb dX2_workOf_68 ?_
          rw [or_small (ds k) (by omega) _ (Nat.pow_lt_pow_right (m := ch / 100) (n := 6) (by decide) (by omega))]
          refine n_imul hx hb dX2_workOf_69 ?_
          refine lv_aload_n hx hb dX2_workOf_70 rfl (lv_at hl 0 rfl) ?_
          refine m_g_behind hx hb hts hown hK hw dX2_workOf_71 ?_
          rw [show Z1 29 0 = nI (mByB M (Z 30) (Z 31) e1 (hs k) ch) from hbe]
          refine n_iadd hx hb dX2_workOf_74 ?_
          refine m_l_works (j := 26 * (ds k ||| 2 ^ (ch / 100)) + mByB M (Z 30) (Z 31) e1 (hs k) ch) (v := Z 27 (26 * (ds k ||| 2 ^ (ch / 100)) + mByB M (Z 30) (Z 31) e1 (hs k) ch)) hx hb hK hw ((congrFun (hz1 27 (by decide) (by decide)) (26 * (ds k ||| 2 ^ (ch / 100)) + mByB M (Z 30) (Z 31) e1 (hs k) ch)).trans ((congrFun (hzb 27 (by decide) (by decide)) (26 * (ds k ||| 2 ^ (ch / 100)) + mByB M (Z 30) (Z 31) e1 (hs k) ch)).trans rfl)) (by omega) dX2_workOf_75 ?_
          refine lv_iconst (v := nI 1) hx hb dX2_workOf_76 (by decide) ?_
          refine lv_iadd hx hb dX2_workOf_77 ?_
          refine lv_aload_n hx hb dX2_workOf_78 rfl (lv_at hl 0 rfl) ?_
          refine m_g_works hx hb hts hown hK hw dX2_workOf_79 ?_
          refine lv_iload hx hb dX2_workOf_82 (lv_at hl 8 rfl) ?_
          refine m_l_works (j := 26 * ds k + hs k) (v := Z 27 (26 * ds k + hs k)) hx hb hK hw ((congrFun (hz1 27 (by decide) (by decide)) (26 * ds k + hs k)).trans ((congrFun (hzb 27 (by decide) (by decide)) (26 * ds k + hs k)).trans rfl)) (by omega) dX2_workOf_84 ?_
          refine lv_icmp_eq (tgt := 94) hx hb dX2_workOf_85 (by decide) (fun c_4 => ?_) (fun c_4 => ?_)
          · have hhit : mHit M (Z 30) (Z 31) (Z 26, Z 27) nb kk e1 (ds k) (hs k) ch := ⟨ev, c_4⟩
            obtain rfl : ch = cs k := by
              rcases Nat.lt_or_ge ch (cs k) with h9 | h9
              · exact absurd hhit (hst.2.2.1 ch h9)
              · omega
            refine lv_iload hx hb dX2_workOf_94 (lv_at hl 4 rfl) ?_
            refine lv_iconst (v := nI 1) hx hb dX2_workOf_96 (by decide) ?_
            refine lv_iload hx hb dX2_workOf_97 (lv_at hl 6 rfl) ?_
            refine lv_bipush (v := nI 100) hx hb dX2_workOf_99 (by decide) ?_
            refine n_idiv hx hb (by omega) (by decide) (by decide) dX2_workOf_101 ?_
            refine lv_ishl hx hb dX2_workOf_102 ?_
            rw [shl1 ((cs k) / 100) (by omega)]
            refine lv_ior hx hb dX2_workOf_103 ?_
            rw [or_small (ds k) (by omega) _ (Nat.pow_lt_pow_right (m := (cs k) / 100) (n := 6) (by decide) (by omega))]
            refine lv_istore (lv' := [(4, .int (nI (ds k ||| 2 ^ ((cs k) / 100)))), (0, .ref (ad 0)), (1, .int (nI kk)), (2, .int (nI e1)), (3, .int (nI i)), (5, .int (nI (hs k))), (6, .int (nI (cs k))), (7, .int (nI k)), (8, .int (nI (26 * ds k + hs k)))]) hx hb dX2_workOf_104 hl (by decide) rfl (fun ls hl => ?_)
            refine lv_aload_n hx hb dX2_workOf_106 rfl (lv_at hl 1 rfl) ?_
            refine m_g_behind hx hb hts hown hK hw dX2_workOf_107 ?_
            rw [show Z1 29 0 = nI (mByB M (Z 30) (Z 31) e1 (hs k) (cs k)) from hbe]
            refine lv_istore (lv' := [(5, .int (nI (mByB M (Z 30) (Z 31) e1 (hs k) (cs k)))), (4, .int (nI (ds k ||| 2 ^ ((cs k) / 100)))), (0, .ref (ad 0)), (1, .int (nI kk)), (2, .int (nI e1)), (3, .int (nI i)), (6, .int (nI (cs k))), (7, .int (nI k)), (8, .int (nI (26 * ds k + hs k)))]) hx hb dX2_workOf_110 hl (by decide) rfl (fun ls hl => ?_)
            refine lv_iinc (v := nI (k + 1)) (lv' := [(7, .int (nI (k + 1))), (5, .int (nI (mByB M (Z 30) (Z 31) e1 (hs k) (cs k)))), (4, .int (nI (ds k ||| 2 ^ ((cs k) / 100)))), (0, .ref (ad 0)), (1, .int (nI kk)), (2, .int (nI e1)), (3, .int (nI i)), (6, .int (nI (cs k))), (8, .int (nI (26 * ds k + hs k)))]) hx hb dX2_workOf_112 hl (k := 7) rfl (n_inc k 1) (by decide) rfl (fun ls hl => ?_)
            refine lv_goto (tgt := 12) hx hb dX2_workOf_115 (by decide) ?_
            replace hl : lv_has ls 9 [(7, .int (nI (k + 1))), (5, .int (nI (hs (k + 1)))), (4, .int (nI (ds (k + 1)))), (0, .ref (ad 0)), (1, .int (nI kk)), (2, .int (nI e1)), (3, .int (nI i)), (6, .int (nI (cs k))), (8, .int (nI (26 * ds k + hs k)))] := by rw [hst.2.2.2.2.1, hst.2.2.2.2.2]; exact hl
            exact ih12 (k + 1) (cs k) Z1 V1 (by omega) (by omega) (by rw [hst.2.2.2.2.1]; exact or_lt hdk (by omega)) (by rw [hst.2.2.2.2.2]; exact hb24) (fun _ => rfl) (fun k9 h9 h8 => by rw [hz1 k9 h9 h8]; exact hzb k9 h9 h8) _ _ hw ls (lv_sub hl [3, 4, 5, 6, 2, 1, 7, 0] rfl)
          have hnh : ¬ mHit M (Z 30) (Z 31) (Z 26, Z 27) nb kk e1 (ds k) (hs k) ch := fun h9 => by first | exact absurd h9.1 c_4 | exact absurd h9.2 c_4
          refine lv_iinc (v := nI (ch + 1)) (lv' := [(6, .int (nI (ch + 1))), (0, .ref (ad 0)), (1, .int (nI kk)), (2, .int (nI e1)), (3, .int (nI i)), (4, .int (nI (ds k))), (5, .int (nI (hs k))), (7, .int (nI k)), (8, .int (nI (26 * ds k + hs k)))]) hx hb dX2_workOf_88 hl (k := 6) rfl (n_inc ch 1) (by decide) rfl (fun ls hl => ?_)
          refine lv_goto (tgt := 31) hx hb dX2_workOf_91 (by decide) ?_
          exact ih31 (ch + 1) Z1 V1 (by omega) (by have : ch ≠ cs k := fun e9 => absurd hst.2.1 (by rw [← e9]; exact hnh); omega) (fun k9 h9 h8 => by rw [hz1 k9 h9 h8]; exact hzb k9 h9 h8) _ _ hw ls (lv_sub hl [1, 2, 3, 4, 5, 6, 0, 7, 8] rfl)
      exact L31_2 _ 0 Za Va (Nat.lt_succ_self _) (Nat.zero_le _) hza _ _ hw ls (lv_sub hl [2, 3, 4, 5, 6, 7, 0, 8, 1] rfl)
  replace hl : lv_has ls 9 [(7, .int (nI 0)), (6, .int (nI 0)), (5, .int (nI (hs 0))), (4, .int (nI (ds 0))), (0, .ref (ad 0)), (1, .int (nI kk)), (2, .int (nI e1)), (3, .int (nI i))] := by rw [hch.1, hch.2.1]; exact hl
  exact L_12 _ 0 0 Z V (Nat.lt_succ_self _) (by first | assumption | omega | rfl) (by rw [hch.1]; decide) (by rw [hch.2.1]; exact Nat.zero_le _) (fun h9 => absurd h9 (Nat.lt_irrefl 0)) (fun _ _ _ => rfl) _ _ hw ls (lv_sub hl [4, 5, 6, 7, 3, 2, 1, 0] rfl)
