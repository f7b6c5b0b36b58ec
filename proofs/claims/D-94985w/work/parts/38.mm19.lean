theorem mHit_congr {M : Nat → Nat → Int32} {sk ck sk' ck' : Nat → Int32} {nb kk e1 : Nat} (hs : ∀ j, j < e1 → sk j = sk' j) (hc : ∀ j b, j < e1 → b < nb → ck (6 * j + b) = ck' (6 * j + b)) {st : (Nat → Int32) × (Nat → Int32)} {d h ch : Nat} (hh : h ≤ e1) (hok : mByV M sk ck st.1 nb kk e1 d h ch = st.1 (26 * d + h) → mByOk M sk ck nb kk e1 d h ch) : mHit M sk ck st nb kk e1 d h ch ↔ mHit M sk' ck' st nb kk e1 d h ch := by
  unfold mHit
  rw [← mByV_congr2 hs hc hh]
  constructor
  · rintro ⟨h1, h2⟩
    exact ⟨h1, by rw [← mByI_congr hs hc hh (hok h1)]; exact h2⟩
  · rintro ⟨h1, h2⟩
    exact ⟨h1, by rw [mByI_congr hs hc hh (hok h1)]; exact h2⟩
theorem mChain_congr {M : Nat → Nat → Int32} {sk ck sk' ck' : Nat → Int32} {nb kk e1 : Nat} (hs : ∀ j, j < e1 → sk j = sk' j) (hc : ∀ j b, j < e1 → b < nb → ck (6 * j + b) = ck' (6 * j + b)) {st : (Nat → Int32) × (Nat → Int32)} {i : Nat} {ds hs2 cs : Nat → Nat} (h24 : e1 ≤ 24) (h : mChain M sk ck st nb kk e1 i ds hs2 cs) : mChain M sk' ck' st nb kk e1 i ds hs2 cs := by
  have hle : ∀ k, k ≤ i → hs2 k ≤ e1 := by
    intro k
    induction k with
    | zero => intro _; rw [h.2.1]; exact Nat.zero_le _
    | succ k ih =>
      intro hk
      have q := h.2.2 k (by omega)
      rw [q.2.2.2.2.2]
      exact (mByB_of (ih (by omega)) h24 (q.2.2.2.1 _ q.2.1.1)).1
  refine ⟨h.1, h.2.1, fun k hk => ?_⟩
  have q := h.2.2 k hk
  have hh := hle k hk
  refine ⟨q.1, (mHit_congr hs hc hh (q.2.2.2.1 _)).mp q.2.1, fun c hcc h9 => q.2.2.1 c hcc ((mHit_congr hs hc hh (q.2.2.2.1 _)).mpr h9), fun c h9 => ?_, q.2.2.2.2.1, ?_⟩
  · rw [← mByV_congr2 hs hc hh] at h9
    exact (mByOk_congr hs hc hh).mp (q.2.2.2.1 c h9)
  · rw [q.2.2.2.2.2]
    unfold mByB
    have ok := q.2.2.2.1 _ q.2.1.1
    rw [mDone_congr hs hc hh ok.2.1]
theorem ckC_at (tx : kT) (M : Nat → Nat → Int32) (h : Nat) {j b : Nat} (hb : b < 6) : ckC tx M h (6 * j + b) = mCost tx M b (nI (h + j)) := by
  unfold ckC
  rw [show (6 * j + b) % 6 = b by omega, show (6 * j + b) / 6 = j by omega]
def mPlanOk (nk : Nat) (x y z : Int32) : Prop := vp_in x (2 ^ nk) ∧ ¬ nI 4 < mBits x ∧ (nI 1 ≤ y ∧ y ≤ nI 24) ∧ (-2) ≤ z
/-- the tables of a plan -/
noncomputable def mPlanR (tx : kT) (M Z : Nat → Nat → Int32) (nb kk la h : Nat) : (Nat → Int32) × (Nat → Int32) := mPlanD M (skC tx h) (ckC tx M h) nb kk la (kk + 1) (Z 26, Z 27)
noncomputable def mPlan (tx : kT) (M Z : Nat → Nat → Int32) (nb nk h : Nat) (x y z wr : Int32) : Int32 :=
  pif (mPlanOk nk x y z) (pif (z = (-1)) ((mPlanR tx M Z nb (cl x) (min (cl y) (1000 - h)) h).1 0) (pif (z = (-2)) ((mPlanR tx M Z nb (cl x) (min (cl y) (1000 - h)) h).2 0) (pif (z < (mPlanR tx M Z nb (cl x) (min (cl y) (1000 - h)) h).2 0) wr (-1000000)))) (-1000000)
theorem nn_of {z : Int32} (h1 : (-2) ≤ z) (h2 : ¬ z = (-1)) (h3 : ¬ z = (-2)) : ∃ i : Nat, i < 2 ^ 31 ∧ z = nI i := by
  refine nI_of (fun h => ?_)
  rw [Int32.le_iff_toInt_le] at h1
  rw [Int32.lt_iff_toInt_lt] at h
  have e1 : (-2 : Int32).toInt = -2 := by decide
  have e2 : (0 : Int32).toInt = 0 := by decide
  rw [e1] at h1
  rw [e2] at h
  have h4 : z.toInt ≠ -1 := fun q => h2 (Int32.toInt_inj.mp (q.trans (by decide)))
  have h5 : z.toInt ≠ -2 := fun q => h3 (Int32.toInt_inj.mp (q.trans (by decide)))
  omega
set_option maxHeartbeats 4000000 in
set_option maxRecDepth 100000 in
theorem met_X2_plan (l : Launch) (G : gG) (ad : Nat → Nat) (M Z : Nat → Nat → Int32) (V : Nat → Nat → Int64) (tx : kT) (htx : mTx M tx) (x y z wr : Int32) (nb : Nat) (en : M 0 0 = nI nb) (hn : nb ≤ 6) (nk : Nat) (ek : M 0 1 = nI nk) (hk : nk ≤ 6) (h : Nat) (eh : M 0 3 = nI h) (hh : h ≤ 999) (hpl : ∀ kk la i, kk = cl x → la = min (cl y) (1000 - h) → z = nI i → z < (mPlanR tx M Z nb kk la h).2 0 → i < 2 ^ 30 ∧ ∃ ds hs cs, mChain M (skC tx h) (ckC tx M h) (mPlanR tx M Z nb kk la h) nb kk la i ds hs cs ∧ nI (cs i) = wr) : Met l yX2_plan (ws_ yX2_plan cX2_plan 7 (some .int)) ({ frames := 5, cells := 0, slots := 0, locals := 119 } : Room) (cP G [.ref (ad 0), .int x, .int y, .int z] (mH G ad M Z V)) (cQ (some (.int (mPlan tx M Z nb nk h x y z wr))) (fun H => ∃ Z9 V9, mH G ad M Z9 V9 H) (mA ad)) 0 0 (mA ad) := by
  refine c_start (by decide) (Nat.le_of_ble_eq_true rfl) ?_
  intro p e s m below meth c hx hb hr hlocks hml hown hts hB hK ls hl
  have hw := MS.of hB
  have hl : lv_has ls 7 [(0, .ref (ad 0)), (1, .int x), (2, .int y), (3, .int z)] := hl
  have h2nk : 2 ^ nk ≤ 64 := Nat.pow_le_pow_right (by decide) hk
  refine lv_iload_n hx hb dX2_plan_0 rfl (lv_at hl 1 rfl) ?_
  refine lv_iconst (v := nI 0) hx hb dX2_plan_1 (by decide) ?_
  refine lv_iconst (v := nI 1) hx hb dX2_plan_2 (by decide) ?_
  refine lv_aload_n hx hb dX2_plan_3 rfl (lv_at hl 0 rfl) ?_
  refine m_g_a hx hb hts hown hK hw dX2_plan_4 ?_
  refine lv_iconst (v := nI 1) hx hb dX2_plan_7 (by decide) ?_
  refine m_l_a (j := 1) (v := nI nk) hx hb hK hw ek (by decide) dX2_plan_8 ?_
  refine lv_ishl hx hb dX2_plan_9 ?_
  rw [shl1 nk (by omega)]
  refine lv_iconst (v := nI 1) hx hb dX2_plan_10 (by decide) ?_
  refine lv_isub hx hb dX2_plan_11 ?_
  refine c_read (va_runS (As := [.int x, .int (nI 0), .int ((nI (2 ^ nk)) - (nI 1))]) (rest := []) ⟨hx, hb, hml, hown, hts⟩ (met_X2_isIn l G x (nI 0) ((nI (2 ^ nk)) - (nI 1))) (cs_X2_X2_isIn hts ⟨Nat.le_of_ble_eq_true rfl, Nat.le_of_ble_eq_true rfl⟩) (cP.pre hK trivial) rfl rfl hl.1 rfl (lv_room (Nat.le_of_ble_eq_true rfl)) dX2_plan_12 ⟨by first | exact Nat.zero_le _ | omega | decide, by first | exact Nat.zero_le _ | omega | decide⟩) ?_
  refine b_if_eq (tgt := 42) hx hb dX2_plan_15 (by decide) (fun c_1 => ?_) (fun c_1 => ?_)
  · refine lv_ldcw (v := (-1000000)) hx hb hown (hts _ q1556) dX2_plan_42 ?_
    exact c_iret (v := (-1000000)) (by unfold mPlan; rw [pif_f (fun h9 => by first | exact absurd ((in_vp (by omega)).mpr h9.1) (by assumption) | exact absurd (by assumption) h9.2.1 | exact absurd h9.2.2.1 (by assumption) | exact absurd h9.2.2.2 (by assumption))]) hx hb hr rfl hlocks ⟨_, _, mH.to rfl rfl rfl hw.1⟩ hw.2 dX2_plan_45
  have c1_ := (in_vp (by omega)).mp c_1
  obtain ⟨kk, h_kk, rfl⟩ := vp_in_of c1_ (by omega)
  have k_kk : (nI kk).toNatClampNeg = kk := nI_clamp (by omega)
  refine lv_iload_n hx hb dX2_plan_18 rfl (lv_at hl 1 rfl) ?_
  refine c_read (va_runS (As := [.int (nI kk)]) (rest := []) ⟨hx, hb, hml, hown, hts⟩ (met_X2_bits l G (nI kk)) (cs_X2_X2_bits hts ⟨Nat.le_of_ble_eq_true rfl, Nat.le_of_ble_eq_true rfl⟩) (cP.pre hK trivial) rfl rfl hl.1 rfl (lv_room (Nat.le_of_ble_eq_true rfl)) dX2_plan_19 ⟨by first | exact Nat.zero_le _ | omega | decide, by first | exact Nat.zero_le _ | omega | decide⟩) ?_
  refine lv_iconst (v := nI 4) hx hb dX2_plan_22 (by decide) ?_
  refine lv_icmp_gt (tgt := 42) hx hb dX2_plan_23 (by decide) (fun c_2 => ?_) (fun c_2 => ?_)
  · refine lv_ldcw (v := (-1000000)) hx hb hown (hts _ q1556) dX2_plan_42 ?_
    exact c_iret (v := (-1000000)) (by unfold mPlan; rw [pif_f (fun h9 => by first | exact absurd ((in_vp (by omega)).mpr h9.1) (by assumption) | exact absurd (by assumption) h9.2.1 | exact absurd h9.2.2.1 (by assumption) | exact absurd h9.2.2.2 (by assumption))]) hx hb hr rfl hlocks ⟨_, _, mH.to rfl rfl rfl hw.1⟩ hw.2 dX2_plan_45
  refine lv_iload_n hx hb dX2_plan_26 rfl (lv_at hl 2 rfl) ?_
  refine lv_iconst (v := nI 1) hx hb dX2_plan_27 (by decide) ?_
  refine lv_bipush (v := nI 24) hx hb dX2_plan_28 (by decide) ?_
  refine c_read (va_runS (As := [.int y, .int (nI 1), .int (nI 24)]) (rest := []) ⟨hx, hb, hml, hown, hts⟩ (met_X2_isIn l G y (nI 1) (nI 24)) (cs_X2_X2_isIn hts ⟨Nat.le_of_ble_eq_true rfl, Nat.le_of_ble_eq_true rfl⟩) (cP.pre hK trivial) rfl rfl hl.1 rfl (lv_room (Nat.le_of_ble_eq_true rfl)) dX2_plan_30 ⟨by first | exact Nat.zero_le _ | omega | decide, by first | exact Nat.zero_le _ | omega | decide⟩) ?_
  refine b_if_eq (tgt := 42) hx hb dX2_plan_33 (by decide) (fun c_3 => ?_) (fun c_3 => ?_)
  · refine lv_ldcw (v := (-1000000)) hx hb hown (hts _ q1556) dX2_plan_42 ?_
    exact c_iret (v := (-1000000)) (by unfold mPlan; rw [pif_f (fun h9 => by first | exact absurd ((in_vp (by omega)).mpr h9.1) (by assumption) | exact absurd (by assumption) h9.2.1 | exact absurd h9.2.2.1 (by assumption) | exact absurd h9.2.2.2 (by assumption))]) hx hb hr rfl hlocks ⟨_, _, mH.to rfl rfl rfl hw.1⟩ hw.2 dX2_plan_45
  have c3_ := c_3
  obtain ⟨jy, h_jy, rfl⟩ := in_rng (by omega) (by omega) c3_
  have k_jy : (nI jy).toNatClampNeg = jy := nI_clamp (by omega)
  refine lv_iload_n hx hb dX2_plan_36 rfl (lv_at hl 3 rfl) ?_
  refine lv_bipush (v := (-2)) hx hb dX2_plan_37 (by decide) ?_
  refine lv_icmp_ge (tgt := 46) hx hb dX2_plan_39 (by decide) (fun c_4 => ?_) (fun c_4 => ?_)
  · have okp : mPlanOk nk (nI kk) (nI jy) z := ⟨c1_, by assumption, c3_, c_4⟩
    have J_74 : ∀ (la : Nat), (la = min jy (1000 - h)) → ∀ (ls : Array Slot), lv_has ls 7 [(0, .ref (ad 0)), (1, .int (nI kk)), (2, .int (nI jy)), (3, .int z)] → W p l e ({ frames := 5, cells := 0, slots := 0, locals := 119 } : Room) s m ([.ref (ad 0), .int (nI kk), .int (nI jy), .int z] : List Value).toArray below meth c s.heap [] 0 0 (MQ below (cQ (some (.int (mPlan tx M Z nb nk h (nI kk) (nI jy) z wr))) (fun H => ∃ Z9 V9, mH G ad M Z9 V9 H) (mA ad)) ([.ref (ad 0), .int (nI kk), .int (nI jy), .int z] : List Value).toArray s 0 0 (mA ad)) (F0 m 74 ls [.int (nI la)]) := by
      intro la hla ls hl
      refine lv_istore (lv' := [(4, .int (nI la)), (0, .ref (ad 0)), (1, .int (nI kk)), (2, .int (nI jy)), (3, .int z)]) hx hb dX2_plan_74 hl (by decide) rfl (fun ls hl => ?_)
      refine lv_iconst (v := nI 0) hx hb dX2_plan_76 (by decide) ?_
      refine lv_istore (lv' := [(5, .int (nI 0)), (4, .int (nI la)), (0, .ref (ad 0)), (1, .int (nI kk)), (2, .int (nI jy)), (3, .int z)]) hx hb dX2_plan_77 hl (by decide) rfl (fun ls hl => ?_)
      have L79_5 : ∀ (fuel : Nat) (k : Nat) (Za : Nat → Nat → Int32) (Va : Nat → Nat → Int64), la - k < fuel → (k ≤ la) → (∀ j9, j9 < k → Za 30 j9 = skC tx h j9) → (∀ j9 b9, j9 < k → b9 < nb → Za 31 (6 * j9 + b9) = ckC tx M h (6 * j9 + b9)) → (Za 26 = Z 26) → (Za 27 = Z 27) → ∀ (H : Heap) (locs : List Loc), MS G ad s.heap M Za Va H locs → ∀ (ls : Array Slot), lv_has ls 7 [(0, .ref (ad 0)), (1, .int (nI kk)), (2, .int (nI jy)), (3, .int z), (4, .int (nI la)), (5, .int (nI k))] → W p l e ({ frames := 5, cells := 0, slots := 0, locals := 119 } : Room) s m ([.ref (ad 0), .int (nI kk), .int (nI jy), .int z] : List Value).toArray below meth c H locs 0 0 (MQ below (cQ (some (.int (mPlan tx M Z nb nk h (nI kk) (nI jy) z wr))) (fun H => ∃ Z9 V9, mH G ad M Z9 V9 H) (mA ad)) ([.ref (ad 0), .int (nI kk), .int (nI jy), .int z] : List Value).toArray s 0 0 (mA ad)) (F0 m 79 ls []) := by
        intro fuel
        induction fuel with
        | zero => intro k Za Va hf; exact absurd hf (Nat.not_lt_zero _)
        | succ fuel ih =>
          intro k Za Va hf hka hsa hca h26Za h27Za H locs hw ls hl
          have ih79 := ih
          refine lv_iload hx hb dX2_plan_79 (lv_at hl 5 rfl) ?_
          refine lv_iload hx hb dX2_plan_81 (lv_at hl 4 rfl) ?_
          refine n_icmp_ge (tgt := 160) hx hb dX2_plan_83 (by decide) (by omega) (by omega) (fun c_6 => ?_) (fun c_6 => ?_)
          · refine lv_iload_n hx hb dX2_plan_160 rfl (lv_at hl 1 rfl) ?_
            refine lv_istore (lv' := [(5, .int (nI kk)), (0, .ref (ad 0)), (1, .int (nI kk)), (2, .int (nI jy)), (3, .int z), (4, .int (nI la))]) hx hb dX2_plan_161 hl (by decide) rfl (fun ls hl => ?_)
            have L163_7 : ∀ (fuel : Nat) (n : Nat) (xd : Int32) (Zc : Nat → Nat → Int32) (Vc : Nat → Nat → Int64), n < fuel → (n ≤ kk + 1) → (xd = nI n + (-1)) → (mPlanD M (skC tx h) (ckC tx M h) nb kk la n (Zc 26, Zc 27) = mPlanR tx M Z nb kk la h) → (∀ j9, j9 < la → Zc 30 j9 = skC tx h j9) → (∀ j9 b9, j9 < la → b9 < nb → Zc 31 (6 * j9 + b9) = ckC tx M h (6 * j9 + b9)) → ∀ (H : Heap) (locs : List Loc), MS G ad s.heap M Zc Vc H locs → ∀ (ls : Array Slot), lv_has ls 7 [(0, .ref (ad 0)), (1, .int (nI kk)), (2, .int (nI jy)), (3, .int z), (4, .int (nI la)), (5, .int xd)] → W p l e ({ frames := 5, cells := 0, slots := 0, locals := 119 } : Room) s m ([.ref (ad 0), .int (nI kk), .int (nI jy), .int z] : List Value).toArray below meth c H locs 0 0 (MQ below (cQ (some (.int (mPlan tx M Z nb nk h (nI kk) (nI jy) z wr))) (fun H => ∃ Z9 V9, mH G ad M Z9 V9 H) (mA ad)) ([.ref (ad 0), .int (nI kk), .int (nI jy), .int z] : List Value).toArray s 0 0 (mA ad)) (F0 m 163 ls []) := by
              intro fuel
              induction fuel with
              | zero => intro n xd Zc Vc hf; exact absurd hf (Nat.not_lt_zero _)
              | succ fuel ih =>
                intro n xd Zc Vc hf hn1 hxd hR hsZc hcZc H locs hw ls hl
                have ih163 := ih
                cases n with
                | zero =>
                  obtain rfl : xd = (-1) := by rw [hxd]; decide
                  refine lv_iload hx hb dX2_plan_163 (lv_at hl 5 rfl) ?_
                  refine lv_if_lt (tgt := 209) hx hb dX2_plan_165 (by decide) (fun _ => ?_) (fun h9 => absurd (by decide) h9)
                  have hR9 : (Zc 26, Zc 27) = mPlanR tx M Z nb kk la h := hR
                  have hl26 : Zc 26 = (mPlanR tx M Z nb kk la h).1 := congrArg Prod.fst hR9
                  have hl27 : Zc 27 = (mPlanR tx M Z nb kk la h).2 := congrArg Prod.snd hR9
                  refine lv_iload_n hx hb dX2_plan_209 rfl (lv_at hl 3 rfl) ?_
                  refine lv_iconst (v := (-1)) hx hb dX2_plan_210 (by decide) ?_
                  refine lv_icmp_ne (tgt := 221) hx hb dX2_plan_211 (by decide) (fun c_9 => ?_) (fun c_9 => ?_)
                  · refine lv_iload_n hx hb dX2_plan_221 rfl (lv_at hl 3 rfl) ?_
                    refine lv_bipush (v := (-2)) hx hb dX2_plan_222 (by decide) ?_
                    refine lv_icmp_ne (tgt := 234) hx hb dX2_plan_224 (by decide) (fun c_10 => ?_) (fun c_10 => ?_)
                    · refine lv_iload_n hx hb dX2_plan_234 rfl (lv_at hl 3 rfl) ?_
                      refine lv_aload_n hx hb dX2_plan_235 rfl (lv_at hl 0 rfl) ?_
                      refine m_g_works hx hb hts hown hK hw dX2_plan_236 ?_
                      refine lv_iconst (v := nI 0) hx hb dX2_plan_239 (by decide) ?_
                      refine m_l_works (j := 0) (v := (mPlanR tx M Z nb kk la h).2 0) hx hb hK hw (congrFun hl27 0) (by decide) dX2_plan_240 ?_
                      refine lv_icmp_ge (tgt := 255) hx hb dX2_plan_241 (by decide) (fun c_11 => ?_) (fun c_11 => ?_)
                      · refine lv_ldcw (v := (-1000000)) hx hb hown (hts _ q1556) dX2_plan_255 ?_
                        exact c_iret (v := (-1000000)) (by unfold mPlan; rw [pif_t okp, show cl (nI kk) = kk from k_kk, show cl (nI jy) = jy from k_jy, ← hla]; first | rw [pif_t (by assumption)] | rw [pif_f (by assumption), pif_t (by assumption)] | (rw [pif_f (by assumption), pif_f (by assumption), pif_t hlt]; exact hwr) | (rw [pif_f (by assumption), pif_f (by assumption), pif_f (by first | assumption | exact Int32.not_lt.mpr (by assumption) | exact Int32.not_le.mpr (by assumption))])) hx hb hr rfl hlocks ⟨_, _, mH.to rfl rfl rfl hw.1⟩ hw.2 dX2_plan_258
                      have hlt : z < (mPlanR tx M Z nb kk la h).2 0 := Int32.not_le.mp c_11
                      obtain ⟨i, hi31, rfl⟩ := nn_of okp.2.2.2 c_9 c_10
                      obtain ⟨hi30, ds, hs, cs, hchn, hwr⟩ := hpl kk la i (by rw [show cl (nI kk) = kk from k_kk]) (by rw [show cl (nI jy) = jy from k_jy]; exact hla) rfl hlt
                      refine lv_aload_n hx hb dX2_plan_244 rfl (lv_at hl 0 rfl) ?_
                      refine lv_iload_n hx hb dX2_plan_245 rfl (lv_at hl 1 rfl) ?_
                      refine lv_iload hx hb dX2_plan_246 (lv_at hl 4 rfl) ?_
                      refine lv_iload_n hx hb dX2_plan_248 rfl (lv_at hl 3 rfl) ?_
                      refine c_call (va_runV (As := [.int (nI kk), .int (nI la), .int (nI i)]) (rest := []) ⟨hx, hb, hml, hown, hts⟩ (met_X2_workOf l G ad M Zc Vc nb en (by omega) kk la i (by omega) (by omega) (by omega) ds hs cs (mChain_congr (fun j9 h9 => (hsZc j9 h9).symm) (fun j9 b9 h9 h8 => (hcZc j9 b9 h9 h8).symm) (by omega) (by rw [hR9]; exact hchn))) (cv_X2_X2_workOf hts ⟨Nat.le_of_ble_eq_true rfl, Nat.le_of_ble_eq_true rfl⟩) (cP.preV hK hw.1 (hw.1.recv hK)) rfl rfl hl.1 rfl (lv_room (Nat.le_of_ble_eq_true rfl)) dX2_plan_249 ⟨by first | exact Nat.zero_le _ | omega | decide, by first | exact Nat.zero_le _ | omega | decide⟩) hw.2 (fun q _ h => h) (fun q h => h) (fun H locs hw _ _ hS => ?_)
                      obtain ⟨Z1, V1, hw⟩ := hw
                      replace hw := MS.mk hw hS
                      refine lv_goto (tgt := 258) hx hb dX2_plan_252 (by decide) ?_
                      exact c_iret (v := nI (cs i)) (by unfold mPlan; rw [pif_t okp, show cl (nI kk) = kk from k_kk, show cl (nI jy) = jy from k_jy, ← hla]; first | rw [pif_t (by assumption)] | rw [pif_f (by assumption), pif_t (by assumption)] | (rw [pif_f (by assumption), pif_f (by assumption), pif_t hlt]; exact hwr) | (rw [pif_f (by assumption), pif_f (by assumption), pif_f (by first | assumption | exact Int32.not_lt.mpr (by assumption) | exact Int32.not_le.mpr (by assumption))])) hx hb hr rfl hlocks ⟨_, _, mH.to rfl rfl rfl hw.1⟩ hw.2 dX2_plan_258
                    refine lv_aload_n hx hb dX2_plan_227 rfl (lv_at hl 0 rfl) ?_
                    refine m_g_works hx hb hts hown hK hw dX2_plan_228 ?_
                    refine lv_iconst (v := nI 0) hx hb dX2_plan_231 (by decide) ?_
                    refine m_l_works (j := 0) (v := (mPlanR tx M Z nb kk la h).2 0) hx hb hK hw (congrFun hl27 0) (by decide) dX2_plan_232 ?_
                    exact c_iret (v := (mPlanR tx M Z nb kk la h).2 0) (by unfold mPlan; rw [pif_t okp, show cl (nI kk) = kk from k_kk, show cl (nI jy) = jy from k_jy, ← hla]; first | rw [pif_t (by assumption)] | rw [pif_f (by assumption), pif_t (by assumption)] | (rw [pif_f (by assumption), pif_f (by assumption), pif_t hlt]; exact hwr) | (rw [pif_f (by assumption), pif_f (by assumption), pif_f (by first | assumption | exact Int32.not_lt.mpr (by assumption) | exact Int32.not_le.mpr (by assumption))])) hx hb hr rfl hlocks ⟨_, _, mH.to rfl rfl rfl hw.1⟩ hw.2 dX2_plan_233
                  refine lv_aload_n hx hb dX2_plan_214 rfl (lv_at hl 0 rfl) ?_
                  refine m_g_left hx hb hts hown hK hw dX2_plan_215 ?_
                  refine lv_iconst (v := nI 0) hx hb dX2_plan_218 (by decide) ?_
                  refine m_l_left (j := 0) (v := (mPlanR tx M Z nb kk la h).1 0) hx hb hK hw (congrFun hl26 0) (by decide) dX2_plan_219 ?_
                  exact c_iret (v := (mPlanR tx M Z nb kk la h).1 0) (by unfold mPlan; rw [pif_t okp, show cl (nI kk) = kk from k_kk, show cl (nI jy) = jy from k_jy, ← hla]; first | rw [pif_t (by assumption)] | rw [pif_f (by assumption), pif_t (by assumption)] | (rw [pif_f (by assumption), pif_f (by assumption), pif_t hlt]; exact hwr) | (rw [pif_f (by assumption), pif_f (by assumption), pif_f (by first | assumption | exact Int32.not_lt.mpr (by assumption) | exact Int32.not_le.mpr (by assumption))])) hx hb hr rfl hlocks ⟨_, _, mH.to rfl rfl rfl hw.1⟩ hw.2 dX2_plan_220
                | succ d =>
                  obtain rfl : xd = nI d := by rw [hxd]; exact pk_m1 d
                  refine lv_iload hx hb dX2_plan_163 (lv_at hl 5 rfl) ?_
                  refine n_if_lt (tgt := 209) hx hb dX2_plan_165 (by decide) (by omega) ?_
                  refine lv_iload hx hb dX2_plan_168 (lv_at hl 5 rfl) ?_
                  refine lv_iload_n hx hb dX2_plan_170 rfl (lv_at hl 1 rfl) ?_
                  refine lv_iconst (v := (-1)) hx hb dX2_plan_171 (by decide) ?_
                  refine lv_ixor hx hb dX2_plan_172 ?_
                  refine lv_iand hx hb dX2_plan_173 ?_
                  refine lv_if_ne (tgt := 203) hx hb dX2_plan_174 (by decide) (fun c_12 => ?_) (fun c_12 => ?_)
                  · refine lv_iinc (v := nI d + Int32.ofInt (-1)) (lv' := [(5, .int (nI d + Int32.ofInt (-1))), (0, .ref (ad 0)), (1, .int (nI kk)), (2, .int (nI jy)), (3, .int z), (4, .int (nI la))]) hx hb dX2_plan_203 hl (k := 5) rfl rfl (by decide) rfl (fun ls hl => ?_)
                    refine lv_goto (tgt := 163) hx hb dX2_plan_206 (by decide) ?_
                    exact ih163 d (nI d + Int32.ofInt (-1)) Zc Vc (by omega) (by omega) rfl (by unfold mPlanD at hR; rw [pif_f c_12] at hR; exact hR) hsZc hcZc _ _ hw ls (lv_sub hl [1, 2, 3, 4, 5, 0] rfl)
                  have c5_ := c_12
                  refine lv_iload hx hb dX2_plan_177 (lv_at hl 4 rfl) ?_
                  refine lv_istore (lv' := [(6, .int (nI la)), (0, .ref (ad 0)), (1, .int (nI kk)), (2, .int (nI jy)), (3, .int z), (4, .int (nI la)), (5, .int (nI d))]) hx hb dX2_plan_179 hl (by decide) rfl (fun ls hl => ?_)
                  have L181_13 : ∀ (fuel : Nat) (n2 : Nat) (xh : Int32) (Zd : Nat → Nat → Int32) (Vd : Nat → Nat → Int64), n2 < fuel → (n2 ≤ la + 1) → (xh = nI n2 + (-1)) → (mPlanH M (skC tx h) (ckC tx M h) nb kk la d n2 (Zd 26, Zd 27) = mPlanH M (skC tx h) (ckC tx M h) nb kk la d (la + 1) (Zc 26, Zc 27)) → (∀ j9, j9 < la → Zd 30 j9 = skC tx h j9) → (∀ j9 b9, j9 < la → b9 < nb → Zd 31 (6 * j9 + b9) = ckC tx M h (6 * j9 + b9)) → ∀ (H : Heap) (locs : List Loc), MS G ad s.heap M Zd Vd H locs → ∀ (ls : Array Slot), lv_has ls 7 [(0, .ref (ad 0)), (1, .int (nI kk)), (2, .int (nI jy)), (3, .int z), (4, .int (nI la)), (5, .int (nI d)), (6, .int xh)] → W p l e ({ frames := 5, cells := 0, slots := 0, locals := 119 } : Room) s m ([.ref (ad 0), .int (nI kk), .int (nI jy), .int z] : List Value).toArray below meth c H locs 0 0 (MQ below (cQ (some (.int (mPlan tx M Z nb nk h (nI kk) (nI jy) z wr))) (fun H => ∃ Z9 V9, mH G ad M Z9 V9 H) (mA ad)) ([.ref (ad 0), .int (nI kk), .int (nI jy), .int z] : List Value).toArray s 0 0 (mA ad)) (F0 m 181 ls []) := by
                    intro fuel
                    induction fuel with
                    | zero => intro n2 xh Zd Vd hf; exact absurd hf (Nat.not_lt_zero _)
                    | succ fuel ih =>
                      intro n2 xh Zd Vd hf hn2 hxh hR2 hsZd hcZd H locs hw ls hl
                      have ih181 := ih
                      cases n2 with
                      | zero =>
                        obtain rfl : xh = (-1) := by rw [hxh]; decide
                        refine lv_iload hx hb dX2_plan_181 (lv_at hl 6 rfl) ?_
                        refine lv_if_lt (tgt := 203) hx hb dX2_plan_183 (by decide) (fun _ => ?_) (fun h9 => absurd (by decide) h9)
                        refine lv_iinc (v := nI d + Int32.ofInt (-1)) (lv' := [(5, .int (nI d + Int32.ofInt (-1))), (0, .ref (ad 0)), (1, .int (nI kk)), (2, .int (nI jy)), (3, .int z), (4, .int (nI la)), (6, .int (-1))]) hx hb dX2_plan_203 hl (k := 5) rfl rfl (by decide) rfl (fun ls hl => ?_)
                        refine lv_goto (tgt := 163) hx hb dX2_plan_206 (by decide) ?_
                        exact ih163 d (nI d + Int32.ofInt (-1)) Zd Vd (by omega) (by omega) rfl (by rw [show (Zd 26, Zd 27) = mPlanH M (skC tx h) (ckC tx M h) nb kk la d (la + 1) (Zc 26, Zc 27) from hR2]; unfold mPlanD at hR; rw [pif_t c5_] at hR; exact hR) hsZd hcZd _ _ hw ls (lv_sub hl [1, 2, 3, 4, 5, 0] rfl)
                      | succ g =>
                        obtain rfl : xh = nI g := by rw [hxh]; exact pk_m1 g
                        refine lv_iload hx hb dX2_plan_181 (lv_at hl 6 rfl) ?_
                        refine n_if_lt (tgt := 203) hx hb dX2_plan_183 (by decide) (by omega) ?_
                        refine lv_aload_n hx hb dX2_plan_186 rfl (lv_at hl 0 rfl) ?_
                        refine lv_iload hx hb dX2_plan_187 (lv_at hl 5 rfl) ?_
                        refine lv_iload hx hb dX2_plan_189 (lv_at hl 6 rfl) ?_
                        refine lv_iload_n hx hb dX2_plan_191 rfl (lv_at hl 1 rfl) ?_
                        refine lv_iload hx hb dX2_plan_192 (lv_at hl 4 rfl) ?_
                        refine c_call (va_runV (As := [.int (nI d), .int (nI g), .int (nI kk), .int (nI la)]) (rest := []) ⟨hx, hb, hml, hown, hts⟩ (met_X2_reckon l G ad M Zd Vd d g kk la (by omega) (by omega) (by omega) (by omega) nb en (by omega)) (cv_X2_X2_reckon hts ⟨Nat.le_of_ble_eq_true rfl, Nat.le_of_ble_eq_true rfl⟩) (cP.preV hK hw.1 (hw.1.recv hK)) rfl rfl hl.1 rfl (lv_room (Nat.le_of_ble_eq_true rfl)) dX2_plan_194 ⟨by first | exact Nat.zero_le _ | omega | decide, by first | exact Nat.zero_le _ | omega | decide⟩) hw.2 (fun q _ h => h) (fun q h => h) (fun H locs hw _ _ hS => ?_)
                        obtain ⟨Z2, V2, ⟨hr26_2, hr27_2, hrk_2⟩, hw⟩ := hw
                        replace hw := MS.mk hw hS
                        refine lv_iinc (v := nI g + Int32.ofInt (-1)) (lv' := [(6, .int (nI g + Int32.ofInt (-1))), (0, .ref (ad 0)), (1, .int (nI kk)), (2, .int (nI jy)), (3, .int z), (4, .int (nI la)), (5, .int (nI d))]) hx hb dX2_plan_197 hl (k := 6) rfl rfl (by decide) rfl (fun ls hl => ?_)
                        refine lv_goto (tgt := 181) hx hb dX2_plan_200 (by decide) ?_
                        exact ih181 g (nI g + Int32.ofInt (-1)) Z2 V2 (by omega) (by omega) rfl (by rw [← hR2, hr26_2, hr27_2, mReck_congr hsZd hcZd (by omega)]; rfl) (by rw [hrk_2 30 (by decide) (by decide) (by decide) (by decide)]; exact hsZd) (by rw [hrk_2 31 (by decide) (by decide) (by decide) (by decide)]; exact hcZd) _ _ hw ls (lv_sub hl [1, 2, 3, 4, 5, 6, 0] rfl)
                  exact L181_13 _ (la + 1) (nI la) Zc Vc (Nat.lt_succ_self _) (Nat.le_refl _) (pk_m1 la).symm rfl hsZc hcZc _ _ hw ls (lv_sub hl [1, 2, 3, 4, 5, 6, 0] rfl)
            exact L163_7 _ (kk + 1) (nI kk) Za Va (Nat.lt_succ_self _) (Nat.le_refl _) (pk_m1 kk).symm (by rw [h26Za, h27Za]; rfl) (fun j9 h9 => hsa j9 (by omega)) (fun j9 b9 h9 h8 => hca j9 b9 (by omega) h8) _ _ hw ls (lv_sub hl [1, 2, 3, 4, 5, 0] rfl)
          refine lv_aload_n hx hb dX2_plan_86 rfl (lv_at hl 0 rfl) ?_
          refine m_g_smokes hx hb hts hown hK hw dX2_plan_87 ?_
          refine lv_iload hx hb dX2_plan_90 (lv_at hl 5 rfl) ?_
          refine lv_aload_n hx hb dX2_plan_92 rfl (lv_at hl 0 rfl) ?_
          refine lv_aload_n hx hb dX2_plan_93 rfl (lv_at hl 0 rfl) ?_
          refine m_g_a hx hb hts hown hK hw dX2_plan_94 ?_
          refine lv_iconst (v := nI 3) hx hb dX2_plan_97 (by decide) ?_
          refine m_l_a (j := 3) (v := nI h) hx hb hK hw eh (by decide) dX2_plan_98 ?_
          refine lv_iload hx hb dX2_plan_99 (lv_at hl 5 rfl) ?_
          refine n_iadd hx hb dX2_plan_101 ?_
          refine c_call (va_runV (As := [.int (nI (h + k))]) (rest := [.int (nI k), .ref (ad 12)]) ⟨hx, hb, hml, hown, hts⟩ (met_X2_smokeIn l G ad M Za Va tx htx (nI (h + k))) (cv_X2_X2_smokeIn hts ⟨Nat.le_of_ble_eq_true rfl, Nat.le_of_ble_eq_true rfl⟩) (cP.preV hK hw.1 (hw.1.recv hK)) rfl rfl hl.1 rfl (lv_room (Nat.le_of_ble_eq_true rfl)) dX2_plan_102 ⟨by first | exact Nat.zero_le _ | omega | decide, by first | exact Nat.zero_le _ | omega | decide⟩) hw.2 (fun q _ h => h) (fun q h => h) (fun H locs hw _ _ hS => ?_)
          obtain ⟨Z3, V3, hz3, hw⟩ := hw
          replace hw := MS.mk hw hS
          refine m_s_smokes (j := k) hx hb hK hw (by omega) dX2_plan_105 (fun H locs hw => ?_)
          refine lv_iconst (v := nI 0) hx hb dX2_plan_106 (by decide) ?_
          refine lv_istore (lv' := [(6, .int (nI 0)), (0, .ref (ad 0)), (1, .int (nI kk)), (2, .int (nI jy)), (3, .int z), (4, .int (nI la)), (5, .int (nI k))]) hx hb dX2_plan_107 hl (by decide) rfl (fun ls hl => ?_)
          have L109_15 : ∀ (fuel : Nat) (b : Nat) (Zb : Nat → Nat → Int32) (Vb : Nat → Nat → Int64), nb - b < fuel → (b ≤ nb) → (∀ j9, j9 < k + 1 → Zb 30 j9 = skC tx h j9) → (∀ j9 b9, (j9 < k ∧ b9 < nb) ∨ (j9 = k ∧ b9 < b) → Zb 31 (6 * j9 + b9) = ckC tx M h (6 * j9 + b9)) → (Zb 26 = Z 26) → (Zb 27 = Z 27) → ∀ (H : Heap) (locs : List Loc), MS G ad s.heap M Zb Vb H locs → ∀ (ls : Array Slot), lv_has ls 7 [(0, .ref (ad 0)), (1, .int (nI kk)), (2, .int (nI jy)), (3, .int z), (4, .int (nI la)), (5, .int (nI k)), (6, .int (nI b))] → W p l e ({ frames := 5, cells := 0, slots := 0, locals := 119 } : Room) s m ([.ref (ad 0), .int (nI kk), .int (nI jy), .int z] : List Value).toArray below meth c H locs 0 0 (MQ below (cQ (some (.int (mPlan tx M Z nb nk h (nI kk) (nI jy) z wr))) (fun H => ∃ Z9 V9, mH G ad M Z9 V9 H) (mA ad)) ([.ref (ad 0), .int (nI kk), .int (nI jy), .int z] : List Value).toArray s 0 0 (mA ad)) (F0 m 109 ls []) := by
            intro fuel
            induction fuel with
            | zero => intro b Zb Vb hf; exact absurd hf (Nat.not_lt_zero _)
            | succ fuel ih =>
              intro b Zb Vb hf hbb hsb hcb h26Zb h27Zb H locs hw ls hl
              have ih109 := ih
              refine lv_iload hx hb dX2_plan_109 (lv_at hl 6 rfl) ?_
              refine lv_aload_n hx hb dX2_plan_111 rfl (lv_at hl 0 rfl) ?_
              refine m_g_a hx hb hts hown hK hw dX2_plan_112 ?_
              refine lv_iconst (v := nI 0) hx hb dX2_plan_115 (by decide) ?_
              refine m_l_a (j := 0) (v := nI nb) hx hb hK hw en (by decide) dX2_plan_116 ?_
              refine n_icmp_ge (tgt := 154) hx hb dX2_plan_117 (by decide) (by omega) (by omega) (fun c_16 => ?_) (fun c_16 => ?_)
              · refine lv_iinc (v := nI (k + 1)) (lv' := [(5, .int (nI (k + 1))), (0, .ref (ad 0)), (1, .int (nI kk)), (2, .int (nI jy)), (3, .int z), (4, .int (nI la)), (6, .int (nI b))]) hx hb dX2_plan_154 hl (k := 5) rfl (n_inc k 1) (by decide) rfl (fun ls hl => ?_)
                refine lv_goto (tgt := 79) hx hb dX2_plan_157 (by decide) ?_
                exact ih79 (k + 1) Zb Vb (by omega) (by omega) hsb (fun j9 b9 h9 h8 => by rcases Nat.lt_succ_iff_lt_or_eq.mp h9 with h7 | h7; (exact hcb j9 b9 (Or.inl ⟨h7, h8⟩)); (exact hcb j9 b9 (Or.inr ⟨h7, by omega⟩))) h26Zb h27Zb _ _ hw ls (lv_sub hl [1, 2, 3, 4, 5, 0] rfl)
              refine lv_aload_n hx hb dX2_plan_120 rfl (lv_at hl 0 rfl) ?_
              refine m_g_costs hx hb hts hown hK hw dX2_plan_121 ?_
              refine lv_bipush (v := nI 6) hx hb dX2_plan_124 (by decide) ?_
              refine lv_iload hx hb dX2_plan_126 (lv_at hl 5 rfl) ?_
              refine n_imul hx hb dX2_plan_128 ?_
              refine lv_iload hx hb dX2_plan_129 (lv_at hl 6 rfl) ?_
              refine n_iadd hx hb dX2_plan_131 ?_
              refine lv_aload_n hx hb dX2_plan_132 rfl (lv_at hl 0 rfl) ?_
              refine lv_iload hx hb dX2_plan_133 (lv_at hl 6 rfl) ?_
              refine lv_aload_n hx hb dX2_plan_135 rfl (lv_at hl 0 rfl) ?_
              refine m_g_a hx hb hts hown hK hw dX2_plan_136 ?_
              refine lv_iconst (v := nI 3) hx hb dX2_plan_139 (by decide) ?_
              refine m_l_a (j := 3) (v := nI h) hx hb hK hw eh (by decide) dX2_plan_140 ?_
              refine lv_iload hx hb dX2_plan_141 (lv_at hl 5 rfl) ?_
              refine n_iadd hx hb dX2_plan_143 ?_
              refine c_call (va_runV (As := [.int (nI b), .int (nI (h + k))]) (rest := [.int (nI (6 * k + b)), .ref (ad 13)]) ⟨hx, hb, hml, hown, hts⟩ (met_X2_costOf l G ad M Zb Vb tx htx b (by omega) (nI (h + k))) (cv_X2_X2_costOf hts ⟨Nat.le_of_ble_eq_true rfl, Nat.le_of_ble_eq_true rfl⟩) (cP.preV hK hw.1 (hw.1.recv hK)) rfl rfl hl.1 rfl (lv_room (Nat.le_of_ble_eq_true rfl)) dX2_plan_144 ⟨by first | exact Nat.zero_le _ | omega | decide, by first | exact Nat.zero_le _ | omega | decide⟩) hw.2 (fun q _ h => h) (fun q h => h) (fun H locs hw _ _ hS => ?_)
              obtain ⟨Z4, V4, hz4, hw⟩ := hw
              replace hw := MS.mk hw hS
              refine m_s_costs (j := 6 * k + b) hx hb hK hw (by omega) dX2_plan_147 (fun H locs hw => ?_)
              refine lv_iinc (v := nI (b + 1)) (lv' := [(6, .int (nI (b + 1))), (0, .ref (ad 0)), (1, .int (nI kk)), (2, .int (nI jy)), (3, .int z), (4, .int (nI la)), (5, .int (nI k))]) hx hb dX2_plan_148 hl (k := 6) rfl (n_inc b 1) (by decide) rfl (fun ls hl => ?_)
              refine lv_goto (tgt := 109) hx hb dX2_plan_151 (by decide) ?_
              exact ih109 (b + 1) (up2 Z4 31 (6 * k + b) (mCost tx M b (nI (h + k)))) V4 (by omega) (by omega) (fun j9 h9 => by rw [up2_ne (Or.inl (by decide)), hz4 30 (by decide) (by decide)]; exact hsb j9 h9) (fun j9 b9 h9 => by by_cases e9 : j9 = k ∧ b9 = b; (obtain ⟨rfl, rfl⟩ := e9; exact up2_at.trans (ckC_at tx M h (by omega)).symm); (rw [up2_ne (Or.inr (by omega)), hz4 31 (by decide) (by decide)]; exact hcb j9 b9 (by omega))) (by funext j9; (try rw [up2_ne (Or.inl (by decide))]); exact (congrFun (hz4 26 (by decide) (by decide)) j9).trans (congrFun h26Zb j9)) (by funext j9; (try rw [up2_ne (Or.inl (by decide))]); exact (congrFun (hz4 27 (by decide) (by decide)) j9).trans (congrFun h27Zb j9)) _ _ hw ls (lv_sub hl [1, 2, 3, 4, 5, 6, 0] rfl)
          exact L109_15 _ 0 (up2 Z3 30 k (mSmoke tx (nI (h + k)))) V3 (Nat.lt_succ_self _) (Nat.zero_le _) (fun j9 h9 => by rcases Nat.lt_succ_iff_lt_or_eq.mp h9 with h7 | h7; (rw [up2_ne (Or.inr (by omega)), hz3 30 (by decide) (by decide)]; exact hsa j9 h7); (subst h7; exact up2_at)) (fun j9 b9 h9 => by rcases h9 with ⟨h8, h7⟩ | ⟨h8, h7⟩; (rw [up2_ne (Or.inl (by decide)), hz3 31 (by decide) (by decide)]; exact hca j9 b9 h8 h7); (exact absurd h7 (Nat.not_lt_zero _))) (by funext j9; (try rw [up2_ne (Or.inl (by decide))]); exact (congrFun (hz3 26 (by decide) (by decide)) j9).trans (congrFun h26Za j9)) (by funext j9; (try rw [up2_ne (Or.inl (by decide))]); exact (congrFun (hz3 27 (by decide) (by decide)) j9).trans (congrFun h27Za j9)) _ _ hw ls (lv_sub hl [1, 2, 3, 4, 5, 6, 0] rfl)
      exact L79_5 _ 0 Z V (Nat.lt_succ_self _) (Nat.zero_le _) (fun _ h9 => absurd h9 (Nat.not_lt_zero _)) (fun _ _ h9 _ => absurd h9 (Nat.not_lt_zero _)) rfl rfl _ _ hw ls (lv_sub hl [2, 3, 4, 5, 1, 0] rfl)
    refine lv_aload_n hx hb dX2_plan_46 rfl (lv_at hl 0 rfl) ?_
    refine m_g_a hx hb hts hown hK hw dX2_plan_47 ?_
    refine lv_iconst (v := nI 3) hx hb dX2_plan_50 (by decide) ?_
    refine m_l_a (j := 3) (v := nI h) hx hb hK hw eh (by decide) dX2_plan_51 ?_
    refine lv_iload_n hx hb dX2_plan_52 rfl (lv_at hl 2 rfl) ?_
    refine n_iadd hx hb dX2_plan_53 ?_
    refine lv_sipush (v := nI 1000) hx hb dX2_plan_54 (by decide) ?_
    refine n_icmp_le (tgt := 73) hx hb dX2_plan_57 (by decide) (by omega) (by decide) (fun c_17 => ?_) (fun c_17 => ?_)
    · refine lv_iload_n hx hb dX2_plan_73 rfl (lv_at hl 2 rfl) ?_
      exact J_74 jy  (by omega) ls (lv_sub hl [0, 1, 2, 3] rfl)
    refine lv_sipush (v := nI 1000) hx hb dX2_plan_60 (by decide) ?_
    refine lv_aload_n hx hb dX2_plan_63 rfl (lv_at hl 0 rfl) ?_
    refine m_g_a hx hb hts hown hK hw dX2_plan_64 ?_
    refine lv_iconst (v := nI 3) hx hb dX2_plan_67 (by decide) ?_
    refine m_l_a (j := 3) (v := nI h) hx hb hK hw eh (by decide) dX2_plan_68 ?_
    refine n_isub hx hb (by omega) dX2_plan_69 ?_
    refine lv_goto (tgt := 74) hx hb dX2_plan_70 (by decide) ?_
    exact J_74 (1000 - h)  (by omega) ls (lv_sub hl [0, 1, 2, 3] rfl)
  refine lv_ldcw (v := (-1000000)) hx hb hown (hts _ q1556) dX2_plan_42 ?_
  exact c_iret (v := (-1000000)) (by unfold mPlan; rw [pif_f (fun h9 => by first | exact absurd ((in_vp (by omega)).mpr h9.1) (by assumption) | exact absurd (by assumption) h9.2.1 | exact absurd h9.2.2.1 (by assumption) | exact absurd h9.2.2.2 (by assumption))]) hx hb hr rfl hlocks ⟨_, _, mH.to rfl rfl rfl hw.1⟩ hw.2 dX2_plan_45
