theorem in_rng {x : Int32} {a b : Nat} (ha : a < 2 ^ 31) (hb : b + 1 < 2 ^ 31) (h : nI a ≤ x ∧ x ≤ nI b) : ∃ j : Nat, (a ≤ j ∧ j ≤ b) ∧ x = nI j := by
  obtain ⟨h1, h2⟩ := h
  rw [Int32.le_iff_toInt_le, nI_toInt ha] at h1
  rw [Int32.le_iff_toInt_le, nI_toInt (show b < 2 ^ 31 by omega)] at h2
  have h3 : vp_in x (b + 1) := by
    rw [vp_in_iff]
    constructor
    · omega
    · rw [Int.natCast_add]
      omega
  obtain ⟨j, hj, e⟩ := vp_in_of h3 (by omega)
  subst e
  rw [nI_toInt (by omega)] at h1
  exact ⟨j, ⟨by omega, by omega⟩, rfl⟩
theorem rng_in {a b j : Nat} (hb : b < 2 ^ 31) (h : a ≤ j ∧ j ≤ b) : nI a ≤ nI j ∧ nI j ≤ nI b := ⟨(nI_leI (by omega) (by omega)).mpr h.1, (nI_leI (by omega) (by omega)).mpr h.2⟩
def mBeginPut (M : Nat → Nat → Int32) (np : Nat) (x : Int32) : Nat → Nat → Int32 := up2 (it (fun i M => up2 M 0 (150 + 10 * np + i) (nI 0)) (10 - 1) 1 (up2 (mKeepC M) 0 (150 + 10 * np) x)) 0 2 (nI (np + 1))
def mLater1 (M : Nat → Nat → Int32) : Nat → Nat → Int32 := it (fun b M => up2 M 0 (10 + 5 * b + 3) (nI 0)) (6 - 0) 0 (up2 (mKeepC M) 0 3 (M 0 3 + nI 1))
def mLater (M : Nat → Nat → Int32) (n : Nat) : Nat → Nat → Int32 := it (fun _ M => mLater1 M) n 0 M
def mUndo (M : Nat → Nat → Int32) (ns nb nbs : Nat) : Nat → Nat → Int32 :=
  it (fun i M => up2 M 0 (150 + i) (M 0 (410 + 116 * (ns - 1) + 16 + i))) (100 - 0) 0
    (it (fun b M => up2 M 0 (10 + 5 * b + 3) (nI 0)) (nb - nbs) nbs
      (it (fun b M => up2 (up2 M 0 (10 + 5 * b + 2) (M 0 (410 + 116 * (ns - 1) + 4 + b))) 0 (10 + 5 * b + 3) (M 0 (410 + 116 * (ns - 1) + 10 + b))) (nbs - 0) 0
        (up2 (up2 (up2 (up2 M 0 6 (nI (ns - 1))) 0 3 (M 0 (410 + 116 * (ns - 1)))) 0 2 (M 0 (410 + 116 * (ns - 1) + 1))) 0 9 (M 0 (410 + 116 * (ns - 1) + 2)))))
set_option maxHeartbeats 4000000 in
set_option maxRecDepth 100000 in
theorem met_X2_begin (l : Launch) (G : gG) (ad : Nat → Nat) (M Z : Nat → Nat → Int32) (V : Nat → Nat → Int64) (x : Int32) (nk : Nat) (ek : M 0 1 = nI nk) (hk : nk ≤ 6) (np : Nat) (ep : M 0 2 = nI np) (hp : np ≤ 10) (ns : Nat) (es : M 0 6 = nI ns) (hs : ns ≤ 30) : Met l yX2_begin (ws_ yX2_begin cX2_begin 4 (some .int)) ({ frames := 2, cells := 0, slots := 0, locals := 44 } : Room) (cP G [.ref (ad 0), .int x] (mH G ad M Z V)) (cQ (some (.int (pif (vp_in x nk ∧ ¬ np = 10) (nI np) (-1)))) (mH G ad (pif (vp_in x nk ∧ ¬ np = 10) (mBeginPut M np x) M) Z V) (mA ad)) 0 0 (mA ad) := by
  refine c_start (by decide) (Nat.le_of_ble_eq_true rfl) ?_
  intro p e s m below meth c hx hb hr hlocks hml hown hts hB hK ls hl
  have hw := MS.of hB
  have hl : lv_has ls 4 [(0, .ref (ad 0)), (1, .int x)] := hl
  refine lv_aload_n hx hb dX2_begin_0 rfl (lv_at hl 0 rfl) ?_
  refine lv_iload_n hx hb dX2_begin_1 rfl (lv_at hl 1 rfl) ?_
  refine c_read (va_runV (As := [.int x]) (rest := []) ⟨hx, hb, hml, hown, hts⟩ (met_X2_isKind l G ad M Z V x nk ek (by omega)) (cv_X2_X2_isKind hts ⟨Nat.le_of_ble_eq_true rfl, Nat.le_of_ble_eq_true rfl⟩) (cP.preV hK hw.1 (hw.1.recv hK)) rfl rfl hl.1 rfl (lv_room (Nat.le_of_ble_eq_true rfl)) dX2_begin_2 ⟨by first | exact Nat.zero_le _ | omega | decide, by first | exact Nat.zero_le _ | omega | decide⟩) ?_
  refine b_if_eq (tgt := 19) hx hb dX2_begin_5 (by decide) (fun c_1 => ?_) (fun c_1 => ?_)
  · refine lv_iconst (v := (-1)) hx hb dX2_begin_19 (by decide) ?_
    exact c_iret (v := (-1)) (by rw [pif_f (fun h9 => by first | exact absurd h9.1 (by assumption) | exact absurd (by assumption) h9.2)]) hx hb hr rfl hlocks (mH.to (by rw [pif_f (fun h9 => by first | exact absurd h9.1 (by assumption) | exact absurd (by assumption) h9.2)]) rfl rfl hw.1) hw.2 dX2_begin_20
  obtain ⟨jx, h_jx, rfl⟩ := vp_in_of c_1 (by omega)
  have k_jx : (nI jx).toNatClampNeg = jx := nI_clamp (by omega)
  refine lv_aload_n hx hb dX2_begin_8 rfl (lv_at hl 0 rfl) ?_
  refine m_g_a hx hb hts hown hK hw dX2_begin_9 ?_
  refine lv_iconst (v := nI 2) hx hb dX2_begin_12 (by decide) ?_
  refine m_l_a (j := 2) (v := nI np) hx hb hK hw ep (by decide) dX2_begin_13 ?_
  refine lv_bipush (v := nI 10) hx hb dX2_begin_14 (by decide) ?_
  refine n_icmp_ne (tgt := 21) hx hb dX2_begin_16 (by decide) (by omega) (by decide) (fun c_2 => ?_) (fun c_2 => ?_)
  · refine lv_aload_n hx hb dX2_begin_21 rfl (lv_at hl 0 rfl) ?_
    refine c_call (va_runV (As := []) (rest := []) ⟨hx, hb, hml, hown, hts⟩ (met_X2_keep l G ad M Z V ns es (by omega)) (cv_X2_X2_keep hts ⟨Nat.le_of_ble_eq_true rfl, Nat.le_of_ble_eq_true rfl⟩) (cP.preV hK hw.1 (hw.1.recv hK)) rfl rfl hl.1 rfl (lv_room (Nat.le_of_ble_eq_true rfl)) dX2_begin_22 ⟨by first | exact Nat.zero_le _ | omega | decide, by first | exact Nat.zero_le _ | omega | decide⟩) hw.2 (fun q _ h => h) (fun q h => h) (fun H locs hw _ _ hS => ?_)
    replace hw := MS.mk hw hS
    refine lv_aload_n hx hb dX2_begin_25 rfl (lv_at hl 0 rfl) ?_
    refine m_g_a hx hb hts hown hK hw dX2_begin_26 ?_
    refine lv_iconst (v := nI 2) hx hb dX2_begin_29 (by decide) ?_
    refine m_l_a (j := 2) (v := nI np) hx hb hK hw ((mKeepC_lo (by omega) (by omega)).trans ep) (by decide) dX2_begin_30 ?_
    refine c_read (va_runS (As := [.int (nI np)]) (rest := []) ⟨hx, hb, hml, hown, hts⟩ (met_X2_pieceAt l G np) (cs_X2_X2_pieceAt hts ⟨Nat.le_of_ble_eq_true rfl, Nat.le_of_ble_eq_true rfl⟩) (cP.pre hK trivial) rfl rfl hl.1 rfl (lv_room (Nat.le_of_ble_eq_true rfl)) dX2_begin_31 ⟨by first | exact Nat.zero_le _ | omega | decide, by first | exact Nat.zero_le _ | omega | decide⟩) ?_
    refine lv_istore_n (lv' := [(2, .int (nI (150 + 10 * np))), (0, .ref (ad 0)), (1, .int (nI jx))]) hx hb dX2_begin_34 rfl hl (by decide) rfl (fun ls hl => ?_)
    refine lv_aload_n hx hb dX2_begin_35 rfl (lv_at hl 1 rfl) ?_
    refine m_g_a hx hb hts hown hK hw dX2_begin_36 ?_
    refine lv_iload_n hx hb dX2_begin_39 rfl (lv_at hl 0 rfl) ?_
    refine lv_iload_n hx hb dX2_begin_40 rfl (lv_at hl 2 rfl) ?_
    refine m_s_a (j := 150 + 10 * np) hx hb hK hw (by omega) dX2_begin_41 (fun H locs hw => ?_)
    refine lv_iconst (v := nI 1) hx hb dX2_begin_42 (by decide) ?_
    refine lv_istore_n (lv' := [(3, .int (nI 1)), (2, .int (nI (150 + 10 * np))), (0, .ref (ad 0)), (1, .int (nI jx))]) hx hb dX2_begin_43 rfl hl (by decide) rfl (fun ls hl => ?_)
    have L44_3 : ∀ (fuel : Nat) (i : Nat) (M1 : Nat → Nat → Int32), 10 - i < fuel → (i ≤ 10) → (it (fun i9 M9 => (up2 M9 0 (150 + 10 * np + i9) (nI 0))) (10 - i) i M1 = (it (fun i9 M9 => (up2 M9 0 (150 + 10 * np + i9) (nI 0))) (10 - 1) 1 (up2 (mKeepC M) 0 (150 + 10 * np) (nI jx)))) → (M1 0 2 = nI np) → ∀ (H : Heap) (locs : List Loc), MS G ad s.heap M1 Z V H locs → ∀ (ls : Array Slot), lv_has ls 4 [(0, .ref (ad 0)), (1, .int (nI jx)), (2, .int (nI (150 + 10 * np))), (3, .int (nI i))] → W p l e ({ frames := 2, cells := 0, slots := 0, locals := 44 } : Room) s m ([.ref (ad 0), .int (nI jx)] : List Value).toArray below meth c H locs 0 0 (MQ below (cQ (some (.int (pif (vp_in (nI jx) nk ∧ ¬ np = 10) (nI np) (-1)))) (mH G ad (pif (vp_in (nI jx) nk ∧ ¬ np = 10) (mBeginPut M np (nI jx)) M) Z V) (mA ad)) ([.ref (ad 0), .int (nI jx)] : List Value).toArray s 0 0 (mA ad)) (F0 m 44 ls []) := by
      intro fuel
      induction fuel with
      | zero => intro i M1 hf; exact absurd hf (Nat.not_lt_zero _)
      | succ fuel ih =>
        intro i M1 hf hi_M1 hM_M1 hf0_M1 H locs hw ls hl
        have ih44 := ih
        refine lv_iload_n hx hb dX2_begin_44 rfl (lv_at hl 3 rfl) ?_
        refine lv_bipush (v := nI 10) hx hb dX2_begin_45 (by decide) ?_
        refine n_icmp_ge (tgt := 65) hx hb dX2_begin_47 (by decide) (by omega) (by decide) (fun c_4 => ?_) (fun c_4 => ?_)
        · obtain rfl : M1 = (it (fun i9 M9 => (up2 M9 0 (150 + 10 * np + i9) (nI 0))) (10 - 1) 1 (up2 (mKeepC M) 0 (150 + 10 * np) (nI jx))) := (it_z (by omega)).symm.trans hM_M1
          refine lv_aload_n hx hb dX2_begin_65 rfl (lv_at hl 0 rfl) ?_
          refine m_g_a hx hb hts hown hK hw dX2_begin_66 ?_
          refine lv_iconst (v := nI 2) hx hb dX2_begin_69 (by decide) ?_
          refine lv_dup2_11 hx hb dX2_begin_70 rfl rfl ?_
          refine m_l_a (j := 2) (v := nI np) hx hb hK hw hf0_M1 (by decide) dX2_begin_71 ?_
          refine lv_iconst (v := nI 1) hx hb dX2_begin_72 (by decide) ?_
          refine n_iadd hx hb dX2_begin_73 ?_
          refine m_s_a (j := 2) hx hb hK hw (by decide) dX2_begin_74 (fun H locs hw => ?_)
          refine lv_aload_n hx hb dX2_begin_75 rfl (lv_at hl 0 rfl) ?_
          refine m_g_a hx hb hts hown hK hw dX2_begin_76 ?_
          refine lv_iconst (v := nI 2) hx hb dX2_begin_79 (by decide) ?_
          refine m_l_a (j := 2) (v := nI (np + 1)) hx hb hK hw up2_at (by decide) dX2_begin_80 ?_
          refine lv_iconst (v := nI 1) hx hb dX2_begin_81 (by decide) ?_
          refine n_isub hx hb (by omega) dX2_begin_82 ?_
          exact c_iret (v := nI ((np + 1) - 1)) (by rw [pif_t ⟨by assumption, by assumption⟩]; rfl) hx hb hr rfl hlocks (mH.to (by rw [pif_t ⟨by assumption, by assumption⟩]; rfl) rfl rfl hw.1) hw.2 dX2_begin_83
        refine lv_aload_n hx hb dX2_begin_50 rfl (lv_at hl 0 rfl) ?_
        refine m_g_a hx hb hts hown hK hw dX2_begin_51 ?_
        refine lv_iload_n hx hb dX2_begin_54 rfl (lv_at hl 2 rfl) ?_
        refine lv_iload_n hx hb dX2_begin_55 rfl (lv_at hl 3 rfl) ?_
        refine n_iadd hx hb dX2_begin_56 ?_
        refine lv_iconst (v := nI 0) hx hb dX2_begin_57 (by decide) ?_
        refine m_s_a (j := 150 + 10 * np + i) hx hb hK hw (by omega) dX2_begin_58 (fun H locs hw => ?_)
        refine lv_iinc (v := nI (i + 1)) (lv' := [(3, .int (nI (i + 1))), (0, .ref (ad 0)), (1, .int (nI jx)), (2, .int (nI (150 + 10 * np)))]) hx hb dX2_begin_59 hl (k := 3) rfl (n_inc i 1) (by decide) rfl (fun ls hl => ?_)
        refine lv_goto (tgt := 44) hx hb dX2_begin_62 (by decide) ?_
        exact ih44 (i + 1) (up2 M1 0 (150 + 10 * np + i) (nI 0)) (by omega) (by omega) ((it_s (by omega)).symm.trans hM_M1) ((up2_ne (Or.inr (by omega))).trans hf0_M1) _ _ hw ls (lv_sub hl [1, 2, 3, 0] rfl)
    exact L44_3 _ 1 (up2 (mKeepC M) 0 (150 + 10 * np) (nI jx)) (Nat.lt_succ_self _) (by omega) rfl ((up2_ne (Or.inr (by omega))).trans ((mKeepC_lo (by omega) (by omega)).trans ep)) _ _ hw ls (lv_sub hl [2, 3, 1, 0] rfl)
  refine lv_iconst (v := (-1)) hx hb dX2_begin_19 (by decide) ?_
  exact c_iret (v := (-1)) (by rw [pif_f (fun h9 => by first | exact absurd h9.1 (by assumption) | exact absurd (by assumption) h9.2)]) hx hb hr rfl hlocks (mH.to (by rw [pif_f (fun h9 => by first | exact absurd h9.1 (by assumption) | exact absurd (by assumption) h9.2)]) rfl rfl hw.1) hw.2 dX2_begin_20
set_option maxHeartbeats 4000000 in
set_option maxRecDepth 100000 in
theorem met_X2_later (l : Launch) (G : gG) (ad : Nat → Nat) (M Z : Nat → Nat → Int32) (V : Nat → Nat → Int64) (x : Int32) (h : Nat) (eh : M 0 3 = nI h) (hh : h ≤ 999) (ns : Nat) (es : M 0 6 = nI ns) (hs : ns ≤ 30) : Met l yX2_later (ws_ yX2_later cX2_later 4 (some .int)) ({ frames := 2, cells := 0, slots := 0, locals := 44 } : Room) (cP G [.ref (ad 0), .int x] (mH G ad M Z V)) (cQ (some (.int (pif ((nI 1 ≤ x ∧ x ≤ nI 99) ∧ h + cl x ≤ 999) (nI (h + cl x)) (-1)))) (mH G ad (pif ((nI 1 ≤ x ∧ x ≤ nI 99) ∧ h + cl x ≤ 999) (mLater M (cl x)) M) Z V) (mA ad)) 0 0 (mA ad) := by
  refine c_start (by decide) (Nat.le_of_ble_eq_true rfl) ?_
  intro p e s m below meth c hx hb hr hlocks hml hown hts hB hK ls hl
  have hw := MS.of hB
  have hl : lv_has ls 4 [(0, .ref (ad 0)), (1, .int x)] := hl
  refine lv_iload_n hx hb dX2_later_0 rfl (lv_at hl 1 rfl) ?_
  refine lv_iconst (v := nI 1) hx hb dX2_later_1 (by decide) ?_
  refine lv_bipush (v := nI 99) hx hb dX2_later_2 (by decide) ?_
  refine c_read (va_runS (As := [.int x, .int (nI 1), .int (nI 99)]) (rest := []) ⟨hx, hb, hml, hown, hts⟩ (met_X2_isIn l G x (nI 1) (nI 99)) (cs_X2_X2_isIn hts ⟨Nat.le_of_ble_eq_true rfl, Nat.le_of_ble_eq_true rfl⟩) (cP.pre hK trivial) rfl rfl hl.1 rfl (lv_room (Nat.le_of_ble_eq_true rfl)) dX2_later_4 ⟨by first | exact Nat.zero_le _ | omega | decide, by first | exact Nat.zero_le _ | omega | decide⟩) ?_
  refine b_if_eq (tgt := 24) hx hb dX2_later_7 (by decide) (fun c_1 => ?_) (fun c_1 => ?_)
  · refine lv_iconst (v := (-1)) hx hb dX2_later_24 (by decide) ?_
    exact c_iret (v := (-1)) (by rw [pif_f (fun h9 => absurd h9.1 (by assumption))]) hx hb hr rfl hlocks (mH.to (by rw [pif_f (fun h9 => absurd h9.1 (by assumption))]) rfl rfl hw.1) hw.2 dX2_later_25
  obtain ⟨j, h_j, rfl⟩ := in_rng (by decide) (by decide) c_1
  have k_j : (nI j).toNatClampNeg = j := nI_clamp (by omega)
  refine lv_aload_n hx hb dX2_later_10 rfl (lv_at hl 0 rfl) ?_
  refine m_g_a hx hb hts hown hK hw dX2_later_11 ?_
  refine lv_iconst (v := nI 3) hx hb dX2_later_14 (by decide) ?_
  refine m_l_a (j := 3) (v := nI h) hx hb hK hw eh (by decide) dX2_later_15 ?_
  refine lv_iload_n hx hb dX2_later_16 rfl (lv_at hl 1 rfl) ?_
  refine n_iadd hx hb dX2_later_17 ?_
  refine lv_sipush (v := nI 999) hx hb dX2_later_18 (by decide) ?_
  refine n_icmp_le (tgt := 26) hx hb dX2_later_21 (by decide) (by omega) (by decide) (fun c_2 => ?_) (fun c_2 => ?_)
  · refine lv_iconst (v := nI 0) hx hb dX2_later_26 (by decide) ?_
    refine lv_istore_n (lv' := [(2, .int (nI 0)), (0, .ref (ad 0)), (1, .int (nI j))]) hx hb dX2_later_27 rfl hl (by decide) rfl (fun ls hl => ?_)
    have L28_3 : ∀ (fuel : Nat) (k : Nat) (M1 : Nat → Nat → Int32) (n1 : Nat), j - k < fuel → (k ≤ j) → (it (fun _ M => mLater1 M) (j - k) k M1 = it (fun _ M => mLater1 M) (j - 0) 0 M) → (M1 0 3 = nI (h + k)) → (M1 0 6 = nI n1) → (n1 ≤ 30) → ∀ (H : Heap) (locs : List Loc), MS G ad s.heap M1 Z V H locs → ∀ (ls : Array Slot), lv_has ls 4 [(0, .ref (ad 0)), (1, .int (nI j)), (2, .int (nI k))] → W p l e ({ frames := 2, cells := 0, slots := 0, locals := 44 } : Room) s m ([.ref (ad 0), .int (nI j)] : List Value).toArray below meth c H locs 0 0 (MQ below (cQ (some (.int (pif ((nI 1 ≤ (nI j) ∧ (nI j) ≤ nI 99) ∧ h + cl (nI j) ≤ 999) (nI (h + cl (nI j))) (-1)))) (mH G ad (pif ((nI 1 ≤ (nI j) ∧ (nI j) ≤ nI 99) ∧ h + cl (nI j) ≤ 999) (mLater M (cl (nI j))) M) Z V) (mA ad)) ([.ref (ad 0), .int (nI j)] : List Value).toArray s 0 0 (mA ad)) (F0 m 28 ls []) := by
      intro fuel
      induction fuel with
      | zero => intro k M1 n1 hf; exact absurd hf (Nat.not_lt_zero _)
      | succ fuel ih =>
        intro k M1 n1 hf hi1 hM1 hc3 hc6 hn1 H locs hw ls hl
        have ih28 := ih
        refine lv_iload_n hx hb dX2_later_28 rfl (lv_at hl 2 rfl) ?_
        refine lv_iload_n hx hb dX2_later_29 rfl (lv_at hl 1 rfl) ?_
        refine n_icmp_ge (tgt := 74) hx hb dX2_later_30 (by decide) (by omega) (by omega) (fun c_4 => ?_) (fun c_4 => ?_)
        · refine lv_aload_n hx hb dX2_later_74 rfl (lv_at hl 0 rfl) ?_
          refine m_g_a hx hb hts hown hK hw dX2_later_75 ?_
          refine lv_iconst (v := nI 3) hx hb dX2_later_78 (by decide) ?_
          refine m_l_a (j := 3) (v := nI (h + k)) hx hb hK hw hc3 (by decide) dX2_later_79 ?_
          exact c_iret (v := nI (h + k)) (by rw [pif_t ⟨by assumption, by simp only [cl, k_j]; omega⟩]; simp only [cl, k_j]; rw [show k = j by omega]) hx hb hr rfl hlocks (mH.to (by rw [pif_t ⟨by assumption, by simp only [cl, k_j]; omega⟩]; simp only [cl, k_j, mLater]; exact (it_z (by omega)).symm.trans hM1) rfl rfl hw.1) hw.2 dX2_later_80
        refine lv_aload_n hx hb dX2_later_33 rfl (lv_at hl 0 rfl) ?_
        refine c_call (va_runV (As := []) (rest := []) ⟨hx, hb, hml, hown, hts⟩ (met_X2_keep l G ad M1 Z V n1 hc6 (by omega)) (cv_X2_X2_keep hts ⟨Nat.le_of_ble_eq_true rfl, Nat.le_of_ble_eq_true rfl⟩) (cP.preV hK hw.1 (hw.1.recv hK)) rfl rfl hl.1 rfl (lv_room (Nat.le_of_ble_eq_true rfl)) dX2_later_34 ⟨by first | exact Nat.zero_le _ | omega | decide, by first | exact Nat.zero_le _ | omega | decide⟩) hw.2 (fun q _ h => h) (fun q h => h) (fun H locs hw _ _ hS => ?_)
        replace hw := MS.mk hw hS
        refine lv_aload_n hx hb dX2_later_37 rfl (lv_at hl 0 rfl) ?_
        refine m_g_a hx hb hts hown hK hw dX2_later_38 ?_
        refine lv_iconst (v := nI 3) hx hb dX2_later_41 (by decide) ?_
        refine lv_dup2_11 hx hb dX2_later_42 rfl rfl ?_
        refine m_l_a (j := 3) (v := nI (h + k)) hx hb hK hw ((mKeepC_lo (by omega) (by omega)).trans hc3) (by decide) dX2_later_43 ?_
        refine lv_iconst (v := nI 1) hx hb dX2_later_44 (by decide) ?_
        refine n_iadd hx hb dX2_later_45 ?_
        refine m_s_a (j := 3) hx hb hK hw (by decide) dX2_later_46 (fun H locs hw => ?_)
        refine lv_iconst (v := nI 0) hx hb dX2_later_47 (by decide) ?_
        refine lv_istore_n (lv' := [(3, .int (nI 0)), (0, .ref (ad 0)), (1, .int (nI j)), (2, .int (nI k))]) hx hb dX2_later_48 rfl hl (by decide) rfl (fun ls hl => ?_)
        have L49_5 : ∀ (fuel : Nat) (b : Nat) (M2 : Nat → Nat → Int32), 6 - b < fuel → (b ≤ 6) → (it (fun i9 M9 => (up2 M9 0 (10 + 5 * i9 + 3) (nI 0))) (6 - b) b M2 = (it (fun i9 M9 => (up2 M9 0 (10 + 5 * i9 + 3) (nI 0))) (6 - 0) 0 (up2 (mKeepC M1) 0 3 (nI (h + k + 1))))) → (M2 0 3 = nI (h + k + 1)) → (M2 0 6 = nI (min n1 29 + 1)) → ∀ (H : Heap) (locs : List Loc), MS G ad s.heap M2 Z V H locs → ∀ (ls : Array Slot), lv_has ls 4 [(0, .ref (ad 0)), (1, .int (nI j)), (2, .int (nI k)), (3, .int (nI b))] → W p l e ({ frames := 2, cells := 0, slots := 0, locals := 44 } : Room) s m ([.ref (ad 0), .int (nI j)] : List Value).toArray below meth c H locs 0 0 (MQ below (cQ (some (.int (pif ((nI 1 ≤ (nI j) ∧ (nI j) ≤ nI 99) ∧ h + cl (nI j) ≤ 999) (nI (h + cl (nI j))) (-1)))) (mH G ad (pif ((nI 1 ≤ (nI j) ∧ (nI j) ≤ nI 99) ∧ h + cl (nI j) ≤ 999) (mLater M (cl (nI j))) M) Z V) (mA ad)) ([.ref (ad 0), .int (nI j)] : List Value).toArray s 0 0 (mA ad)) (F0 m 49 ls []) := by
          intro fuel
          induction fuel with
          | zero => intro b M2 hf; exact absurd hf (Nat.not_lt_zero _)
          | succ fuel ih =>
            intro b M2 hf hi_M2 hM_M2 hf0_M2 hf1_M2 H locs hw ls hl
            have ih49 := ih
            refine lv_iload_n hx hb dX2_later_49 rfl (lv_at hl 3 rfl) ?_
            refine lv_bipush (v := nI 6) hx hb dX2_later_50 (by decide) ?_
            refine n_icmp_ge (tgt := 68) hx hb dX2_later_52 (by decide) (by omega) (by decide) (fun c_6 => ?_) (fun c_6 => ?_)
            · obtain rfl : M2 = (it (fun i9 M9 => (up2 M9 0 (10 + 5 * i9 + 3) (nI 0))) (6 - 0) 0 (up2 (mKeepC M1) 0 3 (nI (h + k + 1)))) := (it_z (by omega)).symm.trans hM_M2
              refine lv_iinc (v := nI (k + 1)) (lv' := [(2, .int (nI (k + 1))), (0, .ref (ad 0)), (1, .int (nI j)), (3, .int (nI b))]) hx hb dX2_later_68 hl (k := 2) rfl (n_inc k 1) (by decide) rfl (fun ls hl => ?_)
              refine lv_goto (tgt := 28) hx hb dX2_later_71 (by decide) ?_
              exact ih28 (k + 1) (it (fun i9 M9 => (up2 M9 0 (10 + 5 * i9 + 3) (nI 0))) (6 - 0) 0 (up2 (mKeepC M1) 0 3 (nI (h + k + 1)))) (min n1 29 + 1) (by omega) (by omega) (by rw [show (it (fun i9 M9 => (up2 M9 0 (10 + 5 * i9 + 3) (nI 0))) (6 - 0) 0 (up2 (mKeepC M1) 0 3 (nI (h + k + 1)))) = mLater1 M1 by unfold mLater1; rw [hc3, show nI (h + k) + nI 1 = nI (h + k + 1) from nI_add _ _]]; exact (it_s (by omega)).symm.trans hM1) (by exact hf0_M2) hf1_M2 (by omega) _ _ hw ls (lv_sub hl [1, 2, 0] rfl)
            refine lv_aload_n hx hb dX2_later_55 rfl (lv_at hl 0 rfl) ?_
            refine lv_iload_n hx hb dX2_later_56 rfl (lv_at hl 3 rfl) ?_
            refine lv_iconst (v := nI 3) hx hb dX2_later_57 (by decide) ?_
            refine lv_iconst (v := nI 0) hx hb dX2_later_58 (by decide) ?_
            refine c_call (va_runV (As := [.int (nI b), .int (nI 3), .int (nI 0)]) (rest := []) ⟨hx, hb, hml, hown, hts⟩ (met_X2_set l G ad M2 Z V b 3 (nI 0) (by omega)) (cv_X2_X2_set hts ⟨Nat.le_of_ble_eq_true rfl, Nat.le_of_ble_eq_true rfl⟩) (cP.preV hK hw.1 (hw.1.recv hK)) rfl rfl hl.1 rfl (lv_room (Nat.le_of_ble_eq_true rfl)) dX2_later_59 ⟨by first | exact Nat.zero_le _ | omega | decide, by first | exact Nat.zero_le _ | omega | decide⟩) hw.2 (fun q _ h => h) (fun q h => h) (fun H locs hw _ _ hS => ?_)
            replace hw := MS.mk hw hS
            refine lv_iinc (v := nI (b + 1)) (lv' := [(3, .int (nI (b + 1))), (0, .ref (ad 0)), (1, .int (nI j)), (2, .int (nI k))]) hx hb dX2_later_62 hl (k := 3) rfl (n_inc b 1) (by decide) rfl (fun ls hl => ?_)
            refine lv_goto (tgt := 49) hx hb dX2_later_65 (by decide) ?_
            exact ih49 (b + 1) (up2 M2 0 (10 + 5 * b + 3) (nI 0)) (by omega) (by omega) ((it_s (by omega)).symm.trans hM_M2) ((up2_ne (Or.inr (by omega))).trans hf0_M2) ((up2_ne (Or.inr (by omega))).trans hf1_M2) _ _ hw ls (lv_sub hl [1, 2, 3, 0] rfl)
        exact L49_5 _ 0 (up2 (mKeepC M1) 0 3 (nI (h + k + 1))) (Nat.lt_succ_self _) (by omega) rfl up2_at ((up2_ne (Or.inr (by decide))).trans ((mKeepC_6 hc6 (by omega)))) _ _ hw ls (lv_sub hl [1, 2, 3, 0] rfl)
    exact L28_3 _ 0 M ns (Nat.lt_succ_self _) (by omega) rfl eh es (by omega) _ _ hw ls (lv_sub hl [1, 2, 0] rfl)
  refine lv_iconst (v := (-1)) hx hb dX2_later_24 (by decide) ?_
  exact c_iret (v := (-1)) (by rw [pif_f (fun h9 => by have h8 := h9.2; simp only [cl, k_j] at h8; omega)]) hx hb hr rfl hlocks (mH.to (by rw [pif_f (fun h9 => by have h8 := h9.2; simp only [cl, k_j] at h8; omega)]) rfl rfl hw.1) hw.2 dX2_later_25
set_option maxHeartbeats 4000000 in
set_option maxRecDepth 100000 in
theorem met_X2_undo (l : Launch) (G : gG) (ad : Nat → Nat) (M Z : Nat → Nat → Int32) (V : Nat → Nat → Int64) (ns : Nat) (es : M 0 6 = nI ns) (hs : ns ≤ 30) (nb : Nat) (en : M 0 0 = nI nb) (hn : nb ≤ 6) (nbs : Nat) (eb : 0 < ns → M 0 (410 + 116 * (ns - 1) + 3) = nI nbs) (hb2 : nbs ≤ nb) : Met l yX2_undo (ws_ yX2_undo cX2_undo 3 (some .int)) ({ frames := 1, cells := 0, slots := 0, locals := 23 } : Room) (cP G [.ref (ad 0)] (mH G ad M Z V)) (cQ (some (.int (pif (ns = 0) (-1) (nI (ns - 1))))) (mH G ad (pif (ns = 0) M (mUndo M ns nb nbs)) Z V) (mA ad)) 0 0 (mA ad) := by
  refine c_start (by decide) (Nat.le_of_ble_eq_true rfl) ?_
  intro p e s m below meth c hx hb hr hlocks hml hown hts hB hK ls hl
  have hw := MS.of hB
  have hl : lv_has ls 3 [(0, .ref (ad 0))] := hl
  refine lv_aload_n hx hb dX2_undo_0 rfl (lv_at hl 0 rfl) ?_
  refine m_g_a hx hb hts hown hK hw dX2_undo_1 ?_
  refine lv_bipush (v := nI 6) hx hb dX2_undo_4 (by decide) ?_
  refine m_l_a (j := 6) (v := nI ns) hx hb hK hw es (by decide) dX2_undo_6 ?_
  refine n_if_ne (tgt := 12) hx hb dX2_undo_7 (by decide) (by omega) (fun c_1 => ?_) (fun c_1 => ?_)
  · have eb := eb c_1
    refine lv_aload_n hx hb dX2_undo_12 rfl (lv_at hl 0 rfl) ?_
    refine m_g_a hx hb hts hown hK hw dX2_undo_13 ?_
    refine lv_bipush (v := nI 6) hx hb dX2_undo_16 (by decide) ?_
    refine lv_dup2_11 hx hb dX2_undo_18 rfl rfl ?_
    refine m_l_a (j := 6) (v := nI ns) hx hb hK hw es (by decide) dX2_undo_19 ?_
    refine lv_iconst (v := nI 1) hx hb dX2_undo_20 (by decide) ?_
    refine n_isub hx hb (by omega) dX2_undo_21 ?_
    refine m_s_a (j := 6) hx hb hK hw (by decide) dX2_undo_22 (fun H locs hw => ?_)
    refine lv_sipush (v := nI 410) hx hb dX2_undo_23 (by decide) ?_
    refine lv_bipush (v := nI 116) hx hb dX2_undo_26 (by decide) ?_
    refine lv_aload_n hx hb dX2_undo_28 rfl (lv_at hl 0 rfl) ?_
    refine m_g_a hx hb hts hown hK hw dX2_undo_29 ?_
    refine lv_bipush (v := nI 6) hx hb dX2_undo_32 (by decide) ?_
    refine m_l_a (j := 6) (v := nI (ns - 1)) hx hb hK hw up2_at (by decide) dX2_undo_34 ?_
    refine n_imul hx hb dX2_undo_35 ?_
    refine n_iadd hx hb dX2_undo_36 ?_
    refine lv_istore_n (lv' := [(1, .int (nI (410 + (116 * (ns - 1))))), (0, .ref (ad 0))]) hx hb dX2_undo_37 rfl hl (by decide) rfl (fun ls hl => ?_)
    refine lv_aload_n hx hb dX2_undo_38 rfl (lv_at hl 1 rfl) ?_
    refine m_g_a hx hb hts hown hK hw dX2_undo_39 ?_
    refine lv_iconst (v := nI 3) hx hb dX2_undo_42 (by decide) ?_
    refine lv_aload_n hx hb dX2_undo_43 rfl (lv_at hl 1 rfl) ?_
    refine m_g_a hx hb hts hown hK hw dX2_undo_44 ?_
    refine lv_iload_n hx hb dX2_undo_47 rfl (lv_at hl 0 rfl) ?_
    refine m_l_a (j := 410 + (116 * (ns - 1))) (v := M 0 (410 + (116 * (ns - 1)))) hx hb hK hw ((up2_ne (Or.inr (by omega))).trans rfl) (by omega) dX2_undo_48 ?_
    refine m_s_a (j := 3) hx hb hK hw (by decide) dX2_undo_49 (fun H locs hw => ?_)
    refine lv_aload_n hx hb dX2_undo_50 rfl (lv_at hl 1 rfl) ?_
    refine m_g_a hx hb hts hown hK hw dX2_undo_51 ?_
    refine lv_iconst (v := nI 2) hx hb dX2_undo_54 (by decide) ?_
    refine lv_aload_n hx hb dX2_undo_55 rfl (lv_at hl 1 rfl) ?_
    refine m_g_a hx hb hts hown hK hw dX2_undo_56 ?_
    refine lv_iload_n hx hb dX2_undo_59 rfl (lv_at hl 0 rfl) ?_
    refine lv_iconst (v := nI 1) hx hb dX2_undo_60 (by decide) ?_
    refine n_iadd hx hb dX2_undo_61 ?_
    refine m_l_a (j := 410 + (116 * (ns - 1)) + 1) (v := M 0 (410 + (116 * (ns - 1)) + 1)) hx hb hK hw ((up2_ne (Or.inr (by omega))).trans ((up2_ne (Or.inr (by omega))).trans rfl)) (by omega) dX2_undo_62 ?_
    refine m_s_a (j := 2) hx hb hK hw (by decide) dX2_undo_63 (fun H locs hw => ?_)
    refine lv_aload_n hx hb dX2_undo_64 rfl (lv_at hl 1 rfl) ?_
    refine m_g_a hx hb hts hown hK hw dX2_undo_65 ?_
    refine lv_bipush (v := nI 9) hx hb dX2_undo_68 (by decide) ?_
    refine lv_aload_n hx hb dX2_undo_70 rfl (lv_at hl 1 rfl) ?_
    refine m_g_a hx hb hts hown hK hw dX2_undo_71 ?_
    refine lv_iload_n hx hb dX2_undo_74 rfl (lv_at hl 0 rfl) ?_
    refine lv_iconst (v := nI 2) hx hb dX2_undo_75 (by decide) ?_
    refine n_iadd hx hb dX2_undo_76 ?_
    refine m_l_a (j := 410 + (116 * (ns - 1)) + 2) (v := M 0 (410 + (116 * (ns - 1)) + 2)) hx hb hK hw ((up2_ne (Or.inr (by omega))).trans ((up2_ne (Or.inr (by omega))).trans ((up2_ne (Or.inr (by omega))).trans rfl))) (by omega) dX2_undo_77 ?_
    refine m_s_a (j := 9) hx hb hK hw (by decide) dX2_undo_78 (fun H locs hw => ?_)
    refine lv_iconst (v := nI 0) hx hb dX2_undo_79 (by decide) ?_
    refine lv_istore_n (lv' := [(2, .int (nI 0)), (1, .int (nI (410 + (116 * (ns - 1))))), (0, .ref (ad 0))]) hx hb dX2_undo_80 rfl hl (by decide) rfl (fun ls hl => ?_)
    have L81_2 : ∀ (fuel : Nat) (b : Nat) (M1 : Nat → Nat → Int32), nbs - b < fuel → (b ≤ nbs) → (it (fun i9 M9 => (up2 (up2 M9 0 (10 + 5 * i9 + 2) (M9 0 (410 + 116 * (ns - 1) + 4 + i9))) 0 (10 + 5 * i9 + 3) (M9 0 (410 + 116 * (ns - 1) + 10 + i9)))) (nbs - b) b M1 = (it (fun i9 M9 => (up2 (up2 M9 0 (10 + 5 * i9 + 2) (M9 0 (410 + 116 * (ns - 1) + 4 + i9))) 0 (10 + 5 * i9 + 3) (M9 0 (410 + 116 * (ns - 1) + 10 + i9)))) (nbs - 0) 0 (up2 (up2 (up2 (up2 M 0 6 (nI (ns - 1))) 0 3 (M 0 (410 + (116 * (ns - 1))))) 0 2 (M 0 (410 + (116 * (ns - 1)) + 1))) 0 9 (M 0 (410 + (116 * (ns - 1)) + 2))))) → (M1 0 (410 + 116 * (ns - 1) + 3) = nI nbs) → (M1 0 0 = nI nb) → (M1 0 6 = nI (ns - 1)) → ∀ (H : Heap) (locs : List Loc), MS G ad s.heap M1 Z V H locs → ∀ (ls : Array Slot), lv_has ls 3 [(0, .ref (ad 0)), (1, .int (nI (410 + 116 * (ns - 1)))), (2, .int (nI b))] → W p l e ({ frames := 1, cells := 0, slots := 0, locals := 23 } : Room) s m ([.ref (ad 0)] : List Value).toArray below meth c H locs 0 0 (MQ below (cQ (some (.int (pif (ns = 0) (-1) (nI (ns - 1))))) (mH G ad (pif (ns = 0) M (mUndo M ns nb nbs)) Z V) (mA ad)) ([.ref (ad 0)] : List Value).toArray s 0 0 (mA ad)) (F0 m 81 ls []) := by
      intro fuel
      induction fuel with
      | zero => intro b M1 hf; exact absurd hf (Nat.not_lt_zero _)
      | succ fuel ih =>
        intro b M1 hf hi_M1 hM_M1 hf0_M1 hf1_M1 hf2_M1 H locs hw ls hl
        have ih81 := ih
        refine lv_iload_n hx hb dX2_undo_81 rfl (lv_at hl 2 rfl) ?_
        refine lv_aload_n hx hb dX2_undo_82 rfl (lv_at hl 0 rfl) ?_
        refine m_g_a hx hb hts hown hK hw dX2_undo_83 ?_
        refine lv_iload_n hx hb dX2_undo_86 rfl (lv_at hl 1 rfl) ?_
        refine lv_iconst (v := nI 3) hx hb dX2_undo_87 (by decide) ?_
        refine n_iadd hx hb dX2_undo_88 ?_
        refine m_l_a (j := 410 + 116 * (ns - 1) + 3) (v := nI nbs) hx hb hK hw hf0_M1 (by omega) dX2_undo_89 ?_
        refine n_icmp_ge (tgt := 132) hx hb dX2_undo_90 (by decide) (by omega) (by omega) (fun c_3 => ?_) (fun c_3 => ?_)
        · obtain rfl : M1 = (it (fun i9 M9 => (up2 (up2 M9 0 (10 + 5 * i9 + 2) (M9 0 (410 + 116 * (ns - 1) + 4 + i9))) 0 (10 + 5 * i9 + 3) (M9 0 (410 + 116 * (ns - 1) + 10 + i9)))) (nbs - 0) 0 (up2 (up2 (up2 (up2 M 0 6 (nI (ns - 1))) 0 3 (M 0 (410 + (116 * (ns - 1))))) 0 2 (M 0 (410 + (116 * (ns - 1)) + 1))) 0 9 (M 0 (410 + (116 * (ns - 1)) + 2)))) := (it_z (by omega)).symm.trans hM_M1
          refine lv_aload_n hx hb dX2_undo_132 rfl (lv_at hl 0 rfl) ?_
          refine m_g_a hx hb hts hown hK hw dX2_undo_133 ?_
          refine lv_iload_n hx hb dX2_undo_136 rfl (lv_at hl 1 rfl) ?_
          refine lv_iconst (v := nI 3) hx hb dX2_undo_137 (by decide) ?_
          refine n_iadd hx hb dX2_undo_138 ?_
          refine m_l_a (j := 410 + 116 * (ns - 1) + 3) (v := nI nbs) hx hb hK hw hf0_M1 (by omega) dX2_undo_139 ?_
          refine lv_istore_n (lv' := [(2, .int (nI nbs)), (0, .ref (ad 0)), (1, .int (nI (410 + 116 * (ns - 1))))]) hx hb dX2_undo_140 rfl hl (by decide) rfl (fun ls hl => ?_)
          have L141_4 : ∀ (fuel : Nat) (b : Nat) (M2 : Nat → Nat → Int32), nb - b < fuel → (b ≤ nb) → (it (fun i9 M9 => (up2 M9 0 (10 + 5 * i9 + 3) (nI 0))) (nb - b) b M2 = (it (fun i9 M9 => (up2 M9 0 (10 + 5 * i9 + 3) (nI 0))) (nb - nbs) nbs (it (fun i9 M9 => (up2 (up2 M9 0 (10 + 5 * i9 + 2) (M9 0 (410 + 116 * (ns - 1) + 4 + i9))) 0 (10 + 5 * i9 + 3) (M9 0 (410 + 116 * (ns - 1) + 10 + i9)))) (nbs - 0) 0 (up2 (up2 (up2 (up2 M 0 6 (nI (ns - 1))) 0 3 (M 0 (410 + (116 * (ns - 1))))) 0 2 (M 0 (410 + (116 * (ns - 1)) + 1))) 0 9 (M 0 (410 + (116 * (ns - 1)) + 2)))))) → (M2 0 (410 + 116 * (ns - 1) + 3) = nI nbs) → (M2 0 0 = nI nb) → (M2 0 6 = nI (ns - 1)) → ∀ (H : Heap) (locs : List Loc), MS G ad s.heap M2 Z V H locs → ∀ (ls : Array Slot), lv_has ls 3 [(0, .ref (ad 0)), (1, .int (nI (410 + 116 * (ns - 1)))), (2, .int (nI b))] → W p l e ({ frames := 1, cells := 0, slots := 0, locals := 23 } : Room) s m ([.ref (ad 0)] : List Value).toArray below meth c H locs 0 0 (MQ below (cQ (some (.int (pif (ns = 0) (-1) (nI (ns - 1))))) (mH G ad (pif (ns = 0) M (mUndo M ns nb nbs)) Z V) (mA ad)) ([.ref (ad 0)] : List Value).toArray s 0 0 (mA ad)) (F0 m 141 ls []) := by
            intro fuel
            induction fuel with
            | zero => intro b M2 hf; exact absurd hf (Nat.not_lt_zero _)
            | succ fuel ih =>
              intro b M2 hf hi_M2 hM_M2 hf0_M2 hf1_M2 hf2_M2 H locs hw ls hl
              have ih141 := ih
              refine lv_iload_n hx hb dX2_undo_141 rfl (lv_at hl 2 rfl) ?_
              refine lv_aload_n hx hb dX2_undo_142 rfl (lv_at hl 0 rfl) ?_
              refine m_g_a hx hb hts hown hK hw dX2_undo_143 ?_
              refine lv_iconst (v := nI 0) hx hb dX2_undo_146 (by decide) ?_
              refine m_l_a (j := 0) (v := nI nb) hx hb hK hw hf1_M2 (by decide) dX2_undo_147 ?_
              refine n_icmp_ge (tgt := 164) hx hb dX2_undo_148 (by decide) (by omega) (by omega) (fun c_5 => ?_) (fun c_5 => ?_)
              · obtain rfl : M2 = (it (fun i9 M9 => (up2 M9 0 (10 + 5 * i9 + 3) (nI 0))) (nb - nbs) nbs (it (fun i9 M9 => (up2 (up2 M9 0 (10 + 5 * i9 + 2) (M9 0 (410 + 116 * (ns - 1) + 4 + i9))) 0 (10 + 5 * i9 + 3) (M9 0 (410 + 116 * (ns - 1) + 10 + i9)))) (nbs - 0) 0 (up2 (up2 (up2 (up2 M 0 6 (nI (ns - 1))) 0 3 (M 0 (410 + (116 * (ns - 1))))) 0 2 (M 0 (410 + (116 * (ns - 1)) + 1))) 0 9 (M 0 (410 + (116 * (ns - 1)) + 2))))) := (it_z (by omega)).symm.trans hM_M2
                refine lv_iconst (v := nI 0) hx hb dX2_undo_164 (by decide) ?_
                refine lv_istore_n (lv' := [(2, .int (nI 0)), (0, .ref (ad 0)), (1, .int (nI (410 + 116 * (ns - 1))))]) hx hb dX2_undo_165 rfl hl (by decide) rfl (fun ls hl => ?_)
                have L166_6 : ∀ (fuel : Nat) (i : Nat) (M3 : Nat → Nat → Int32), 100 - i < fuel → (i ≤ 100) → (it (fun i9 M9 => (up2 M9 0 (150 + i9) (M9 0 (410 + 116 * (ns - 1) + 16 + i9)))) (100 - i) i M3 = (it (fun i9 M9 => (up2 M9 0 (150 + i9) (M9 0 (410 + 116 * (ns - 1) + 16 + i9)))) (100 - 0) 0 (it (fun i9 M9 => (up2 M9 0 (10 + 5 * i9 + 3) (nI 0))) (nb - nbs) nbs (it (fun i9 M9 => (up2 (up2 M9 0 (10 + 5 * i9 + 2) (M9 0 (410 + 116 * (ns - 1) + 4 + i9))) 0 (10 + 5 * i9 + 3) (M9 0 (410 + 116 * (ns - 1) + 10 + i9)))) (nbs - 0) 0 (up2 (up2 (up2 (up2 M 0 6 (nI (ns - 1))) 0 3 (M 0 (410 + (116 * (ns - 1))))) 0 2 (M 0 (410 + (116 * (ns - 1)) + 1))) 0 9 (M 0 (410 + (116 * (ns - 1)) + 2))))))) → (M3 0 (410 + 116 * (ns - 1) + 3) = nI nbs) → (M3 0 0 = nI nb) → (M3 0 6 = nI (ns - 1)) → ∀ (H : Heap) (locs : List Loc), MS G ad s.heap M3 Z V H locs → ∀ (ls : Array Slot), lv_has ls 3 [(0, .ref (ad 0)), (1, .int (nI (410 + 116 * (ns - 1)))), (2, .int (nI i))] → W p l e ({ frames := 1, cells := 0, slots := 0, locals := 23 } : Room) s m ([.ref (ad 0)] : List Value).toArray below meth c H locs 0 0 (MQ below (cQ (some (.int (pif (ns = 0) (-1) (nI (ns - 1))))) (mH G ad (pif (ns = 0) M (mUndo M ns nb nbs)) Z V) (mA ad)) ([.ref (ad 0)] : List Value).toArray s 0 0 (mA ad)) (F0 m 166 ls []) := by
                  intro fuel
                  induction fuel with
                  | zero => intro i M3 hf; exact absurd hf (Nat.not_lt_zero _)
                  | succ fuel ih =>
                    intro i M3 hf hi_M3 hM_M3 hf0_M3 hf1_M3 hf2_M3 H locs hw ls hl
                    have ih166 := ih
                    refine lv_iload_n hx hb dX2_undo_166 rfl (lv_at hl 2 rfl) ?_
                    refine lv_bipush (v := nI 100) hx hb dX2_undo_167 (by decide) ?_
                    refine n_icmp_ge (tgt := 199) hx hb dX2_undo_169 (by decide) (by omega) (by decide) (fun c_7 => ?_) (fun c_7 => ?_)
                    · obtain rfl : M3 = (it (fun i9 M9 => (up2 M9 0 (150 + i9) (M9 0 (410 + 116 * (ns - 1) + 16 + i9)))) (100 - 0) 0 (it (fun i9 M9 => (up2 M9 0 (10 + 5 * i9 + 3) (nI 0))) (nb - nbs) nbs (it (fun i9 M9 => (up2 (up2 M9 0 (10 + 5 * i9 + 2) (M9 0 (410 + 116 * (ns - 1) + 4 + i9))) 0 (10 + 5 * i9 + 3) (M9 0 (410 + 116 * (ns - 1) + 10 + i9)))) (nbs - 0) 0 (up2 (up2 (up2 (up2 M 0 6 (nI (ns - 1))) 0 3 (M 0 (410 + (116 * (ns - 1))))) 0 2 (M 0 (410 + (116 * (ns - 1)) + 1))) 0 9 (M 0 (410 + (116 * (ns - 1)) + 2)))))) := (it_z (by omega)).symm.trans hM_M3
                      refine lv_aload_n hx hb dX2_undo_199 rfl (lv_at hl 0 rfl) ?_
                      refine m_g_a hx hb hts hown hK hw dX2_undo_200 ?_
                      refine lv_bipush (v := nI 6) hx hb dX2_undo_203 (by decide) ?_
                      refine m_l_a (j := 6) (v := nI (ns - 1)) hx hb hK hw hf2_M3 (by decide) dX2_undo_205 ?_
                      exact c_iret (v := nI (ns - 1)) (by rw [pif_f (by omega)]) hx hb hr rfl hlocks (mH.to (by rw [pif_f (by omega)]; rfl) rfl rfl hw.1) hw.2 dX2_undo_206
                    refine lv_aload_n hx hb dX2_undo_172 rfl (lv_at hl 0 rfl) ?_
                    refine m_g_a hx hb hts hown hK hw dX2_undo_173 ?_
                    refine lv_sipush (v := nI 150) hx hb dX2_undo_176 (by decide) ?_
                    refine lv_iload_n hx hb dX2_undo_179 rfl (lv_at hl 2 rfl) ?_
                    refine n_iadd hx hb dX2_undo_180 ?_
                    refine lv_aload_n hx hb dX2_undo_181 rfl (lv_at hl 0 rfl) ?_
                    refine m_g_a hx hb hts hown hK hw dX2_undo_182 ?_
                    refine lv_iload_n hx hb dX2_undo_185 rfl (lv_at hl 1 rfl) ?_
                    refine lv_bipush (v := nI 16) hx hb dX2_undo_186 (by decide) ?_
                    refine n_iadd hx hb dX2_undo_188 ?_
                    refine lv_iload_n hx hb dX2_undo_189 rfl (lv_at hl 2 rfl) ?_
                    refine n_iadd hx hb dX2_undo_190 ?_
                    refine m_l_a (j := 410 + 116 * (ns - 1) + 16 + i) (v := M3 0 (410 + 116 * (ns - 1) + 16 + i)) hx hb hK hw rfl (by omega) dX2_undo_191 ?_
                    refine m_s_a (j := 150 + i) hx hb hK hw (by omega) dX2_undo_192 (fun H locs hw => ?_)
                    refine lv_iinc (v := nI (i + 1)) (lv' := [(2, .int (nI (i + 1))), (0, .ref (ad 0)), (1, .int (nI (410 + 116 * (ns - 1))))]) hx hb dX2_undo_193 hl (k := 2) rfl (n_inc i 1) (by decide) rfl (fun ls hl => ?_)
                    refine lv_goto (tgt := 166) hx hb dX2_undo_196 (by decide) ?_
                    exact ih166 (i + 1) (up2 M3 0 (150 + i) (M3 0 (410 + 116 * (ns - 1) + 16 + i))) (by omega) (by omega) ((it_s (by omega)).symm.trans hM_M3) ((up2_ne (Or.inr (by omega))).trans hf0_M3) ((up2_ne (Or.inr (by omega))).trans hf1_M3) ((up2_ne (Or.inr (by omega))).trans hf2_M3) _ _ hw ls (lv_sub hl [1, 2, 0] rfl)
                exact L166_6 _ 0 (it (fun i9 M9 => (up2 M9 0 (10 + 5 * i9 + 3) (nI 0))) (nb - nbs) nbs (it (fun i9 M9 => (up2 (up2 M9 0 (10 + 5 * i9 + 2) (M9 0 (410 + 116 * (ns - 1) + 4 + i9))) 0 (10 + 5 * i9 + 3) (M9 0 (410 + 116 * (ns - 1) + 10 + i9)))) (nbs - 0) 0 (up2 (up2 (up2 (up2 M 0 6 (nI (ns - 1))) 0 3 (M 0 (410 + (116 * (ns - 1))))) 0 2 (M 0 (410 + (116 * (ns - 1)) + 1))) 0 9 (M 0 (410 + (116 * (ns - 1)) + 2))))) (Nat.lt_succ_self _) (by omega) rfl hf0_M2 hf1_M2 hf2_M2 _ _ hw ls (lv_sub hl [1, 2, 0] rfl)
              refine lv_aload_n hx hb dX2_undo_151 rfl (lv_at hl 0 rfl) ?_
              refine lv_iload_n hx hb dX2_undo_152 rfl (lv_at hl 2 rfl) ?_
              refine lv_iconst (v := nI 3) hx hb dX2_undo_153 (by decide) ?_
              refine lv_iconst (v := nI 0) hx hb dX2_undo_154 (by decide) ?_
              refine c_call (va_runV (As := [.int (nI b), .int (nI 3), .int (nI 0)]) (rest := []) ⟨hx, hb, hml, hown, hts⟩ (met_X2_set l G ad M2 Z V b 3 (nI 0) (by omega)) (cv_X2_X2_set hts ⟨Nat.le_of_ble_eq_true rfl, Nat.le_of_ble_eq_true rfl⟩) (cP.preV hK hw.1 (hw.1.recv hK)) rfl rfl hl.1 rfl (lv_room (Nat.le_of_ble_eq_true rfl)) dX2_undo_155 ⟨by first | exact Nat.zero_le _ | omega | decide, by first | exact Nat.zero_le _ | omega | decide⟩) hw.2 (fun q _ h => h) (fun q h => h) (fun H locs hw _ _ hS => ?_)
              replace hw := MS.mk hw hS
              refine lv_iinc (v := nI (b + 1)) (lv' := [(2, .int (nI (b + 1))), (0, .ref (ad 0)), (1, .int (nI (410 + 116 * (ns - 1))))]) hx hb dX2_undo_158 hl (k := 2) rfl (n_inc b 1) (by decide) rfl (fun ls hl => ?_)
              refine lv_goto (tgt := 141) hx hb dX2_undo_161 (by decide) ?_
              exact ih141 (b + 1) (up2 M2 0 (10 + 5 * b + 3) (nI 0)) (by omega) (by omega) ((it_s (by omega)).symm.trans hM_M2) ((up2_ne (Or.inr (by omega))).trans hf0_M2) ((up2_ne (Or.inr (by omega))).trans hf1_M2) ((up2_ne (Or.inr (by omega))).trans hf2_M2) _ _ hw ls (lv_sub hl [1, 2, 0] rfl)
          exact L141_4 _ nbs (it (fun i9 M9 => (up2 (up2 M9 0 (10 + 5 * i9 + 2) (M9 0 (410 + 116 * (ns - 1) + 4 + i9))) 0 (10 + 5 * i9 + 3) (M9 0 (410 + 116 * (ns - 1) + 10 + i9)))) (nbs - 0) 0 (up2 (up2 (up2 (up2 M 0 6 (nI (ns - 1))) 0 3 (M 0 (410 + (116 * (ns - 1))))) 0 2 (M 0 (410 + (116 * (ns - 1)) + 1))) 0 9 (M 0 (410 + (116 * (ns - 1)) + 2)))) (Nat.lt_succ_self _) (by omega) rfl hf0_M1 hf1_M1 hf2_M1 _ _ hw ls (lv_sub hl [1, 2, 0] rfl)
        refine lv_aload_n hx hb dX2_undo_93 rfl (lv_at hl 0 rfl) ?_
        refine lv_iload_n hx hb dX2_undo_94 rfl (lv_at hl 2 rfl) ?_
        refine lv_iconst (v := nI 2) hx hb dX2_undo_95 (by decide) ?_
        refine lv_aload_n hx hb dX2_undo_96 rfl (lv_at hl 0 rfl) ?_
        refine m_g_a hx hb hts hown hK hw dX2_undo_97 ?_
        refine lv_iload_n hx hb dX2_undo_100 rfl (lv_at hl 1 rfl) ?_
        refine lv_iconst (v := nI 4) hx hb dX2_undo_101 (by decide) ?_
        refine n_iadd hx hb dX2_undo_102 ?_
        refine lv_iload_n hx hb dX2_undo_103 rfl (lv_at hl 2 rfl) ?_
        refine n_iadd hx hb dX2_undo_104 ?_
        refine m_l_a (j := 410 + 116 * (ns - 1) + 4 + b) (v := M1 0 (410 + 116 * (ns - 1) + 4 + b)) hx hb hK hw rfl (by omega) dX2_undo_105 ?_
        refine c_call (va_runV (As := [.int (nI b), .int (nI 2), .int (M1 0 (410 + 116 * (ns - 1) + 4 + b))]) (rest := []) ⟨hx, hb, hml, hown, hts⟩ (met_X2_set l G ad M1 Z V b 2 (M1 0 (410 + 116 * (ns - 1) + 4 + b)) (by omega)) (cv_X2_X2_set hts ⟨Nat.le_of_ble_eq_true rfl, Nat.le_of_ble_eq_true rfl⟩) (cP.preV hK hw.1 (hw.1.recv hK)) rfl rfl hl.1 rfl (lv_room (Nat.le_of_ble_eq_true rfl)) dX2_undo_106 ⟨by first | exact Nat.zero_le _ | omega | decide, by first | exact Nat.zero_le _ | omega | decide⟩) hw.2 (fun q _ h => h) (fun q h => h) (fun H locs hw _ _ hS => ?_)
        replace hw := MS.mk hw hS
        refine lv_aload_n hx hb dX2_undo_109 rfl (lv_at hl 0 rfl) ?_
        refine lv_iload_n hx hb dX2_undo_110 rfl (lv_at hl 2 rfl) ?_
        refine lv_iconst (v := nI 3) hx hb dX2_undo_111 (by decide) ?_
        refine lv_aload_n hx hb dX2_undo_112 rfl (lv_at hl 0 rfl) ?_
        refine m_g_a hx hb hts hown hK hw dX2_undo_113 ?_
        refine lv_iload_n hx hb dX2_undo_116 rfl (lv_at hl 1 rfl) ?_
        refine lv_bipush (v := nI 10) hx hb dX2_undo_117 (by decide) ?_
        refine n_iadd hx hb dX2_undo_119 ?_
        refine lv_iload_n hx hb dX2_undo_120 rfl (lv_at hl 2 rfl) ?_
        refine n_iadd hx hb dX2_undo_121 ?_
        refine m_l_a (j := 410 + 116 * (ns - 1) + 10 + b) (v := M1 0 (410 + 116 * (ns - 1) + 10 + b)) hx hb hK hw ((up2_ne (Or.inr (by omega))).trans rfl) (by omega) dX2_undo_122 ?_
        refine c_call (va_runV (As := [.int (nI b), .int (nI 3), .int (M1 0 (410 + 116 * (ns - 1) + 10 + b))]) (rest := []) ⟨hx, hb, hml, hown, hts⟩ (met_X2_set l G ad (up2 M1 0 (10 + 5 * b + 2) (M1 0 (410 + 116 * (ns - 1) + 4 + b))) Z V b 3 (M1 0 (410 + 116 * (ns - 1) + 10 + b)) (by omega)) (cv_X2_X2_set hts ⟨Nat.le_of_ble_eq_true rfl, Nat.le_of_ble_eq_true rfl⟩) (cP.preV hK hw.1 (hw.1.recv hK)) rfl rfl hl.1 rfl (lv_room (Nat.le_of_ble_eq_true rfl)) dX2_undo_123 ⟨by first | exact Nat.zero_le _ | omega | decide, by first | exact Nat.zero_le _ | omega | decide⟩) hw.2 (fun q _ h => h) (fun q h => h) (fun H locs hw _ _ hS => ?_)
        replace hw := MS.mk hw hS
        refine lv_iinc (v := nI (b + 1)) (lv' := [(2, .int (nI (b + 1))), (0, .ref (ad 0)), (1, .int (nI (410 + 116 * (ns - 1))))]) hx hb dX2_undo_126 hl (k := 2) rfl (n_inc b 1) (by decide) rfl (fun ls hl => ?_)
        refine lv_goto (tgt := 81) hx hb dX2_undo_129 (by decide) ?_
        exact ih81 (b + 1) (up2 (up2 M1 0 (10 + 5 * b + 2) (M1 0 (410 + 116 * (ns - 1) + 4 + b))) 0 (10 + 5 * b + 3) (M1 0 (410 + 116 * (ns - 1) + 10 + b))) (by omega) (by omega) ((it_s (by omega)).symm.trans hM_M1) ((up2_ne (Or.inr (by omega))).trans ((up2_ne (Or.inr (by omega))).trans hf0_M1)) ((up2_ne (Or.inr (by omega))).trans ((up2_ne (Or.inr (by omega))).trans hf1_M1)) ((up2_ne (Or.inr (by omega))).trans ((up2_ne (Or.inr (by omega))).trans hf2_M1)) _ _ hw ls (lv_sub hl [1, 2, 0] rfl)
    exact L81_2 _ 0 (up2 (up2 (up2 (up2 M 0 6 (nI (ns - 1))) 0 3 (M 0 (410 + (116 * (ns - 1))))) 0 2 (M 0 (410 + (116 * (ns - 1)) + 1))) 0 9 (M 0 (410 + (116 * (ns - 1)) + 2))) (Nat.lt_succ_self _) (by omega) rfl ((up2_ne (Or.inr (by omega))).trans ((up2_ne (Or.inr (by omega))).trans ((up2_ne (Or.inr (by omega))).trans ((up2_ne (Or.inr (by omega))).trans eb)))) ((up2_ne (Or.inr (by decide))).trans ((up2_ne (Or.inr (by decide))).trans ((up2_ne (Or.inr (by decide))).trans ((up2_ne (Or.inr (by decide))).trans en)))) ((up2_ne (Or.inr (by decide))).trans ((up2_ne (Or.inr (by decide))).trans ((up2_ne (Or.inr (by decide))).trans up2_at))) _ _ hw ls (lv_sub hl [2, 1, 0] rfl)
  refine lv_iconst (v := (-1)) hx hb dX2_undo_10 (by decide) ?_
  exact c_iret (v := (-1)) (by rw [pif_t (by assumption)]) hx hb hr rfl hlocks (mH.to (by rw [pif_t (by assumption)]) rfl rfl hw.1) hw.2 dX2_undo_11
