def mBits (x : Int32) : Int32 := sm (fun k => (x >>> (nI k &&& 31)) &&& nI 1) 10
noncomputable def mHeld (v : Int64) (lo hi : Int32) : Int32 := pif (v < lo.toInt64) lo (pif (hi.toInt64 < v) hi v.toInt32)
noncomputable def mQ (g : Int32) (b : Nat) (w : Int32) : Int32 := pif (w = 0) (g &&& ((nI 1 <<< (nI b &&& 31)) ^^^ (-1))) (g ||| (nI 1 <<< (nI b &&& 31)))
def mBlOk (x y z : Int32) (nb : Nat) : Prop := (nI 1 ≤ x ∧ x ≤ nI 9) ∧ (nI 0 ≤ y ∧ y ≤ nI 3) ∧ (nI 0 ≤ z ∧ z ≤ nI 999) ∧ ¬ nb = 6
def mBlPut (M : Nat → Nat → Int32) (nb : Nat) (x y z : Int32) : Nat → Nat → Int32 := up2 (up2 (up2 (up2 (up2 (up2 M 0 (10 + 5 * nb) x) 0 (10 + 5 * nb + 1) y) 0 (10 + 5 * nb + 2) z) 0 (10 + 5 * nb + 3) (nI 0)) 0 (10 + 5 * nb + 4) (nI 0)) 0 0 (nI (nb + 1))
abbrev cl (x : Int32) : Nat := x.toNatClampNeg
noncomputable def mQuarrel (M : Nat → Nat → Int32) (nb : Nat) (x y w : Int32) : Nat → Nat → Int32 := pif (vp_in x nb ∧ vp_in y nb ∧ ¬ x = y) (up2 (up2 M 0 (10 + 5 * cl x + 4) (mQ (M 0 (10 + 5 * cl x + 4)) (cl y) w)) 0 (10 + 5 * cl y + 4) (mQ (M 0 (10 + 5 * cl y + 4)) (cl x) w)) M
def mKiOk (x y z : Int32) (nk : Nat) : Prop := (nI 1 ≤ x ∧ x ≤ nI 30) ∧ (nI 0 ≤ y ∧ y ≤ nI 15) ∧ (nI 0 ≤ z ∧ z ≤ nI 999) ∧ ¬ nk = 6
def mKiPut (M : Nat → Nat → Int32) (nk : Nat) (x y z : Int32) : Nat → Nat → Int32 := up2 (up2 (up2 (up2 M 0 (40 + 3 * nk) x) 0 (40 + 3 * nk + 1) y) 0 (40 + 3 * nk + 2) z) 0 1 (nI (nk + 1))
def mByte (v : Int32) (k : Nat) : Int32 := (v >>> (nI k &&& 31)) &&& nI 255
def mFour (M : Nat → Nat → Int32) (t : Nat) (v : Int32) : Nat → Nat → Int32 := up2 (up2 (up2 (up2 (up2 (up2 (up2 (up2 M 3 t (mByte v 24)) 4 0 (nI (t + 1))) 3 (t + 1) (mByte v 16)) 4 0 (nI (t + 2))) 3 (t + 2) (mByte v 8)) 4 0 (nI (t + 3))) 3 (t + 3) (mByte v 0)) 4 0 (nI (t + 4))
theorem mFour_4 {M : Nat → Nat → Int32} {t : Nat} {v : Int32} : mFour M t v 4 0 = nI (t + 4) := up2_at
def mFeed (M : Nat → Nat → Int32) (t : Nat) (a b c d e : Int32) : Nat → Nat → Int32 := mFour (mFour (mFour (mFour (mFour M t a) (t + 4) b) (t + 8) c) (t + 12) d) (t + 16) e
def mCpy (M : Nat → Nat → Int32) (sr dt n : Nat) : Nat → Nat → Int32 := fun k j => if k = dt ∧ j < n then M sr j else M k j
theorem mCpy_0 {M : Nat → Nat → Int32} {sr dt : Nat} : mCpy M sr dt 0 = M := by funext k j; simp [mCpy]
theorem mCpy_s {M : Nat → Nat → Int32} {sr dt n : Nat} : up2 (mCpy M sr dt n) dt n (M sr n) = mCpy M sr dt (n + 1) := by
  funext k j
  rw [up2_eq]
  unfold mCpy
  by_cases hk : k = dt
  · subst hk
    by_cases hj : j = n
    · subst hj; simp
    · by_cases h2 : j < n
      · rw [if_neg (fun q => hj q.2), if_pos ⟨rfl, h2⟩, if_pos ⟨rfl, by omega⟩]
      · rw [if_neg (fun q => hj q.2), if_neg (fun q => h2 q.2), if_neg (fun q => by omega)]
  · rw [if_neg (fun q => hk q.1), if_neg (fun q => hk q.1), if_neg (fun q => hk q.1)]
set_option maxHeartbeats 4000000 in
set_option maxRecDepth 100000 in
theorem met_X2_bits (l : Launch) (G : gG) (x : Int32) : Met l yX2_bits (ws_ yX2_bits cX2_bits 3 (some .int)) ({ frames := 0, cells := 0, slots := 0, locals := 0 } : Room) (cP G [.int x] (fun _ => True)) (cR (some (.int (mBits x)))) 0 0 (fun _ => False) := by
  refine c_start (by decide) (Nat.le_of_ble_eq_true rfl) ?_
  intro p e s m below meth c hx hb hr hlocks hml hown hts hB hK ls hl
  have hl : lv_has ls 3 [(0, .int x)] := hl
  refine lv_iconst (v := nI 0) hx hb dX2_bits_0 (by decide) ?_
  refine lv_istore_n (lv' := [(1, .int (nI 0)), (0, .int x)]) hx hb dX2_bits_1 rfl hl (by decide) rfl (fun ls hl => ?_)
  refine lv_iconst (v := nI 0) hx hb dX2_bits_2 (by decide) ?_
  refine lv_istore_n (lv' := [(2, .int (nI 0)), (1, .int (nI 0)), (0, .int x)]) hx hb dX2_bits_3 rfl hl (by decide) rfl (fun ls hl => ?_)
  have L_4 : ∀ (fuel : Nat) (i : Nat) (acc : Int32), 10 - i < fuel → (i ≤ 10) → (acc = sm (fun k => (x >>> (nI k &&& 31)) &&& nI 1) i) → ∀ (ls : Array Slot), lv_has ls 3 [(0, .int x), (1, .int acc), (2, .int (nI i))] → W p l e ({ frames := 0, cells := 0, slots := 0, locals := 0 } : Room) s m ([.int x] : List Value).toArray below meth c s.heap [] 0 0 (MQ below (cR (some (.int (mBits x)))) ([.int x] : List Value).toArray s 0 0 (fun _ => False)) (F0 m 4 ls []) := by
    intro fuel
    induction fuel with
    | zero => intro i acc hf; exact absurd hf (Nat.not_lt_zero _)
    | succ fuel ih =>
      intro i acc hf hi ha ls hl
      have ih4 := ih
      refine lv_iload_n hx hb dX2_bits_4 rfl (lv_at hl 2 rfl) ?_
      refine lv_bipush (v := nI 10) hx hb dX2_bits_5 (by decide) ?_
      refine n_icmp_ge (tgt := 24) hx hb dX2_bits_7 (by decide) (by omega) (by decide) (fun c_1 => ?_) (fun c_1 => ?_)
      · refine lv_iload_n hx hb dX2_bits_24 rfl (lv_at hl 1 rfl) ?_
        exact c_rret (v := acc) (by rw [ha, show i = 10 by omega]; rfl) hx hb hr rfl hlocks dX2_bits_25 rfl rfl
      refine lv_iload_n hx hb dX2_bits_10 rfl (lv_at hl 1 rfl) ?_
      refine lv_iload_n hx hb dX2_bits_11 rfl (lv_at hl 0 rfl) ?_
      refine lv_iload_n hx hb dX2_bits_12 rfl (lv_at hl 2 rfl) ?_
      refine lv_ishr hx hb dX2_bits_13 ?_
      refine lv_iconst (v := nI 1) hx hb dX2_bits_14 (by decide) ?_
      refine lv_iand hx hb dX2_bits_15 ?_
      refine lv_iadd hx hb dX2_bits_16 ?_
      refine lv_istore_n (lv' := [(1, .int (acc + ((x >>> ((nI i) &&& 31)) &&& (nI 1)))), (0, .int x), (2, .int (nI i))]) hx hb dX2_bits_17 rfl hl (by decide) rfl (fun ls hl => ?_)
      refine lv_iinc (v := nI (i + 1)) (lv' := [(2, .int (nI (i + 1))), (1, .int (acc + ((x >>> ((nI i) &&& 31)) &&& (nI 1)))), (0, .int x)]) hx hb dX2_bits_18 hl (k := 2) rfl (n_inc i 1) (by decide) rfl (fun ls hl => ?_)
      refine lv_goto (tgt := 4) hx hb dX2_bits_21 (by decide) ?_
      exact ih4 (i + 1) (acc + ((x >>> ((nI i) &&& 31)) &&& (nI 1))) (by omega) (by first | assumption | omega | rfl) (by rw [ha]; rfl) ls (lv_sub hl [2, 1, 0] rfl)
  exact L_4 _ 0 (nI 0) (Nat.lt_succ_self _) (by first | assumption | omega | rfl) (by first | assumption | omega | rfl) ls (lv_sub hl [2, 1, 0] rfl)
set_option maxHeartbeats 4000000 in
set_option maxRecDepth 100000 in
theorem met_X2_held (l : Launch) (G : gG) (v : Int64) (lo hi : Int32) : Met l yX2_held (ws_ yX2_held cX2_held 4 (some .int)) ({ frames := 0, cells := 0, slots := 0, locals := 0 } : Room) (cP G [.long v, .int lo, .int hi] (fun _ => True)) (cR (some (.int (mHeld v lo hi)))) 0 0 (fun _ => False) := by
  refine c_start (by decide) (Nat.le_of_ble_eq_true rfl) ?_
  intro p e s m below meth c hx hb hr hlocks hml hown hts hB hK ls hl
  have hl : lv_has ls 4 [(0, .long v), (2, .int lo), (3, .int hi)] := hl
  refine lv_lload_n hx hb dX2_held_0 rfl (lv_at hl 0 rfl) ?_
  refine lv_iload_n hx hb dX2_held_1 rfl (lv_at hl 1 rfl) ?_
  refine lv_i2l (v := (lo).toInt64) hx hb dX2_held_2 rfl ?_
  refine l_cmp_ge (tgt := 11) hx hb dX2_held_3 dX2_held_4 (by decide) (fun c_1 => ?_) (fun c_1 => ?_)
  · refine lv_lload_n hx hb dX2_held_11 rfl (lv_at hl 0 rfl) ?_
    refine lv_iload_n hx hb dX2_held_12 rfl (lv_at hl 2 rfl) ?_
    refine lv_i2l (v := (hi).toInt64) hx hb dX2_held_13 rfl ?_
    refine l_cmp_le (tgt := 22) hx hb dX2_held_14 dX2_held_15 (by decide) (fun c_2 => ?_) (fun c_2 => ?_)
    · refine lv_lload_n hx hb dX2_held_22 rfl (lv_at hl 0 rfl) ?_
      refine lv_l2i (v := (v).toInt32) hx hb dX2_held_23 rfl ?_
      exact c_rret (v := (v).toInt32) (by first | rfl | simp [mHeld, c_1, c_2, pif_true, pif_false]) hx hb hr rfl hlocks dX2_held_24 rfl rfl
    refine lv_iload_n hx hb dX2_held_18 rfl (lv_at hl 2 rfl) ?_
    refine lv_goto (tgt := 24) hx hb dX2_held_19 (by decide) ?_
    exact c_rret (v := hi) (by first | rfl | simp [mHeld, c_1, c_2, pif_true, pif_false]) hx hb hr rfl hlocks dX2_held_24 rfl rfl
  refine lv_iload_n hx hb dX2_held_7 rfl (lv_at hl 1 rfl) ?_
  refine lv_goto (tgt := 24) hx hb dX2_held_8 (by decide) ?_
  exact c_rret (v := lo) (by first | rfl | simp [mHeld, c_1, pif_true, pif_false]) hx hb hr rfl hlocks dX2_held_24 rfl rfl
set_option maxHeartbeats 4000000 in
set_option maxRecDepth 100000 in
theorem met_X2_has (l : Launch) (G : gG) (x y : Int32) : Met l yX2_has (ws_ yX2_has cX2_has 2 (some .boolean)) ({ frames := 0, cells := 0, slots := 0, locals := 0 } : Room) (cP G [.int x, .int y] (fun _ => True)) (cR (some (.int (bI ((x >>> (y &&& 31)) &&& nI 1 = nI 1))))) 0 0 (fun _ => False) := by
  refine c_start (by decide) (Nat.le_of_ble_eq_true rfl) ?_
  intro p e s m below meth c hx hb hr hlocks hml hown hts hB hK ls hl
  have hl : lv_has ls 2 [(0, .int x), (1, .int y)] := hl
  refine lv_iload_n hx hb dX2_has_0 rfl (lv_at hl 0 rfl) ?_
  refine lv_iload_n hx hb dX2_has_1 rfl (lv_at hl 1 rfl) ?_
  refine lv_ishr hx hb dX2_has_2 ?_
  refine lv_iconst (v := nI 1) hx hb dX2_has_3 (by decide) ?_
  refine lv_iand hx hb dX2_has_4 ?_
  refine lv_iconst (v := nI 1) hx hb dX2_has_5 (by decide) ?_
  refine lv_icmp_ne (tgt := 13) hx hb dX2_has_6 (by decide) (fun c_1 => ?_) (fun c_1 => ?_)
  · refine lv_iconst (v := nI 0) hx hb dX2_has_13 (by decide) ?_
    exact c_rret (v := nI 0) ((bI_f (by simp [c_1])).symm) hx hb hr rfl hlocks dX2_has_14 rfl rfl
  refine lv_iconst (v := nI 1) hx hb dX2_has_9 (by decide) ?_
  refine lv_goto (tgt := 14) hx hb dX2_has_10 (by decide) ?_
  exact c_rret (v := nI 1) ((bI_t (by simp [c_1])).symm) hx hb hr rfl hlocks dX2_has_14 rfl rfl
set_option maxHeartbeats 4000000 in
set_option maxRecDepth 100000 in
theorem met_X2_blower (l : Launch) (G : gG) (ad : Nat → Nat) (M Z : Nat → Nat → Int32) (V : Nat → Nat → Int64) (x y z : Int32) (nb : Nat) (en : M 0 0 = nI nb) (hn : nb ≤ 6) : Met l yX2_blower (ws_ yX2_blower cX2_blower 5 (some .int)) ({ frames := 1, cells := 0, slots := 0, locals := 23 } : Room) (cP G [.ref (ad 0), .int x, .int y, .int z] (mH G ad M Z V)) (cQ (some (.int (pif (mBlOk x y z nb) (nI nb) (-1)))) (mH G ad (pif (mBlOk x y z nb) (mBlPut M nb x y z) M) Z V) (mA ad)) 0 0 (mA ad) := by
  refine c_start (by decide) (Nat.le_of_ble_eq_true rfl) ?_
  intro p e s m below meth c hx hb hr hlocks hml hown hts hB hK ls hl
  have hw := MS.of hB
  have hl : lv_has ls 5 [(0, .ref (ad 0)), (1, .int x), (2, .int y), (3, .int z)] := hl
  refine lv_iload_n hx hb dX2_blower_0 rfl (lv_at hl 1 rfl) ?_
  refine lv_iconst (v := nI 1) hx hb dX2_blower_1 (by decide) ?_
  refine lv_bipush (v := nI 9) hx hb dX2_blower_2 (by decide) ?_
  refine c_read (va_runS (As := [.int x, .int (nI 1), .int (nI 9)]) (rest := []) ⟨hx, hb, hml, hown, hts⟩ (met_X2_isIn l G x (nI 1) (nI 9)) (cs_X2_X2_isIn hts ⟨Nat.le_of_ble_eq_true rfl, Nat.le_of_ble_eq_true rfl⟩) (cP.pre hK trivial) rfl rfl hl.1 rfl (lv_room (Nat.le_of_ble_eq_true rfl)) dX2_blower_4 ⟨by first | exact Nat.zero_le _ | omega | decide, by first | exact Nat.zero_le _ | omega | decide⟩) ?_
  refine b_if_eq (tgt := 41) hx hb dX2_blower_7 (by decide) (fun c_1 => ?_) (fun c_1 => ?_)
  · refine lv_iconst (v := (-1)) hx hb dX2_blower_41 (by decide) ?_
    exact c_iret (v := (-1)) (by first | rfl | simp [mBlOk, mBlPut, c_1, pif_true, pif_false]) hx hb hr rfl hlocks (mH.to (by first | rfl | simp [mBlOk, mBlPut, c_1, pif_true, pif_false]) rfl rfl hw.1) hw.2 dX2_blower_42
  refine lv_iload_n hx hb dX2_blower_10 rfl (lv_at hl 2 rfl) ?_
  refine lv_iconst (v := nI 0) hx hb dX2_blower_11 (by decide) ?_
  refine lv_iconst (v := nI 3) hx hb dX2_blower_12 (by decide) ?_
  refine c_read (va_runS (As := [.int y, .int (nI 0), .int (nI 3)]) (rest := []) ⟨hx, hb, hml, hown, hts⟩ (met_X2_isIn l G y (nI 0) (nI 3)) (cs_X2_X2_isIn hts ⟨Nat.le_of_ble_eq_true rfl, Nat.le_of_ble_eq_true rfl⟩) (cP.pre hK trivial) rfl rfl hl.1 rfl (lv_room (Nat.le_of_ble_eq_true rfl)) dX2_blower_13 ⟨by first | exact Nat.zero_le _ | omega | decide, by first | exact Nat.zero_le _ | omega | decide⟩) ?_
  refine b_if_eq (tgt := 41) hx hb dX2_blower_16 (by decide) (fun c_2 => ?_) (fun c_2 => ?_)
  · refine lv_iconst (v := (-1)) hx hb dX2_blower_41 (by decide) ?_
    exact c_iret (v := (-1)) (by first | rfl | simp [mBlOk, mBlPut, c_1, c_2, pif_true, pif_false]) hx hb hr rfl hlocks (mH.to (by first | rfl | simp [mBlOk, mBlPut, c_1, c_2, pif_true, pif_false]) rfl rfl hw.1) hw.2 dX2_blower_42
  refine lv_iload_n hx hb dX2_blower_19 rfl (lv_at hl 3 rfl) ?_
  refine lv_iconst (v := nI 0) hx hb dX2_blower_20 (by decide) ?_
  refine lv_sipush (v := nI 999) hx hb dX2_blower_21 (by decide) ?_
  refine c_read (va_runS (As := [.int z, .int (nI 0), .int (nI 999)]) (rest := []) ⟨hx, hb, hml, hown, hts⟩ (met_X2_isIn l G z (nI 0) (nI 999)) (cs_X2_X2_isIn hts ⟨Nat.le_of_ble_eq_true rfl, Nat.le_of_ble_eq_true rfl⟩) (cP.pre hK trivial) rfl rfl hl.1 rfl (lv_room (Nat.le_of_ble_eq_true rfl)) dX2_blower_24 ⟨by first | exact Nat.zero_le _ | omega | decide, by first | exact Nat.zero_le _ | omega | decide⟩) ?_
  refine b_if_eq (tgt := 41) hx hb dX2_blower_27 (by decide) (fun c_3 => ?_) (fun c_3 => ?_)
  · refine lv_iconst (v := (-1)) hx hb dX2_blower_41 (by decide) ?_
    exact c_iret (v := (-1)) (by first | rfl | simp [mBlOk, mBlPut, c_1, c_2, c_3, pif_true, pif_false]) hx hb hr rfl hlocks (mH.to (by first | rfl | simp [mBlOk, mBlPut, c_1, c_2, c_3, pif_true, pif_false]) rfl rfl hw.1) hw.2 dX2_blower_42
  refine lv_aload_n hx hb dX2_blower_30 rfl (lv_at hl 0 rfl) ?_
  refine m_g_a hx hb hts hown hK hw dX2_blower_31 ?_
  refine lv_iconst (v := nI 0) hx hb dX2_blower_34 (by decide) ?_
  refine m_l_a (j := 0) (v := nI nb) hx hb hK hw en (by decide) dX2_blower_35 ?_
  refine lv_bipush (v := nI 6) hx hb dX2_blower_36 (by decide) ?_
  refine n_icmp_ne (tgt := 43) hx hb dX2_blower_38 (by decide) (by omega) (by decide) (fun c_4 => ?_) (fun c_4 => ?_)
  · refine lv_aload_n hx hb dX2_blower_43 rfl (lv_at hl 0 rfl) ?_
    refine m_g_a hx hb hts hown hK hw dX2_blower_44 ?_
    refine lv_iconst (v := nI 0) hx hb dX2_blower_47 (by decide) ?_
    refine m_l_a (j := 0) (v := nI nb) hx hb hK hw en (by decide) dX2_blower_48 ?_
    refine lv_istore (lv' := [(4, .int (nI nb)), (0, .ref (ad 0)), (1, .int x), (2, .int y), (3, .int z)]) hx hb dX2_blower_49 hl (by decide) rfl (fun ls hl => ?_)
    refine lv_aload_n hx hb dX2_blower_51 rfl (lv_at hl 1 rfl) ?_
    refine lv_iload hx hb dX2_blower_52 (lv_at hl 0 rfl) ?_
    refine lv_iconst (v := nI 0) hx hb dX2_blower_54 (by decide) ?_
    refine lv_iload_n hx hb dX2_blower_55 rfl (lv_at hl 2 rfl) ?_
    refine c_call (va_runV (As := [.int (nI nb), .int (nI 0), .int x]) (rest := []) ⟨hx, hb, hml, hown, hts⟩ (met_X2_set l G ad M Z V nb 0 x (by omega)) (cv_X2_X2_set hts ⟨Nat.le_of_ble_eq_true rfl, Nat.le_of_ble_eq_true rfl⟩) (cP.preV hK hw.1 (hw.1.recv hK)) rfl rfl hl.1 rfl (lv_room (Nat.le_of_ble_eq_true rfl)) dX2_blower_56 ⟨by first | exact Nat.zero_le _ | omega | decide, by first | exact Nat.zero_le _ | omega | decide⟩) hw.2 (fun q _ h => h) (fun q h => h) (fun H locs hw _ _ hS => ?_)
    replace hw := MS.mk hw hS
    refine lv_aload_n hx hb dX2_blower_59 rfl (lv_at hl 1 rfl) ?_
    refine lv_iload hx hb dX2_blower_60 (lv_at hl 0 rfl) ?_
    refine lv_iconst (v := nI 1) hx hb dX2_blower_62 (by decide) ?_
    refine lv_iload_n hx hb dX2_blower_63 rfl (lv_at hl 3 rfl) ?_
    refine c_call (va_runV (As := [.int (nI nb), .int (nI 1), .int y]) (rest := []) ⟨hx, hb, hml, hown, hts⟩ (met_X2_set l G ad (up2 M 0 (10 + 5 * nb) x) Z V nb 1 y (by omega)) (cv_X2_X2_set hts ⟨Nat.le_of_ble_eq_true rfl, Nat.le_of_ble_eq_true rfl⟩) (cP.preV hK hw.1 (hw.1.recv hK)) rfl rfl hl.1 rfl (lv_room (Nat.le_of_ble_eq_true rfl)) dX2_blower_64 ⟨by first | exact Nat.zero_le _ | omega | decide, by first | exact Nat.zero_le _ | omega | decide⟩) hw.2 (fun q _ h => h) (fun q h => h) (fun H locs hw _ _ hS => ?_)
    replace hw := MS.mk hw hS
    refine lv_aload_n hx hb dX2_blower_67 rfl (lv_at hl 1 rfl) ?_
    refine lv_iload hx hb dX2_blower_68 (lv_at hl 0 rfl) ?_
    refine lv_iconst (v := nI 2) hx hb dX2_blower_70 (by decide) ?_
    refine lv_iload_n hx hb dX2_blower_71 rfl (lv_at hl 4 rfl) ?_
    refine c_call (va_runV (As := [.int (nI nb), .int (nI 2), .int z]) (rest := []) ⟨hx, hb, hml, hown, hts⟩ (met_X2_set l G ad (up2 (up2 M 0 (10 + 5 * nb) x) 0 (10 + 5 * nb + 1) y) Z V nb 2 z (by omega)) (cv_X2_X2_set hts ⟨Nat.le_of_ble_eq_true rfl, Nat.le_of_ble_eq_true rfl⟩) (cP.preV hK hw.1 (hw.1.recv hK)) rfl rfl hl.1 rfl (lv_room (Nat.le_of_ble_eq_true rfl)) dX2_blower_72 ⟨by first | exact Nat.zero_le _ | omega | decide, by first | exact Nat.zero_le _ | omega | decide⟩) hw.2 (fun q _ h => h) (fun q h => h) (fun H locs hw _ _ hS => ?_)
    replace hw := MS.mk hw hS
    refine lv_aload_n hx hb dX2_blower_75 rfl (lv_at hl 1 rfl) ?_
    refine lv_iload hx hb dX2_blower_76 (lv_at hl 0 rfl) ?_
    refine lv_iconst (v := nI 3) hx hb dX2_blower_78 (by decide) ?_
    refine lv_iconst (v := nI 0) hx hb dX2_blower_79 (by decide) ?_
    refine c_call (va_runV (As := [.int (nI nb), .int (nI 3), .int (nI 0)]) (rest := []) ⟨hx, hb, hml, hown, hts⟩ (met_X2_set l G ad (up2 (up2 (up2 M 0 (10 + 5 * nb) x) 0 (10 + 5 * nb + 1) y) 0 (10 + 5 * nb + 2) z) Z V nb 3 (nI 0) (by omega)) (cv_X2_X2_set hts ⟨Nat.le_of_ble_eq_true rfl, Nat.le_of_ble_eq_true rfl⟩) (cP.preV hK hw.1 (hw.1.recv hK)) rfl rfl hl.1 rfl (lv_room (Nat.le_of_ble_eq_true rfl)) dX2_blower_80 ⟨by first | exact Nat.zero_le _ | omega | decide, by first | exact Nat.zero_le _ | omega | decide⟩) hw.2 (fun q _ h => h) (fun q h => h) (fun H locs hw _ _ hS => ?_)
    replace hw := MS.mk hw hS
    refine lv_aload_n hx hb dX2_blower_83 rfl (lv_at hl 1 rfl) ?_
    refine lv_iload hx hb dX2_blower_84 (lv_at hl 0 rfl) ?_
    refine lv_iconst (v := nI 4) hx hb dX2_blower_86 (by decide) ?_
    refine lv_iconst (v := nI 0) hx hb dX2_blower_87 (by decide) ?_
    refine c_call (va_runV (As := [.int (nI nb), .int (nI 4), .int (nI 0)]) (rest := []) ⟨hx, hb, hml, hown, hts⟩ (met_X2_set l G ad (up2 (up2 (up2 (up2 M 0 (10 + 5 * nb) x) 0 (10 + 5 * nb + 1) y) 0 (10 + 5 * nb + 2) z) 0 (10 + 5 * nb + 3) (nI 0)) Z V nb 4 (nI 0) (by omega)) (cv_X2_X2_set hts ⟨Nat.le_of_ble_eq_true rfl, Nat.le_of_ble_eq_true rfl⟩) (cP.preV hK hw.1 (hw.1.recv hK)) rfl rfl hl.1 rfl (lv_room (Nat.le_of_ble_eq_true rfl)) dX2_blower_88 ⟨by first | exact Nat.zero_le _ | omega | decide, by first | exact Nat.zero_le _ | omega | decide⟩) hw.2 (fun q _ h => h) (fun q h => h) (fun H locs hw _ _ hS => ?_)
    replace hw := MS.mk hw hS
    refine lv_aload_n hx hb dX2_blower_91 rfl (lv_at hl 1 rfl) ?_
    refine m_g_a hx hb hts hown hK hw dX2_blower_92 ?_
    refine lv_iconst (v := nI 0) hx hb dX2_blower_95 (by decide) ?_
    refine lv_dup2_11 hx hb dX2_blower_96 rfl rfl ?_
    refine m_l_a (j := 0) (v := nI nb) hx hb hK hw ((up2_ne (Or.inr (by omega))).trans ((up2_ne (Or.inr (by omega))).trans ((up2_ne (Or.inr (by omega))).trans ((up2_ne (Or.inr (by omega))).trans ((up2_ne (Or.inr (by omega))).trans en))))) (by decide) dX2_blower_97 ?_
    refine lv_iconst (v := nI 1) hx hb dX2_blower_98 (by decide) ?_
    refine n_iadd hx hb dX2_blower_99 ?_
    refine m_s_a (j := 0) hx hb hK hw (by decide) dX2_blower_100 (fun H locs hw => ?_)
    refine lv_iload hx hb dX2_blower_101 (lv_at hl 0 rfl) ?_
    exact c_iret (v := nI nb) (by first | rfl | simp [mBlOk, mBlPut, c_1, c_2, c_3, c_4, pif_true, pif_false]) hx hb hr rfl hlocks (mH.to (by first | rfl | simp [mBlOk, mBlPut, c_1, c_2, c_3, c_4, pif_true, pif_false]) rfl rfl hw.1) hw.2 dX2_blower_103
  refine lv_iconst (v := (-1)) hx hb dX2_blower_41 (by decide) ?_
  exact c_iret (v := (-1)) (by first | rfl | simp [mBlOk, mBlPut, c_1, c_2, c_3, c_4, pif_true, pif_false]) hx hb hr rfl hlocks (mH.to (by first | rfl | simp [mBlOk, mBlPut, c_1, c_2, c_3, c_4, pif_true, pif_false]) rfl rfl hw.1) hw.2 dX2_blower_42
set_option maxHeartbeats 4000000 in
set_option maxRecDepth 100000 in
theorem met_X2_part (l : Launch) (G : gG) (ad : Nat → Nat) (M Z : Nat → Nat → Int32) (V : Nat → Nat → Int64) (a b : Nat) (w g : Int32) (ha : 10 + 5 * a + 4 < 3890) (hg : M 0 (10 + 5 * a + 4) = g) : Met l yX2_part (ws_ yX2_part cX2_part 4 none) ({ frames := 1, cells := 0, slots := 0, locals := 23 } : Room) (cP G [.ref (ad 0), .int (nI a), .int (nI b), .int w] (mH G ad M Z V)) (cQ none (mH G ad (up2 M 0 (10 + 5 * a + 4) (mQ g b w)) Z V) (mA ad)) 0 0 (mA ad) := by
  refine c_start (by decide) (Nat.le_of_ble_eq_true rfl) ?_
  intro p e s m below meth c hx hb hr hlocks hml hown hts hB hK ls hl
  have hw := MS.of hB
  have hl : lv_has ls 4 [(0, .ref (ad 0)), (1, .int (nI a)), (2, .int (nI b)), (3, .int w)] := hl
  refine lv_aload_n hx hb dX2_part_0 rfl (lv_at hl 0 rfl) ?_
  refine lv_iload_n hx hb dX2_part_1 rfl (lv_at hl 1 rfl) ?_
  refine lv_iconst (v := nI 4) hx hb dX2_part_2 (by decide) ?_
  refine lv_iload_n hx hb dX2_part_3 rfl (lv_at hl 3 rfl) ?_
  refine lv_if_eq (tgt := 20) hx hb dX2_part_4 (by decide) (fun c_1 => ?_) (fun c_1 => ?_)
  · refine lv_aload_n hx hb dX2_part_20 rfl (lv_at hl 0 rfl) ?_
    refine lv_iload_n hx hb dX2_part_21 rfl (lv_at hl 1 rfl) ?_
    refine lv_iconst (v := nI 4) hx hb dX2_part_22 (by decide) ?_
    refine c_read (va_runV (As := [.int (nI a), .int (nI 4)]) (rest := [.int (nI 4), .int (nI a), .ref (ad 0)]) ⟨hx, hb, hml, hown, hts⟩ (met_X2_get l G ad M Z V a 4 g (by omega) hg) (cv_X2_X2_get hts ⟨Nat.le_of_ble_eq_true rfl, Nat.le_of_ble_eq_true rfl⟩) (cP.preV hK hw.1 (hw.1.recv hK)) rfl rfl hl.1 rfl (lv_room (Nat.le_of_ble_eq_true rfl)) dX2_part_23 ⟨by first | exact Nat.zero_le _ | omega | decide, by first | exact Nat.zero_le _ | omega | decide⟩) ?_
    refine lv_iconst (v := nI 1) hx hb dX2_part_26 (by decide) ?_
    refine lv_iload_n hx hb dX2_part_27 rfl (lv_at hl 2 rfl) ?_
    refine lv_ishl hx hb dX2_part_28 ?_
    refine lv_iconst (v := (-1)) hx hb dX2_part_29 (by decide) ?_
    refine lv_ixor hx hb dX2_part_30 ?_
    refine lv_iand hx hb dX2_part_31 ?_
    refine c_call (va_runV (As := [.int (nI a), .int (nI 4), .int (g &&& (((nI 1) <<< ((nI b) &&& 31)) ^^^ (-1)))]) (rest := []) ⟨hx, hb, hml, hown, hts⟩ (met_X2_set l G ad M Z V a 4 (g &&& (((nI 1) <<< ((nI b) &&& 31)) ^^^ (-1))) (by omega)) (cv_X2_X2_set hts ⟨Nat.le_of_ble_eq_true rfl, Nat.le_of_ble_eq_true rfl⟩) (cP.preV hK hw.1 (hw.1.recv hK)) rfl rfl hl.1 rfl (lv_room (Nat.le_of_ble_eq_true rfl)) dX2_part_32 ⟨by first | exact Nat.zero_le _ | omega | decide, by first | exact Nat.zero_le _ | omega | decide⟩) hw.2 (fun q _ h => h) (fun q h => h) (fun H locs hw _ _ hS => ?_)
    replace hw := MS.mk hw hS
    exact c_vret hx hb hr hlocks (mH.to (by first | rfl | simp [mQ, c_1, pif_true, pif_false]) rfl rfl hw.1) hw.2 dX2_part_35
  refine lv_aload_n hx hb dX2_part_7 rfl (lv_at hl 0 rfl) ?_
  refine lv_iload_n hx hb dX2_part_8 rfl (lv_at hl 1 rfl) ?_
  refine lv_iconst (v := nI 4) hx hb dX2_part_9 (by decide) ?_
  refine c_read (va_runV (As := [.int (nI a), .int (nI 4)]) (rest := [.int (nI 4), .int (nI a), .ref (ad 0)]) ⟨hx, hb, hml, hown, hts⟩ (met_X2_get l G ad M Z V a 4 g (by omega) hg) (cv_X2_X2_get hts ⟨Nat.le_of_ble_eq_true rfl, Nat.le_of_ble_eq_true rfl⟩) (cP.preV hK hw.1 (hw.1.recv hK)) rfl rfl hl.1 rfl (lv_room (Nat.le_of_ble_eq_true rfl)) dX2_part_10 ⟨by first | exact Nat.zero_le _ | omega | decide, by first | exact Nat.zero_le _ | omega | decide⟩) ?_
  refine lv_iconst (v := nI 1) hx hb dX2_part_13 (by decide) ?_
  refine lv_iload_n hx hb dX2_part_14 rfl (lv_at hl 2 rfl) ?_
  refine lv_ishl hx hb dX2_part_15 ?_
  refine lv_ior hx hb dX2_part_16 ?_
  refine lv_goto (tgt := 32) hx hb dX2_part_17 (by decide) ?_
  refine c_call (va_runV (As := [.int (nI a), .int (nI 4), .int (g ||| ((nI 1) <<< ((nI b) &&& 31)))]) (rest := []) ⟨hx, hb, hml, hown, hts⟩ (met_X2_set l G ad M Z V a 4 (g ||| ((nI 1) <<< ((nI b) &&& 31))) (by omega)) (cv_X2_X2_set hts ⟨Nat.le_of_ble_eq_true rfl, Nat.le_of_ble_eq_true rfl⟩) (cP.preV hK hw.1 (hw.1.recv hK)) rfl rfl hl.1 rfl (lv_room (Nat.le_of_ble_eq_true rfl)) dX2_part_32 ⟨by first | exact Nat.zero_le _ | omega | decide, by first | exact Nat.zero_le _ | omega | decide⟩) hw.2 (fun q _ h => h) (fun q h => h) (fun H locs hw _ _ hS => ?_)
  replace hw := MS.mk hw hS
  exact c_vret hx hb hr hlocks (mH.to (by first | rfl | simp [mQ, c_1, pif_true, pif_false]) rfl rfl hw.1) hw.2 dX2_part_35
set_option maxHeartbeats 4000000 in
set_option maxRecDepth 100000 in
theorem met_X2_quarrel (l : Launch) (G : gG) (ad : Nat → Nat) (M Z : Nat → Nat → Int32) (V : Nat → Nat → Int64) (x y w : Int32) (nb : Nat) (en : M 0 0 = nI nb) (hn : nb ≤ 6) : Met l yX2_quarrel (ws_ yX2_quarrel cX2_quarrel 4 (some .boolean)) ({ frames := 2, cells := 0, slots := 0, locals := 46 } : Room) (cP G [.ref (ad 0), .int x, .int y, .int w] (mH G ad M Z V)) (cQ (some (.int (bI (vp_in x nb ∧ vp_in y nb ∧ ¬ x = y)))) (mH G ad (mQuarrel M nb x y w) Z V) (mA ad)) 0 0 (mA ad) := by
  refine c_start (by decide) (Nat.le_of_ble_eq_true rfl) ?_
  intro p e s m below meth c hx hb hr hlocks hml hown hts hB hK ls hl
  have hw := MS.of hB
  have hl : lv_has ls 4 [(0, .ref (ad 0)), (1, .int x), (2, .int y), (3, .int w)] := hl
  refine lv_aload_n hx hb dX2_quarrel_0 rfl (lv_at hl 0 rfl) ?_
  refine lv_iload_n hx hb dX2_quarrel_1 rfl (lv_at hl 1 rfl) ?_
  refine c_read (va_runV (As := [.int x]) (rest := []) ⟨hx, hb, hml, hown, hts⟩ (met_X2_isBlower l G ad M Z V x nb en (by omega)) (cv_X2_X2_isBlower hts ⟨Nat.le_of_ble_eq_true rfl, Nat.le_of_ble_eq_true rfl⟩) (cP.preV hK hw.1 (hw.1.recv hK)) rfl rfl hl.1 rfl (lv_room (Nat.le_of_ble_eq_true rfl)) dX2_quarrel_2 ⟨by first | exact Nat.zero_le _ | omega | decide, by first | exact Nat.zero_le _ | omega | decide⟩) ?_
  refine b_if_eq (tgt := 21) hx hb dX2_quarrel_5 (by decide) (fun c_1 => ?_) (fun c_1 => ?_)
  · refine lv_iconst (v := nI 0) hx hb dX2_quarrel_21 (by decide) ?_
    exact c_iret (v := nI 0) (by first | rfl | exact (bI_t (by simp [c_1])).symm | exact (bI_f (by simp [c_1])).symm) hx hb hr rfl hlocks (mH.to (by simp [mQuarrel, c_1, pif_true, pif_false]) rfl rfl hw.1) hw.2 dX2_quarrel_22
  obtain ⟨jx, h_jx, rfl⟩ := vp_in_of c_1 (by omega)
  have k_jx : (nI jx).toNatClampNeg = jx := nI_clamp (by omega)
  refine lv_aload_n hx hb dX2_quarrel_8 rfl (lv_at hl 0 rfl) ?_
  refine lv_iload_n hx hb dX2_quarrel_9 rfl (lv_at hl 2 rfl) ?_
  refine c_read (va_runV (As := [.int y]) (rest := []) ⟨hx, hb, hml, hown, hts⟩ (met_X2_isBlower l G ad M Z V y nb en (by omega)) (cv_X2_X2_isBlower hts ⟨Nat.le_of_ble_eq_true rfl, Nat.le_of_ble_eq_true rfl⟩) (cP.preV hK hw.1 (hw.1.recv hK)) rfl rfl hl.1 rfl (lv_room (Nat.le_of_ble_eq_true rfl)) dX2_quarrel_10 ⟨by first | exact Nat.zero_le _ | omega | decide, by first | exact Nat.zero_le _ | omega | decide⟩) ?_
  refine b_if_eq (tgt := 21) hx hb dX2_quarrel_13 (by decide) (fun c_2 => ?_) (fun c_2 => ?_)
  · refine lv_iconst (v := nI 0) hx hb dX2_quarrel_21 (by decide) ?_
    exact c_iret (v := nI 0) (by first | rfl | exact (bI_t (by simp [c_1, h_jx, k_jx, c_2])).symm | exact (bI_f (by simp [c_1, h_jx, k_jx, c_2])).symm) hx hb hr rfl hlocks (mH.to (by simp [mQuarrel, c_1, h_jx, k_jx, c_2, pif_true, pif_false]) rfl rfl hw.1) hw.2 dX2_quarrel_22
  obtain ⟨jy, h_jy, rfl⟩ := vp_in_of c_2 (by omega)
  have k_jy : (nI jy).toNatClampNeg = jy := nI_clamp (by omega)
  refine lv_iload_n hx hb dX2_quarrel_16 rfl (lv_at hl 1 rfl) ?_
  refine lv_iload_n hx hb dX2_quarrel_17 rfl (lv_at hl 2 rfl) ?_
  refine n_icmp_ne (tgt := 23) hx hb dX2_quarrel_18 (by decide) (by omega) (by omega) (fun c_3 => ?_) (fun c_3 => ?_)
  · refine lv_aload_n hx hb dX2_quarrel_23 rfl (lv_at hl 0 rfl) ?_
    refine lv_iload_n hx hb dX2_quarrel_24 rfl (lv_at hl 1 rfl) ?_
    refine lv_iload_n hx hb dX2_quarrel_25 rfl (lv_at hl 2 rfl) ?_
    refine lv_iload_n hx hb dX2_quarrel_26 rfl (lv_at hl 3 rfl) ?_
    refine c_call (va_runV (As := [.int (nI jx), .int (nI jy), .int w]) (rest := []) ⟨hx, hb, hml, hown, hts⟩ (met_X2_part l G ad M Z V jx jy w (M 0 (10 + 5 * jx + 4)) (by omega) rfl) (cv_X2_X2_part hts ⟨Nat.le_of_ble_eq_true rfl, Nat.le_of_ble_eq_true rfl⟩) (cP.preV hK hw.1 (hw.1.recv hK)) rfl rfl hl.1 rfl (lv_room (Nat.le_of_ble_eq_true rfl)) dX2_quarrel_27 ⟨by first | exact Nat.zero_le _ | omega | decide, by first | exact Nat.zero_le _ | omega | decide⟩) hw.2 (fun q _ h => h) (fun q h => h) (fun H locs hw _ _ hS => ?_)
    replace hw := MS.mk hw hS
    refine lv_aload_n hx hb dX2_quarrel_30 rfl (lv_at hl 0 rfl) ?_
    refine lv_iload_n hx hb dX2_quarrel_31 rfl (lv_at hl 2 rfl) ?_
    refine lv_iload_n hx hb dX2_quarrel_32 rfl (lv_at hl 1 rfl) ?_
    refine lv_iload_n hx hb dX2_quarrel_33 rfl (lv_at hl 3 rfl) ?_
    refine c_call (va_runV (As := [.int (nI jy), .int (nI jx), .int w]) (rest := []) ⟨hx, hb, hml, hown, hts⟩ (met_X2_part l G ad (up2 M 0 (10 + 5 * jx + 4) (mQ (M 0 (10 + 5 * jx + 4)) jy w)) Z V jy jx w (M 0 (10 + 5 * jy + 4)) (by omega) ((up2_ne (Or.inr (by omega))).trans rfl)) (cv_X2_X2_part hts ⟨Nat.le_of_ble_eq_true rfl, Nat.le_of_ble_eq_true rfl⟩) (cP.preV hK hw.1 (hw.1.recv hK)) rfl rfl hl.1 rfl (lv_room (Nat.le_of_ble_eq_true rfl)) dX2_quarrel_34 ⟨by first | exact Nat.zero_le _ | omega | decide, by first | exact Nat.zero_le _ | omega | decide⟩) hw.2 (fun q _ h => h) (fun q h => h) (fun H locs hw _ _ hS => ?_)
    replace hw := MS.mk hw hS
    refine lv_iconst (v := nI 1) hx hb dX2_quarrel_37 (by decide) ?_
    exact c_iret (v := nI 1) (by first | rfl | exact (bI_t (by simp [c_1, h_jx, k_jx, c_2, h_jy, k_jy, c_3, nI_eq (show jx < 2 ^ 31 by omega) (show jy < 2 ^ 31 by omega)])).symm | exact (bI_f (by simp [c_1, h_jx, k_jx, c_2, h_jy, k_jy, c_3, nI_eq (show jx < 2 ^ 31 by omega) (show jy < 2 ^ 31 by omega)])).symm) hx hb hr rfl hlocks (mH.to (by simp [mQuarrel, c_1, h_jx, k_jx, c_2, h_jy, k_jy, c_3, pif_true, pif_false, nI_eq (show jx < 2 ^ 31 by omega) (show jy < 2 ^ 31 by omega)]) rfl rfl hw.1) hw.2 dX2_quarrel_38
  refine lv_iconst (v := nI 0) hx hb dX2_quarrel_21 (by decide) ?_
  exact c_iret (v := nI 0) (by first | rfl | exact (bI_t (by simp [c_1, h_jx, k_jx, c_2, h_jy, k_jy, c_3, nI_eq (show jx < 2 ^ 31 by omega) (show jy < 2 ^ 31 by omega)])).symm | exact (bI_f (by simp [c_1, h_jx, k_jx, c_2, h_jy, k_jy, c_3, nI_eq (show jx < 2 ^ 31 by omega) (show jy < 2 ^ 31 by omega)])).symm) hx hb hr rfl hlocks (mH.to (by simp [mQuarrel, c_1, h_jx, k_jx, c_2, h_jy, k_jy, c_3, pif_true, pif_false, nI_eq (show jx < 2 ^ 31 by omega) (show jy < 2 ^ 31 by omega)]) rfl rfl hw.1) hw.2 dX2_quarrel_22
set_option maxHeartbeats 4000000 in
set_option maxRecDepth 100000 in
theorem met_X2_kind (l : Launch) (G : gG) (ad : Nat → Nat) (M Z : Nat → Nat → Int32) (V : Nat → Nat → Int64) (x y z : Int32) (nk : Nat) (en : M 0 1 = nI nk) (hn : nk ≤ 6) : Met l yX2_kind (ws_ yX2_kind cX2_kind 5 (some .int)) ({ frames := 1, cells := 0, slots := 0, locals := 22 } : Room) (cP G [.ref (ad 0), .int x, .int y, .int z] (mH G ad M Z V)) (cQ (some (.int (pif (mKiOk x y z nk) (nI nk) (-1)))) (mH G ad (pif (mKiOk x y z nk) (mKiPut M nk x y z) M) Z V) (mA ad)) 0 0 (mA ad) := by
  refine c_start (by decide) (Nat.le_of_ble_eq_true rfl) ?_
  intro p e s m below meth c hx hb hr hlocks hml hown hts hB hK ls hl
  have hw := MS.of hB
  have hl : lv_has ls 5 [(0, .ref (ad 0)), (1, .int x), (2, .int y), (3, .int z)] := hl
  refine lv_iload_n hx hb dX2_kind_0 rfl (lv_at hl 1 rfl) ?_
  refine lv_iconst (v := nI 1) hx hb dX2_kind_1 (by decide) ?_
  refine lv_bipush (v := nI 30) hx hb dX2_kind_2 (by decide) ?_
  refine c_read (va_runS (As := [.int x, .int (nI 1), .int (nI 30)]) (rest := []) ⟨hx, hb, hml, hown, hts⟩ (met_X2_isIn l G x (nI 1) (nI 30)) (cs_X2_X2_isIn hts ⟨Nat.le_of_ble_eq_true rfl, Nat.le_of_ble_eq_true rfl⟩) (cP.pre hK trivial) rfl rfl hl.1 rfl (lv_room (Nat.le_of_ble_eq_true rfl)) dX2_kind_4 ⟨by first | exact Nat.zero_le _ | omega | decide, by first | exact Nat.zero_le _ | omega | decide⟩) ?_
  refine b_if_eq (tgt := 42) hx hb dX2_kind_7 (by decide) (fun c_1 => ?_) (fun c_1 => ?_)
  · refine lv_iconst (v := (-1)) hx hb dX2_kind_42 (by decide) ?_
    exact c_iret (v := (-1)) (by first | rfl | simp [mKiOk, mKiPut, c_1, pif_true, pif_false]) hx hb hr rfl hlocks (mH.to (by first | rfl | simp [mKiOk, mKiPut, c_1, pif_true, pif_false]) rfl rfl hw.1) hw.2 dX2_kind_43
  refine lv_iload_n hx hb dX2_kind_10 rfl (lv_at hl 2 rfl) ?_
  refine lv_iconst (v := nI 0) hx hb dX2_kind_11 (by decide) ?_
  refine lv_bipush (v := nI 15) hx hb dX2_kind_12 (by decide) ?_
  refine c_read (va_runS (As := [.int y, .int (nI 0), .int (nI 15)]) (rest := []) ⟨hx, hb, hml, hown, hts⟩ (met_X2_isIn l G y (nI 0) (nI 15)) (cs_X2_X2_isIn hts ⟨Nat.le_of_ble_eq_true rfl, Nat.le_of_ble_eq_true rfl⟩) (cP.pre hK trivial) rfl rfl hl.1 rfl (lv_room (Nat.le_of_ble_eq_true rfl)) dX2_kind_14 ⟨by first | exact Nat.zero_le _ | omega | decide, by first | exact Nat.zero_le _ | omega | decide⟩) ?_
  refine b_if_eq (tgt := 42) hx hb dX2_kind_17 (by decide) (fun c_2 => ?_) (fun c_2 => ?_)
  · refine lv_iconst (v := (-1)) hx hb dX2_kind_42 (by decide) ?_
    exact c_iret (v := (-1)) (by first | rfl | simp [mKiOk, mKiPut, c_1, c_2, pif_true, pif_false]) hx hb hr rfl hlocks (mH.to (by first | rfl | simp [mKiOk, mKiPut, c_1, c_2, pif_true, pif_false]) rfl rfl hw.1) hw.2 dX2_kind_43
  refine lv_iload_n hx hb dX2_kind_20 rfl (lv_at hl 3 rfl) ?_
  refine lv_iconst (v := nI 0) hx hb dX2_kind_21 (by decide) ?_
  refine lv_sipush (v := nI 999) hx hb dX2_kind_22 (by decide) ?_
  refine c_read (va_runS (As := [.int z, .int (nI 0), .int (nI 999)]) (rest := []) ⟨hx, hb, hml, hown, hts⟩ (met_X2_isIn l G z (nI 0) (nI 999)) (cs_X2_X2_isIn hts ⟨Nat.le_of_ble_eq_true rfl, Nat.le_of_ble_eq_true rfl⟩) (cP.pre hK trivial) rfl rfl hl.1 rfl (lv_room (Nat.le_of_ble_eq_true rfl)) dX2_kind_25 ⟨by first | exact Nat.zero_le _ | omega | decide, by first | exact Nat.zero_le _ | omega | decide⟩) ?_
  refine b_if_eq (tgt := 42) hx hb dX2_kind_28 (by decide) (fun c_3 => ?_) (fun c_3 => ?_)
  · refine lv_iconst (v := (-1)) hx hb dX2_kind_42 (by decide) ?_
    exact c_iret (v := (-1)) (by first | rfl | simp [mKiOk, mKiPut, c_1, c_2, c_3, pif_true, pif_false]) hx hb hr rfl hlocks (mH.to (by first | rfl | simp [mKiOk, mKiPut, c_1, c_2, c_3, pif_true, pif_false]) rfl rfl hw.1) hw.2 dX2_kind_43
  refine lv_aload_n hx hb dX2_kind_31 rfl (lv_at hl 0 rfl) ?_
  refine m_g_a hx hb hts hown hK hw dX2_kind_32 ?_
  refine lv_iconst (v := nI 1) hx hb dX2_kind_35 (by decide) ?_
  refine m_l_a (j := 1) (v := nI nk) hx hb hK hw en (by decide) dX2_kind_36 ?_
  refine lv_bipush (v := nI 6) hx hb dX2_kind_37 (by decide) ?_
  refine n_icmp_ne (tgt := 44) hx hb dX2_kind_39 (by decide) (by omega) (by decide) (fun c_4 => ?_) (fun c_4 => ?_)
  · refine lv_bipush (v := nI 40) hx hb dX2_kind_44 (by decide) ?_
    refine lv_iconst (v := nI 3) hx hb dX2_kind_46 (by decide) ?_
    refine lv_aload_n hx hb dX2_kind_47 rfl (lv_at hl 0 rfl) ?_
    refine m_g_a hx hb hts hown hK hw dX2_kind_48 ?_
    refine lv_iconst (v := nI 1) hx hb dX2_kind_51 (by decide) ?_
    refine m_l_a (j := 1) (v := nI nk) hx hb hK hw en (by decide) dX2_kind_52 ?_
    refine n_imul hx hb dX2_kind_53 ?_
    refine n_iadd hx hb dX2_kind_54 ?_
    refine lv_istore (lv' := [(4, .int (nI (40 + 3 * nk))), (0, .ref (ad 0)), (1, .int x), (2, .int y), (3, .int z)]) hx hb dX2_kind_55 hl (by decide) rfl (fun ls hl => ?_)
    refine lv_aload_n hx hb dX2_kind_57 rfl (lv_at hl 1 rfl) ?_
    refine m_g_a hx hb hts hown hK hw dX2_kind_58 ?_
    refine lv_iload hx hb dX2_kind_61 (lv_at hl 0 rfl) ?_
    refine lv_iload_n hx hb dX2_kind_63 rfl (lv_at hl 2 rfl) ?_
    refine m_s_a (j := 40 + 3 * nk) hx hb hK hw (by omega) dX2_kind_64 (fun H locs hw => ?_)
    refine lv_aload_n hx hb dX2_kind_65 rfl (lv_at hl 1 rfl) ?_
    refine m_g_a hx hb hts hown hK hw dX2_kind_66 ?_
    refine lv_iload hx hb dX2_kind_69 (lv_at hl 0 rfl) ?_
    refine lv_iconst (v := nI 1) hx hb dX2_kind_71 (by decide) ?_
    refine n_iadd hx hb dX2_kind_72 ?_
    refine lv_iload_n hx hb dX2_kind_73 rfl (lv_at hl 3 rfl) ?_
    refine m_s_a (j := 40 + 3 * nk + 1) hx hb hK hw (by omega) dX2_kind_74 (fun H locs hw => ?_)
    refine lv_aload_n hx hb dX2_kind_75 rfl (lv_at hl 1 rfl) ?_
    refine m_g_a hx hb hts hown hK hw dX2_kind_76 ?_
    refine lv_iload hx hb dX2_kind_79 (lv_at hl 0 rfl) ?_
    refine lv_iconst (v := nI 2) hx hb dX2_kind_81 (by decide) ?_
    refine n_iadd hx hb dX2_kind_82 ?_
    refine lv_iload_n hx hb dX2_kind_83 rfl (lv_at hl 4 rfl) ?_
    refine m_s_a (j := 40 + 3 * nk + 2) hx hb hK hw (by omega) dX2_kind_84 (fun H locs hw => ?_)
    refine lv_aload_n hx hb dX2_kind_85 rfl (lv_at hl 1 rfl) ?_
    refine m_g_a hx hb hts hown hK hw dX2_kind_86 ?_
    refine lv_iconst (v := nI 1) hx hb dX2_kind_89 (by decide) ?_
    refine lv_dup2_11 hx hb dX2_kind_90 rfl rfl ?_
    refine m_l_a (j := 1) (v := nI nk) hx hb hK hw ((up2_ne (Or.inr (by omega))).trans ((up2_ne (Or.inr (by omega))).trans ((up2_ne (Or.inr (by omega))).trans en))) (by decide) dX2_kind_91 ?_
    refine lv_iconst (v := nI 1) hx hb dX2_kind_92 (by decide) ?_
    refine n_iadd hx hb dX2_kind_93 ?_
    refine m_s_a (j := 1) hx hb hK hw (by decide) dX2_kind_94 (fun H locs hw => ?_)
    refine lv_aload_n hx hb dX2_kind_95 rfl (lv_at hl 1 rfl) ?_
    refine m_g_a hx hb hts hown hK hw dX2_kind_96 ?_
    refine lv_iconst (v := nI 1) hx hb dX2_kind_99 (by decide) ?_
    refine m_l_a (j := 1) (v := nI (nk + 1)) hx hb hK hw up2_at (by decide) dX2_kind_100 ?_
    refine lv_iconst (v := nI 1) hx hb dX2_kind_101 (by decide) ?_
    refine n_isub hx hb (by omega) dX2_kind_102 ?_
    exact c_iret (v := nI ((nk + 1) - 1)) (by first | rfl | simp [mKiOk, mKiPut, c_1, c_2, c_3, c_4, pif_true, pif_false]) hx hb hr rfl hlocks (mH.to (by first | rfl | simp [mKiOk, mKiPut, c_1, c_2, c_3, c_4, pif_true, pif_false]) rfl rfl hw.1) hw.2 dX2_kind_103
  refine lv_iconst (v := (-1)) hx hb dX2_kind_42 (by decide) ?_
  exact c_iret (v := (-1)) (by first | rfl | simp [mKiOk, mKiPut, c_1, c_2, c_3, c_4, pif_true, pif_false]) hx hb hr rfl hlocks (mH.to (by first | rfl | simp [mKiOk, mKiPut, c_1, c_2, c_3, c_4, pif_true, pif_false]) rfl rfl hw.1) hw.2 dX2_kind_43
set_option maxHeartbeats 4000000 in
set_option maxRecDepth 100000 in
theorem met_X2_four (l : Launch) (G : gG) (ad : Nat → Nat) (M Z : Nat → Nat → Int32) (V : Nat → Nat → Int64) (v : Int32) (t : Nat) (et : M 4 0 = nI t) (ht : t + 4 ≤ 300) : Met l yX2_four (ws_ yX2_four cX2_four 3 none) ({ frames := 0, cells := 0, slots := 0, locals := 0 } : Room) (cP G [.ref (ad 0), .int v] (mH G ad M Z V)) (cQ none (mH G ad (mFour M t v) Z V) (mA ad)) 0 0 (mA ad) := by
  refine c_start (by decide) (Nat.le_of_ble_eq_true rfl) ?_
  intro p e s m below meth c hx hb hr hlocks hml hown hts hB hK ls hl
  have hw := MS.of hB
  have hl : lv_has ls 3 [(0, .ref (ad 0)), (1, .int v)] := hl
  refine lv_bipush (v := nI 24) hx hb dX2_four_0 (by decide) ?_
  refine lv_istore_n (lv' := [(2, .int (nI 24)), (0, .ref (ad 0)), (1, .int v)]) hx hb dX2_four_2 rfl hl (by decide) rfl (fun ls hl => ?_)
  refine lv_iload_n hx hb dX2_four_3 rfl (lv_at hl 0 rfl) ?_
  refine n_if_lt (tgt := 39) hx hb dX2_four_4 (by decide) (by decide) ?_
  refine lv_aload_n hx hb dX2_four_7 rfl (lv_at hl 1 rfl) ?_
  refine m_g_tape hx hb hts hown hK hw dX2_four_8 ?_
  refine lv_aload_n hx hb dX2_four_11 rfl (lv_at hl 1 rfl) ?_
  refine m_g_taped hx hb hts hown hK hw dX2_four_12 ?_
  rw [show M 4 0 = nI t from et]
  refine lv_iload_n hx hb dX2_four_15 rfl (lv_at hl 2 rfl) ?_
  refine lv_iload_n hx hb dX2_four_16 rfl (lv_at hl 0 rfl) ?_
  refine lv_ishr hx hb dX2_four_17 ?_
  refine lv_sipush (v := nI 255) hx hb dX2_four_18 (by decide) ?_
  refine lv_iand hx hb dX2_four_21 ?_
  refine m_s_tape (j := t) hx hb hK hw (by omega) dX2_four_22 (fun H locs hw => ?_)
  refine lv_aload_n hx hb dX2_four_23 rfl (lv_at hl 1 rfl) ?_
  refine lv_dup hx hb dX2_four_24 rfl ?_
  refine m_g_taped hx hb hts hown hK hw dX2_four_25 ?_
  rw [show (up2 M 3 t ((v >>> ((nI 24) &&& 31)) &&& (nI 255))) 4 0 = nI t from (up2_ne (Or.inl (by decide))).trans et]
  refine lv_iconst (v := nI 1) hx hb dX2_four_28 (by decide) ?_
  refine n_iadd hx hb dX2_four_29 ?_
  refine m_p_taped hx hb hts hown hK hw dX2_four_30 (fun H locs hw => ?_)
  refine lv_iinc (v := nI 16) (lv' := [(2, .int (nI 16)), (0, .ref (ad 0)), (1, .int v)]) hx hb dX2_four_33 hl (k := 0) rfl (by decide) (by decide) rfl (fun ls hl => ?_)
  refine lv_goto (tgt := 3) hx hb dX2_four_36 (by decide) ?_
  refine lv_iload_n hx hb dX2_four_3 rfl (lv_at hl 0 rfl) ?_
  refine n_if_lt (tgt := 39) hx hb dX2_four_4 (by decide) (by decide) ?_
  refine lv_aload_n hx hb dX2_four_7 rfl (lv_at hl 1 rfl) ?_
  refine m_g_tape hx hb hts hown hK hw dX2_four_8 ?_
  refine lv_aload_n hx hb dX2_four_11 rfl (lv_at hl 1 rfl) ?_
  refine m_g_taped hx hb hts hown hK hw dX2_four_12 ?_
  rw [show (up2 (up2 M 3 t ((v >>> ((nI 24) &&& 31)) &&& (nI 255))) 4 0 (nI (t + 1))) 4 0 = nI (t + 1) from up2_at]
  refine lv_iload_n hx hb dX2_four_15 rfl (lv_at hl 2 rfl) ?_
  refine lv_iload_n hx hb dX2_four_16 rfl (lv_at hl 0 rfl) ?_
  refine lv_ishr hx hb dX2_four_17 ?_
  refine lv_sipush (v := nI 255) hx hb dX2_four_18 (by decide) ?_
  refine lv_iand hx hb dX2_four_21 ?_
  refine m_s_tape (j := t + 1) hx hb hK hw (by omega) dX2_four_22 (fun H locs hw => ?_)
  refine lv_aload_n hx hb dX2_four_23 rfl (lv_at hl 1 rfl) ?_
  refine lv_dup hx hb dX2_four_24 rfl ?_
  refine m_g_taped hx hb hts hown hK hw dX2_four_25 ?_
  rw [show (up2 (up2 (up2 M 3 t ((v >>> ((nI 24) &&& 31)) &&& (nI 255))) 4 0 (nI (t + 1))) 3 (t + 1) ((v >>> ((nI 16) &&& 31)) &&& (nI 255))) 4 0 = nI (t + 1) from (up2_ne (Or.inl (by decide))).trans up2_at]
  refine lv_iconst (v := nI 1) hx hb dX2_four_28 (by decide) ?_
  refine n_iadd hx hb dX2_four_29 ?_
  refine m_p_taped hx hb hts hown hK hw dX2_four_30 (fun H locs hw => ?_)
  refine lv_iinc (v := nI 8) (lv' := [(2, .int (nI 8)), (0, .ref (ad 0)), (1, .int v)]) hx hb dX2_four_33 hl (k := 0) rfl (by decide) (by decide) rfl (fun ls hl => ?_)
  refine lv_goto (tgt := 3) hx hb dX2_four_36 (by decide) ?_
  refine lv_iload_n hx hb dX2_four_3 rfl (lv_at hl 0 rfl) ?_
  refine n_if_lt (tgt := 39) hx hb dX2_four_4 (by decide) (by decide) ?_
  refine lv_aload_n hx hb dX2_four_7 rfl (lv_at hl 1 rfl) ?_
  refine m_g_tape hx hb hts hown hK hw dX2_four_8 ?_
  refine lv_aload_n hx hb dX2_four_11 rfl (lv_at hl 1 rfl) ?_
  refine m_g_taped hx hb hts hown hK hw dX2_four_12 ?_
  rw [show (up2 (up2 (up2 (up2 M 3 t ((v >>> ((nI 24) &&& 31)) &&& (nI 255))) 4 0 (nI (t + 1))) 3 (t + 1) ((v >>> ((nI 16) &&& 31)) &&& (nI 255))) 4 0 (nI (t + 2))) 4 0 = nI (t + 2) from up2_at]
  refine lv_iload_n hx hb dX2_four_15 rfl (lv_at hl 2 rfl) ?_
  refine lv_iload_n hx hb dX2_four_16 rfl (lv_at hl 0 rfl) ?_
  refine lv_ishr hx hb dX2_four_17 ?_
  refine lv_sipush (v := nI 255) hx hb dX2_four_18 (by decide) ?_
  refine lv_iand hx hb dX2_four_21 ?_
  refine m_s_tape (j := t + 2) hx hb hK hw (by omega) dX2_four_22 (fun H locs hw => ?_)
  refine lv_aload_n hx hb dX2_four_23 rfl (lv_at hl 1 rfl) ?_
  refine lv_dup hx hb dX2_four_24 rfl ?_
  refine m_g_taped hx hb hts hown hK hw dX2_four_25 ?_
  rw [show (up2 (up2 (up2 (up2 (up2 M 3 t ((v >>> ((nI 24) &&& 31)) &&& (nI 255))) 4 0 (nI (t + 1))) 3 (t + 1) ((v >>> ((nI 16) &&& 31)) &&& (nI 255))) 4 0 (nI (t + 2))) 3 (t + 2) ((v >>> ((nI 8) &&& 31)) &&& (nI 255))) 4 0 = nI (t + 2) from (up2_ne (Or.inl (by decide))).trans up2_at]
  refine lv_iconst (v := nI 1) hx hb dX2_four_28 (by decide) ?_
  refine n_iadd hx hb dX2_four_29 ?_
  refine m_p_taped hx hb hts hown hK hw dX2_four_30 (fun H locs hw => ?_)
  refine lv_iinc (v := nI 0) (lv' := [(2, .int (nI 0)), (0, .ref (ad 0)), (1, .int v)]) hx hb dX2_four_33 hl (k := 0) rfl (by decide) (by decide) rfl (fun ls hl => ?_)
  refine lv_goto (tgt := 3) hx hb dX2_four_36 (by decide) ?_
  refine lv_iload_n hx hb dX2_four_3 rfl (lv_at hl 0 rfl) ?_
  refine n_if_lt (tgt := 39) hx hb dX2_four_4 (by decide) (by decide) ?_
  refine lv_aload_n hx hb dX2_four_7 rfl (lv_at hl 1 rfl) ?_
  refine m_g_tape hx hb hts hown hK hw dX2_four_8 ?_
  refine lv_aload_n hx hb dX2_four_11 rfl (lv_at hl 1 rfl) ?_
  refine m_g_taped hx hb hts hown hK hw dX2_four_12 ?_
  rw [show (up2 (up2 (up2 (up2 (up2 (up2 M 3 t ((v >>> ((nI 24) &&& 31)) &&& (nI 255))) 4 0 (nI (t + 1))) 3 (t + 1) ((v >>> ((nI 16) &&& 31)) &&& (nI 255))) 4 0 (nI (t + 2))) 3 (t + 2) ((v >>> ((nI 8) &&& 31)) &&& (nI 255))) 4 0 (nI (t + 3))) 4 0 = nI (t + 3) from up2_at]
  refine lv_iload_n hx hb dX2_four_15 rfl (lv_at hl 2 rfl) ?_
  refine lv_iload_n hx hb dX2_four_16 rfl (lv_at hl 0 rfl) ?_
  refine lv_ishr hx hb dX2_four_17 ?_
  refine lv_sipush (v := nI 255) hx hb dX2_four_18 (by decide) ?_
  refine lv_iand hx hb dX2_four_21 ?_
  refine m_s_tape (j := t + 3) hx hb hK hw (by omega) dX2_four_22 (fun H locs hw => ?_)
  refine lv_aload_n hx hb dX2_four_23 rfl (lv_at hl 1 rfl) ?_
  refine lv_dup hx hb dX2_four_24 rfl ?_
  refine m_g_taped hx hb hts hown hK hw dX2_four_25 ?_
  rw [show (up2 (up2 (up2 (up2 (up2 (up2 (up2 M 3 t ((v >>> ((nI 24) &&& 31)) &&& (nI 255))) 4 0 (nI (t + 1))) 3 (t + 1) ((v >>> ((nI 16) &&& 31)) &&& (nI 255))) 4 0 (nI (t + 2))) 3 (t + 2) ((v >>> ((nI 8) &&& 31)) &&& (nI 255))) 4 0 (nI (t + 3))) 3 (t + 3) ((v >>> ((nI 0) &&& 31)) &&& (nI 255))) 4 0 = nI (t + 3) from (up2_ne (Or.inl (by decide))).trans up2_at]
  refine lv_iconst (v := nI 1) hx hb dX2_four_28 (by decide) ?_
  refine n_iadd hx hb dX2_four_29 ?_
  refine m_p_taped hx hb hts hown hK hw dX2_four_30 (fun H locs hw => ?_)
  refine lv_iinc (v := (-8)) (lv' := [(2, .int (-8)), (0, .ref (ad 0)), (1, .int v)]) hx hb dX2_four_33 hl (k := 0) rfl (by decide) (by decide) rfl (fun ls hl => ?_)
  refine lv_goto (tgt := 3) hx hb dX2_four_36 (by decide) ?_
  refine lv_iload_n hx hb dX2_four_3 rfl (lv_at hl 0 rfl) ?_
  refine lv_if_lt (tgt := 39) hx hb dX2_four_4 (by decide) (fun _ => ?_) (fun h9 => absurd (by decide) h9)
  exact c_vret hx hb hr hlocks (mH.to (by first | rfl | simp [pif_true, pif_false]) rfl rfl hw.1) hw.2 dX2_four_39
set_option maxHeartbeats 4000000 in
set_option maxRecDepth 100000 in
theorem met_X2_feed (l : Launch) (G : gG) (ad : Nat → Nat) (M Z : Nat → Nat → Int32) (V : Nat → Nat → Int64) (a b d f g : Int32) (t : Nat) (et : M 4 0 = nI t) (ht : t ≤ 300) : Met l yX2_feed (ws_ yX2_feed cX2_feed 6 (some .int)) ({ frames := 1, cells := 0, slots := 0, locals := 22 } : Room) (cP G [.ref (ad 0), .int a, .int b, .int d, .int f, .int g] (mH G ad M Z V)) (cQ (some (.int (pif (t + 20 ≤ 300) (nI (t + 20)) (-1)))) (mH G ad (pif (t + 20 ≤ 300) (mFeed M t a b d f g) M) Z V) (mA ad)) 0 0 (mA ad) := by
  refine c_start (by decide) (Nat.le_of_ble_eq_true rfl) ?_
  intro p e s m below meth c hx hb hr hlocks hml hown hts hB hK ls hl
  have hw := MS.of hB
  have hl : lv_has ls 6 [(0, .ref (ad 0)), (1, .int a), (2, .int b), (3, .int d), (4, .int f), (5, .int g)] := hl
  refine lv_aload_n hx hb dX2_feed_0 rfl (lv_at hl 0 rfl) ?_
  refine m_g_taped hx hb hts hown hK hw dX2_feed_1 ?_
  rw [show M 4 0 = nI t from et]
  refine lv_bipush (v := nI 20) hx hb dX2_feed_4 (by decide) ?_
  refine n_iadd hx hb dX2_feed_6 ?_
  refine lv_sipush (v := nI 300) hx hb dX2_feed_7 (by decide) ?_
  refine n_icmp_le (tgt := 15) hx hb dX2_feed_10 (by decide) (by omega) (by decide) (fun c_1 => ?_) (fun c_1 => ?_)
  · refine lv_aload_n hx hb dX2_feed_15 rfl (lv_at hl 0 rfl) ?_
    refine lv_iload_n hx hb dX2_feed_16 rfl (lv_at hl 1 rfl) ?_
    refine c_call (va_runV (As := [.int a]) (rest := []) ⟨hx, hb, hml, hown, hts⟩ (met_X2_four l G ad M Z V a t et (by omega)) (cv_X2_X2_four hts ⟨Nat.le_of_ble_eq_true rfl, Nat.le_of_ble_eq_true rfl⟩) (cP.preV hK hw.1 (hw.1.recv hK)) rfl rfl hl.1 rfl (lv_room (Nat.le_of_ble_eq_true rfl)) dX2_feed_17 ⟨by first | exact Nat.zero_le _ | omega | decide, by first | exact Nat.zero_le _ | omega | decide⟩) hw.2 (fun q _ h => h) (fun q h => h) (fun H locs hw _ _ hS => ?_)
    replace hw := MS.mk hw hS
    refine lv_aload_n hx hb dX2_feed_20 rfl (lv_at hl 0 rfl) ?_
    refine lv_iload_n hx hb dX2_feed_21 rfl (lv_at hl 2 rfl) ?_
    refine c_call (va_runV (As := [.int b]) (rest := []) ⟨hx, hb, hml, hown, hts⟩ (met_X2_four l G ad (mFour M t a) Z V b (t + 4) mFour_4 (by omega)) (cv_X2_X2_four hts ⟨Nat.le_of_ble_eq_true rfl, Nat.le_of_ble_eq_true rfl⟩) (cP.preV hK hw.1 (hw.1.recv hK)) rfl rfl hl.1 rfl (lv_room (Nat.le_of_ble_eq_true rfl)) dX2_feed_22 ⟨by first | exact Nat.zero_le _ | omega | decide, by first | exact Nat.zero_le _ | omega | decide⟩) hw.2 (fun q _ h => h) (fun q h => h) (fun H locs hw _ _ hS => ?_)
    replace hw := MS.mk hw hS
    refine lv_aload_n hx hb dX2_feed_25 rfl (lv_at hl 0 rfl) ?_
    refine lv_iload_n hx hb dX2_feed_26 rfl (lv_at hl 3 rfl) ?_
    refine c_call (va_runV (As := [.int d]) (rest := []) ⟨hx, hb, hml, hown, hts⟩ (met_X2_four l G ad (mFour (mFour M t a) (t + 4) b) Z V d (t + 8) mFour_4 (by omega)) (cv_X2_X2_four hts ⟨Nat.le_of_ble_eq_true rfl, Nat.le_of_ble_eq_true rfl⟩) (cP.preV hK hw.1 (hw.1.recv hK)) rfl rfl hl.1 rfl (lv_room (Nat.le_of_ble_eq_true rfl)) dX2_feed_27 ⟨by first | exact Nat.zero_le _ | omega | decide, by first | exact Nat.zero_le _ | omega | decide⟩) hw.2 (fun q _ h => h) (fun q h => h) (fun H locs hw _ _ hS => ?_)
    replace hw := MS.mk hw hS
    refine lv_aload_n hx hb dX2_feed_30 rfl (lv_at hl 0 rfl) ?_
    refine lv_iload hx hb dX2_feed_31 (lv_at hl 4 rfl) ?_
    refine c_call (va_runV (As := [.int f]) (rest := []) ⟨hx, hb, hml, hown, hts⟩ (met_X2_four l G ad (mFour (mFour (mFour M t a) (t + 4) b) (t + 8) d) Z V f (t + 12) mFour_4 (by omega)) (cv_X2_X2_four hts ⟨Nat.le_of_ble_eq_true rfl, Nat.le_of_ble_eq_true rfl⟩) (cP.preV hK hw.1 (hw.1.recv hK)) rfl rfl hl.1 rfl (lv_room (Nat.le_of_ble_eq_true rfl)) dX2_feed_33 ⟨by first | exact Nat.zero_le _ | omega | decide, by first | exact Nat.zero_le _ | omega | decide⟩) hw.2 (fun q _ h => h) (fun q h => h) (fun H locs hw _ _ hS => ?_)
    replace hw := MS.mk hw hS
    refine lv_aload_n hx hb dX2_feed_36 rfl (lv_at hl 0 rfl) ?_
    refine lv_iload hx hb dX2_feed_37 (lv_at hl 5 rfl) ?_
    refine c_call (va_runV (As := [.int g]) (rest := []) ⟨hx, hb, hml, hown, hts⟩ (met_X2_four l G ad (mFour (mFour (mFour (mFour M t a) (t + 4) b) (t + 8) d) (t + 12) f) Z V g (t + 16) mFour_4 (by omega)) (cv_X2_X2_four hts ⟨Nat.le_of_ble_eq_true rfl, Nat.le_of_ble_eq_true rfl⟩) (cP.preV hK hw.1 (hw.1.recv hK)) rfl rfl hl.1 rfl (lv_room (Nat.le_of_ble_eq_true rfl)) dX2_feed_39 ⟨by first | exact Nat.zero_le _ | omega | decide, by first | exact Nat.zero_le _ | omega | decide⟩) hw.2 (fun q _ h => h) (fun q h => h) (fun H locs hw _ _ hS => ?_)
    replace hw := MS.mk hw hS
    refine lv_aload_n hx hb dX2_feed_42 rfl (lv_at hl 0 rfl) ?_
    refine m_g_taped hx hb hts hown hK hw dX2_feed_43 ?_
    rw [show (mFour (mFour (mFour (mFour (mFour M t a) (t + 4) b) (t + 8) d) (t + 12) f) (t + 16) g) 4 0 = nI (t + 20) from mFour_4]
    exact c_iret (v := nI (t + 20)) (by first | rw [pif_t (by omega)] | rw [pif_f (by omega)]) hx hb hr rfl hlocks (mH.to (by first | (rw [pif_t (by omega)]; rfl) | rw [pif_f (by omega)]) rfl rfl hw.1) hw.2 dX2_feed_46
  refine lv_iconst (v := (-1)) hx hb dX2_feed_13 (by decide) ?_
  exact c_iret (v := (-1)) (by first | rw [pif_t (by omega)] | rw [pif_f (by omega)]) hx hb hr rfl hlocks (mH.to (by first | (rw [pif_t (by omega)]; rfl) | rw [pif_f (by omega)]) rfl rfl hw.1) hw.2 dX2_feed_14
set_option maxHeartbeats 4000000 in
set_option maxRecDepth 100000 in
theorem met_X2_end (l : Launch) (G : gG) (ad : Nat → Nat) (M Z : Nat → Nat → Int32) (V : Nat → Nat → Int64) (x : Int32) (t : Nat) (et : M 4 0 = nI t) : Met l yX2_end (ws_ yX2_end cX2_end 2 (some .int)) ({ frames := 1, cells := 0, slots := 0, locals := 22 } : Room) (cP G [.ref (ad 0), .int x] (mH G ad M Z V)) (cQ (some (.int (pif (nI 0 ≤ x ∧ x ≤ nI t) x (-1)))) (mH G ad (pif (nI 0 ≤ x ∧ x ≤ nI t) (up2 M 4 0 x) M) Z V) (mA ad)) 0 0 (mA ad) := by
  refine c_start (by decide) (Nat.le_of_ble_eq_true rfl) ?_
  intro p e s m below meth c hx hb hr hlocks hml hown hts hB hK ls hl
  have hw := MS.of hB
  have hl : lv_has ls 2 [(0, .ref (ad 0)), (1, .int x)] := hl
  refine lv_iload_n hx hb dX2_end_0 rfl (lv_at hl 1 rfl) ?_
  refine lv_iconst (v := nI 0) hx hb dX2_end_1 (by decide) ?_
  refine lv_aload_n hx hb dX2_end_2 rfl (lv_at hl 0 rfl) ?_
  refine m_g_taped hx hb hts hown hK hw dX2_end_3 ?_
  rw [show M 4 0 = nI t from et]
  refine c_read (va_runS (As := [.int x, .int (nI 0), .int (nI t)]) (rest := []) ⟨hx, hb, hml, hown, hts⟩ (met_X2_isIn l G x (nI 0) (nI t)) (cs_X2_X2_isIn hts ⟨Nat.le_of_ble_eq_true rfl, Nat.le_of_ble_eq_true rfl⟩) (cP.pre hK trivial) rfl rfl hl.1 rfl (lv_room (Nat.le_of_ble_eq_true rfl)) dX2_end_6 ⟨by first | exact Nat.zero_le _ | omega | decide, by first | exact Nat.zero_le _ | omega | decide⟩) ?_
  refine b_if_ne (tgt := 14) hx hb dX2_end_9 (by decide) (fun c_1 => ?_) (fun c_1 => ?_)
  · refine lv_aload_n hx hb dX2_end_14 rfl (lv_at hl 0 rfl) ?_
    refine lv_iload_n hx hb dX2_end_15 rfl (lv_at hl 1 rfl) ?_
    refine m_p_taped hx hb hts hown hK hw dX2_end_16 (fun H locs hw => ?_)
    refine lv_iload_n hx hb dX2_end_19 rfl (lv_at hl 1 rfl) ?_
    exact c_iret (v := x) (by first | rfl | simp [c_1, pif_true, pif_false]) hx hb hr rfl hlocks (mH.to (by first | rfl | simp [c_1, pif_true, pif_false]) rfl rfl hw.1) hw.2 dX2_end_20
  refine lv_iconst (v := (-1)) hx hb dX2_end_12 (by decide) ?_
  exact c_iret (v := (-1)) (by first | rfl | simp [c_1, pif_true, pif_false]) hx hb hr rfl hlocks (mH.to (by first | rfl | simp [c_1, pif_true, pif_false]) rfl rfl hw.1) hw.2 dX2_end_13
set_option maxHeartbeats 4000000 in
set_option maxRecDepth 100000 in
theorem met_X2_fault (l : Launch) (G : gG) (ad : Nat → Nat) (M Z : Nat → Nat → Int32) (V : Nat → Nat → Int64) (x : Int32) : Met l yX2_fault (ws_ yX2_fault cX2_fault 2 (some .int)) ({ frames := 0, cells := 0, slots := 0, locals := 0 } : Room) (cP G [.ref (ad 0), .int x] (mH G ad M Z V)) (cR (some (.int (pif (x = 0) (M 5 0) (pif (x = nI 1) (M 6 0) (-1)))))) 0 0 (fun _ => False) := by
  refine c_start (by decide) (Nat.le_of_ble_eq_true rfl) ?_
  intro p e s m below meth c hx hb hr hlocks hml hown hts hB hK ls hl
  have hw := MS.of hB
  have hl : lv_has ls 2 [(0, .ref (ad 0)), (1, .int x)] := hl
  refine lv_iload_n hx hb dX2_fault_0 rfl (lv_at hl 1 rfl) ?_
  refine lv_if_ne (tgt := 11) hx hb dX2_fault_1 (by decide) (fun c_1 => ?_) (fun c_1 => ?_)
  · refine lv_iload_n hx hb dX2_fault_11 rfl (lv_at hl 1 rfl) ?_
    refine lv_iconst (v := nI 1) hx hb dX2_fault_12 (by decide) ?_
    refine lv_icmp_ne (tgt := 23) hx hb dX2_fault_13 (by decide) (fun c_2 => ?_) (fun c_2 => ?_)
    · refine lv_iconst (v := (-1)) hx hb dX2_fault_23 (by decide) ?_
      exact c_rret (v := (-1)) (by first | rfl | (rw [pif_t (by assumption)]) | (rw [pif_f (by assumption), pif_t (by assumption)]) | (rw [pif_f (by assumption), pif_f (by assumption)])) hx hb hr rfl hlocks dX2_fault_24 rfl rfl
    refine lv_aload_n hx hb dX2_fault_16 rfl (lv_at hl 0 rfl) ?_
    refine m_g_faultPlace hx hb hts hown hK hw dX2_fault_17 ?_
    refine lv_goto (tgt := 24) hx hb dX2_fault_20 (by decide) ?_
    exact c_rret (v := M 6 0) (by first | rfl | (rw [pif_t (by assumption)]) | (rw [pif_f (by assumption), pif_t (by assumption)]) | (rw [pif_f (by assumption), pif_f (by assumption)])) hx hb hr rfl hlocks dX2_fault_24 rfl rfl
  refine lv_aload_n hx hb dX2_fault_4 rfl (lv_at hl 0 rfl) ?_
  refine m_g_fault hx hb hts hown hK hw dX2_fault_5 ?_
  refine lv_goto (tgt := 24) hx hb dX2_fault_8 (by decide) ?_
  exact c_rret (v := M 5 0) (by first | rfl | (rw [pif_t (by assumption)]) | (rw [pif_f (by assumption), pif_t (by assumption)]) | (rw [pif_f (by assumption), pif_f (by assumption)])) hx hb hr rfl hlocks dX2_fault_24 rfl rfl
set_option maxHeartbeats 4000000 in
set_option maxRecDepth 100000 in
theorem met_X2_by (l : Launch) (G : gG) (ad : Nat → Nat) (M Z : Nat → Nat → Int32) (V : Nat → Nat → Int64) (x : Int32) : Met l yX2_by (ws_ yX2_by cX2_by 2 (some .boolean)) ({ frames := 1, cells := 0, slots := 0, locals := 22 } : Room) (cP G [.ref (ad 0), .int x] (mH G ad M Z V)) (cQ (some (.int (bI ((-1) ≤ x ∧ x ≤ M 0 4 - nI 1)))) (mH G ad (pif ((-1) ≤ x ∧ x ≤ M 0 4 - nI 1) (up2 M 0 5 x) M) Z V) (mA ad)) 0 0 (mA ad) := by
  refine c_start (by decide) (Nat.le_of_ble_eq_true rfl) ?_
  intro p e s m below meth c hx hb hr hlocks hml hown hts hB hK ls hl
  have hw := MS.of hB
  have hl : lv_has ls 2 [(0, .ref (ad 0)), (1, .int x)] := hl
  refine lv_iload_n hx hb dX2_by_0 rfl (lv_at hl 1 rfl) ?_
  refine lv_iconst (v := (-1)) hx hb dX2_by_1 (by decide) ?_
  refine lv_aload_n hx hb dX2_by_2 rfl (lv_at hl 0 rfl) ?_
  refine m_g_a hx hb hts hown hK hw dX2_by_3 ?_
  refine lv_iconst (v := nI 4) hx hb dX2_by_6 (by decide) ?_
  refine m_l_a (j := 4) (v := M 0 4) hx hb hK hw rfl (by decide) dX2_by_7 ?_
  refine lv_iconst (v := nI 1) hx hb dX2_by_8 (by decide) ?_
  refine lv_isub hx hb dX2_by_9 ?_
  refine c_read (va_runS (As := [.int x, .int (-1), .int ((M 0 4) - (nI 1))]) (rest := []) ⟨hx, hb, hml, hown, hts⟩ (met_X2_isIn l G x (-1) ((M 0 4) - (nI 1))) (cs_X2_X2_isIn hts ⟨Nat.le_of_ble_eq_true rfl, Nat.le_of_ble_eq_true rfl⟩) (cP.pre hK trivial) rfl rfl hl.1 rfl (lv_room (Nat.le_of_ble_eq_true rfl)) dX2_by_10 ⟨by first | exact Nat.zero_le _ | omega | decide, by first | exact Nat.zero_le _ | omega | decide⟩) ?_
  refine b_if_ne (tgt := 18) hx hb dX2_by_13 (by decide) (fun c_1 => ?_) (fun c_1 => ?_)
  · refine lv_aload_n hx hb dX2_by_18 rfl (lv_at hl 0 rfl) ?_
    refine m_g_a hx hb hts hown hK hw dX2_by_19 ?_
    refine lv_iconst (v := nI 5) hx hb dX2_by_22 (by decide) ?_
    refine lv_iload_n hx hb dX2_by_23 rfl (lv_at hl 1 rfl) ?_
    refine m_s_a (j := 5) hx hb hK hw (by decide) dX2_by_24 (fun H locs hw => ?_)
    refine lv_iconst (v := nI 1) hx hb dX2_by_25 (by decide) ?_
    exact c_iret (v := nI 1) ((bI_t (by simp [c_1])).symm) hx hb hr rfl hlocks (mH.to (by first | rfl | simp [c_1, pif_true, pif_false]) rfl rfl hw.1) hw.2 dX2_by_26
  refine lv_iconst (v := nI 0) hx hb dX2_by_16 (by decide) ?_
  exact c_iret (v := nI 0) ((bI_f (by simp [c_1])).symm) hx hb hr rfl hlocks (mH.to (by first | rfl | simp [c_1, pif_true, pif_false]) rfl rfl hw.1) hw.2 dX2_by_17
set_option maxHeartbeats 4000000 in
set_option maxRecDepth 100000 in
theorem met_X2_byteAt (l : Launch) (G : gG) (ad : Nat → Nat) (M Z : Nat → Nat → Int32) (V : Nat → Nat → Int64) (k t : Nat) (v : Int32) (et : M 4 0 = nI t) (ht : t ≤ 300) (hk : k < 2 ^ 31) (hv : pif (k < t) (M 3 k) (-1) = v) : Met l yX2_byteAt (ws_ yX2_byteAt cX2_byteAt 2 (some .int)) ({ frames := 0, cells := 0, slots := 0, locals := 0 } : Room) (cP G [.ref (ad 0), .int (nI k)] (mH G ad M Z V)) (cR (some (.int v))) 0 0 (fun _ => False) := by
  refine c_start (by decide) (Nat.le_of_ble_eq_true rfl) ?_
  intro p e s m below meth c hx hb hr hlocks hml hown hts hB hK ls hl
  have hw := MS.of hB
  have hl : lv_has ls 2 [(0, .ref (ad 0)), (1, .int (nI k))] := hl
  refine lv_iload_n hx hb dX2_byteAt_0 rfl (lv_at hl 1 rfl) ?_
  refine lv_aload_n hx hb dX2_byteAt_1 rfl (lv_at hl 0 rfl) ?_
  refine m_g_taped hx hb hts hown hK hw dX2_byteAt_2 ?_
  rw [show M 4 0 = nI t from et]
  refine n_icmp_ge (tgt := 17) hx hb dX2_byteAt_5 (by decide) (by omega) (by omega) (fun c_1 => ?_) (fun c_1 => ?_)
  · refine lv_iconst (v := (-1)) hx hb dX2_byteAt_17 (by decide) ?_
    exact c_rret (v := (-1)) (by first | (rw [pif_t (by omega)] at hv; exact hv) | (rw [pif_f (by omega)] at hv; exact hv)) hx hb hr rfl hlocks dX2_byteAt_18 rfl rfl
  refine lv_aload_n hx hb dX2_byteAt_8 rfl (lv_at hl 0 rfl) ?_
  refine m_g_tape hx hb hts hown hK hw dX2_byteAt_9 ?_
  refine lv_iload_n hx hb dX2_byteAt_12 rfl (lv_at hl 1 rfl) ?_
  refine m_l_tape (j := k) (v := M 3 k) hx hb hK hw rfl (by omega) dX2_byteAt_13 ?_
  refine lv_goto (tgt := 18) hx hb dX2_byteAt_14 (by decide) ?_
  exact c_rret (v := M 3 k) (by first | (rw [pif_t (by omega)] at hv; exact hv) | (rw [pif_f (by omega)] at hv; exact hv)) hx hb hr rfl hlocks dX2_byteAt_18 rfl rfl
set_option maxHeartbeats 4000000 in
set_option maxRecDepth 100000 in
theorem met_X2_copy_a (l : Launch) (G : gG) (ad : Nat → Nat) (M Z : Nat → Nat → Int32) (V : Nat → Nat → Int64) : Met l yX2_copy (ws_ yX2_copy cX2_copy 3 none) ({ frames := 0, cells := 0, slots := 0, locals := 0 } : Room) (cP G [.ref (ad 1), .ref (ad 2)] (mH G ad M Z V)) (cQ none (mH G ad (mCpy M 0 1 3890) Z V) (mA ad)) 0 0 (mA ad) := by
  refine c_start (by decide) (Nat.le_of_ble_eq_true rfl) ?_
  intro p e s m below meth c hx hb hr hlocks hml hown hts hB hK ls hl
  have hw := MS.of hB
  have hl : lv_has ls 3 [(0, .ref (ad 1)), (1, .ref (ad 2))] := hl
  refine lv_iconst (v := nI 0) hx hb dX2_copy_0 (by decide) ?_
  refine lv_istore_n (lv' := [(2, .int (nI 0)), (0, .ref (ad 1)), (1, .ref (ad 2))]) hx hb dX2_copy_1 rfl hl (by decide) rfl (fun ls hl => ?_)
  have L_2 : ∀ (fuel : Nat) (i : Nat) (M1 : Nat → Nat → Int32), 3890 - i < fuel → (i ≤ 3890) → (M1 = mCpy M 0 1 i) → ∀ (H : Heap) (locs : List Loc), MS G ad s.heap M1 Z V H locs → ∀ (ls : Array Slot), lv_has ls 3 [(0, .ref (ad 1)), (1, .ref (ad 2)), (2, .int (nI i))] → W p l e ({ frames := 0, cells := 0, slots := 0, locals := 0 } : Room) s m ([.ref (ad 1), .ref (ad 2)] : List Value).toArray below meth c H locs 0 0 (MQ below (cQ none (mH G ad (mCpy M 0 1 3890) Z V) (mA ad)) ([.ref (ad 1), .ref (ad 2)] : List Value).toArray s 0 0 (mA ad)) (F0 m 2 ls []) := by
    intro fuel
    induction fuel with
    | zero => intro i M1 hf; exact absurd hf (Nat.not_lt_zero _)
    | succ fuel ih =>
      intro i M1 hf hi hM H locs hw ls hl
      have ih2 := ih
      refine lv_iload_n hx hb dX2_copy_2 rfl (lv_at hl 2 rfl) ?_
      refine lv_sipush (v := nI 3890) hx hb dX2_copy_3 (by decide) ?_
      refine n_icmp_ge (tgt := 21) hx hb dX2_copy_6 (by decide) (by omega) (by decide) (fun c_1 => ?_) (fun c_1 => ?_)
      · exact c_vret hx hb hr hlocks (mH.to (by rw [hM, show i = 3890 by omega]) rfl rfl hw.1) hw.2 dX2_copy_21
      refine lv_aload_n hx hb dX2_copy_9 rfl (lv_at hl 1 rfl) ?_
      refine lv_iload_n hx hb dX2_copy_10 rfl (lv_at hl 2 rfl) ?_
      refine lv_aload_n hx hb dX2_copy_11 rfl (lv_at hl 0 rfl) ?_
      refine lv_iload_n hx hb dX2_copy_12 rfl (lv_at hl 2 rfl) ?_
      refine m_l_a (j := i) (v := M1 0 i) hx hb hK hw rfl (by omega) dX2_copy_13 ?_
      refine m_s_image (j := i) hx hb hK hw (by omega) dX2_copy_14 (fun H locs hw => ?_)
      refine lv_iinc (v := nI (i + 1)) (lv' := [(2, .int (nI (i + 1))), (0, .ref (ad 1)), (1, .ref (ad 2))]) hx hb dX2_copy_15 hl (k := 2) rfl (n_inc i 1) (by decide) rfl (fun ls hl => ?_)
      refine lv_goto (tgt := 2) hx hb dX2_copy_18 (by decide) ?_
      exact ih2 (i + 1) (up2 M1 1 i (M1 0 i)) (by omega) (by first | assumption | omega | rfl) (by rw [show M1 0 i = M 0 i by rw [hM]; simp [mCpy], hM]; exact mCpy_s) _ _ hw ls (lv_sub hl [1, 2, 0] rfl)
  exact L_2 _ 0 M (Nat.lt_succ_self _) (by first | assumption | omega | rfl) mCpy_0.symm _ _ hw ls (lv_sub hl [1, 2, 0] rfl)
set_option maxHeartbeats 4000000 in
set_option maxRecDepth 100000 in
theorem met_X2_copy_image (l : Launch) (G : gG) (ad : Nat → Nat) (M Z : Nat → Nat → Int32) (V : Nat → Nat → Int64) : Met l yX2_copy (ws_ yX2_copy cX2_copy 3 none) ({ frames := 0, cells := 0, slots := 0, locals := 0 } : Room) (cP G [.ref (ad 2), .ref (ad 1)] (mH G ad M Z V)) (cQ none (mH G ad (mCpy M 1 0 3890) Z V) (mA ad)) 0 0 (mA ad) := by
  refine c_start (by decide) (Nat.le_of_ble_eq_true rfl) ?_
  intro p e s m below meth c hx hb hr hlocks hml hown hts hB hK ls hl
  have hw := MS.of hB
  have hl : lv_has ls 3 [(0, .ref (ad 2)), (1, .ref (ad 1))] := hl
  refine lv_iconst (v := nI 0) hx hb dX2_copy_0 (by decide) ?_
  refine lv_istore_n (lv' := [(2, .int (nI 0)), (0, .ref (ad 2)), (1, .ref (ad 1))]) hx hb dX2_copy_1 rfl hl (by decide) rfl (fun ls hl => ?_)
  have L_2 : ∀ (fuel : Nat) (i : Nat) (M1 : Nat → Nat → Int32), 3890 - i < fuel → (i ≤ 3890) → (M1 = mCpy M 1 0 i) → ∀ (H : Heap) (locs : List Loc), MS G ad s.heap M1 Z V H locs → ∀ (ls : Array Slot), lv_has ls 3 [(0, .ref (ad 2)), (1, .ref (ad 1)), (2, .int (nI i))] → W p l e ({ frames := 0, cells := 0, slots := 0, locals := 0 } : Room) s m ([.ref (ad 2), .ref (ad 1)] : List Value).toArray below meth c H locs 0 0 (MQ below (cQ none (mH G ad (mCpy M 1 0 3890) Z V) (mA ad)) ([.ref (ad 2), .ref (ad 1)] : List Value).toArray s 0 0 (mA ad)) (F0 m 2 ls []) := by
    intro fuel
    induction fuel with
    | zero => intro i M1 hf; exact absurd hf (Nat.not_lt_zero _)
    | succ fuel ih =>
      intro i M1 hf hi hM H locs hw ls hl
      have ih2 := ih
      refine lv_iload_n hx hb dX2_copy_2 rfl (lv_at hl 2 rfl) ?_
      refine lv_sipush (v := nI 3890) hx hb dX2_copy_3 (by decide) ?_
      refine n_icmp_ge (tgt := 21) hx hb dX2_copy_6 (by decide) (by omega) (by decide) (fun c_1 => ?_) (fun c_1 => ?_)
      · exact c_vret hx hb hr hlocks (mH.to (by rw [hM, show i = 3890 by omega]) rfl rfl hw.1) hw.2 dX2_copy_21
      refine lv_aload_n hx hb dX2_copy_9 rfl (lv_at hl 1 rfl) ?_
      refine lv_iload_n hx hb dX2_copy_10 rfl (lv_at hl 2 rfl) ?_
      refine lv_aload_n hx hb dX2_copy_11 rfl (lv_at hl 0 rfl) ?_
      refine lv_iload_n hx hb dX2_copy_12 rfl (lv_at hl 2 rfl) ?_
      refine m_l_image (j := i) (v := M1 1 i) hx hb hK hw rfl (by omega) dX2_copy_13 ?_
      refine m_s_a (j := i) hx hb hK hw (by omega) dX2_copy_14 (fun H locs hw => ?_)
      refine lv_iinc (v := nI (i + 1)) (lv' := [(2, .int (nI (i + 1))), (0, .ref (ad 2)), (1, .ref (ad 1))]) hx hb dX2_copy_15 hl (k := 2) rfl (n_inc i 1) (by decide) rfl (fun ls hl => ?_)
      refine lv_goto (tgt := 2) hx hb dX2_copy_18 (by decide) ?_
      exact ih2 (i + 1) (up2 M1 0 i (M1 1 i)) (by omega) (by first | assumption | omega | rfl) (by rw [show M1 1 i = M 1 i by rw [hM]; simp [mCpy], hM]; exact mCpy_s) _ _ hw ls (lv_sub hl [1, 2, 0] rfl)
  exact L_2 _ 0 M (Nat.lt_succ_self _) (by first | assumption | omega | rfl) mCpy_0.symm _ _ hw ls (lv_sub hl [1, 2, 0] rfl)
