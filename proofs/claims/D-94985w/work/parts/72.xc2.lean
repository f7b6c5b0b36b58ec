/-- n rows from b1 on, laid to b2 -/
def xCpR (X : Nat → Nat → Int32) (b1 b2 n : Nat) : Nat → Nat → Int32 := fun k => if b2 ≤ k ∧ k < b2 + n then X (k - b2 + b1) else X k
theorem xCpR_0 {X : Nat → Nat → Int32} {b1 b2 : Nat} : xCpR X b1 b2 0 = X := by
  funext k
  unfold xCpR
  rw [if_neg (by omega)]
theorem xCpR_s {X : Nat → Nat → Int32} {b1 b2 i n : Nat} (hd : b1 + n ≤ b2 ∨ b2 + n ≤ b1) (hi : i < n) : upr (xCpR X b1 b2 i) (b2 + i) (xCpR X b1 b2 i (b1 + i)) = xCpR X b1 b2 (i + 1) := by
  funext k
  by_cases e : k = b2 + i
  · subst e
    rw [upr_at]
    unfold xCpR
    rw [if_neg (by omega), if_pos (by omega), show b2 + i - b2 + b1 = b1 + i by omega]
  · rw [upr_ne e]
    unfold xCpR
    by_cases c : b2 ≤ k ∧ k < b2 + i
    · rw [if_pos c, if_pos (by omega)]
    · rw [if_neg c, if_neg (by omega)]
theorem xCpR_in {X : Nat → Nat → Int32} {b1 b2 n i : Nat} (hi : i < n) : xCpR X b1 b2 n (b2 + i) = X (b1 + i) := by
  unfold xCpR
  rw [if_pos (by omega), show b2 + i - b2 + b1 = b1 + i by omega]
theorem xCpR_out {X : Nat → Nat → Int32} {b1 b2 n k : Nat} (h : k < b2 ∨ b2 + n ≤ k) : xCpR X b1 b2 n k = X k := by
  unfold xCpR
  rw [if_neg (by omega)]
set_option maxHeartbeats 4000000 in
set_option maxRecDepth 100000 in
theorem met_X1_copy_2 (l : Launch) (G : gG) (ad : Nat → Nat) (sz : Nat) (X Z : Nat → Nat → Int32) (T : Nat → Nat → Option Nat) (k1 k2 n b1 b2 len : Nat) (hO1 : xO k1 4 n b1) (hO2 : xO k2 4 n b2) (hb1 : ∀ i, i < n → xLen (b1 + i) = len) (hb2 : ∀ i, i < n → xLen (b2 + i) = len) (hlen : 0 < len) (hll : len < 2 ^ 31) (hn : n < 2 ^ 30) (hd : b1 + n ≤ b2 ∨ b2 + n ≤ b1) : Met l yX1_copy_2 (ws_ yX1_copy_2 cX1_copy_2 3 none) ({ frames := 2, cells := 0, slots := 0, locals := 61 } : Room) (cP G [.ref (ad k1), .ref (ad k2)] (xH G ad X Z T sz)) (cQ none (xH G ad (xCpR X b1 b2 n) Z T sz) (xA ad sz)) 0 0 (xA ad sz) := by
  refine c_start (by decide) (Nat.le_of_ble_eq_true rfl) ?_
  intro p e s m below meth c hx hb hr hlocks hml hown hts hB hK ls hl
  have hz := hB.2.2
  have hw := XS.of hB
  have hl : lv_has ls 3 [(0, .ref (ad k1)), (1, .ref (ad k2))] := hl
  refine lv_iconst (v := nI 0) hx hb dX1_copy_2_0 (by decide) ?_
  refine lv_istore_n (lv' := [(2, .int (nI 0)), (0, .ref (ad k1)), (1, .ref (ad k2))]) hx hb dX1_copy_2_1 rfl hl (by decide) rfl (fun ls hl => ?_)
  have L_2 : ∀ (fuel : Nat) (i : Nat) (X1 : Nat → Nat → Int32), n - i < fuel → (i ≤ n) → (X1 = xCpR X b1 b2 i) → ∀ (H : Heap) (locs : List Loc), XS G ad sz s.heap X1 Z T H locs → ∀ (ls : Array Slot), lv_has ls 3 [(0, .ref (ad k1)), (1, .ref (ad k2)), (2, .int (nI i))] → W p l e ({ frames := 2, cells := 0, slots := 0, locals := 61 } : Room) s m ([.ref (ad k1), .ref (ad k2)] : List Value).toArray below meth c H locs 0 0 (MQ below (cQ none (xH G ad (xCpR X b1 b2 n) Z T sz) (xA ad sz)) ([.ref (ad k1), .ref (ad k2)] : List Value).toArray s 0 0 (xA ad sz)) (F0 m 2 ls []) := by
    intro fuel
    induction fuel with
    | zero => intro i X1 hf; exact absurd hf (Nat.not_lt_zero _)
    | succ fuel ih =>
      intro i X1 hf hi hX H locs hw ls hl
      have ih2 := ih
      refine lv_iload_n hx hb dX1_copy_2_2 rfl (lv_at hl 2 rfl) ?_
      refine lv_aload_n hx hb dX1_copy_2_3 rfl (lv_at hl 0 rfl) ?_
      refine x_len (n := n) hx hb hK hw hO1 rfl dX1_copy_2_4 ?_
      refine n_icmp_ge (tgt := 23) hx hb dX1_copy_2_5 (by decide) (by omega) (by omega) (fun c_1 => ?_) (fun c_1 => ?_)
      · exact c_vret hx hb hr hlocks (xH.to (by rw [hX, show i = n by omega]) rfl rfl hw.1) hw.2.1 dX1_copy_2_23
      refine lv_aload_n hx hb dX1_copy_2_8 rfl (lv_at hl 0 rfl) ?_
      refine lv_iload_n hx hb dX1_copy_2_9 rfl (lv_at hl 2 rfl) ?_
      refine x_a (r := b1 + i) hx hb hK hw hO1 rfl (by omega) (by omega) rfl dX1_copy_2_10 ?_
      refine lv_aload_n hx hb dX1_copy_2_11 rfl (lv_at hl 1 rfl) ?_
      refine lv_iload_n hx hb dX1_copy_2_12 rfl (lv_at hl 2 rfl) ?_
      refine x_a (r := b2 + i) hx hb hK hw hO2 rfl (by omega) (by omega) rfl dX1_copy_2_13 ?_
      refine c_call (va_runS (As := [.ref (ad (b1 + i)), .ref (ad (b2 + i))]) (rest := []) ⟨hx, hb, hml, hown, hts⟩ (met_X1_copy l G (ad (b1 + i)) (ad (b2 + i)) len (X1 (b1 + i)) (X1 (b2 + i)) (fun e9 => absurd (hw.1.2.1 _ _ (xLen_R (k := b1 + i) (by rw [hb1 _ (by omega)]; exact hlen)) (xLen_R (k := b2 + i) (by rw [hb2 _ (by omega)]; exact hlen)) e9) (by omega)) (by omega)) (cs_X1_X1_copy hts ⟨Nat.le_of_ble_eq_true rfl, Nat.le_of_ble_eq_true rfl⟩) (cP.pre hK ⟨(hw.1.atx (hb1 _ (by omega)) hlen), (hw.1.atx (hb2 _ (by omega)) hlen)⟩) rfl rfl hl.1 rfl (lv_room (Nat.le_of_ble_eq_true rfl)) dX1_copy_2_14 ⟨by first | exact Nat.zero_le _ | omega | decide, by first | exact Nat.zero_le _ | omega | decide⟩) hw.2.1 (fun q _ e9 => Or.inl ⟨b2 + i, (xLen_R (k := b2 + i) (by rw [hb2 _ (by omega)]; exact hlen)), e9⟩) (fun q h9 => h9.elim (fun e9 => Or.inl ⟨b1 + i, (xLen_R (k := b1 + i) (by rw [hb1 _ (by omega)]; exact hlen)), e9⟩) (fun e9 => Or.inl ⟨b2 + i, (xLen_R (k := b2 + i) (by rw [hb2 _ (by omega)]; exact hlen)), e9⟩)) (fun H locs hB9 hz9 hk9 hS9 => ?_)
      replace hw := XS.row hw (hb2 _ (by omega)) hlen hB9 hz9 hk9 hS9
      clear hB9 hz9 hk9 hS9
      refine lv_iinc (v := nI (i + 1)) (lv' := [(2, .int (nI (i + 1))), (0, .ref (ad k1)), (1, .ref (ad k2))]) hx hb dX1_copy_2_17 hl (k := 2) rfl (n_inc i 1) (by decide) rfl (fun ls hl => ?_)
      refine lv_goto (tgt := 2) hx hb dX1_copy_2_20 (by decide) ?_
      exact ih2 (i + 1) (upr X1 (b2 + i) (X1 (b1 + i))) (by omega) (by omega) (by rw [hX]; exact xCpR_s hd (by omega)) _ _ hw ls (lv_sub hl [1, 2, 0] rfl)
  exact L_2 _ 0 X (Nat.lt_succ_self _) (by omega) xCpR_0.symm _ _ hw ls (lv_sub hl [1, 2, 0] rfl)
def xShift (X : Nat → Nat → Int32) : Nat → Nat → Int32 := up2 (it (fun i X => upr X (93 + (i - 1)) (X (93 + i))) (30 - 1) 1 X) 52 4 (nI 29)
def xSave (X : Nat → Nat → Int32) (n : Nat) : Nat → Nat → Int32 := up2 (upr X (93 + n) (X 53)) 52 4 (nI (n + 1))
def xKeep (X : Nat → Nat → Int32) (n : Nat) : Nat → Nat → Int32 := if n = 30 then xSave (xShift X) 29 else xSave X n
set_option maxHeartbeats 4000000 in
set_option maxRecDepth 100000 in
theorem met_X1_keeps_30 (l : Launch) (G : gG) (ad : Nat → Nat) (sz : Nat) (X Z : Nat → Nat → Int32) (T : Nat → Nat → Option Nat) (es : X 52 4 = nI 30) : Met l yX1_keeps (ws_ yX1_keeps cX1_keeps 2 none) ({ frames := 2, cells := 0, slots := 0, locals := 61 } : Room) (cP G [.ref (ad 51)] (xH G ad X Z T sz)) (cQ none (xH G ad (xSave (xShift X) 29) Z T sz) (xA ad sz)) 0 0 (xA ad sz) := by
  refine c_start (by decide) (Nat.le_of_ble_eq_true rfl) ?_
  intro p e s m below meth c hx hb hr hlocks hml hown hts hB hK ls hl
  have hz := hB.2.2
  have hw := XS.of hB
  have hl : lv_has ls 2 [(0, .ref (ad 51))] := hl
  refine lv_aload_n hx hb dX1_keeps_0 rfl (lv_at hl 0 rfl) ?_
  refine x_sX1_51_n hx hb hts hown hK hw dX1_keeps_1 ?_
  refine lv_iconst (v := nI 4) hx hb dX1_keeps_4 (by decide) ?_
  refine x_l (k := 52) (j := 4) (n := 7) (v := nI 30) hx hb hK hw es (by decide) (by decide) dX1_keeps_5 ?_
  refine lv_bipush (v := nI 30) hx hb dX1_keeps_6 (by decide) ?_
  refine n_icmp_ne (tgt := 52) hx hb dX1_keeps_8 (by decide) (by decide) (by decide) (fun h9 => absurd h9 (by decide)) (fun _ => ?_)
  refine lv_iconst (v := nI 1) hx hb dX1_keeps_11 (by decide) ?_
  refine lv_istore_n (lv' := [(1, .int (nI 1)), (0, .ref (ad 51))]) hx hb dX1_keeps_12 rfl hl (by decide) rfl (fun ls hl => ?_)
  have L_13 : ∀ (fuel : Nat) (i : Nat) (X1 : Nat → Nat → Int32), 30 - i < fuel → (i ≤ 30) → (1 ≤ i) → (it (fun i9 X9 => (upr X9 (93 + (i9 - 1)) (X9 (93 + i9)))) (30 - i) i X1 = (it (fun i9 X9 => (upr X9 (93 + (i9 - 1)) (X9 (93 + i9)))) (30 - 1) 1 X)) → (X1 52 4 = nI 30) → ∀ (H : Heap) (locs : List Loc), XS G ad sz s.heap X1 Z T H locs → ∀ (ls : Array Slot), lv_has ls 2 [(0, .ref (ad 51)), (1, .int (nI i))] → W p l e ({ frames := 2, cells := 0, slots := 0, locals := 61 } : Room) s m ([.ref (ad 51)] : List Value).toArray below meth c H locs 0 0 (MQ below (cQ none (xH G ad (xSave (xShift X) 29) Z T sz) (xA ad sz)) ([.ref (ad 51)] : List Value).toArray s 0 0 (xA ad sz)) (F0 m 13 ls []) := by
    intro fuel
    induction fuel with
    | zero => intro i X1 hf; exact absurd hf (Nat.not_lt_zero _)
    | succ fuel ih =>
      intro i X1 hf hi_X1 hj_X1 hM_X1 hf0_X1 H locs hw ls hl
      have ih13 := ih
      refine lv_iload_n hx hb dX1_keeps_13 rfl (lv_at hl 1 rfl) ?_
      refine lv_bipush (v := nI 30) hx hb dX1_keeps_14 (by decide) ?_
      refine n_icmp_ge (tgt := 42) hx hb dX1_keeps_16 (by decide) (by omega) (by decide) (fun c_1 => ?_) (fun c_1 => ?_)
      · obtain rfl : X1 = (it (fun i9 X9 => (upr X9 (93 + (i9 - 1)) (X9 (93 + i9)))) (30 - 1) 1 X) := (it_z (by omega)).symm.trans hM_X1
        refine lv_aload_n hx hb dX1_keeps_42 rfl (lv_at hl 0 rfl) ?_
        refine x_sX1_51_n hx hb hts hown hK hw dX1_keeps_43 ?_
        refine lv_iconst (v := nI 4) hx hb dX1_keeps_46 (by decide) ?_
        refine lv_dup2_11 hx hb dX1_keeps_47 rfl rfl ?_
        refine x_l (k := 52) (j := 4) (n := 7) (v := nI 30) hx hb hK hw hf0_X1 (by decide) (by decide) dX1_keeps_48 ?_
        refine lv_iconst (v := nI 1) hx hb dX1_keeps_49 (by decide) ?_
        refine n_isub hx hb (by decide) dX1_keeps_50 ?_
        refine x_s (k := 52) (j := 4) (n := 7) hx hb hK hw (by decide) (by decide) dX1_keeps_51 (fun H locs hw => ?_)
        refine lv_aload_n hx hb dX1_keeps_52 rfl (lv_at hl 0 rfl) ?_
        refine x_sX1_51_row hx hb hts hown hK hw dX1_keeps_53 ?_
        refine lv_aload_n hx hb dX1_keeps_56 rfl (lv_at hl 0 rfl) ?_
        refine x_sX1_51_step hx hb hts hown hK hw dX1_keeps_57 ?_
        refine lv_aload_n hx hb dX1_keeps_60 rfl (lv_at hl 0 rfl) ?_
        refine x_sX1_51_n hx hb hts hown hK hw dX1_keeps_61 ?_
        refine lv_iconst (v := nI 4) hx hb dX1_keeps_64 (by decide) ?_
        refine x_l (k := 52) (j := 4) (n := 7) (v := nI 29) hx hb hK hw up2_at (by decide) (by decide) dX1_keeps_65 ?_
        refine x_a (r := 122) hx hb hK hw xO_58 rfl (by decide) (by decide) rfl dX1_keeps_66 ?_
        refine c_call (va_runS (As := [.ref (ad 53), .ref (ad 122)]) (rest := []) ⟨hx, hb, hml, hown, hts⟩ (met_X1_copy l G (ad 53) (ad 122) 275 ((up2 (it (fun i9 X9 => (upr X9 (93 + (i9 - 1)) (X9 (93 + i9)))) (30 - 1) 1 X) 52 4 (nI 29)) 53) ((up2 (it (fun i9 X9 => (upr X9 (93 + (i9 - 1)) (X9 (93 + i9)))) (30 - 1) 1 X) 52 4 (nI 29)) 122) (fun e9 => absurd (hw.1.2.1 _ _ (xLen_R (k := 53) (by rw [show xLen 53 = 275 from by decide]; decide)) (xLen_R (k := 122) (by rw [show xLen 122 = 275 from by decide]; decide)) e9) (by omega)) (by decide)) (cs_X1_X1_copy hts ⟨Nat.le_of_ble_eq_true rfl, Nat.le_of_ble_eq_true rfl⟩) (cP.pre hK ⟨(hw.1.atx (by decide) (by decide)), (hw.1.atx (by decide) (by decide))⟩) rfl rfl hl.1 rfl (lv_room (Nat.le_of_ble_eq_true rfl)) dX1_keeps_67 ⟨by first | exact Nat.zero_le _ | omega | decide, by first | exact Nat.zero_le _ | omega | decide⟩) hw.2.1 (fun q _ e9 => Or.inl ⟨122, (xLen_R (k := 122) (by rw [show xLen 122 = 275 from by decide]; decide)), e9⟩) (fun q h9 => h9.elim (fun e9 => Or.inl ⟨53, (xLen_R (k := 53) (by rw [show xLen 53 = 275 from by decide]; decide)), e9⟩) (fun e9 => Or.inl ⟨122, (xLen_R (k := 122) (by rw [show xLen 122 = 275 from by decide]; decide)), e9⟩)) (fun H locs hB9 hz9 hk9 hS9 => ?_)
        replace hw := XS.row hw (by decide) (by decide) hB9 hz9 hk9 hS9
        clear hB9 hz9 hk9 hS9
        refine lv_aload_n hx hb dX1_keeps_70 rfl (lv_at hl 0 rfl) ?_
        refine x_sX1_51_n hx hb hts hown hK hw dX1_keeps_71 ?_
        refine lv_iconst (v := nI 4) hx hb dX1_keeps_74 (by decide) ?_
        refine lv_dup2_11 hx hb dX1_keeps_75 rfl rfl ?_
        refine x_l (k := 52) (j := 4) (n := 7) (v := nI 29) hx hb hK hw ((congrFun (upr_ne (by decide)) 4).trans up2_at) (by decide) (by decide) dX1_keeps_76 ?_
        refine lv_iconst (v := nI 1) hx hb dX1_keeps_77 (by decide) ?_
        refine n_iadd hx hb dX1_keeps_78 ?_
        refine x_s (k := 52) (j := 4) (n := 7) hx hb hK hw (by decide) (by decide) dX1_keeps_79 (fun H locs hw => ?_)
        exact c_vret hx hb hr hlocks (xH.to rfl rfl rfl hw.1) hw.2.1 dX1_keeps_80
      refine lv_aload_n hx hb dX1_keeps_19 rfl (lv_at hl 0 rfl) ?_
      refine x_sX1_51_step hx hb hts hown hK hw dX1_keeps_20 ?_
      refine lv_iload_n hx hb dX1_keeps_23 rfl (lv_at hl 1 rfl) ?_
      refine x_a (r := 93 + i) hx hb hK hw xO_58 rfl (by decide) (by omega) rfl dX1_keeps_24 ?_
      refine lv_aload_n hx hb dX1_keeps_25 rfl (lv_at hl 0 rfl) ?_
      refine x_sX1_51_step hx hb hts hown hK hw dX1_keeps_26 ?_
      refine lv_iload_n hx hb dX1_keeps_29 rfl (lv_at hl 1 rfl) ?_
      refine lv_iconst (v := nI 1) hx hb dX1_keeps_30 (by decide) ?_
      refine n_isub hx hb (by omega) dX1_keeps_31 ?_
      refine x_a (r := 93 + (i - 1)) hx hb hK hw xO_58 rfl (by decide) (by omega) rfl dX1_keeps_32 ?_
      refine c_call (va_runS (As := [.ref (ad (93 + i)), .ref (ad (93 + (i - 1)))]) (rest := []) ⟨hx, hb, hml, hown, hts⟩ (met_X1_copy l G (ad (93 + i)) (ad (93 + (i - 1))) 275 (X1 (93 + i)) (X1 (93 + (i - 1))) (fun e9 => absurd (hw.1.2.1 _ _ (xLen_R (k := 93 + i) (by rw [xL_93 (by omega)]; decide)) (xLen_R (k := 93 + (i - 1)) (by rw [xL_93 (by omega)]; decide)) e9) (by omega)) (by decide)) (cs_X1_X1_copy hts ⟨Nat.le_of_ble_eq_true rfl, Nat.le_of_ble_eq_true rfl⟩) (cP.pre hK ⟨(hw.1.atx (xL_93 (by omega)) (by decide)), (hw.1.atx (xL_93 (by omega)) (by decide))⟩) rfl rfl hl.1 rfl (lv_room (Nat.le_of_ble_eq_true rfl)) dX1_keeps_33 ⟨by first | exact Nat.zero_le _ | omega | decide, by first | exact Nat.zero_le _ | omega | decide⟩) hw.2.1 (fun q _ e9 => Or.inl ⟨93 + (i - 1), (xLen_R (k := 93 + (i - 1)) (by rw [xL_93 (by omega)]; decide)), e9⟩) (fun q h9 => h9.elim (fun e9 => Or.inl ⟨93 + i, (xLen_R (k := 93 + i) (by rw [xL_93 (by omega)]; decide)), e9⟩) (fun e9 => Or.inl ⟨93 + (i - 1), (xLen_R (k := 93 + (i - 1)) (by rw [xL_93 (by omega)]; decide)), e9⟩)) (fun H locs hB9 hz9 hk9 hS9 => ?_)
      replace hw := XS.row hw (xL_93 (by omega)) (by decide) hB9 hz9 hk9 hS9
      clear hB9 hz9 hk9 hS9
      refine lv_iinc (v := nI (i + 1)) (lv' := [(1, .int (nI (i + 1))), (0, .ref (ad 51))]) hx hb dX1_keeps_36 hl (k := 1) rfl (n_inc i 1) (by decide) rfl (fun ls hl => ?_)
      refine lv_goto (tgt := 13) hx hb dX1_keeps_39 (by decide) ?_
      exact ih13 (i + 1) (upr X1 (93 + (i - 1)) (X1 (93 + i))) (by omega) (by omega) (by omega) ((it_s (by omega)).symm.trans hM_X1) ((congrFun (upr_ne (by omega)) 4).trans hf0_X1) _ _ hw ls (lv_sub hl [1, 0] rfl)
  exact L_13 _ 1 X (Nat.lt_succ_self _) (by omega) (by omega) rfl es _ _ hw ls (lv_sub hl [1, 0] rfl)
set_option maxHeartbeats 4000000 in
set_option maxRecDepth 100000 in
theorem met_X1_keeps_n (l : Launch) (G : gG) (ad : Nat → Nat) (sz : Nat) (X Z : Nat → Nat → Int32) (T : Nat → Nat → Option Nat) (n : Nat) (es : X 52 4 = nI n) (hn : n < 30) : Met l yX1_keeps (ws_ yX1_keeps cX1_keeps 2 none) ({ frames := 2, cells := 0, slots := 0, locals := 61 } : Room) (cP G [.ref (ad 51)] (xH G ad X Z T sz)) (cQ none (xH G ad (xSave X n) Z T sz) (xA ad sz)) 0 0 (xA ad sz) := by
  refine c_start (by decide) (Nat.le_of_ble_eq_true rfl) ?_
  intro p e s m below meth c hx hb hr hlocks hml hown hts hB hK ls hl
  have hz := hB.2.2
  have hw := XS.of hB
  have hl : lv_has ls 2 [(0, .ref (ad 51))] := hl
  refine lv_aload_n hx hb dX1_keeps_0 rfl (lv_at hl 0 rfl) ?_
  refine x_sX1_51_n hx hb hts hown hK hw dX1_keeps_1 ?_
  refine lv_iconst (v := nI 4) hx hb dX1_keeps_4 (by decide) ?_
  refine x_l (k := 52) (j := 4) (n := 7) (v := nI n) hx hb hK hw es (by decide) (by decide) dX1_keeps_5 ?_
  refine lv_bipush (v := nI 30) hx hb dX1_keeps_6 (by decide) ?_
  refine n_icmp_ne (tgt := 52) hx hb dX1_keeps_8 (by decide) (by omega) (by decide) (fun c_1 => ?_) (fun c_1 => ?_)
  · refine lv_aload_n hx hb dX1_keeps_52 rfl (lv_at hl 0 rfl) ?_
    refine x_sX1_51_row hx hb hts hown hK hw dX1_keeps_53 ?_
    refine lv_aload_n hx hb dX1_keeps_56 rfl (lv_at hl 0 rfl) ?_
    refine x_sX1_51_step hx hb hts hown hK hw dX1_keeps_57 ?_
    refine lv_aload_n hx hb dX1_keeps_60 rfl (lv_at hl 0 rfl) ?_
    refine x_sX1_51_n hx hb hts hown hK hw dX1_keeps_61 ?_
    refine lv_iconst (v := nI 4) hx hb dX1_keeps_64 (by decide) ?_
    refine x_l (k := 52) (j := 4) (n := 7) (v := nI n) hx hb hK hw es (by decide) (by decide) dX1_keeps_65 ?_
    refine x_a (r := 93 + n) hx hb hK hw xO_58 rfl (by decide) (by omega) rfl dX1_keeps_66 ?_
    refine c_call (va_runS (As := [.ref (ad 53), .ref (ad (93 + n))]) (rest := []) ⟨hx, hb, hml, hown, hts⟩ (met_X1_copy l G (ad 53) (ad (93 + n)) 275 (X 53) (X (93 + n)) (fun e9 => absurd (hw.1.2.1 _ _ (xLen_R (k := 53) (by rw [show xLen 53 = 275 from by decide]; decide)) (xLen_R (k := 93 + n) (by rw [xL_93 (by omega)]; decide)) e9) (by omega)) (by decide)) (cs_X1_X1_copy hts ⟨Nat.le_of_ble_eq_true rfl, Nat.le_of_ble_eq_true rfl⟩) (cP.pre hK ⟨(hw.1.atx (by decide) (by decide)), (hw.1.atx (xL_93 (by omega)) (by decide))⟩) rfl rfl hl.1 rfl (lv_room (Nat.le_of_ble_eq_true rfl)) dX1_keeps_67 ⟨by first | exact Nat.zero_le _ | omega | decide, by first | exact Nat.zero_le _ | omega | decide⟩) hw.2.1 (fun q _ e9 => Or.inl ⟨93 + n, (xLen_R (k := 93 + n) (by rw [xL_93 (by omega)]; decide)), e9⟩) (fun q h9 => h9.elim (fun e9 => Or.inl ⟨53, (xLen_R (k := 53) (by rw [show xLen 53 = 275 from by decide]; decide)), e9⟩) (fun e9 => Or.inl ⟨93 + n, (xLen_R (k := 93 + n) (by rw [xL_93 (by omega)]; decide)), e9⟩)) (fun H locs hB9 hz9 hk9 hS9 => ?_)
    replace hw := XS.row hw (xL_93 (by omega)) (by decide) hB9 hz9 hk9 hS9
    clear hB9 hz9 hk9 hS9
    refine lv_aload_n hx hb dX1_keeps_70 rfl (lv_at hl 0 rfl) ?_
    refine x_sX1_51_n hx hb hts hown hK hw dX1_keeps_71 ?_
    refine lv_iconst (v := nI 4) hx hb dX1_keeps_74 (by decide) ?_
    refine lv_dup2_11 hx hb dX1_keeps_75 rfl rfl ?_
    refine x_l (k := 52) (j := 4) (n := 7) (v := nI n) hx hb hK hw ((congrFun (upr_ne (by omega)) 4).trans es) (by decide) (by decide) dX1_keeps_76 ?_
    refine lv_iconst (v := nI 1) hx hb dX1_keeps_77 (by decide) ?_
    refine n_iadd hx hb dX1_keeps_78 ?_
    refine x_s (k := 52) (j := 4) (n := 7) hx hb hK hw (by decide) (by decide) dX1_keeps_79 (fun H locs hw => ?_)
    exact c_vret hx hb hr hlocks (xH.to rfl rfl rfl hw.1) hw.2.1 dX1_keeps_80
  exact absurd c_1 (by omega)
set_option maxHeartbeats 4000000 in
theorem met_X1_keeps (l : Launch) (G : gG) (ad : Nat → Nat) (sz : Nat) (X Z : Nat → Nat → Int32) (T : Nat → Nat → Option Nat) (n : Nat) (es : X 52 4 = nI n) (hn : n ≤ 30) : Met l yX1_keeps (ws_ yX1_keeps cX1_keeps 2 none) ({ frames := 2, cells := 0, slots := 0, locals := 61 } : Room) (cP G [.ref (ad 51)] (xH G ad X Z T sz)) (cQ none (xH G ad (xKeep X n) Z T sz) (xA ad sz)) 0 0 (xA ad sz) := by
  by_cases e : n = 30
  · subst e
    exact met_X1_keeps_30 l G ad sz X Z T es
  · have := met_X1_keeps_n l G ad sz X Z T n es (by omega)
    unfold xKeep
    rw [if_neg e]
    exact this
theorem xSave_at {X : Nat → Nat → Int32} {n k : Nat} (hk : k ≠ 93 + n) (hj : k ≠ 52) : xSave X n k = X k := (up2_row hj).trans (upr_ne hk)
theorem xShift_lo {X : Nat → Nat → Int32} {k : Nat} (hk : k < 93 ∨ 123 ≤ k) (h52 : k ≠ 52) : xShift X k = X k := by
  refine (up2_row h52).trans ?_
  have := it_rng (f := fun i X => upr X (93 + (i - 1)) (X (93 + i))) (fun i X1 => 1 ≤ i → X1 k = X k) (30 - 1) 1 X (fun j X1 h1 h2 ih _ => (upr_ne (by omega)).trans (ih h1)) (fun _ => rfl)
  exact this (by decide)
theorem xKeep_lo {X : Nat → Nat → Int32} {n k : Nat} (hn : n ≤ 30) (hk : k < 93 ∨ 123 ≤ k) (h52 : k ≠ 52) : xKeep X n k = X k := by
  unfold xKeep
  split
  · exact (xSave_at (by omega) h52).trans (xShift_lo hk h52)
  · exact xSave_at (by omega) h52
theorem xKeep_52 {X : Nat → Nat → Int32} {n j : Nat} (hn : n ≤ 30) (hj : j ≠ 4) : xKeep X n 52 j = X 52 j := by
  have h1 : ∀ (Y : Nat → Nat → Int32) m, xSave Y m 52 j = Y 52 j := fun Y m => (up2_ne (Or.inr hj)).trans (congrFun (upr_ne (by omega)) j)
  unfold xKeep
  split
  · refine (h1 _ _).trans ((up2_ne (Or.inr hj)).trans ?_)
    exact it_rng (f := fun i X => upr X (93 + (i - 1)) (X (93 + i))) (fun i X1 => X1 52 j = X 52 j) (30 - 1) 1 X (fun i X1 h1 h2 ih => (congrFun (upr_ne (by omega)) j).trans ih) rfl
  · exact h1 _ _
theorem xKeep_4 {X : Nat → Nat → Int32} {n : Nat} (hn : n ≤ 30) : xKeep X n 52 4 = nI (min n 29 + 1) := by
  unfold xKeep
  split
  · rename_i h; subst h; exact up2_at
  · rw [show min n 29 = n by omega]; exact up2_at
