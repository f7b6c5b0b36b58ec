/-! the component's tokens: letters, digits, words, next (printed by gen/xs2.py) -/
/-- a byte with its sign -/
def sb (c : Nat) : Int32 := if c < 128 then nI c else nI c - nI 256
theorem sb_ok : ∀ c, c < 256 → ∀ k, k < 128 → (sb c = nI k ↔ c = k) := by decide +kernel
theorem sb_eq {c k : Nat} (hc : c < 256) (hk : k < 128) : sb c = nI k ↔ c = k := sb_ok c hc k hk
theorem sb_lt {c : Nat} (h : c < 128) : sb c = nI c := if_pos h
theorem sb_let : ∀ c, c < 256 → (((nI 97 ≤ sb c ∧ sb c ≤ nI 122) ∨ (nI 65 ≤ sb c ∧ sb c ≤ nI 90)) ↔ lLet c = true) := by decide +kernel
theorem sb_dig : ∀ c, c < 256 → ((nI 48 ≤ sb c ∧ sb c ≤ nI 57) ↔ lDig c = true) := by decide +kernel
theorem lWs_i {c : Nat} : lWs c = true ↔ c = 32 ∨ c = 10 := by simp [lWs]
theorem lxS_s {tp : Nat → Nat} {t p : Nat} (h : p < t) (hw : lWs (tp p) = true) : lxS tp t (p + 1) = lxS tp t p := (scn_t h hw).symm
theorem lxS_z {tp : Nat → Nat} {t p : Nat} (h : t ≤ p ∨ ¬ lWs (tp p) = true) : lxS tp t p = p := by
  rcases h with h | h
  · exact scn_z h
  · by_cases c : p < t
    · exact scn_f c h
    · exact scn_z (by omega)
theorem lxQ_dig {tp : Nat → Nat} {t p : Nat} (h : lxS tp t p < t) (hl : lDig (tp (lxS tp t p)) = true) : lxQ tp t p = scn lDig tp (t - lxS tp t p) (lxS tp t p) := by
  unfold lxQ
  dsimp only
  rw [if_pos h, if_pos hl]
theorem pif_min {a b : Nat} (ha : a < 2 ^ 31) (hb : b < 2 ^ 31) : pif (nI b < nI a) (nI b) (nI a) = nI (min a b) := by
  by_cases h : b < a
  · rw [pif_t ((nI_ltI hb ha).mpr h), Nat.min_eq_right (by omega)]
  · rw [pif_f (fun q => h ((nI_ltI hb ha).mp q)), Nat.min_eq_left (by omega)]
/-- the sign among the first k -/
noncomputable def sgI (c : Nat) : Nat → Int32
  | 0 => nI 302
  | k + 1 => pif (nI ((kNt 25).getD k 0) = sb c) (sb c) (sgI c k)
theorem sgI_13 : ∀ c, c < 256 → sgI c 13 = nI (if sgn c = true then c else 302) := by
  intro c hc
  have h0 : (kNt 25).length = 13 := by decide
  have hk : ∀ k, k < 13 → (nI ((kNt 25).getD k 0) = sb c ↔ c = (kNt 25).getD k 0) := fun k hk => by
    have h1 : (kNt 25).getD k 0 < 128 := (kByt_eq 25 (by decide) k (by omega)).2
    constructor
    · intro h; exact (sb_eq hc h1).mp h.symm
    · intro h; exact ((sb_eq hc h1).mpr h).symm
  have key : ∀ n, n ≤ 13 → sgI c n = (if (∃ k, k < n ∧ c = (kNt 25).getD k 0) then nI c else nI 302) := by
    intro n
    induction n with
    | zero => intro _; rw [if_neg (by rintro ⟨k, h, _⟩; omega)]; rfl
    | succ n ih =>
      intro hn
      unfold sgI
      by_cases e : nI ((kNt 25).getD n 0) = sb c
      · have e2 := (hk n (by omega)).mp e
        rw [pif_t e, if_pos ⟨n, by omega, e2⟩, ← e, ← e2]
      · rw [pif_f e, ih (by omega)]
        by_cases c9 : ∃ k, k < n ∧ c = (kNt 25).getD k 0
        · obtain ⟨k, h1, h2⟩ := c9
          rw [if_pos ⟨k, h1, h2⟩, if_pos ⟨k, by omega, h2⟩]
        · rw [if_neg c9, if_neg]
          rintro ⟨k, h1, h2⟩
          by_cases e9 : k = n
          · subst e9; exact e ((hk k (by omega)).mpr h2)
          · exact c9 ⟨k, by omega, h2⟩
  rw [key 13 (by decide)]
  have hs : (∃ k, k < 13 ∧ c = (kNt 25).getD k 0) ↔ sgn c = true := (by decide +kernel : ∀ c, c < 256 → ((∃ k, k < 13 ∧ c = (kNt 25).getD k 0) ↔ sgn c = true)) c hc
  by_cases h : sgn c = true
  · rw [if_pos (hs.mpr h), if_pos h]
  · rw [if_neg (fun q => h (hs.mp q)), if_neg h]
/-- the tokens' object and the tape -/
abbrev tkC (G : gG) (r ta t : Nat) (Xb : Nat → Int32) (at_ tok srt num opn knd : Int32) (H : Heap) : Prop := va_at (gD G) g_cl (r, .inr (3, [.ref ta, .int (nI t), .int at_, .int tok, .int srt, .int num, .int opn, .int knd])) H ∧ va_at (gD G) g_cl (ta, .inl (G.2.2 1, 300, .inl Xb)) H
/-- the bytes of the tape -/
abbrev tkB (tp : Nat → Nat) (t : Nat) (Xb : Nat → Int32) : Prop := t ≤ 300 ∧ ∀ j, j < t → Xb j = sb (tp j) ∧ tp j < 256
/-- the token at p is at hand -/
abbrev tkP (G : gG) (r ta t : Nat) (Xb : Nat → Int32) (tp : Nat → Nat) (p o k : Nat) (H : Heap) : Prop := ∃ num, (lxT tp t p = 1 → num = nI (min 99999 (lxN tp t p))) ∧ tkC G r ta t Xb (nI (lxQ tp t p)) (nI (lxS tp t p)) (nI (cst tp t p)) num (nI o) (nI k) H
set_option maxHeartbeats 4000000 in
theorem met_X3_isLetter (l : Launch) (G : gG) (v : Int32) : Met l yX3_isLetter (ws_ yX3_isLetter cX3_isLetter 1 (some .boolean)) ({ frames := 0, cells := 0, slots := 0, locals := 0 } : Room) (cP G [.int v] (fun _ => True)) (cR (some (.int (bI ((nI 97 ≤ v ∧ v ≤ nI 122) ∨ (nI 65 ≤ v ∧ v ≤ nI 90)))))) 0 0 (fun _ => False) := by
  refine c_start (by decide) (Nat.le_of_ble_eq_true rfl) ?_
  intro p e s m below meth c hx hb hr hlocks hml hown hts hB hK ls hl
  have hl : lv_has ls 1 [(0, .int v)] := hl
  have yes : ((nI 97 ≤ v ∧ v ≤ nI 122) ∨ (nI 65 ≤ v ∧ v ≤ nI 90)) → W p l e ({ frames := 0, cells := 0, slots := 0, locals := 0 } : Room) s m #[.int v] below meth c s.heap [] 0 0 (MQ below (cR (some (.int (bI ((nI 97 ≤ v ∧ v ≤ nI 122) ∨ (nI 65 ≤ v ∧ v ≤ nI 90)))))) #[.int v] s 0 0 (fun _ => False)) (F0 m 24 ls []) := fun h => by
    refine lv_iconst (v := nI 1) hx hb dX3_isLetter_24 (by decide) ?_
    refine lv_goto (tgt := 29) hx hb dX3_isLetter_25 (by decide) ?_
    exact c_rret (v := nI 1) (bI_t h).symm hx hb hr rfl hlocks dX3_isLetter_29 rfl rfl
  have no : ¬ ((nI 97 ≤ v ∧ v ≤ nI 122) ∨ (nI 65 ≤ v ∧ v ≤ nI 90)) → W p l e ({ frames := 0, cells := 0, slots := 0, locals := 0 } : Room) s m #[.int v] below meth c s.heap [] 0 0 (MQ below (cR (some (.int (bI ((nI 97 ≤ v ∧ v ≤ nI 122) ∨ (nI 65 ≤ v ∧ v ≤ nI 90)))))) #[.int v] s 0 0 (fun _ => False)) (F0 m 28 ls []) := fun h => by
    refine lv_iconst (v := nI 0) hx hb dX3_isLetter_28 (by decide) ?_
    exact c_rret (v := nI 0) (bI_f h).symm hx hb hr rfl hlocks dX3_isLetter_29 rfl rfl
  have second : ¬ (nI 97 ≤ v ∧ v ≤ nI 122) → W p l e ({ frames := 0, cells := 0, slots := 0, locals := 0 } : Room) s m #[.int v] below meth c s.heap [] 0 0 (MQ below (cR (some (.int (bI ((nI 97 ≤ v ∧ v ≤ nI 122) ∨ (nI 65 ≤ v ∧ v ≤ nI 90)))))) #[.int v] s 0 0 (fun _ => False)) (F0 m 12 ls []) := fun h => by
    refine lv_iload_n hx hb dX3_isLetter_12 rfl (lv_at hl 0 rfl) ?_
    refine lv_bipush (v := nI 65) hx hb dX3_isLetter_13 (by decide) ?_
    refine lv_icmp_lt (tgt := 28) hx hb dX3_isLetter_15 (by decide) (fun c1 => ?_) (fun c1 => ?_)
    · exact no (fun q => q.elim h (fun q => Int32.not_le.mpr c1 q.1))
    refine lv_iload_n hx hb dX3_isLetter_18 rfl (lv_at hl 0 rfl) ?_
    refine lv_bipush (v := nI 90) hx hb dX3_isLetter_19 (by decide) ?_
    refine lv_icmp_gt (tgt := 28) hx hb dX3_isLetter_21 (by decide) (fun c2 => ?_) (fun c2 => ?_)
    · exact no (fun q => q.elim h (fun q => Int32.not_le.mpr c2 q.2))
    exact yes (Or.inr ⟨Int32.not_lt.mp c1, Int32.not_lt.mp c2⟩)
  refine lv_iload_n hx hb dX3_isLetter_0 rfl (lv_at hl 0 rfl) ?_
  refine lv_bipush (v := nI 97) hx hb dX3_isLetter_1 (by decide) ?_
  refine lv_icmp_lt (tgt := 12) hx hb dX3_isLetter_3 (by decide) (fun c1 => ?_) (fun c1 => ?_)
  · exact second (fun q => Int32.not_le.mpr c1 q.1)
  refine lv_iload_n hx hb dX3_isLetter_6 rfl (lv_at hl 0 rfl) ?_
  refine lv_bipush (v := nI 122) hx hb dX3_isLetter_7 (by decide) ?_
  refine lv_icmp_le (tgt := 24) hx hb dX3_isLetter_9 (by decide) (fun c2 => ?_) (fun c2 => ?_)
  · exact yes (Or.inl ⟨Int32.not_lt.mp c1, c2⟩)
  exact second (fun q => c2 q.2)
set_option maxHeartbeats 4000000 in
theorem met_X3_isDigit (l : Launch) (G : gG) (v : Int32) : Met l yX3_isDigit (ws_ yX3_isDigit cX3_isDigit 1 (some .boolean)) ({ frames := 0, cells := 0, slots := 0, locals := 0 } : Room) (cP G [.int v] (fun _ => True)) (cR (some (.int (bI (nI 48 ≤ v ∧ v ≤ nI 57))))) 0 0 (fun _ => False) := by
  refine c_start (by decide) (Nat.le_of_ble_eq_true rfl) ?_
  intro p e s m below meth c hx hb hr hlocks hml hown hts hB hK ls hl
  have hl : lv_has ls 1 [(0, .int v)] := hl
  have no : ¬ (nI 48 ≤ v ∧ v ≤ nI 57) → W p l e ({ frames := 0, cells := 0, slots := 0, locals := 0 } : Room) s m #[.int v] below meth c s.heap [] 0 0 (MQ below (cR (some (.int (bI (nI 48 ≤ v ∧ v ≤ nI 57))))) #[.int v] s 0 0 (fun _ => False)) (F0 m 16 ls []) := fun h => by
    refine lv_iconst (v := nI 0) hx hb dX3_isDigit_16 (by decide) ?_
    exact c_rret (v := nI 0) (bI_f h).symm hx hb hr rfl hlocks dX3_isDigit_17 rfl rfl
  refine lv_iload_n hx hb dX3_isDigit_0 rfl (lv_at hl 0 rfl) ?_
  refine lv_bipush (v := nI 48) hx hb dX3_isDigit_1 (by decide) ?_
  refine lv_icmp_lt (tgt := 16) hx hb dX3_isDigit_3 (by decide) (fun c1 => ?_) (fun c1 => ?_)
  · exact no (fun q => Int32.not_le.mpr c1 q.1)
  refine lv_iload_n hx hb dX3_isDigit_6 rfl (lv_at hl 0 rfl) ?_
  refine lv_bipush (v := nI 57) hx hb dX3_isDigit_7 (by decide) ?_
  refine lv_icmp_gt (tgt := 16) hx hb dX3_isDigit_9 (by decide) (fun c2 => ?_) (fun c2 => ?_)
  · exact no (fun q => Int32.not_le.mpr c2 q.2)
  refine lv_iconst (v := nI 1) hx hb dX3_isDigit_12 (by decide) ?_
  refine lv_goto (tgt := 17) hx hb dX3_isDigit_13 (by decide) ?_
  exact c_rret (v := nI 1) (bI_t ⟨Int32.not_lt.mp c1, Int32.not_lt.mp c2⟩).symm hx hb hr rfl hlocks dX3_isDigit_17 rfl rfl
set_option maxHeartbeats 4000000 in
set_option maxRecDepth 100000 in
theorem met_X3_isWord (l : Launch) (G : gG) (κ : kK) (z : Nat) (tp : Nat → Nat) (Xb : Nat → Int32) (r ta t i at_ tok : Nat) (srt num opn knd : Int32) (hi : i < 25) (hXb : ∀ j, j < t → Xb j = sb (tp j) ∧ tp j < 256) (ht : t ≤ 300) (hta : tok ≤ at_ ∧ at_ ≤ t) : Met l yX3_isWord (ws_ yX3_isWord cX3_isWord 3 (some .boolean)) ({ frames := 4, cells := 0, slots := 0, locals := 85 } : Room) (cT G κ z [.ref r, .ref (κ.1 i)] (tkC G r ta t Xb (nI at_) (nI tok) srt num opn knd)) (cR (some (.int (bI (wEq tp tok at_ (wd i)))))) 0 0 (fun _ => False) := by
  refine t_startR (by decide) (Nat.le_of_ble_eq_true rfl) ?_
  intro p e s m below meth c hx hb hr hlocks hml hown hts hB hK hZ hname ls hl
  have hl : lv_has ls 3 [(0, .ref r), (1, .ref (κ.1 i))] := hl
  obtain ⟨hk, htp⟩ := hB
  have hwl : (wd i).length ≤ 8 := (by decide +kernel : ∀ i, i < 25 → (wd i).length ≤ 8) i hi
  refine lv_aload_n hx hb dX3_isWord_0 rfl (lv_at hl 0 rfl) ?_
  refine a_get (own := RX3) (C := RX3) (T := TX3) (N := 8) (ci := 3) hx hb hts in_X3 hown hK hk rfl 2 (by decide) (hts _ q299) (fun _ h9 => h9) rfl dX3_isWord_1 ?_
  refine lv_aload_n hx hb dX3_isWord_4 rfl (lv_at hl 0 rfl) ?_
  refine a_get (own := RX3) (C := RX3) (T := TX3) (N := 8) (ci := 3) hx hb hts in_X3 hown hK hk rfl 3 (by decide) (hts _ q300) (fun _ h9 => h9) rfl dX3_isWord_5 ?_
  refine n_isub hx hb (by omega) dX3_isWord_8 ?_
  refine lv_aload_n hx hb dX3_isWord_9 rfl (lv_at hl 1 rfl) ?_
  refine c_read (va_runV (As := []) (rest := [.int (nI (at_ - tok))]) ⟨hx, hb, hml, hown, hts⟩ (met_J3_length l G κ z i (by omega)) (cv_X3_J3_length hts ⟨Nat.le_of_ble_eq_true rfl, Nat.le_of_ble_eq_true rfl⟩) (cT.preV hK hZ va_S.rf trivial (vk_recv hZ.1.1 (show i < 26 by omega) va_S.rf)) rfl rfl hl.1 rfl (lv_room (Nat.le_of_ble_eq_true rfl)) dX3_isWord_10 ⟨by first | exact Nat.zero_le _ | omega | decide, by first | exact Nat.zero_le _ | omega | decide⟩) ?_
  rw [show (kNt i).length = (wd i).length by rw [kNt, if_pos hi]]
  refine n_icmp_eq (tgt := 18) hx hb dX3_isWord_13 (by decide) (by omega) (by omega) (fun c_1 => ?_) (fun c_1 => ?_)
  · refine lv_iconst (v := nI 0) hx hb dX3_isWord_18 (by decide) ?_
    refine lv_istore_n (lv' := [(2, .int (nI 0)), (0, .ref r), (1, .ref (κ.1 i))]) hx hb dX3_isWord_19 rfl hl (by decide) rfl (fun ls hl => ?_)
    have L20_2 : ∀ (fuel : Nat) (k : Nat), (wd i).length - k < fuel → (k ≤ (wd i).length) → (∀ j, j < k → tp (tok + j) = (wd i).getD j 0) → ∀ (ls : Array Slot), lv_has ls 3 [(0, .ref r), (1, .ref (κ.1 i)), (2, .int (nI k))] → W p l e ({ frames := 4, cells := 0, slots := 0, locals := 85 } : Room) s m ([.ref r, .ref (κ.1 i)] : List Value).toArray below meth c s.heap [] 0 0 (MQ below (cR (some (.int (bI (wEq tp tok at_ (wd i)))))) ([.ref r, .ref (κ.1 i)] : List Value).toArray s 0 0 (fun _ => False)) (F0 m 20 ls []) := by
      intro fuel
      induction fuel with
      | zero => intro k hf; exact absurd hf (Nat.not_lt_zero _)
      | succ fuel ih =>
        intro k hf hk9 hall ls hl
        have ih20 := ih
        refine lv_iload_n hx hb dX3_isWord_20 rfl (lv_at hl 2 rfl) ?_
        refine lv_aload_n hx hb dX3_isWord_21 rfl (lv_at hl 1 rfl) ?_
        refine c_read (va_runV (As := []) (rest := [.int (nI k)]) ⟨hx, hb, hml, hown, hts⟩ (met_J3_length l G κ z i (by omega)) (cv_X3_J3_length hts ⟨Nat.le_of_ble_eq_true rfl, Nat.le_of_ble_eq_true rfl⟩) (cT.preV hK hZ va_S.rf trivial (vk_recv hZ.1.1 (show i < 26 by omega) va_S.rf)) rfl rfl hl.1 rfl (lv_room (Nat.le_of_ble_eq_true rfl)) dX3_isWord_22 ⟨by first | exact Nat.zero_le _ | omega | decide, by first | exact Nat.zero_le _ | omega | decide⟩) ?_
        rw [show (kNt i).length = (wd i).length by rw [kNt, if_pos hi]]
        refine n_icmp_ge (tgt := 55) hx hb dX3_isWord_25 (by decide) (by omega) (by omega) (fun c_3 => ?_) (fun c_3 => ?_)
        · refine lv_iconst (v := nI 1) hx hb dX3_isWord_55 (by decide) ?_
          exact c_rret (v := nI 1) (bI_t (show _ ∧ _ from ⟨by omega, fun k9 hk9 => hall k9 (by omega)⟩)).symm hx hb hr rfl hlocks dX3_isWord_56 rfl rfl
        refine lv_aload_n hx hb dX3_isWord_28 rfl (lv_at hl 0 rfl) ?_
        refine a_get (own := RX3) (C := RX3) (T := TX3) (N := 8) (ci := 3) hx hb hts in_X3 hown hK hk rfl 0 (by decide) (hts _ q297) (fun _ h9 => h9) rfl dX3_isWord_29 ?_
        refine lv_aload_n hx hb dX3_isWord_32 rfl (lv_at hl 0 rfl) ?_
        refine a_get (own := RX3) (C := RX3) (T := TX3) (N := 8) (ci := 3) hx hb hts in_X3 hown hK hk rfl 3 (by decide) (hts _ q300) (fun _ h9 => h9) rfl dX3_isWord_33 ?_
        refine lv_iload_n hx hb dX3_isWord_36 rfl (lv_at hl 2 rfl) ?_
        refine n_iadd hx hb dX3_isWord_37 ?_
        refine p_bald (j := tok + k) (v := sb (tp (tok + k))) hx hb hK (hXb (tok + k) (by omega)).1 htp (by decide) (by omega) dX3_isWord_38 ?_
        refine lv_aload_n hx hb dX3_isWord_39 rfl (lv_at hl 1 rfl) ?_
        refine lv_iload_n hx hb dX3_isWord_40 rfl (lv_at hl 2 rfl) ?_
        refine c_read (va_runV (As := [.int (nI k)]) (rest := [.int (sb (tp (tok + k)))]) ⟨hx, hb, hml, hown, hts⟩ (met_J3_charAt l G κ z i k (by omega) (by rw [kNt, if_pos hi]; omega)) (cv_X3_J3_charAt hts ⟨Nat.le_of_ble_eq_true rfl, Nat.le_of_ble_eq_true rfl⟩) (cT.preV hK hZ va_S.rf trivial (vk_recv hZ.1.1 (show i < 26 by omega) va_S.rf)) rfl rfl hl.1 rfl (lv_room (Nat.le_of_ble_eq_true rfl)) dX3_isWord_41 ⟨by first | exact Nat.zero_le _ | omega | decide, by first | exact Nat.zero_le _ | omega | decide⟩) ?_
        rw [show (kNt i).getD k 0 = (wd i).getD k 0 by rw [kNt, if_pos hi]]
        have hlt9 := wd_ok i hi
        have hlw9 := hlt9.2 k (by omega)
        refine lv_icmp_eq (tgt := 49) hx hb dX3_isWord_44 (by decide) (fun hck => ?_) (fun hck => ?_)
        · replace hck := (sb_eq (hXb (tok + k) (by omega)).2 (by omega)).mp hck
          refine lv_iinc (v := nI (k + 1)) (lv' := [(2, .int (nI (k + 1))), (0, .ref r), (1, .ref (κ.1 i))]) hx hb dX3_isWord_49 hl (k := 2) rfl (n_inc k 1) (by decide) rfl (fun ls hl => ?_)
          refine lv_goto (tgt := 20) hx hb dX3_isWord_52 (by decide) ?_
          exact ih20 (k + 1) (by omega) (by omega) (fun j hj => by by_cases e : j = k; (subst e; exact hck); exact hall j (by omega)) ls (lv_sub hl [1, 2, 0] rfl)
        replace hck := fun q => hck ((sb_eq (hXb (tok + k) (by omega)).2 (by omega)).mpr q)
        refine lv_iconst (v := nI 0) hx hb dX3_isWord_47 (by decide) ?_
        exact c_rret (v := nI 0) (bI_f (fun h9 => hck (h9.2 k (by omega)))).symm hx hb hr rfl hlocks dX3_isWord_48 rfl rfl
    exact L20_2 _ 0 (Nat.lt_succ_self _) (Nat.zero_le _) (fun j hj => absurd hj (Nat.not_lt_zero j)) ls (lv_sub hl [1, 2, 0] rfl)
  refine lv_iconst (v := nI 0) hx hb dX3_isWord_16 (by decide) ?_
  exact c_rret (v := nI 0) (bI_f (fun h9 => by have := h9.1; omega)).symm hx hb hr rfl hlocks dX3_isWord_17 rfl rfl
