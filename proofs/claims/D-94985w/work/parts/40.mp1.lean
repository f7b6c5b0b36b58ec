/-- the bytes, by kinds -/
def lWs (c : Nat) : Bool := c == 32 || c == 10
def lDig (c : Nat) : Bool := decide (48 ≤ c) && decide (c ≤ 57)
def lLet (c : Nat) : Bool := (decide (97 ≤ c) && decide (c ≤ 122)) || (decide (65 ≤ c) && decide (c ≤ 90))
def lSign (c : Nat) : Bool := c == 60 || c == 62 || c == 61 || c == 35 || c == 43 || c == 45 || c == 42 || c == 47 || c == 40 || c == 41 || c == 59 || c == 44 || c == 63 || c == 58
def scn (f : Nat → Bool) (tp : Nat → Nat) : Nat → Nat → Nat
  | 0, q => q
  | n + 1, q => if f (tp q) then scn f tp n (q + 1) else q
def numL (tp : Nat → Nat) : Nat → Nat → Nat → Nat
  | 0, _, v => v
  | n + 1, q, v => if lDig (tp q) then numL tp n (q + 1) (if v < 100000 then 10 * v + tp q - 48 else v) else v
def w8 (w : Int64) (c : Nat) : Int64 := (w <<< ((nI 8).toInt64 &&& 63)) ||| lN c
def wrdL (tp : Nat → Nat) (s : Nat) : Nat → Nat → Int64 → Int64
  | 0, _, w => w
  | n + 1, q, w => if lLet (tp q) then wrdL tp s n (q + 1) (if q - s < 7 then w8 w (tp q) else w) else w
/-- the token from p on: where it begins, where it ends, its sort (0 the end, 1 a number, 2 letters, 3 none, 4 and 5 two signs, else a sign), its number, its letters -/
def lxS (tp : Nat → Nat) (t p : Nat) : Nat := scn lWs tp (t - p) p
def lxT (tp : Nat → Nat) (t p : Nat) : Nat :=
  let s := lxS tp t p
  if s < t then (if lDig (tp s) then 1 else if lLet (tp s) then 2 else if (tp s = 60 ∨ tp s = 62) ∧ s + 1 < t ∧ tp (s + 1) = 61 then (if tp s = 60 then 4 else 5) else if lSign (tp s) then tp s else 3) else 0
def lxQ (tp : Nat → Nat) (t p : Nat) : Nat :=
  let s := lxS tp t p
  if s < t then (if lDig (tp s) then scn lDig tp (t - s) s else if lLet (tp s) then scn lLet tp (t - s) s else if (tp s = 60 ∨ tp s = 62) ∧ s + 1 < t ∧ tp (s + 1) = 61 then s + 2 else s + 1) else s
def lxN (tp : Nat → Nat) (t p : Nat) : Nat := numL tp (t - lxS tp t p) (lxS tp t p) 0
def lxW (tp : Nat → Nat) (t p : Nat) : Int64 := if lxQ tp t p - lxS tp t p ≤ 7 then wrdL tp (lxS tp t p) (t - lxS tp t p) (lxS tp t p) (lN 0) else lN 0
theorem scn_ge (f : Nat → Bool) (tp : Nat → Nat) : ∀ n q, q ≤ scn f tp n q
  | 0, q => Nat.le_refl _
  | n + 1, q => by
    unfold scn
    split
    · have := scn_ge f tp n (q + 1); omega
    · exact Nat.le_refl _
theorem scn_le (f : Nat → Bool) (tp : Nat → Nat) : ∀ n q, scn f tp n q ≤ q + n
  | 0, q => Nat.le_refl _
  | n + 1, q => by
    unfold scn
    split
    · have := scn_le f tp n (q + 1); omega
    · omega
theorem scn_t {f : Nat → Bool} {tp : Nat → Nat} {t q : Nat} (h : q < t) (hf : f (tp q) = true) : scn f tp (t - q) q = scn f tp (t - (q + 1)) (q + 1) := by
  rw [show t - q = (t - (q + 1)) + 1 by omega]
  exact if_pos hf
theorem scn_f {f : Nat → Bool} {tp : Nat → Nat} {t q : Nat} (h : q < t) (hf : ¬ f (tp q) = true) : scn f tp (t - q) q = q := by
  rw [show t - q = (t - (q + 1)) + 1 by omega]
  exact if_neg hf
theorem scn_z {f : Nat → Bool} {tp : Nat → Nat} {t q : Nat} (h : t ≤ q) : scn f tp (t - q) q = q := by
  rw [show t - q = 0 by omega]
  rfl
theorem numL_t {tp : Nat → Nat} {t q v : Nat} (h : q < t) (hf : lDig (tp q) = true) : numL tp (t - q) q v = numL tp (t - (q + 1)) (q + 1) (if v < 100000 then 10 * v + tp q - 48 else v) := by
  rw [show t - q = (t - (q + 1)) + 1 by omega]
  exact if_pos hf
theorem numL_f {tp : Nat → Nat} {t q v : Nat} (h : q < t) (hf : ¬ lDig (tp q) = true) : numL tp (t - q) q v = v := by
  rw [show t - q = (t - (q + 1)) + 1 by omega]
  exact if_neg hf
theorem numL_z {tp : Nat → Nat} {t q v : Nat} (h : t ≤ q) : numL tp (t - q) q v = v := by
  rw [show t - q = 0 by omega]
  rfl
theorem wrdL_t {tp : Nat → Nat} {s t q : Nat} {w : Int64} (h : q < t) (hf : lLet (tp q) = true) : wrdL tp s (t - q) q w = wrdL tp s (t - (q + 1)) (q + 1) (if q - s < 7 then w8 w (tp q) else w) := by
  rw [show t - q = (t - (q + 1)) + 1 by omega]
  exact if_pos hf
theorem wrdL_f {tp : Nat → Nat} {s t q : Nat} {w : Int64} (h : q < t) (hf : ¬ lLet (tp q) = true) : wrdL tp s (t - q) q w = w := by
  rw [show t - q = (t - (q + 1)) + 1 by omega]
  exact if_neg hf
theorem wrdL_z {tp : Nat → Nat} {s t q : Nat} {w : Int64} (h : t ≤ q) : wrdL tp s (t - q) q w = w := by
  rw [show t - q = 0 by omega]
  rfl
theorem lDig_iff {c : Nat} (h : c < 256) : (nI 48 ≤ nI c ∧ nI c ≤ nI 57) ↔ lDig c = true := by
  rw [nI_leI (by decide) (by omega), nI_leI (by omega) (by decide)]
  simp [lDig]
theorem lLet_iff {c : Nat} (h : c < 256) : ((nI 97 ≤ nI c ∧ nI c ≤ nI 122) ∨ (nI 65 ≤ nI c ∧ nI c ≤ nI 90)) ↔ lLet c = true := by
  rw [nI_leI (by decide) (by omega), nI_leI (by omega) (by decide), nI_leI (by decide) (by omega), nI_leI (by omega) (by decide)]
  simp [lLet]
def LX (tp : Nat → Nat) (t p : Nat) (Z : Nat → Nat → Int32) (V : Nat → Nat → Int64) : Prop := Z 7 0 = nI (lxQ tp t p) ∧ Z 8 0 = nI (lxS tp t p) ∧ Z 9 0 = nI (lxT tp t p) ∧ (lxT tp t p = 1 → Z 10 0 = nI (lxN tp t p)) ∧ (lxT tp t p = 2 → V 11 0 = lxW tp t p)
def TP (tp : Nat → Nat) (t : Nat) (M : Nat → Nat → Int32) : Prop := M 4 0 = nI t ∧ t ≤ 300 ∧ ∀ j, j < t → M 3 j = nI (tp j) ∧ tp j < 256
set_option maxHeartbeats 4000000 in
set_option maxRecDepth 100000 in
theorem met_X2_isDigit (l : Launch) (G : gG) (v : Int32) : Met l yX2_isDigit (ws_ yX2_isDigit cX2_isDigit 1 (some .boolean)) ({ frames := 1, cells := 0, slots := 0, locals := 22 } : Room) (cP G [.int v] (fun _ => True)) (cR (some (.int (bI (nI 48 ≤ v ∧ v ≤ nI 57))))) 0 0 (fun _ => False) := by
  refine c_start (by decide) (Nat.le_of_ble_eq_true rfl) ?_
  intro p e s m below meth c hx hb hr hlocks hml hown hts hB hK ls hl
  have hl : lv_has ls 1 [(0, .int v)] := hl
  refine lv_iload_n hx hb dX2_isDigit_0 rfl (lv_at hl 0 rfl) ?_
  refine lv_bipush (v := nI 48) hx hb dX2_isDigit_1 (by decide) ?_
  refine lv_bipush (v := nI 57) hx hb dX2_isDigit_3 (by decide) ?_
  refine c_read (va_runS (As := [.int v, .int (nI 48), .int (nI 57)]) (rest := []) ⟨hx, hb, hml, hown, hts⟩ (met_X2_isIn l G v (nI 48) (nI 57)) (cs_X2_X2_isIn hts ⟨Nat.le_of_ble_eq_true rfl, Nat.le_of_ble_eq_true rfl⟩) (cP.pre hK trivial) rfl rfl hl.1 rfl (lv_room (Nat.le_of_ble_eq_true rfl)) dX2_isDigit_5 ⟨by first | exact Nat.zero_le _ | omega | decide, by first | exact Nat.zero_le _ | omega | decide⟩) ?_
  exact c_rret (v := bI (nI 48 ≤ v ∧ v ≤ nI 57)) rfl hx hb hr (bI_nar _) hlocks dX2_isDigit_8 rfl rfl
theorem met_X2_isDigitN (l : Launch) (G : gG) (c : Nat) (h : c < 256) : Met l yX2_isDigit (ws_ yX2_isDigit cX2_isDigit 1 (some .boolean)) ({ frames := 1, cells := 0, slots := 0, locals := 22 } : Room) (cP G [.int (nI c)] (fun _ => True)) (cR (some (.int (bI (lDig c = true))))) 0 0 (fun _ => False) := by
  have h9 := met_X2_isDigit l G (nI c)
  rw [bI_congr (lDig_iff h)] at h9
  exact h9
set_option maxHeartbeats 4000000 in
set_option maxRecDepth 100000 in
theorem met_X2_isLetter (l : Launch) (G : gG) (v : Int32) : Met l yX2_isLetter (ws_ yX2_isLetter cX2_isLetter 1 (some .boolean)) ({ frames := 1, cells := 0, slots := 0, locals := 22 } : Room) (cP G [.int v] (fun _ => True)) (cR (some (.int (bI ((nI 97 ≤ v ∧ v ≤ nI 122) ∨ (nI 65 ≤ v ∧ v ≤ nI 90)))))) 0 0 (fun _ => False) := by
  refine c_start (by decide) (Nat.le_of_ble_eq_true rfl) ?_
  intro p e s m below meth c hx hb hr hlocks hml hown hts hB hK ls hl
  have hl : lv_has ls 1 [(0, .int v)] := hl
  refine lv_iload_n hx hb dX2_isLetter_0 rfl (lv_at hl 0 rfl) ?_
  refine lv_bipush (v := nI 97) hx hb dX2_isLetter_1 (by decide) ?_
  refine lv_bipush (v := nI 122) hx hb dX2_isLetter_3 (by decide) ?_
  refine c_read (va_runS (As := [.int v, .int (nI 97), .int (nI 122)]) (rest := []) ⟨hx, hb, hml, hown, hts⟩ (met_X2_isIn l G v (nI 97) (nI 122)) (cs_X2_X2_isIn hts ⟨Nat.le_of_ble_eq_true rfl, Nat.le_of_ble_eq_true rfl⟩) (cP.pre hK trivial) rfl rfl hl.1 rfl (lv_room (Nat.le_of_ble_eq_true rfl)) dX2_isLetter_5 ⟨by first | exact Nat.zero_le _ | omega | decide, by first | exact Nat.zero_le _ | omega | decide⟩) ?_
  refine b_if_ne (tgt := 22) hx hb dX2_isLetter_8 (by decide) (fun c_1 => ?_) (fun c_1 => ?_)
  · refine lv_iconst (v := nI 1) hx hb dX2_isLetter_22 (by decide) ?_
    refine lv_goto (tgt := 27) hx hb dX2_isLetter_23 (by decide) ?_
    exact c_rret (v := nI 1) ((bI_t (by simp [c_1])).symm) hx hb hr rfl hlocks dX2_isLetter_27 rfl rfl
  refine lv_iload_n hx hb dX2_isLetter_11 rfl (lv_at hl 0 rfl) ?_
  refine lv_bipush (v := nI 65) hx hb dX2_isLetter_12 (by decide) ?_
  refine lv_bipush (v := nI 90) hx hb dX2_isLetter_14 (by decide) ?_
  refine c_read (va_runS (As := [.int v, .int (nI 65), .int (nI 90)]) (rest := []) ⟨hx, hb, hml, hown, hts⟩ (met_X2_isIn l G v (nI 65) (nI 90)) (cs_X2_X2_isIn hts ⟨Nat.le_of_ble_eq_true rfl, Nat.le_of_ble_eq_true rfl⟩) (cP.pre hK trivial) rfl rfl hl.1 rfl (lv_room (Nat.le_of_ble_eq_true rfl)) dX2_isLetter_16 ⟨by first | exact Nat.zero_le _ | omega | decide, by first | exact Nat.zero_le _ | omega | decide⟩) ?_
  refine b_if_eq (tgt := 26) hx hb dX2_isLetter_19 (by decide) (fun c_2 => ?_) (fun c_2 => ?_)
  · refine lv_iconst (v := nI 0) hx hb dX2_isLetter_26 (by decide) ?_
    exact c_rret (v := nI 0) ((bI_f (by simp [c_1, c_2])).symm) hx hb hr rfl hlocks dX2_isLetter_27 rfl rfl
  refine lv_iconst (v := nI 1) hx hb dX2_isLetter_22 (by decide) ?_
  refine lv_goto (tgt := 27) hx hb dX2_isLetter_23 (by decide) ?_
  exact c_rret (v := nI 1) ((bI_t (by simp [c_1, c_2])).symm) hx hb hr rfl hlocks dX2_isLetter_27 rfl rfl
theorem met_X2_isLetterN (l : Launch) (G : gG) (c : Nat) (h : c < 256) : Met l yX2_isLetter (ws_ yX2_isLetter cX2_isLetter 1 (some .boolean)) ({ frames := 1, cells := 0, slots := 0, locals := 22 } : Room) (cP G [.int (nI c)] (fun _ => True)) (cR (some (.int (bI (lLet c = true))))) 0 0 (fun _ => False) := by
  have h9 := met_X2_isLetter l G (nI c)
  rw [bI_congr (lLet_iff h)] at h9
  exact h9
set_option maxHeartbeats 4000000 in
set_option maxRecDepth 100000 in
theorem met_X2_nextToken (l : Launch) (G : gG) (ad : Nat → Nat) (M Z : Nat → Nat → Int32) (V : Nat → Nat → Int64) (tp : Nat → Nat) (t p0 : Nat) (hT : TP tp t M) (e7 : Z 7 0 = nI p0) (hp : p0 ≤ t) : Met l yX2_nextToken (ws_ yX2_nextToken cX2_nextToken 3 none) ({ frames := 2, cells := 0, slots := 0, locals := 42 } : Room) (cP G [.ref (ad 0)] (mH G ad M Z V)) (cQ none (fun H => ∃ Z9 V9, (LX tp t p0 Z9 V9 ∧ ∀ k9, k9 ≠ 7 → k9 ≠ 8 → k9 ≠ 9 → k9 ≠ 10 → Z9 k9 = Z k9) ∧ mH G ad M Z9 V9 H) (mA ad)) 0 0 (mA ad) := by
  refine c_start (by decide) (Nat.le_of_ble_eq_true rfl) ?_
  intro p e s m below meth c hx hb hr hlocks hml hown hts hB hK ls hl
  have hw := MS.of hB
  have hl : lv_has ls 3 [(0, .ref (ad 0))] := hl
  have ht3 := hT.2.1
  have htp := hT.2.2
  have L_0 : ∀ (fuel : Nat) (q : Nat) (Za : Nat → Nat → Int32), t - q < fuel → (p0 ≤ q) → (q ≤ t) → (scn lWs tp (t - q) q = lxS tp t p0) → (Za 7 0 = nI q) → (∀ k9, k9 ≠ 7 → k9 ≠ 8 → k9 ≠ 9 → k9 ≠ 10 → Za k9 = Z k9) → ∀ (H : Heap) (locs : List Loc), MS G ad s.heap M Za V H locs → ∀ (ls : Array Slot), lv_has ls 3 [(0, .ref (ad 0))] → W p l e ({ frames := 2, cells := 0, slots := 0, locals := 42 } : Room) s m ([.ref (ad 0)] : List Value).toArray below meth c H locs 0 0 (MQ below (cQ none (fun H => ∃ Z9 V9, (LX tp t p0 Z9 V9 ∧ ∀ k9, k9 ≠ 7 → k9 ≠ 8 → k9 ≠ 9 → k9 ≠ 10 → Z9 k9 = Z k9) ∧ mH G ad M Z9 V9 H) (mA ad)) ([.ref (ad 0)] : List Value).toArray s 0 0 (mA ad)) (F0 m 0 ls []) := by
    intro fuel
    induction fuel with
    | zero => intro q Za hf; exact absurd hf (Nat.not_lt_zero _)
    | succ fuel ih =>
      intro q Za hf hpq hqt hq h7a hka H locs hw ls hl
      have ih0 := ih
      rcases Nat.lt_or_ge q t with hq_ | hq_
      · have hb_ : tp q < 256 := (htp _ hq_).2
        refine lv_aload_n hx hb dX2_nextToken_0 rfl (lv_at hl 0 rfl) ?_
        refine lv_aload_n hx hb dX2_nextToken_1 rfl (lv_at hl 0 rfl) ?_
        refine m_g_at hx hb hts hown hK hw dX2_nextToken_2 ?_
        rw [show Za 7 0 = nI q from h7a]
        refine c_read (va_runV (As := [.int (nI q)]) (rest := []) ⟨hx, hb, hml, hown, hts⟩ (met_X2_byteAt l G ad M Za V q t (nI (tp q)) hT.1 (by omega) (by omega) ((pif_t hq_).trans (htp _ hq_).1)) (cv_X2_X2_byteAt hts ⟨Nat.le_of_ble_eq_true rfl, Nat.le_of_ble_eq_true rfl⟩) (cP.preV hK hw.1 (hw.1.recv hK)) rfl rfl hl.1 rfl (lv_room (Nat.le_of_ble_eq_true rfl)) dX2_nextToken_5 ⟨by first | exact Nat.zero_le _ | omega | decide, by first | exact Nat.zero_le _ | omega | decide⟩) ?_
        refine lv_bipush (v := nI 32) hx hb dX2_nextToken_8 (by decide) ?_
        refine n_icmp_eq (tgt := 26) hx hb dX2_nextToken_10 (by decide) (by omega) (by decide) (fun c_1 => ?_) (fun c_1 => ?_)
        · refine lv_aload_n hx hb dX2_nextToken_26 rfl (lv_at hl 0 rfl) ?_
          refine lv_dup hx hb dX2_nextToken_27 rfl ?_
          refine m_g_at hx hb hts hown hK hw dX2_nextToken_28 ?_
          rw [show Za 7 0 = nI q from h7a]
          refine lv_iconst (v := nI 1) hx hb dX2_nextToken_31 (by decide) ?_
          refine n_iadd hx hb dX2_nextToken_32 ?_
          refine m_p_at hx hb hts hown hK hw dX2_nextToken_33 (fun H locs hw => ?_)
          refine lv_goto (tgt := 0) hx hb dX2_nextToken_36 (by decide) ?_
          exact ih0 (q + 1) (up2 Za 7 0 (nI (q + 1))) (by omega) (by omega) (by omega) ((scn_t hq_ (by simp [lWs, c_1])).symm.trans hq) up2_at (fun k9 h9 h8 h7 h6 => by funext j9; (try simp only [up2_eq, h9, h8, h7, h6, false_and, if_false]); exact congrFun (hka k9 h9 h8 h7 h6) j9) _ _ hw ls (lv_sub hl [0] rfl)
        refine lv_aload_n hx hb dX2_nextToken_13 rfl (lv_at hl 0 rfl) ?_
        refine lv_aload_n hx hb dX2_nextToken_14 rfl (lv_at hl 0 rfl) ?_
        refine m_g_at hx hb hts hown hK hw dX2_nextToken_15 ?_
        rw [show Za 7 0 = nI q from h7a]
        refine c_read (va_runV (As := [.int (nI q)]) (rest := []) ⟨hx, hb, hml, hown, hts⟩ (met_X2_byteAt l G ad M Za V q t (nI (tp q)) hT.1 (by omega) (by omega) ((pif_t hq_).trans (htp _ hq_).1)) (cv_X2_X2_byteAt hts ⟨Nat.le_of_ble_eq_true rfl, Nat.le_of_ble_eq_true rfl⟩) (cP.preV hK hw.1 (hw.1.recv hK)) rfl rfl hl.1 rfl (lv_room (Nat.le_of_ble_eq_true rfl)) dX2_nextToken_18 ⟨by first | exact Nat.zero_le _ | omega | decide, by first | exact Nat.zero_le _ | omega | decide⟩) ?_
        refine lv_bipush (v := nI 10) hx hb dX2_nextToken_21 (by decide) ?_
        refine n_icmp_ne (tgt := 39) hx hb dX2_nextToken_23 (by decide) (by omega) (by decide) (fun c_2 => ?_) (fun c_2 => ?_)
        · have hS : lxS tp t p0 = q := hq.symm.trans (scn_f hq_ (by simp [lWs]; omega))
          refine lv_aload_n hx hb dX2_nextToken_39 rfl (lv_at hl 0 rfl) ?_
          refine lv_aload_n hx hb dX2_nextToken_40 rfl (lv_at hl 0 rfl) ?_
          refine m_g_at hx hb hts hown hK hw dX2_nextToken_41 ?_
          rw [show Za 7 0 = nI q from h7a]
          refine m_p_place hx hb hts hown hK hw dX2_nextToken_44 (fun H locs hw => ?_)
          refine lv_aload_n hx hb dX2_nextToken_47 rfl (lv_at hl 0 rfl) ?_
          refine lv_aload_n hx hb dX2_nextToken_48 rfl (lv_at hl 0 rfl) ?_
          refine m_g_at hx hb hts hown hK hw dX2_nextToken_49 ?_
          rw [show (up2 Za 8 0 (nI q)) 7 0 = nI q from (up2_ne (Or.inl (by decide))).trans h7a]
          refine c_read (va_runV (As := [.int (nI q)]) (rest := []) ⟨hx, hb, hml, hown, hts⟩ (met_X2_byteAt l G ad M (up2 Za 8 0 (nI q)) V q t (nI (tp q)) hT.1 (by omega) (by omega) ((pif_t hq_).trans (htp _ hq_).1)) (cv_X2_X2_byteAt hts ⟨Nat.le_of_ble_eq_true rfl, Nat.le_of_ble_eq_true rfl⟩) (cP.preV hK hw.1 (hw.1.recv hK)) rfl rfl hl.1 rfl (lv_room (Nat.le_of_ble_eq_true rfl)) dX2_nextToken_52 ⟨by first | exact Nat.zero_le _ | omega | decide, by first | exact Nat.zero_le _ | omega | decide⟩) ?_
          refine lv_istore_n (lv' := [(1, .int (nI (tp q))), (0, .ref (ad 0))]) hx hb dX2_nextToken_55 rfl hl (by decide) rfl (fun ls hl => ?_)
          have hq0 := hq_
          refine lv_iload_n hx hb dX2_nextToken_56 rfl (lv_at hl 0 rfl) ?_
          refine n_if_ge (tgt := 68) hx hb dX2_nextToken_57 (by decide) (by omega) ?_
          refine lv_iload_n hx hb dX2_nextToken_68 rfl (lv_at hl 0 rfl) ?_
          refine c_read (va_runS (As := [.int (nI (tp q))]) (rest := []) ⟨hx, hb, hml, hown, hts⟩ (met_X2_isDigitN l G (tp q) (by omega)) (cs_X2_X2_isDigit hts ⟨Nat.le_of_ble_eq_true rfl, Nat.le_of_ble_eq_true rfl⟩) (cP.pre hK trivial) rfl rfl hl.1 rfl (lv_room (Nat.le_of_ble_eq_true rfl)) dX2_nextToken_69 ⟨by first | exact Nat.zero_le _ | omega | decide, by first | exact Nat.zero_le _ | omega | decide⟩) ?_
          refine b_if_eq (tgt := 144) hx hb dX2_nextToken_72 (by decide) (fun c_3 => ?_) (fun c_3 => ?_)
          · refine lv_iload_n hx hb dX2_nextToken_144 rfl (lv_at hl 0 rfl) ?_
            refine c_read (va_runS (As := [.int (nI (tp q))]) (rest := []) ⟨hx, hb, hml, hown, hts⟩ (met_X2_isLetterN l G (tp q) (by omega)) (cs_X2_X2_isLetter hts ⟨Nat.le_of_ble_eq_true rfl, Nat.le_of_ble_eq_true rfl⟩) (cP.pre hK trivial) rfl rfl hl.1 rfl (lv_room (Nat.le_of_ble_eq_true rfl)) dX2_nextToken_145 ⟨by first | exact Nat.zero_le _ | omega | decide, by first | exact Nat.zero_le _ | omega | decide⟩) ?_
            refine b_if_eq (tgt := 245) hx hb dX2_nextToken_148 (by decide) (fun c_4 => ?_) (fun c_4 => ?_)
            · refine lv_aload_n hx hb dX2_nextToken_245 rfl (lv_at hl 1 rfl) ?_
              refine lv_dup hx hb dX2_nextToken_246 rfl ?_
              refine m_g_at hx hb hts hown hK hw dX2_nextToken_247 ?_
              rw [show (up2 Za 8 0 (nI q)) 7 0 = nI q from (up2_ne (Or.inl (by decide))).trans h7a]
              refine lv_iconst (v := nI 1) hx hb dX2_nextToken_250 (by decide) ?_
              refine n_iadd hx hb dX2_nextToken_251 ?_
              refine m_p_at hx hb hts hown hK hw dX2_nextToken_252 (fun H locs hw => ?_)
              have J_344 : ∀ (bs : Nat), (bs = if lSign (tp q) = true then 1 else 0) → ∀ (H : Heap) (locs : List Loc), MS G ad s.heap M (up2 (up2 Za 8 0 (nI q)) 7 0 (nI (q + 1))) V H locs → ∀ (ls : Array Slot), lv_has ls 3 [(1, .int (nI (tp q))), (0, .ref (ad 0))] → W p l e ({ frames := 2, cells := 0, slots := 0, locals := 42 } : Room) s m ([.ref (ad 0)] : List Value).toArray below meth c H locs 0 0 (MQ below (cQ none (fun H => ∃ Z9 V9, (LX tp t p0 Z9 V9 ∧ ∀ k9, k9 ≠ 7 → k9 ≠ 8 → k9 ≠ 9 → k9 ≠ 10 → Z9 k9 = Z k9) ∧ mH G ad M Z9 V9 H) (mA ad)) ([.ref (ad 0)] : List Value).toArray s 0 0 (mA ad)) (F0 m 344 ls [.int (nI bs)]) := by
                intro bs hbs H locs hw ls hl
                have hbs2 : bs < 2 := by rw [hbs]; split <;> decide
                refine lv_istore_n (lv' := [(2, .int (nI bs)), (1, .int (nI (tp q))), (0, .ref (ad 0))]) hx hb dX2_nextToken_344 rfl hl (by decide) rfl (fun ls hl => ?_)
                refine lv_aload_n hx hb dX2_nextToken_345 rfl (lv_at hl 2 rfl) ?_
                refine lv_iload_n hx hb dX2_nextToken_346 rfl (lv_at hl 0 rfl) ?_
                refine n_if_eq (tgt := 354) hx hb dX2_nextToken_347 (by decide) (by omega) (fun c_5 => ?_) (fun c_5 => ?_)
                · refine lv_iconst (v := nI 3) hx hb dX2_nextToken_354 (by decide) ?_
                  refine m_p_token hx hb hts hown hK hw dX2_nextToken_355 (fun H locs hw => ?_)
                  refine lv_iload_n hx hb dX2_nextToken_358 rfl (lv_at hl 1 rfl) ?_
                  refine lv_bipush (v := nI 60) hx hb dX2_nextToken_359 (by decide) ?_
                  refine n_icmp_eq (tgt := 370) hx hb dX2_nextToken_361 (by decide) (by omega) (by decide) (fun c_6 => ?_) (fun c_6 => ?_)
                  · rcases Nat.lt_or_ge (q + 1) t with hq_ | hq_
                    · have hb_ : tp (q + 1) < 256 := (htp _ hq_).2
                      refine lv_aload_n hx hb dX2_nextToken_370 rfl (lv_at hl 2 rfl) ?_
                      refine lv_aload_n hx hb dX2_nextToken_371 rfl (lv_at hl 2 rfl) ?_
                      refine m_g_at hx hb hts hown hK hw dX2_nextToken_372 ?_
                      rw [show (up2 (up2 (up2 Za 8 0 (nI q)) 7 0 (nI (q + 1))) 9 0 (nI 3)) 7 0 = nI (q + 1) from (up2_ne (Or.inl (by decide))).trans up2_at]
                      refine c_read (va_runV (As := [.int (nI (q + 1))]) (rest := []) ⟨hx, hb, hml, hown, hts⟩ (met_X2_byteAt l G ad M (up2 (up2 (up2 Za 8 0 (nI q)) 7 0 (nI (q + 1))) 9 0 (nI 3)) V (q + 1) t (nI (tp (q + 1))) hT.1 (by omega) (by omega) ((pif_t hq_).trans (htp _ hq_).1)) (cv_X2_X2_byteAt hts ⟨Nat.le_of_ble_eq_true rfl, Nat.le_of_ble_eq_true rfl⟩) (cP.preV hK hw.1 (hw.1.recv hK)) rfl rfl hl.1 rfl (lv_room (Nat.le_of_ble_eq_true rfl)) dX2_nextToken_375 ⟨by first | exact Nat.zero_le _ | omega | decide, by first | exact Nat.zero_le _ | omega | decide⟩) ?_
                      refine lv_bipush (v := nI 61) hx hb dX2_nextToken_378 (by decide) ?_
                      refine n_icmp_ne (tgt := 408) hx hb dX2_nextToken_380 (by decide) (by omega) (by decide) (fun c_7 => ?_) (fun c_7 => ?_)
                      · have h2_ : ¬ ((tp q = 60 ∨ tp q = 62) ∧ q + 1 < t ∧ tp (q + 1) = 61) := by omega
                        have hsg : ¬ lSign (tp q) = true := fun h9 => by rw [if_pos h9] at hbs; omega
                        have n1_ : ¬ 3 = 1 := by decide
                        have n2_ : ¬ 3 = 2 := by decide
                        have T9 := (show lxT tp t p0 = 3 by unfold lxT; rw [hS]; simp only [if_pos hq0, if_neg c_3, if_neg c_4, if_neg h2_]; rw [if_neg hsg])
                        have Q9 := (show lxQ tp t p0 = q + 1 by unfold lxQ; rw [hS]; simp only [if_pos hq0, if_neg c_3, if_neg c_4, if_neg h2_])
                        exact c_vret hx hb hr hlocks ⟨_, _, ⟨⟨by rw [Q9]; exact (up2_ne (Or.inl (by decide))).trans up2_at, by rw [hS]; exact (up2_ne (Or.inl (by decide))).trans ((up2_ne (Or.inl (by decide))).trans up2_at), by rw [T9]; exact up2_at, (fun h9 => absurd (T9.symm.trans h9) n1_), (fun h9 => absurd (T9.symm.trans h9) n2_)⟩, (fun k9 h9 h8 h7 h6 => by funext j9; (try simp only [up2_eq, h9, h8, h7, h6, false_and, if_false]); exact congrFun (hka k9 h9 h8 h7 h6) j9)⟩, mH.to rfl rfl rfl hw.1⟩ hw.2 dX2_nextToken_408
                      refine lv_aload_n hx hb dX2_nextToken_383 rfl (lv_at hl 2 rfl) ?_
                      refine lv_dup hx hb dX2_nextToken_384 rfl ?_
                      refine m_g_at hx hb hts hown hK hw dX2_nextToken_385 ?_
                      rw [show (up2 (up2 (up2 Za 8 0 (nI q)) 7 0 (nI (q + 1))) 9 0 (nI 3)) 7 0 = nI (q + 1) from (up2_ne (Or.inl (by decide))).trans up2_at]
                      refine lv_iconst (v := nI 1) hx hb dX2_nextToken_388 (by decide) ?_
                      refine n_iadd hx hb dX2_nextToken_389 ?_
                      refine m_p_at hx hb hts hown hK hw dX2_nextToken_390 (fun H locs hw => ?_)
                      refine lv_aload_n hx hb dX2_nextToken_393 rfl (lv_at hl 2 rfl) ?_
                      refine lv_iload_n hx hb dX2_nextToken_394 rfl (lv_at hl 1 rfl) ?_
                      refine lv_bipush (v := nI 60) hx hb dX2_nextToken_395 (by decide) ?_
                      refine n_icmp_ne (tgt := 404) hx hb dX2_nextToken_397 (by decide) (by omega) (by decide) (fun c_8 => ?_) (fun c_8 => ?_)
                      · refine lv_iconst (v := nI 5) hx hb dX2_nextToken_404 (by decide) ?_
                        refine m_p_token hx hb hts hown hK hw dX2_nextToken_405 (fun H locs hw => ?_)
                        have h2_ : (tp q = 60 ∨ tp q = 62) ∧ q + 1 < t ∧ tp (q + 1) = 61 := ⟨by omega, by omega, by omega⟩
                        have n1_ : ¬ 5 = 1 := by decide
                        have n2_ : ¬ 5 = 2 := by decide
                        have T9 := (show lxT tp t p0 = 5 by unfold lxT; rw [hS]; simp only [if_pos hq0, if_neg c_3, if_neg c_4, if_pos h2_]; rw [if_neg (by assumption)])
                        have Q9 := (show lxQ tp t p0 = q + 2 by unfold lxQ; rw [hS]; simp only [if_pos hq0, if_neg c_3, if_neg c_4, if_pos h2_])
                        exact c_vret hx hb hr hlocks ⟨_, _, ⟨⟨by rw [Q9]; exact (up2_ne (Or.inl (by decide))).trans up2_at, by rw [hS]; exact (up2_ne (Or.inl (by decide))).trans ((up2_ne (Or.inl (by decide))).trans ((up2_ne (Or.inl (by decide))).trans ((up2_ne (Or.inl (by decide))).trans up2_at))), by rw [T9]; exact up2_at, (fun h9 => absurd (T9.symm.trans h9) n1_), (fun h9 => absurd (T9.symm.trans h9) n2_)⟩, (fun k9 h9 h8 h7 h6 => by funext j9; (try simp only [up2_eq, h9, h8, h7, h6, false_and, if_false]); exact congrFun (hka k9 h9 h8 h7 h6) j9)⟩, mH.to rfl rfl rfl hw.1⟩ hw.2 dX2_nextToken_408
                      refine lv_iconst (v := nI 4) hx hb dX2_nextToken_400 (by decide) ?_
                      refine lv_goto (tgt := 405) hx hb dX2_nextToken_401 (by decide) ?_
                      refine m_p_token hx hb hts hown hK hw dX2_nextToken_405 (fun H locs hw => ?_)
                      have h2_ : (tp q = 60 ∨ tp q = 62) ∧ q + 1 < t ∧ tp (q + 1) = 61 := ⟨by omega, by omega, by omega⟩
                      have n1_ : ¬ 4 = 1 := by decide
                      have n2_ : ¬ 4 = 2 := by decide
                      have T9 := (show lxT tp t p0 = 4 by unfold lxT; rw [hS]; simp only [if_pos hq0, if_neg c_3, if_neg c_4, if_pos h2_]; rw [if_pos (by assumption)])
                      have Q9 := (show lxQ tp t p0 = q + 2 by unfold lxQ; rw [hS]; simp only [if_pos hq0, if_neg c_3, if_neg c_4, if_pos h2_])
                      exact c_vret hx hb hr hlocks ⟨_, _, ⟨⟨by rw [Q9]; exact (up2_ne (Or.inl (by decide))).trans up2_at, by rw [hS]; exact (up2_ne (Or.inl (by decide))).trans ((up2_ne (Or.inl (by decide))).trans ((up2_ne (Or.inl (by decide))).trans ((up2_ne (Or.inl (by decide))).trans up2_at))), by rw [T9]; exact up2_at, (fun h9 => absurd (T9.symm.trans h9) n1_), (fun h9 => absurd (T9.symm.trans h9) n2_)⟩, (fun k9 h9 h8 h7 h6 => by funext j9; (try simp only [up2_eq, h9, h8, h7, h6, false_and, if_false]); exact congrFun (hka k9 h9 h8 h7 h6) j9)⟩, mH.to rfl rfl rfl hw.1⟩ hw.2 dX2_nextToken_408
                    refine lv_aload_n hx hb dX2_nextToken_370 rfl (lv_at hl 2 rfl) ?_
                    refine lv_aload_n hx hb dX2_nextToken_371 rfl (lv_at hl 2 rfl) ?_
                    refine m_g_at hx hb hts hown hK hw dX2_nextToken_372 ?_
                    rw [show (up2 (up2 (up2 Za 8 0 (nI q)) 7 0 (nI (q + 1))) 9 0 (nI 3)) 7 0 = nI (q + 1) from (up2_ne (Or.inl (by decide))).trans up2_at]
                    refine c_read (va_runV (As := [.int (nI (q + 1))]) (rest := []) ⟨hx, hb, hml, hown, hts⟩ (met_X2_byteAt l G ad M (up2 (up2 (up2 Za 8 0 (nI q)) 7 0 (nI (q + 1))) 9 0 (nI 3)) V (q + 1) t (-1) hT.1 (by omega) (by omega) (pif_f (Nat.not_lt.mpr hq_))) (cv_X2_X2_byteAt hts ⟨Nat.le_of_ble_eq_true rfl, Nat.le_of_ble_eq_true rfl⟩) (cP.preV hK hw.1 (hw.1.recv hK)) rfl rfl hl.1 rfl (lv_room (Nat.le_of_ble_eq_true rfl)) dX2_nextToken_375 ⟨by first | exact Nat.zero_le _ | omega | decide, by first | exact Nat.zero_le _ | omega | decide⟩) ?_
                    refine lv_bipush (v := nI 61) hx hb dX2_nextToken_378 (by decide) ?_
                    refine lv_icmp_ne (tgt := 408) hx hb dX2_nextToken_380 (by decide) (fun _ => ?_) (fun h9 => absurd h9 (by decide))
                    have h2_ : ¬ ((tp q = 60 ∨ tp q = 62) ∧ q + 1 < t ∧ tp (q + 1) = 61) := by omega
                    have hsg : ¬ lSign (tp q) = true := fun h9 => by rw [if_pos h9] at hbs; omega
                    have n1_ : ¬ 3 = 1 := by decide
                    have n2_ : ¬ 3 = 2 := by decide
                    have T9 := (show lxT tp t p0 = 3 by unfold lxT; rw [hS]; simp only [if_pos hq0, if_neg c_3, if_neg c_4, if_neg h2_]; rw [if_neg hsg])
                    have Q9 := (show lxQ tp t p0 = q + 1 by unfold lxQ; rw [hS]; simp only [if_pos hq0, if_neg c_3, if_neg c_4, if_neg h2_])
                    exact c_vret hx hb hr hlocks ⟨_, _, ⟨⟨by rw [Q9]; exact (up2_ne (Or.inl (by decide))).trans up2_at, by rw [hS]; exact (up2_ne (Or.inl (by decide))).trans ((up2_ne (Or.inl (by decide))).trans up2_at), by rw [T9]; exact up2_at, (fun h9 => absurd (T9.symm.trans h9) n1_), (fun h9 => absurd (T9.symm.trans h9) n2_)⟩, (fun k9 h9 h8 h7 h6 => by funext j9; (try simp only [up2_eq, h9, h8, h7, h6, false_and, if_false]); exact congrFun (hka k9 h9 h8 h7 h6) j9)⟩, mH.to rfl rfl rfl hw.1⟩ hw.2 dX2_nextToken_408
                  refine lv_iload_n hx hb dX2_nextToken_364 rfl (lv_at hl 1 rfl) ?_
                  refine lv_bipush (v := nI 62) hx hb dX2_nextToken_365 (by decide) ?_
                  refine n_icmp_ne (tgt := 408) hx hb dX2_nextToken_367 (by decide) (by omega) (by decide) (fun c_10 => ?_) (fun c_10 => ?_)
                  · have h2_ : ¬ ((tp q = 60 ∨ tp q = 62) ∧ q + 1 < t ∧ tp (q + 1) = 61) := by omega
                    have hsg : ¬ lSign (tp q) = true := fun h9 => by rw [if_pos h9] at hbs; omega
                    have n1_ : ¬ 3 = 1 := by decide
                    have n2_ : ¬ 3 = 2 := by decide
                    have T9 := (show lxT tp t p0 = 3 by unfold lxT; rw [hS]; simp only [if_pos hq0, if_neg c_3, if_neg c_4, if_neg h2_]; rw [if_neg hsg])
                    have Q9 := (show lxQ tp t p0 = q + 1 by unfold lxQ; rw [hS]; simp only [if_pos hq0, if_neg c_3, if_neg c_4, if_neg h2_])
                    exact c_vret hx hb hr hlocks ⟨_, _, ⟨⟨by rw [Q9]; exact (up2_ne (Or.inl (by decide))).trans up2_at, by rw [hS]; exact (up2_ne (Or.inl (by decide))).trans ((up2_ne (Or.inl (by decide))).trans up2_at), by rw [T9]; exact up2_at, (fun h9 => absurd (T9.symm.trans h9) n1_), (fun h9 => absurd (T9.symm.trans h9) n2_)⟩, (fun k9 h9 h8 h7 h6 => by funext j9; (try simp only [up2_eq, h9, h8, h7, h6, false_and, if_false]); exact congrFun (hka k9 h9 h8 h7 h6) j9)⟩, mH.to rfl rfl rfl hw.1⟩ hw.2 dX2_nextToken_408
                  rcases Nat.lt_or_ge (q + 1) t with hq_ | hq_
                  · have hb_ : tp (q + 1) < 256 := (htp _ hq_).2
                    refine lv_aload_n hx hb dX2_nextToken_370 rfl (lv_at hl 2 rfl) ?_
                    refine lv_aload_n hx hb dX2_nextToken_371 rfl (lv_at hl 2 rfl) ?_
                    refine m_g_at hx hb hts hown hK hw dX2_nextToken_372 ?_
                    rw [show (up2 (up2 (up2 Za 8 0 (nI q)) 7 0 (nI (q + 1))) 9 0 (nI 3)) 7 0 = nI (q + 1) from (up2_ne (Or.inl (by decide))).trans up2_at]
                    refine c_read (va_runV (As := [.int (nI (q + 1))]) (rest := []) ⟨hx, hb, hml, hown, hts⟩ (met_X2_byteAt l G ad M (up2 (up2 (up2 Za 8 0 (nI q)) 7 0 (nI (q + 1))) 9 0 (nI 3)) V (q + 1) t (nI (tp (q + 1))) hT.1 (by omega) (by omega) ((pif_t hq_).trans (htp _ hq_).1)) (cv_X2_X2_byteAt hts ⟨Nat.le_of_ble_eq_true rfl, Nat.le_of_ble_eq_true rfl⟩) (cP.preV hK hw.1 (hw.1.recv hK)) rfl rfl hl.1 rfl (lv_room (Nat.le_of_ble_eq_true rfl)) dX2_nextToken_375 ⟨by first | exact Nat.zero_le _ | omega | decide, by first | exact Nat.zero_le _ | omega | decide⟩) ?_
                    refine lv_bipush (v := nI 61) hx hb dX2_nextToken_378 (by decide) ?_
                    refine n_icmp_ne (tgt := 408) hx hb dX2_nextToken_380 (by decide) (by omega) (by decide) (fun c_11 => ?_) (fun c_11 => ?_)
                    · have h2_ : ¬ ((tp q = 60 ∨ tp q = 62) ∧ q + 1 < t ∧ tp (q + 1) = 61) := by omega
                      have hsg : ¬ lSign (tp q) = true := fun h9 => by rw [if_pos h9] at hbs; omega
                      have n1_ : ¬ 3 = 1 := by decide
                      have n2_ : ¬ 3 = 2 := by decide
                      have T9 := (show lxT tp t p0 = 3 by unfold lxT; rw [hS]; simp only [if_pos hq0, if_neg c_3, if_neg c_4, if_neg h2_]; rw [if_neg hsg])
                      have Q9 := (show lxQ tp t p0 = q + 1 by unfold lxQ; rw [hS]; simp only [if_pos hq0, if_neg c_3, if_neg c_4, if_neg h2_])
                      exact c_vret hx hb hr hlocks ⟨_, _, ⟨⟨by rw [Q9]; exact (up2_ne (Or.inl (by decide))).trans up2_at, by rw [hS]; exact (up2_ne (Or.inl (by decide))).trans ((up2_ne (Or.inl (by decide))).trans up2_at), by rw [T9]; exact up2_at, (fun h9 => absurd (T9.symm.trans h9) n1_), (fun h9 => absurd (T9.symm.trans h9) n2_)⟩, (fun k9 h9 h8 h7 h6 => by funext j9; (try simp only [up2_eq, h9, h8, h7, h6, false_and, if_false]); exact congrFun (hka k9 h9 h8 h7 h6) j9)⟩, mH.to rfl rfl rfl hw.1⟩ hw.2 dX2_nextToken_408
                    refine lv_aload_n hx hb dX2_nextToken_383 rfl (lv_at hl 2 rfl) ?_
                    refine lv_dup hx hb dX2_nextToken_384 rfl ?_
                    refine m_g_at hx hb hts hown hK hw dX2_nextToken_385 ?_
                    rw [show (up2 (up2 (up2 Za 8 0 (nI q)) 7 0 (nI (q + 1))) 9 0 (nI 3)) 7 0 = nI (q + 1) from (up2_ne (Or.inl (by decide))).trans up2_at]
                    refine lv_iconst (v := nI 1) hx hb dX2_nextToken_388 (by decide) ?_
                    refine n_iadd hx hb dX2_nextToken_389 ?_
                    refine m_p_at hx hb hts hown hK hw dX2_nextToken_390 (fun H locs hw => ?_)
                    refine lv_aload_n hx hb dX2_nextToken_393 rfl (lv_at hl 2 rfl) ?_
                    refine lv_iload_n hx hb dX2_nextToken_394 rfl (lv_at hl 1 rfl) ?_
                    refine lv_bipush (v := nI 60) hx hb dX2_nextToken_395 (by decide) ?_
                    refine n_icmp_ne (tgt := 404) hx hb dX2_nextToken_397 (by decide) (by omega) (by decide) (fun c_12 => ?_) (fun c_12 => ?_)
                    · refine lv_iconst (v := nI 5) hx hb dX2_nextToken_404 (by decide) ?_
                      refine m_p_token hx hb hts hown hK hw dX2_nextToken_405 (fun H locs hw => ?_)
                      have h2_ : (tp q = 60 ∨ tp q = 62) ∧ q + 1 < t ∧ tp (q + 1) = 61 := ⟨by omega, by omega, by omega⟩
                      have n1_ : ¬ 5 = 1 := by decide
                      have n2_ : ¬ 5 = 2 := by decide
                      have T9 := (show lxT tp t p0 = 5 by unfold lxT; rw [hS]; simp only [if_pos hq0, if_neg c_3, if_neg c_4, if_pos h2_]; rw [if_neg (by assumption)])
                      have Q9 := (show lxQ tp t p0 = q + 2 by unfold lxQ; rw [hS]; simp only [if_pos hq0, if_neg c_3, if_neg c_4, if_pos h2_])
                      exact c_vret hx hb hr hlocks ⟨_, _, ⟨⟨by rw [Q9]; exact (up2_ne (Or.inl (by decide))).trans up2_at, by rw [hS]; exact (up2_ne (Or.inl (by decide))).trans ((up2_ne (Or.inl (by decide))).trans ((up2_ne (Or.inl (by decide))).trans ((up2_ne (Or.inl (by decide))).trans up2_at))), by rw [T9]; exact up2_at, (fun h9 => absurd (T9.symm.trans h9) n1_), (fun h9 => absurd (T9.symm.trans h9) n2_)⟩, (fun k9 h9 h8 h7 h6 => by funext j9; (try simp only [up2_eq, h9, h8, h7, h6, false_and, if_false]); exact congrFun (hka k9 h9 h8 h7 h6) j9)⟩, mH.to rfl rfl rfl hw.1⟩ hw.2 dX2_nextToken_408
                    refine lv_iconst (v := nI 4) hx hb dX2_nextToken_400 (by decide) ?_
                    refine lv_goto (tgt := 405) hx hb dX2_nextToken_401 (by decide) ?_
                    refine m_p_token hx hb hts hown hK hw dX2_nextToken_405 (fun H locs hw => ?_)
                    have h2_ : (tp q = 60 ∨ tp q = 62) ∧ q + 1 < t ∧ tp (q + 1) = 61 := ⟨by omega, by omega, by omega⟩
                    have n1_ : ¬ 4 = 1 := by decide
                    have n2_ : ¬ 4 = 2 := by decide
                    have T9 := (show lxT tp t p0 = 4 by unfold lxT; rw [hS]; simp only [if_pos hq0, if_neg c_3, if_neg c_4, if_pos h2_]; rw [if_pos (by assumption)])
                    have Q9 := (show lxQ tp t p0 = q + 2 by unfold lxQ; rw [hS]; simp only [if_pos hq0, if_neg c_3, if_neg c_4, if_pos h2_])
                    exact c_vret hx hb hr hlocks ⟨_, _, ⟨⟨by rw [Q9]; exact (up2_ne (Or.inl (by decide))).trans up2_at, by rw [hS]; exact (up2_ne (Or.inl (by decide))).trans ((up2_ne (Or.inl (by decide))).trans ((up2_ne (Or.inl (by decide))).trans ((up2_ne (Or.inl (by decide))).trans up2_at))), by rw [T9]; exact up2_at, (fun h9 => absurd (T9.symm.trans h9) n1_), (fun h9 => absurd (T9.symm.trans h9) n2_)⟩, (fun k9 h9 h8 h7 h6 => by funext j9; (try simp only [up2_eq, h9, h8, h7, h6, false_and, if_false]); exact congrFun (hka k9 h9 h8 h7 h6) j9)⟩, mH.to rfl rfl rfl hw.1⟩ hw.2 dX2_nextToken_408
                  refine lv_aload_n hx hb dX2_nextToken_370 rfl (lv_at hl 2 rfl) ?_
                  refine lv_aload_n hx hb dX2_nextToken_371 rfl (lv_at hl 2 rfl) ?_
                  refine m_g_at hx hb hts hown hK hw dX2_nextToken_372 ?_
                  rw [show (up2 (up2 (up2 Za 8 0 (nI q)) 7 0 (nI (q + 1))) 9 0 (nI 3)) 7 0 = nI (q + 1) from (up2_ne (Or.inl (by decide))).trans up2_at]
                  refine c_read (va_runV (As := [.int (nI (q + 1))]) (rest := []) ⟨hx, hb, hml, hown, hts⟩ (met_X2_byteAt l G ad M (up2 (up2 (up2 Za 8 0 (nI q)) 7 0 (nI (q + 1))) 9 0 (nI 3)) V (q + 1) t (-1) hT.1 (by omega) (by omega) (pif_f (Nat.not_lt.mpr hq_))) (cv_X2_X2_byteAt hts ⟨Nat.le_of_ble_eq_true rfl, Nat.le_of_ble_eq_true rfl⟩) (cP.preV hK hw.1 (hw.1.recv hK)) rfl rfl hl.1 rfl (lv_room (Nat.le_of_ble_eq_true rfl)) dX2_nextToken_375 ⟨by first | exact Nat.zero_le _ | omega | decide, by first | exact Nat.zero_le _ | omega | decide⟩) ?_
                  refine lv_bipush (v := nI 61) hx hb dX2_nextToken_378 (by decide) ?_
                  refine lv_icmp_ne (tgt := 408) hx hb dX2_nextToken_380 (by decide) (fun _ => ?_) (fun h9 => absurd h9 (by decide))
                  have h2_ : ¬ ((tp q = 60 ∨ tp q = 62) ∧ q + 1 < t ∧ tp (q + 1) = 61) := by omega
                  have hsg : ¬ lSign (tp q) = true := fun h9 => by rw [if_pos h9] at hbs; omega
                  have n1_ : ¬ 3 = 1 := by decide
                  have n2_ : ¬ 3 = 2 := by decide
                  have T9 := (show lxT tp t p0 = 3 by unfold lxT; rw [hS]; simp only [if_pos hq0, if_neg c_3, if_neg c_4, if_neg h2_]; rw [if_neg hsg])
                  have Q9 := (show lxQ tp t p0 = q + 1 by unfold lxQ; rw [hS]; simp only [if_pos hq0, if_neg c_3, if_neg c_4, if_neg h2_])
                  exact c_vret hx hb hr hlocks ⟨_, _, ⟨⟨by rw [Q9]; exact (up2_ne (Or.inl (by decide))).trans up2_at, by rw [hS]; exact (up2_ne (Or.inl (by decide))).trans ((up2_ne (Or.inl (by decide))).trans up2_at), by rw [T9]; exact up2_at, (fun h9 => absurd (T9.symm.trans h9) n1_), (fun h9 => absurd (T9.symm.trans h9) n2_)⟩, (fun k9 h9 h8 h7 h6 => by funext j9; (try simp only [up2_eq, h9, h8, h7, h6, false_and, if_false]); exact congrFun (hka k9 h9 h8 h7 h6) j9)⟩, mH.to rfl rfl rfl hw.1⟩ hw.2 dX2_nextToken_408
                refine lv_iload_n hx hb dX2_nextToken_350 rfl (lv_at hl 1 rfl) ?_
                refine lv_goto (tgt := 355) hx hb dX2_nextToken_351 (by decide) ?_
                refine m_p_token hx hb hts hown hK hw dX2_nextToken_355 (fun H locs hw => ?_)
                refine lv_iload_n hx hb dX2_nextToken_358 rfl (lv_at hl 1 rfl) ?_
                refine lv_bipush (v := nI 60) hx hb dX2_nextToken_359 (by decide) ?_
                refine n_icmp_eq (tgt := 370) hx hb dX2_nextToken_361 (by decide) (by omega) (by decide) (fun c_14 => ?_) (fun c_14 => ?_)
                · rcases Nat.lt_or_ge (q + 1) t with hq_ | hq_
                  · have hb_ : tp (q + 1) < 256 := (htp _ hq_).2
                    refine lv_aload_n hx hb dX2_nextToken_370 rfl (lv_at hl 2 rfl) ?_
                    refine lv_aload_n hx hb dX2_nextToken_371 rfl (lv_at hl 2 rfl) ?_
                    refine m_g_at hx hb hts hown hK hw dX2_nextToken_372 ?_
                    rw [show (up2 (up2 (up2 Za 8 0 (nI q)) 7 0 (nI (q + 1))) 9 0 (nI (tp q))) 7 0 = nI (q + 1) from (up2_ne (Or.inl (by decide))).trans up2_at]
                    refine c_read (va_runV (As := [.int (nI (q + 1))]) (rest := []) ⟨hx, hb, hml, hown, hts⟩ (met_X2_byteAt l G ad M (up2 (up2 (up2 Za 8 0 (nI q)) 7 0 (nI (q + 1))) 9 0 (nI (tp q))) V (q + 1) t (nI (tp (q + 1))) hT.1 (by omega) (by omega) ((pif_t hq_).trans (htp _ hq_).1)) (cv_X2_X2_byteAt hts ⟨Nat.le_of_ble_eq_true rfl, Nat.le_of_ble_eq_true rfl⟩) (cP.preV hK hw.1 (hw.1.recv hK)) rfl rfl hl.1 rfl (lv_room (Nat.le_of_ble_eq_true rfl)) dX2_nextToken_375 ⟨by first | exact Nat.zero_le _ | omega | decide, by first | exact Nat.zero_le _ | omega | decide⟩) ?_
                    refine lv_bipush (v := nI 61) hx hb dX2_nextToken_378 (by decide) ?_
                    refine n_icmp_ne (tgt := 408) hx hb dX2_nextToken_380 (by decide) (by omega) (by decide) (fun c_15 => ?_) (fun c_15 => ?_)
                    · have h2_ : ¬ ((tp q = 60 ∨ tp q = 62) ∧ q + 1 < t ∧ tp (q + 1) = 61) := by omega
                      have hsg : lSign (tp q) = true := Classical.byContradiction fun h9 => by rw [if_neg h9] at hbs; omega
                      have n1_ : ¬ tp q = 1 := fun h9 => by rw [h9] at hsg; exact absurd hsg (by decide)
                      have n2_ : ¬ tp q = 2 := fun h9 => by rw [h9] at hsg; exact absurd hsg (by decide)
                      have T9 := (show lxT tp t p0 = tp q by unfold lxT; rw [hS]; simp only [if_pos hq0, if_neg c_3, if_neg c_4, if_neg h2_]; rw [if_pos hsg])
                      have Q9 := (show lxQ tp t p0 = q + 1 by unfold lxQ; rw [hS]; simp only [if_pos hq0, if_neg c_3, if_neg c_4, if_neg h2_])
                      exact c_vret hx hb hr hlocks ⟨_, _, ⟨⟨by rw [Q9]; exact (up2_ne (Or.inl (by decide))).trans up2_at, by rw [hS]; exact (up2_ne (Or.inl (by decide))).trans ((up2_ne (Or.inl (by decide))).trans up2_at), by rw [T9]; exact up2_at, (fun h9 => absurd (T9.symm.trans h9) n1_), (fun h9 => absurd (T9.symm.trans h9) n2_)⟩, (fun k9 h9 h8 h7 h6 => by funext j9; (try simp only [up2_eq, h9, h8, h7, h6, false_and, if_false]); exact congrFun (hka k9 h9 h8 h7 h6) j9)⟩, mH.to rfl rfl rfl hw.1⟩ hw.2 dX2_nextToken_408
                    refine lv_aload_n hx hb dX2_nextToken_383 rfl (lv_at hl 2 rfl) ?_
                    refine lv_dup hx hb dX2_nextToken_384 rfl ?_
                    refine m_g_at hx hb hts hown hK hw dX2_nextToken_385 ?_
                    rw [show (up2 (up2 (up2 Za 8 0 (nI q)) 7 0 (nI (q + 1))) 9 0 (nI (tp q))) 7 0 = nI (q + 1) from (up2_ne (Or.inl (by decide))).trans up2_at]
                    refine lv_iconst (v := nI 1) hx hb dX2_nextToken_388 (by decide) ?_
                    refine n_iadd hx hb dX2_nextToken_389 ?_
                    refine m_p_at hx hb hts hown hK hw dX2_nextToken_390 (fun H locs hw => ?_)
                    refine lv_aload_n hx hb dX2_nextToken_393 rfl (lv_at hl 2 rfl) ?_
                    refine lv_iload_n hx hb dX2_nextToken_394 rfl (lv_at hl 1 rfl) ?_
                    refine lv_bipush (v := nI 60) hx hb dX2_nextToken_395 (by decide) ?_
                    refine n_icmp_ne (tgt := 404) hx hb dX2_nextToken_397 (by decide) (by omega) (by decide) (fun c_16 => ?_) (fun c_16 => ?_)
                    · refine lv_iconst (v := nI 5) hx hb dX2_nextToken_404 (by decide) ?_
                      refine m_p_token hx hb hts hown hK hw dX2_nextToken_405 (fun H locs hw => ?_)
                      have h2_ : (tp q = 60 ∨ tp q = 62) ∧ q + 1 < t ∧ tp (q + 1) = 61 := ⟨by omega, by omega, by omega⟩
                      have n1_ : ¬ 5 = 1 := by decide
                      have n2_ : ¬ 5 = 2 := by decide
                      have T9 := (show lxT tp t p0 = 5 by unfold lxT; rw [hS]; simp only [if_pos hq0, if_neg c_3, if_neg c_4, if_pos h2_]; rw [if_neg (by assumption)])
                      have Q9 := (show lxQ tp t p0 = q + 2 by unfold lxQ; rw [hS]; simp only [if_pos hq0, if_neg c_3, if_neg c_4, if_pos h2_])
                      exact c_vret hx hb hr hlocks ⟨_, _, ⟨⟨by rw [Q9]; exact (up2_ne (Or.inl (by decide))).trans up2_at, by rw [hS]; exact (up2_ne (Or.inl (by decide))).trans ((up2_ne (Or.inl (by decide))).trans ((up2_ne (Or.inl (by decide))).trans ((up2_ne (Or.inl (by decide))).trans up2_at))), by rw [T9]; exact up2_at, (fun h9 => absurd (T9.symm.trans h9) n1_), (fun h9 => absurd (T9.symm.trans h9) n2_)⟩, (fun k9 h9 h8 h7 h6 => by funext j9; (try simp only [up2_eq, h9, h8, h7, h6, false_and, if_false]); exact congrFun (hka k9 h9 h8 h7 h6) j9)⟩, mH.to rfl rfl rfl hw.1⟩ hw.2 dX2_nextToken_408
                    refine lv_iconst (v := nI 4) hx hb dX2_nextToken_400 (by decide) ?_
                    refine lv_goto (tgt := 405) hx hb dX2_nextToken_401 (by decide) ?_
                    refine m_p_token hx hb hts hown hK hw dX2_nextToken_405 (fun H locs hw => ?_)
                    have h2_ : (tp q = 60 ∨ tp q = 62) ∧ q + 1 < t ∧ tp (q + 1) = 61 := ⟨by omega, by omega, by omega⟩
                    have n1_ : ¬ 4 = 1 := by decide
                    have n2_ : ¬ 4 = 2 := by decide
                    have T9 := (show lxT tp t p0 = 4 by unfold lxT; rw [hS]; simp only [if_pos hq0, if_neg c_3, if_neg c_4, if_pos h2_]; rw [if_pos (by assumption)])
                    have Q9 := (show lxQ tp t p0 = q + 2 by unfold lxQ; rw [hS]; simp only [if_pos hq0, if_neg c_3, if_neg c_4, if_pos h2_])
                    exact c_vret hx hb hr hlocks ⟨_, _, ⟨⟨by rw [Q9]; exact (up2_ne (Or.inl (by decide))).trans up2_at, by rw [hS]; exact (up2_ne (Or.inl (by decide))).trans ((up2_ne (Or.inl (by decide))).trans ((up2_ne (Or.inl (by decide))).trans ((up2_ne (Or.inl (by decide))).trans up2_at))), by rw [T9]; exact up2_at, (fun h9 => absurd (T9.symm.trans h9) n1_), (fun h9 => absurd (T9.symm.trans h9) n2_)⟩, (fun k9 h9 h8 h7 h6 => by funext j9; (try simp only [up2_eq, h9, h8, h7, h6, false_and, if_false]); exact congrFun (hka k9 h9 h8 h7 h6) j9)⟩, mH.to rfl rfl rfl hw.1⟩ hw.2 dX2_nextToken_408
                  refine lv_aload_n hx hb dX2_nextToken_370 rfl (lv_at hl 2 rfl) ?_
                  refine lv_aload_n hx hb dX2_nextToken_371 rfl (lv_at hl 2 rfl) ?_
                  refine m_g_at hx hb hts hown hK hw dX2_nextToken_372 ?_
                  rw [show (up2 (up2 (up2 Za 8 0 (nI q)) 7 0 (nI (q + 1))) 9 0 (nI (tp q))) 7 0 = nI (q + 1) from (up2_ne (Or.inl (by decide))).trans up2_at]
                  refine c_read (va_runV (As := [.int (nI (q + 1))]) (rest := []) ⟨hx, hb, hml, hown, hts⟩ (met_X2_byteAt l G ad M (up2 (up2 (up2 Za 8 0 (nI q)) 7 0 (nI (q + 1))) 9 0 (nI (tp q))) V (q + 1) t (-1) hT.1 (by omega) (by omega) (pif_f (Nat.not_lt.mpr hq_))) (cv_X2_X2_byteAt hts ⟨Nat.le_of_ble_eq_true rfl, Nat.le_of_ble_eq_true rfl⟩) (cP.preV hK hw.1 (hw.1.recv hK)) rfl rfl hl.1 rfl (lv_room (Nat.le_of_ble_eq_true rfl)) dX2_nextToken_375 ⟨by first | exact Nat.zero_le _ | omega | decide, by first | exact Nat.zero_le _ | omega | decide⟩) ?_
                  refine lv_bipush (v := nI 61) hx hb dX2_nextToken_378 (by decide) ?_
                  refine lv_icmp_ne (tgt := 408) hx hb dX2_nextToken_380 (by decide) (fun _ => ?_) (fun h9 => absurd h9 (by decide))
                  have h2_ : ¬ ((tp q = 60 ∨ tp q = 62) ∧ q + 1 < t ∧ tp (q + 1) = 61) := by omega
                  have hsg : lSign (tp q) = true := Classical.byContradiction fun h9 => by rw [if_neg h9] at hbs; omega
                  have n1_ : ¬ tp q = 1 := fun h9 => by rw [h9] at hsg; exact absurd hsg (by decide)
                  have n2_ : ¬ tp q = 2 := fun h9 => by rw [h9] at hsg; exact absurd hsg (by decide)
                  have T9 := (show lxT tp t p0 = tp q by unfold lxT; rw [hS]; simp only [if_pos hq0, if_neg c_3, if_neg c_4, if_neg h2_]; rw [if_pos hsg])
                  have Q9 := (show lxQ tp t p0 = q + 1 by unfold lxQ; rw [hS]; simp only [if_pos hq0, if_neg c_3, if_neg c_4, if_neg h2_])
                  exact c_vret hx hb hr hlocks ⟨_, _, ⟨⟨by rw [Q9]; exact (up2_ne (Or.inl (by decide))).trans up2_at, by rw [hS]; exact (up2_ne (Or.inl (by decide))).trans ((up2_ne (Or.inl (by decide))).trans up2_at), by rw [T9]; exact up2_at, (fun h9 => absurd (T9.symm.trans h9) n1_), (fun h9 => absurd (T9.symm.trans h9) n2_)⟩, (fun k9 h9 h8 h7 h6 => by funext j9; (try simp only [up2_eq, h9, h8, h7, h6, false_and, if_false]); exact congrFun (hka k9 h9 h8 h7 h6) j9)⟩, mH.to rfl rfl rfl hw.1⟩ hw.2 dX2_nextToken_408
                refine lv_iload_n hx hb dX2_nextToken_364 rfl (lv_at hl 1 rfl) ?_
                refine lv_bipush (v := nI 62) hx hb dX2_nextToken_365 (by decide) ?_
                refine n_icmp_ne (tgt := 408) hx hb dX2_nextToken_367 (by decide) (by omega) (by decide) (fun c_18 => ?_) (fun c_18 => ?_)
                · have h2_ : ¬ ((tp q = 60 ∨ tp q = 62) ∧ q + 1 < t ∧ tp (q + 1) = 61) := by omega
                  have hsg : lSign (tp q) = true := Classical.byContradiction fun h9 => by rw [if_neg h9] at hbs; omega
                  have n1_ : ¬ tp q = 1 := fun h9 => by rw [h9] at hsg; exact absurd hsg (by decide)
                  have n2_ : ¬ tp q = 2 := fun h9 => by rw [h9] at hsg; exact absurd hsg (by decide)
                  have T9 := (show lxT tp t p0 = tp q by unfold lxT; rw [hS]; simp only [if_pos hq0, if_neg c_3, if_neg c_4, if_neg h2_]; rw [if_pos hsg])
                  have Q9 := (show lxQ tp t p0 = q + 1 by unfold lxQ; rw [hS]; simp only [if_pos hq0, if_neg c_3, if_neg c_4, if_neg h2_])
                  exact c_vret hx hb hr hlocks ⟨_, _, ⟨⟨by rw [Q9]; exact (up2_ne (Or.inl (by decide))).trans up2_at, by rw [hS]; exact (up2_ne (Or.inl (by decide))).trans ((up2_ne (Or.inl (by decide))).trans up2_at), by rw [T9]; exact up2_at, (fun h9 => absurd (T9.symm.trans h9) n1_), (fun h9 => absurd (T9.symm.trans h9) n2_)⟩, (fun k9 h9 h8 h7 h6 => by funext j9; (try simp only [up2_eq, h9, h8, h7, h6, false_and, if_false]); exact congrFun (hka k9 h9 h8 h7 h6) j9)⟩, mH.to rfl rfl rfl hw.1⟩ hw.2 dX2_nextToken_408
                rcases Nat.lt_or_ge (q + 1) t with hq_ | hq_
                · have hb_ : tp (q + 1) < 256 := (htp _ hq_).2
                  refine lv_aload_n hx hb dX2_nextToken_370 rfl (lv_at hl 2 rfl) ?_
                  refine lv_aload_n hx hb dX2_nextToken_371 rfl (lv_at hl 2 rfl) ?_
                  refine m_g_at hx hb hts hown hK hw dX2_nextToken_372 ?_
                  rw [show (up2 (up2 (up2 Za 8 0 (nI q)) 7 0 (nI (q + 1))) 9 0 (nI (tp q))) 7 0 = nI (q + 1) from (up2_ne (Or.inl (by decide))).trans up2_at]
                  refine c_read (va_runV (As := [.int (nI (q + 1))]) (rest := []) ⟨hx, hb, hml, hown, hts⟩ (met_X2_byteAt l G ad M (up2 (up2 (up2 Za 8 0 (nI q)) 7 0 (nI (q + 1))) 9 0 (nI (tp q))) V (q + 1) t (nI (tp (q + 1))) hT.1 (by omega) (by omega) ((pif_t hq_).trans (htp _ hq_).1)) (cv_X2_X2_byteAt hts ⟨Nat.le_of_ble_eq_true rfl, Nat.le_of_ble_eq_true rfl⟩) (cP.preV hK hw.1 (hw.1.recv hK)) rfl rfl hl.1 rfl (lv_room (Nat.le_of_ble_eq_true rfl)) dX2_nextToken_375 ⟨by first | exact Nat.zero_le _ | omega | decide, by first | exact Nat.zero_le _ | omega | decide⟩) ?_
                  refine lv_bipush (v := nI 61) hx hb dX2_nextToken_378 (by decide) ?_
                  refine n_icmp_ne (tgt := 408) hx hb dX2_nextToken_380 (by decide) (by omega) (by decide) (fun c_19 => ?_) (fun c_19 => ?_)
                  · have h2_ : ¬ ((tp q = 60 ∨ tp q = 62) ∧ q + 1 < t ∧ tp (q + 1) = 61) := by omega
                    have hsg : lSign (tp q) = true := Classical.byContradiction fun h9 => by rw [if_neg h9] at hbs; omega
                    have n1_ : ¬ tp q = 1 := fun h9 => by rw [h9] at hsg; exact absurd hsg (by decide)
                    have n2_ : ¬ tp q = 2 := fun h9 => by rw [h9] at hsg; exact absurd hsg (by decide)
                    have T9 := (show lxT tp t p0 = tp q by unfold lxT; rw [hS]; simp only [if_pos hq0, if_neg c_3, if_neg c_4, if_neg h2_]; rw [if_pos hsg])
                    have Q9 := (show lxQ tp t p0 = q + 1 by unfold lxQ; rw [hS]; simp only [if_pos hq0, if_neg c_3, if_neg c_4, if_neg h2_])
                    exact c_vret hx hb hr hlocks ⟨_, _, ⟨⟨by rw [Q9]; exact (up2_ne (Or.inl (by decide))).trans up2_at, by rw [hS]; exact (up2_ne (Or.inl (by decide))).trans ((up2_ne (Or.inl (by decide))).trans up2_at), by rw [T9]; exact up2_at, (fun h9 => absurd (T9.symm.trans h9) n1_), (fun h9 => absurd (T9.symm.trans h9) n2_)⟩, (fun k9 h9 h8 h7 h6 => by funext j9; (try simp only [up2_eq, h9, h8, h7, h6, false_and, if_false]); exact congrFun (hka k9 h9 h8 h7 h6) j9)⟩, mH.to rfl rfl rfl hw.1⟩ hw.2 dX2_nextToken_408
                  refine lv_aload_n hx hb dX2_nextToken_383 rfl (lv_at hl 2 rfl) ?_
                  refine lv_dup hx hb dX2_nextToken_384 rfl ?_
                  refine m_g_at hx hb hts hown hK hw dX2_nextToken_385 ?_
                  rw [show (up2 (up2 (up2 Za 8 0 (nI q)) 7 0 (nI (q + 1))) 9 0 (nI (tp q))) 7 0 = nI (q + 1) from (up2_ne (Or.inl (by decide))).trans up2_at]
                  refine lv_iconst (v := nI 1) hx hb dX2_nextToken_388 (by decide) ?_
                  refine n_iadd hx hb dX2_nextToken_389 ?_
                  refine m_p_at hx hb hts hown hK hw dX2_nextToken_390 (fun H locs hw => ?_)
                  refine lv_aload_n hx hb dX2_nextToken_393 rfl (lv_at hl 2 rfl) ?_
                  refine lv_iload_n hx hb dX2_nextToken_394 rfl (lv_at hl 1 rfl) ?_
                  refine lv_bipush (v := nI 60) hx hb dX2_nextToken_395 (by decide) ?_
                  refine n_icmp_ne (tgt := 404) hx hb dX2_nextToken_397 (by decide) (by omega) (by decide) (fun c_20 => ?_) (fun c_20 => ?_)
                  · refine lv_iconst (v := nI 5) hx hb dX2_nextToken_404 (by decide) ?_
                    refine m_p_token hx hb hts hown hK hw dX2_nextToken_405 (fun H locs hw => ?_)
                    have h2_ : (tp q = 60 ∨ tp q = 62) ∧ q + 1 < t ∧ tp (q + 1) = 61 := ⟨by omega, by omega, by omega⟩
                    have n1_ : ¬ 5 = 1 := by decide
                    have n2_ : ¬ 5 = 2 := by decide
                    have T9 := (show lxT tp t p0 = 5 by unfold lxT; rw [hS]; simp only [if_pos hq0, if_neg c_3, if_neg c_4, if_pos h2_]; rw [if_neg (by assumption)])
                    have Q9 := (show lxQ tp t p0 = q + 2 by unfold lxQ; rw [hS]; simp only [if_pos hq0, if_neg c_3, if_neg c_4, if_pos h2_])
                    exact c_vret hx hb hr hlocks ⟨_, _, ⟨⟨by rw [Q9]; exact (up2_ne (Or.inl (by decide))).trans up2_at, by rw [hS]; exact (up2_ne (Or.inl (by decide))).trans ((up2_ne (Or.inl (by decide))).trans ((up2_ne (Or.inl (by decide))).trans ((up2_ne (Or.inl (by decide))).trans up2_at))), by rw [T9]; exact up2_at, (fun h9 => absurd (T9.symm.trans h9) n1_), (fun h9 => absurd (T9.symm.trans h9) n2_)⟩, (fun k9 h9 h8 h7 h6 => by funext j9; (try simp only [up2_eq, h9, h8, h7, h6, false_and, if_false]); exact congrFun (hka k9 h9 h8 h7 h6) j9)⟩, mH.to rfl rfl rfl hw.1⟩ hw.2 dX2_nextToken_408
                  refine lv_iconst (v := nI 4) hx hb dX2_nextToken_400 (by decide) ?_
                  refine lv_goto (tgt := 405) hx hb dX2_nextToken_401 (by decide) ?_
                  refine m_p_token hx hb hts hown hK hw dX2_nextToken_405 (fun H locs hw => ?_)
                  have h2_ : (tp q = 60 ∨ tp q = 62) ∧ q + 1 < t ∧ tp (q + 1) = 61 := ⟨by omega, by omega, by omega⟩
                  have n1_ : ¬ 4 = 1 := by decide
                  have n2_ : ¬ 4 = 2 := by decide
                  have T9 := (show lxT tp t p0 = 4 by unfold lxT; rw [hS]; simp only [if_pos hq0, if_neg c_3, if_neg c_4, if_pos h2_]; rw [if_pos (by assumption)])
                  have Q9 := (show lxQ tp t p0 = q + 2 by unfold lxQ; rw [hS]; simp only [if_pos hq0, if_neg c_3, if_neg c_4, if_pos h2_])
                  exact c_vret hx hb hr hlocks ⟨_, _, ⟨⟨by rw [Q9]; exact (up2_ne (Or.inl (by decide))).trans up2_at, by rw [hS]; exact (up2_ne (Or.inl (by decide))).trans ((up2_ne (Or.inl (by decide))).trans ((up2_ne (Or.inl (by decide))).trans ((up2_ne (Or.inl (by decide))).trans up2_at))), by rw [T9]; exact up2_at, (fun h9 => absurd (T9.symm.trans h9) n1_), (fun h9 => absurd (T9.symm.trans h9) n2_)⟩, (fun k9 h9 h8 h7 h6 => by funext j9; (try simp only [up2_eq, h9, h8, h7, h6, false_and, if_false]); exact congrFun (hka k9 h9 h8 h7 h6) j9)⟩, mH.to rfl rfl rfl hw.1⟩ hw.2 dX2_nextToken_408
                refine lv_aload_n hx hb dX2_nextToken_370 rfl (lv_at hl 2 rfl) ?_
                refine lv_aload_n hx hb dX2_nextToken_371 rfl (lv_at hl 2 rfl) ?_
                refine m_g_at hx hb hts hown hK hw dX2_nextToken_372 ?_
                rw [show (up2 (up2 (up2 Za 8 0 (nI q)) 7 0 (nI (q + 1))) 9 0 (nI (tp q))) 7 0 = nI (q + 1) from (up2_ne (Or.inl (by decide))).trans up2_at]
                refine c_read (va_runV (As := [.int (nI (q + 1))]) (rest := []) ⟨hx, hb, hml, hown, hts⟩ (met_X2_byteAt l G ad M (up2 (up2 (up2 Za 8 0 (nI q)) 7 0 (nI (q + 1))) 9 0 (nI (tp q))) V (q + 1) t (-1) hT.1 (by omega) (by omega) (pif_f (Nat.not_lt.mpr hq_))) (cv_X2_X2_byteAt hts ⟨Nat.le_of_ble_eq_true rfl, Nat.le_of_ble_eq_true rfl⟩) (cP.preV hK hw.1 (hw.1.recv hK)) rfl rfl hl.1 rfl (lv_room (Nat.le_of_ble_eq_true rfl)) dX2_nextToken_375 ⟨by first | exact Nat.zero_le _ | omega | decide, by first | exact Nat.zero_le _ | omega | decide⟩) ?_
                refine lv_bipush (v := nI 61) hx hb dX2_nextToken_378 (by decide) ?_
                refine lv_icmp_ne (tgt := 408) hx hb dX2_nextToken_380 (by decide) (fun _ => ?_) (fun h9 => absurd h9 (by decide))
                have h2_ : ¬ ((tp q = 60 ∨ tp q = 62) ∧ q + 1 < t ∧ tp (q + 1) = 61) := by omega
                have hsg : lSign (tp q) = true := Classical.byContradiction fun h9 => by rw [if_neg h9] at hbs; omega
                have n1_ : ¬ tp q = 1 := fun h9 => by rw [h9] at hsg; exact absurd hsg (by decide)
                have n2_ : ¬ tp q = 2 := fun h9 => by rw [h9] at hsg; exact absurd hsg (by decide)
                have T9 := (show lxT tp t p0 = tp q by unfold lxT; rw [hS]; simp only [if_pos hq0, if_neg c_3, if_neg c_4, if_neg h2_]; rw [if_pos hsg])
                have Q9 := (show lxQ tp t p0 = q + 1 by unfold lxQ; rw [hS]; simp only [if_pos hq0, if_neg c_3, if_neg c_4, if_neg h2_])
                exact c_vret hx hb hr hlocks ⟨_, _, ⟨⟨by rw [Q9]; exact (up2_ne (Or.inl (by decide))).trans up2_at, by rw [hS]; exact (up2_ne (Or.inl (by decide))).trans ((up2_ne (Or.inl (by decide))).trans up2_at), by rw [T9]; exact up2_at, (fun h9 => absurd (T9.symm.trans h9) n1_), (fun h9 => absurd (T9.symm.trans h9) n2_)⟩, (fun k9 h9 h8 h7 h6 => by funext j9; (try simp only [up2_eq, h9, h8, h7, h6, false_and, if_false]); exact congrFun (hka k9 h9 h8 h7 h6) j9)⟩, mH.to rfl rfl rfl hw.1⟩ hw.2 dX2_nextToken_408
              refine lv_iload_n hx hb dX2_nextToken_255 rfl (lv_at hl 0 rfl) ?_
              refine lv_bipush (v := nI 60) hx hb dX2_nextToken_256 (by decide) ?_
              refine n_icmp_eq (tgt := 339) hx hb dX2_nextToken_258 (by decide) (by omega) (by decide) (fun c_22 => ?_) (fun c_22 => ?_)
              · refine lv_iconst (v := nI 1) hx hb dX2_nextToken_339 (by decide) ?_
                refine lv_goto (tgt := 344) hx hb dX2_nextToken_340 (by decide) ?_
                exact J_344 1  (by rw [if_pos (by simp [lSign, c_22])]) _ _ hw ls (lv_sub hl [0, 1] rfl)
              refine lv_iload_n hx hb dX2_nextToken_261 rfl (lv_at hl 0 rfl) ?_
              refine lv_bipush (v := nI 62) hx hb dX2_nextToken_262 (by decide) ?_
              refine n_icmp_eq (tgt := 339) hx hb dX2_nextToken_264 (by decide) (by omega) (by decide) (fun c_23 => ?_) (fun c_23 => ?_)
              · refine lv_iconst (v := nI 1) hx hb dX2_nextToken_339 (by decide) ?_
                refine lv_goto (tgt := 344) hx hb dX2_nextToken_340 (by decide) ?_
                exact J_344 1  (by rw [if_pos (by simp [lSign, c_22, c_23])]) _ _ hw ls (lv_sub hl [0, 1] rfl)
              refine lv_iload_n hx hb dX2_nextToken_267 rfl (lv_at hl 0 rfl) ?_
              refine lv_bipush (v := nI 61) hx hb dX2_nextToken_268 (by decide) ?_
              refine n_icmp_eq (tgt := 339) hx hb dX2_nextToken_270 (by decide) (by omega) (by decide) (fun c_24 => ?_) (fun c_24 => ?_)
              · refine lv_iconst (v := nI 1) hx hb dX2_nextToken_339 (by decide) ?_
                refine lv_goto (tgt := 344) hx hb dX2_nextToken_340 (by decide) ?_
                exact J_344 1  (by rw [if_pos (by simp [lSign, c_22, c_23, c_24])]) _ _ hw ls (lv_sub hl [0, 1] rfl)
              refine lv_iload_n hx hb dX2_nextToken_273 rfl (lv_at hl 0 rfl) ?_
              refine lv_bipush (v := nI 35) hx hb dX2_nextToken_274 (by decide) ?_
              refine n_icmp_eq (tgt := 339) hx hb dX2_nextToken_276 (by decide) (by omega) (by decide) (fun c_25 => ?_) (fun c_25 => ?_)
              · refine lv_iconst (v := nI 1) hx hb dX2_nextToken_339 (by decide) ?_
                refine lv_goto (tgt := 344) hx hb dX2_nextToken_340 (by decide) ?_
                exact J_344 1  (by rw [if_pos (by simp [lSign, c_22, c_23, c_24, c_25])]) _ _ hw ls (lv_sub hl [0, 1] rfl)
              refine lv_iload_n hx hb dX2_nextToken_279 rfl (lv_at hl 0 rfl) ?_
              refine lv_bipush (v := nI 43) hx hb dX2_nextToken_280 (by decide) ?_
              refine n_icmp_eq (tgt := 339) hx hb dX2_nextToken_282 (by decide) (by omega) (by decide) (fun c_26 => ?_) (fun c_26 => ?_)
              · refine lv_iconst (v := nI 1) hx hb dX2_nextToken_339 (by decide) ?_
                refine lv_goto (tgt := 344) hx hb dX2_nextToken_340 (by decide) ?_
                exact J_344 1  (by rw [if_pos (by simp [lSign, c_22, c_23, c_24, c_25, c_26])]) _ _ hw ls (lv_sub hl [0, 1] rfl)
              refine lv_iload_n hx hb dX2_nextToken_285 rfl (lv_at hl 0 rfl) ?_
              refine lv_bipush (v := nI 45) hx hb dX2_nextToken_286 (by decide) ?_
              refine n_icmp_eq (tgt := 339) hx hb dX2_nextToken_288 (by decide) (by omega) (by decide) (fun c_27 => ?_) (fun c_27 => ?_)
              · refine lv_iconst (v := nI 1) hx hb dX2_nextToken_339 (by decide) ?_
                refine lv_goto (tgt := 344) hx hb dX2_nextToken_340 (by decide) ?_
                exact J_344 1  (by rw [if_pos (by simp [lSign, c_22, c_23, c_24, c_25, c_26, c_27])]) _ _ hw ls (lv_sub hl [0, 1] rfl)
              refine lv_iload_n hx hb dX2_nextToken_291 rfl (lv_at hl 0 rfl) ?_
              refine lv_bipush (v := nI 42) hx hb dX2_nextToken_292 (by decide) ?_
              refine n_icmp_eq (tgt := 339) hx hb dX2_nextToken_294 (by decide) (by omega) (by decide) (fun c_28 => ?_) (fun c_28 => ?_)
              · refine lv_iconst (v := nI 1) hx hb dX2_nextToken_339 (by decide) ?_
                refine lv_goto (tgt := 344) hx hb dX2_nextToken_340 (by decide) ?_
                exact J_344 1  (by rw [if_pos (by simp [lSign, c_22, c_23, c_24, c_25, c_26, c_27, c_28])]) _ _ hw ls (lv_sub hl [0, 1] rfl)
              refine lv_iload_n hx hb dX2_nextToken_297 rfl (lv_at hl 0 rfl) ?_
              refine lv_bipush (v := nI 47) hx hb dX2_nextToken_298 (by decide) ?_
              refine n_icmp_eq (tgt := 339) hx hb dX2_nextToken_300 (by decide) (by omega) (by decide) (fun c_29 => ?_) (fun c_29 => ?_)
              · refine lv_iconst (v := nI 1) hx hb dX2_nextToken_339 (by decide) ?_
                refine lv_goto (tgt := 344) hx hb dX2_nextToken_340 (by decide) ?_
                exact J_344 1  (by rw [if_pos (by simp [lSign, c_22, c_23, c_24, c_25, c_26, c_27, c_28, c_29])]) _ _ hw ls (lv_sub hl [0, 1] rfl)
              refine lv_iload_n hx hb dX2_nextToken_303 rfl (lv_at hl 0 rfl) ?_
              refine lv_bipush (v := nI 40) hx hb dX2_nextToken_304 (by decide) ?_
              refine n_icmp_eq (tgt := 339) hx hb dX2_nextToken_306 (by decide) (by omega) (by decide) (fun c_30 => ?_) (fun c_30 => ?_)
              · refine lv_iconst (v := nI 1) hx hb dX2_nextToken_339 (by decide) ?_
                refine lv_goto (tgt := 344) hx hb dX2_nextToken_340 (by decide) ?_
                exact J_344 1  (by rw [if_pos (by simp [lSign, c_22, c_23, c_24, c_25, c_26, c_27, c_28, c_29, c_30])]) _ _ hw ls (lv_sub hl [0, 1] rfl)
              refine lv_iload_n hx hb dX2_nextToken_309 rfl (lv_at hl 0 rfl) ?_
              refine lv_bipush (v := nI 41) hx hb dX2_nextToken_310 (by decide) ?_
              refine n_icmp_eq (tgt := 339) hx hb dX2_nextToken_312 (by decide) (by omega) (by decide) (fun c_31 => ?_) (fun c_31 => ?_)
              · refine lv_iconst (v := nI 1) hx hb dX2_nextToken_339 (by decide) ?_
                refine lv_goto (tgt := 344) hx hb dX2_nextToken_340 (by decide) ?_
                exact J_344 1  (by rw [if_pos (by simp [lSign, c_22, c_23, c_24, c_25, c_26, c_27, c_28, c_29, c_30, c_31])]) _ _ hw ls (lv_sub hl [0, 1] rfl)
              refine lv_iload_n hx hb dX2_nextToken_315 rfl (lv_at hl 0 rfl) ?_
              refine lv_bipush (v := nI 59) hx hb dX2_nextToken_316 (by decide) ?_
              refine n_icmp_eq (tgt := 339) hx hb dX2_nextToken_318 (by decide) (by omega) (by decide) (fun c_32 => ?_) (fun c_32 => ?_)
              · refine lv_iconst (v := nI 1) hx hb dX2_nextToken_339 (by decide) ?_
                refine lv_goto (tgt := 344) hx hb dX2_nextToken_340 (by decide) ?_
                exact J_344 1  (by rw [if_pos (by simp [lSign, c_22, c_23, c_24, c_25, c_26, c_27, c_28, c_29, c_30, c_31, c_32])]) _ _ hw ls (lv_sub hl [0, 1] rfl)
              refine lv_iload_n hx hb dX2_nextToken_321 rfl (lv_at hl 0 rfl) ?_
              refine lv_bipush (v := nI 44) hx hb dX2_nextToken_322 (by decide) ?_
              refine n_icmp_eq (tgt := 339) hx hb dX2_nextToken_324 (by decide) (by omega) (by decide) (fun c_33 => ?_) (fun c_33 => ?_)
              · refine lv_iconst (v := nI 1) hx hb dX2_nextToken_339 (by decide) ?_
                refine lv_goto (tgt := 344) hx hb dX2_nextToken_340 (by decide) ?_
                exact J_344 1  (by rw [if_pos (by simp [lSign, c_22, c_23, c_24, c_25, c_26, c_27, c_28, c_29, c_30, c_31, c_32, c_33])]) _ _ hw ls (lv_sub hl [0, 1] rfl)
              refine lv_iload_n hx hb dX2_nextToken_327 rfl (lv_at hl 0 rfl) ?_
              refine lv_bipush (v := nI 63) hx hb dX2_nextToken_328 (by decide) ?_
              refine n_icmp_eq (tgt := 339) hx hb dX2_nextToken_330 (by decide) (by omega) (by decide) (fun c_34 => ?_) (fun c_34 => ?_)
              · refine lv_iconst (v := nI 1) hx hb dX2_nextToken_339 (by decide) ?_
                refine lv_goto (tgt := 344) hx hb dX2_nextToken_340 (by decide) ?_
                exact J_344 1  (by rw [if_pos (by simp [lSign, c_22, c_23, c_24, c_25, c_26, c_27, c_28, c_29, c_30, c_31, c_32, c_33, c_34])]) _ _ hw ls (lv_sub hl [0, 1] rfl)
              refine lv_iload_n hx hb dX2_nextToken_333 rfl (lv_at hl 0 rfl) ?_
              refine lv_bipush (v := nI 58) hx hb dX2_nextToken_334 (by decide) ?_
              refine n_icmp_ne (tgt := 343) hx hb dX2_nextToken_336 (by decide) (by omega) (by decide) (fun c_35 => ?_) (fun c_35 => ?_)
              · refine lv_iconst (v := nI 0) hx hb dX2_nextToken_343 (by decide) ?_
                exact J_344 0  (by rw [if_neg (by simp [lSign, c_22, c_23, c_24, c_25, c_26, c_27, c_28, c_29, c_30, c_31, c_32, c_33, c_34, c_35])]) _ _ hw ls (lv_sub hl [0, 1] rfl)
              refine lv_iconst (v := nI 1) hx hb dX2_nextToken_339 (by decide) ?_
              refine lv_goto (tgt := 344) hx hb dX2_nextToken_340 (by decide) ?_
              exact J_344 1  (by rw [if_pos (by simp [lSign, c_22, c_23, c_24, c_25, c_26, c_27, c_28, c_29, c_30, c_31, c_32, c_33, c_34, c_35])]) _ _ hw ls (lv_sub hl [0, 1] rfl)
            refine lv_aload_n hx hb dX2_nextToken_151 rfl (lv_at hl 1 rfl) ?_
            refine lv_iconst (v := nI 2) hx hb dX2_nextToken_152 (by decide) ?_
            refine m_p_token hx hb hts hown hK hw dX2_nextToken_153 (fun H locs hw => ?_)
            refine lv_aload_n hx hb dX2_nextToken_156 rfl (lv_at hl 1 rfl) ?_
            refine lv_lconst (v := lN 0) hx hb dX2_nextToken_157 (by decide) ?_
            refine m_p_word hx hb hts hown hK hw dX2_nextToken_158 (fun H locs hw => ?_)
            have L161_36 : ∀ (fuel : Nat) (r : Nat) (wv : Int64) (Zb : Nat → Nat → Int32) (Vb : Nat → Nat → Int64), t - r < fuel → (q ≤ r) → (r ≤ t) → (scn lLet tp (t - r) r = scn lLet tp (t - q) q) → (wrdL tp q (t - r) r wv = wrdL tp q (t - q) q (lN 0)) → (Zb 7 0 = nI r) → (Zb 8 0 = nI q) → (Zb 9 0 = nI 2) → (Vb 11 0 = wv) → (∀ k9, k9 ≠ 7 → k9 ≠ 8 → k9 ≠ 9 → k9 ≠ 10 → Zb k9 = Z k9) → ∀ (H : Heap) (locs : List Loc), MS G ad s.heap M Zb Vb H locs → ∀ (ls : Array Slot), lv_has ls 3 [(0, .ref (ad 0)), (1, .int (nI (tp q)))] → W p l e ({ frames := 2, cells := 0, slots := 0, locals := 42 } : Room) s m ([.ref (ad 0)] : List Value).toArray below meth c H locs 0 0 (MQ below (cQ none (fun H => ∃ Z9 V9, (LX tp t p0 Z9 V9 ∧ ∀ k9, k9 ≠ 7 → k9 ≠ 8 → k9 ≠ 9 → k9 ≠ 10 → Z9 k9 = Z k9) ∧ mH G ad M Z9 V9 H) (mA ad)) ([.ref (ad 0)] : List Value).toArray s 0 0 (mA ad)) (F0 m 161 ls []) := by
              intro fuel
              induction fuel with
              | zero => intro r wv Zb Vb hf; exact absurd hf (Nat.not_lt_zero _)
              | succ fuel ih =>
                intro r wv Zb Vb hf hqr hrt hrs hwv h7b h8b h9b h11b hkZb H locs hw ls hl
                have ih161 := ih
                rcases Nat.lt_or_ge r t with hq_ | hq_
                · have hb_ : tp r < 256 := (htp _ hq_).2
                  refine lv_aload_n hx hb dX2_nextToken_161 rfl (lv_at hl 0 rfl) ?_
                  refine lv_aload_n hx hb dX2_nextToken_162 rfl (lv_at hl 0 rfl) ?_
                  refine m_g_at hx hb hts hown hK hw dX2_nextToken_163 ?_
                  rw [show Zb 7 0 = nI r from h7b]
                  refine c_read (va_runV (As := [.int (nI r)]) (rest := []) ⟨hx, hb, hml, hown, hts⟩ (met_X2_byteAt l G ad M Zb Vb r t (nI (tp r)) hT.1 (by omega) (by omega) ((pif_t hq_).trans (htp _ hq_).1)) (cv_X2_X2_byteAt hts ⟨Nat.le_of_ble_eq_true rfl, Nat.le_of_ble_eq_true rfl⟩) (cP.preV hK hw.1 (hw.1.recv hK)) rfl rfl hl.1 rfl (lv_room (Nat.le_of_ble_eq_true rfl)) dX2_nextToken_166 ⟨by first | exact Nat.zero_le _ | omega | decide, by first | exact Nat.zero_le _ | omega | decide⟩) ?_
                  refine c_read (va_runS (As := [.int (nI (tp r))]) (rest := []) ⟨hx, hb, hml, hown, hts⟩ (met_X2_isLetterN l G (tp r) (by omega)) (cs_X2_X2_isLetter hts ⟨Nat.le_of_ble_eq_true rfl, Nat.le_of_ble_eq_true rfl⟩) (cP.pre hK trivial) rfl rfl hl.1 rfl (lv_room (Nat.le_of_ble_eq_true rfl)) dX2_nextToken_169 ⟨by first | exact Nat.zero_le _ | omega | decide, by first | exact Nat.zero_le _ | omega | decide⟩) ?_
                  refine b_if_eq (tgt := 223) hx hb dX2_nextToken_172 (by decide) (fun c_37 => ?_) (fun c_37 => ?_)
                  · have hend : scn lLet tp (t - r) r = r := scn_f hq_ c_37
                    have hwend : wrdL tp q (t - r) r wv = wv := wrdL_f hq_ c_37
                    refine lv_aload_n hx hb dX2_nextToken_223 rfl (lv_at hl 0 rfl) ?_
                    refine m_g_at hx hb hts hown hK hw dX2_nextToken_224 ?_
                    rw [show Zb 7 0 = nI r from h7b]
                    refine lv_aload_n hx hb dX2_nextToken_227 rfl (lv_at hl 0 rfl) ?_
                    refine m_g_place hx hb hts hown hK hw dX2_nextToken_228 ?_
                    rw [show Zb 8 0 = nI q from h8b]
                    refine n_isub hx hb (by omega) dX2_nextToken_231 ?_
                    refine lv_bipush (v := nI 7) hx hb dX2_nextToken_232 (by decide) ?_
                    refine n_icmp_le (tgt := 408) hx hb dX2_nextToken_234 (by decide) (by omega) (by decide) (fun c_38 => ?_) (fun c_38 => ?_)
                    · have T9 := (show lxT tp t p0 = 2 by unfold lxT; rw [hS]; simp only [if_pos hq0, if_neg c_3, if_pos c_4])
                      have Q9 := (show lxQ tp t p0 = r by unfold lxQ; rw [hS]; simp only [if_pos hq0, if_neg c_3, if_pos c_4]; exact hrs.symm.trans hend)
                      exact c_vret hx hb hr hlocks ⟨_, _, ⟨⟨by rw [Q9]; exact h7b, by rw [hS]; exact h8b, by rw [T9]; exact h9b, (fun h9 => by rw [T9] at h9; cases h9), (fun _ => by unfold lxW; rw [Q9, hS, if_pos (by omega), ← hwv, hwend]; exact h11b)⟩, (fun k9 h9 h8 h7 h6 => by funext j9; (try simp only [up2_eq, h9, h8, h7, h6, false_and, if_false]); exact congrFun (hkZb k9 h9 h8 h7 h6) j9)⟩, mH.to rfl rfl rfl hw.1⟩ hw.2 dX2_nextToken_408
                    refine lv_aload_n hx hb dX2_nextToken_237 rfl (lv_at hl 0 rfl) ?_
                    refine lv_lconst (v := lN 0) hx hb dX2_nextToken_238 (by decide) ?_
                    refine m_p_word hx hb hts hown hK hw dX2_nextToken_239 (fun H locs hw => ?_)
                    refine lv_goto (tgt := 408) hx hb dX2_nextToken_242 (by decide) ?_
                    have T9 := (show lxT tp t p0 = 2 by unfold lxT; rw [hS]; simp only [if_pos hq0, if_neg c_3, if_pos c_4])
                    have Q9 := (show lxQ tp t p0 = r by unfold lxQ; rw [hS]; simp only [if_pos hq0, if_neg c_3, if_pos c_4]; exact hrs.symm.trans hend)
                    exact c_vret hx hb hr hlocks ⟨_, _, ⟨⟨by rw [Q9]; exact h7b, by rw [hS]; exact h8b, by rw [T9]; exact h9b, (fun h9 => by rw [T9] at h9; cases h9), (fun _ => by unfold lxW; rw [Q9, hS, if_neg (by omega)]; exact up2_at)⟩, (fun k9 h9 h8 h7 h6 => by funext j9; (try simp only [up2_eq, h9, h8, h7, h6, false_and, if_false]); exact congrFun (hkZb k9 h9 h8 h7 h6) j9)⟩, mH.to rfl rfl rfl hw.1⟩ hw.2 dX2_nextToken_408
                  refine lv_aload_n hx hb dX2_nextToken_175 rfl (lv_at hl 0 rfl) ?_
                  refine m_g_at hx hb hts hown hK hw dX2_nextToken_176 ?_
                  rw [show Zb 7 0 = nI r from h7b]
                  refine lv_aload_n hx hb dX2_nextToken_179 rfl (lv_at hl 0 rfl) ?_
                  refine m_g_place hx hb hts hown hK hw dX2_nextToken_180 ?_
                  rw [show Zb 8 0 = nI q from h8b]
                  refine n_isub hx hb (by omega) dX2_nextToken_183 ?_
                  refine lv_bipush (v := nI 7) hx hb dX2_nextToken_184 (by decide) ?_
                  refine n_icmp_ge (tgt := 210) hx hb dX2_nextToken_186 (by decide) (by omega) (by decide) (fun c_39 => ?_) (fun c_39 => ?_)
                  · refine lv_aload_n hx hb dX2_nextToken_210 rfl (lv_at hl 0 rfl) ?_
                    refine lv_dup hx hb dX2_nextToken_211 rfl ?_
                    refine m_g_at hx hb hts hown hK hw dX2_nextToken_212 ?_
                    rw [show Zb 7 0 = nI r from h7b]
                    refine lv_iconst (v := nI 1) hx hb dX2_nextToken_215 (by decide) ?_
                    refine n_iadd hx hb dX2_nextToken_216 ?_
                    refine m_p_at hx hb hts hown hK hw dX2_nextToken_217 (fun H locs hw => ?_)
                    refine lv_goto (tgt := 161) hx hb dX2_nextToken_220 (by decide) ?_
                    exact ih161 (r + 1) wv (up2 Zb 7 0 (nI (r + 1))) Vb (by omega) (by omega) (by omega) ((scn_t hq_ c_37).symm.trans hrs) (by rw [← hwv, wrdL_t hq_ c_37, if_neg (Nat.not_lt.mpr c_39)]; first | done | rfl) up2_at ((up2_ne (Or.inl (by decide))).trans h8b) ((up2_ne (Or.inl (by decide))).trans h9b) h11b (fun k9 h9 h8 h7 h6 => by funext j9; (try simp only [up2_eq, h9, h8, h7, h6, false_and, if_false]); exact congrFun (hkZb k9 h9 h8 h7 h6) j9) _ _ hw ls (lv_sub hl [0, 1] rfl)
                  refine lv_aload_n hx hb dX2_nextToken_189 rfl (lv_at hl 0 rfl) ?_
                  refine lv_aload_n hx hb dX2_nextToken_190 rfl (lv_at hl 0 rfl) ?_
                  refine m_g_word hx hb hts hown hK hw dX2_nextToken_191 ?_
                  rw [show Vb 11 0 = wv from h11b]
                  refine lv_bipush (v := nI 8) hx hb dX2_nextToken_194 (by decide) ?_
                  refine lv_lshl (v := wv <<< ((nI 8).toInt64 &&& 63)) hx hb dX2_nextToken_196 rfl ?_
                  refine lv_aload_n hx hb dX2_nextToken_197 rfl (lv_at hl 0 rfl) ?_
                  refine lv_aload_n hx hb dX2_nextToken_198 rfl (lv_at hl 0 rfl) ?_
                  refine m_g_at hx hb hts hown hK hw dX2_nextToken_199 ?_
                  rw [show Zb 7 0 = nI r from h7b]
                  refine c_read (va_runV (As := [.int (nI r)]) (rest := [.long (wv <<< ((nI 8).toInt64 &&& 63)), .ref (ad 0)]) ⟨hx, hb, hml, hown, hts⟩ (met_X2_byteAt l G ad M Zb Vb r t (nI (tp r)) hT.1 (by omega) (by omega) ((pif_t hq_).trans (htp _ hq_).1)) (cv_X2_X2_byteAt hts ⟨Nat.le_of_ble_eq_true rfl, Nat.le_of_ble_eq_true rfl⟩) (cP.preV hK hw.1 (hw.1.recv hK)) rfl rfl hl.1 rfl (lv_room (Nat.le_of_ble_eq_true rfl)) dX2_nextToken_202 ⟨by first | exact Nat.zero_le _ | omega | decide, by first | exact Nat.zero_le _ | omega | decide⟩) ?_
                  refine lv_i2l (v := lN (tp r)) hx hb dX2_nextToken_205 (nI_l (by omega)) ?_
                  refine lv_lor hx hb dX2_nextToken_206 ?_
                  refine m_p_word hx hb hts hown hK hw dX2_nextToken_207 (fun H locs hw => ?_)
                  refine lv_aload_n hx hb dX2_nextToken_210 rfl (lv_at hl 0 rfl) ?_
                  refine lv_dup hx hb dX2_nextToken_211 rfl ?_
                  refine m_g_at hx hb hts hown hK hw dX2_nextToken_212 ?_
                  rw [show Zb 7 0 = nI r from h7b]
                  refine lv_iconst (v := nI 1) hx hb dX2_nextToken_215 (by decide) ?_
                  refine n_iadd hx hb dX2_nextToken_216 ?_
                  refine m_p_at hx hb hts hown hK hw dX2_nextToken_217 (fun H locs hw => ?_)
                  refine lv_goto (tgt := 161) hx hb dX2_nextToken_220 (by decide) ?_
                  exact ih161 (r + 1) ((wv <<< ((nI 8).toInt64 &&& 63)) ||| (lN (tp r))) (up2 Zb 7 0 (nI (r + 1))) (up2 Vb 11 0 ((wv <<< ((nI 8).toInt64 &&& 63)) ||| (lN (tp r)))) (by omega) (by omega) (by omega) ((scn_t hq_ c_37).symm.trans hrs) (by rw [← hwv, wrdL_t hq_ c_37, if_pos c_39]; first | done | rfl) up2_at ((up2_ne (Or.inl (by decide))).trans h8b) ((up2_ne (Or.inl (by decide))).trans h9b) up2_at (fun k9 h9 h8 h7 h6 => by funext j9; (try simp only [up2_eq, h9, h8, h7, h6, false_and, if_false]); exact congrFun (hkZb k9 h9 h8 h7 h6) j9) _ _ hw ls (lv_sub hl [0, 1] rfl)
                refine lv_aload_n hx hb dX2_nextToken_161 rfl (lv_at hl 0 rfl) ?_
                refine lv_aload_n hx hb dX2_nextToken_162 rfl (lv_at hl 0 rfl) ?_
                refine m_g_at hx hb hts hown hK hw dX2_nextToken_163 ?_
                rw [show Zb 7 0 = nI r from h7b]
                refine c_read (va_runV (As := [.int (nI r)]) (rest := []) ⟨hx, hb, hml, hown, hts⟩ (met_X2_byteAt l G ad M Zb Vb r t (-1) hT.1 (by omega) (by omega) (pif_f (Nat.not_lt.mpr hq_))) (cv_X2_X2_byteAt hts ⟨Nat.le_of_ble_eq_true rfl, Nat.le_of_ble_eq_true rfl⟩) (cP.preV hK hw.1 (hw.1.recv hK)) rfl rfl hl.1 rfl (lv_room (Nat.le_of_ble_eq_true rfl)) dX2_nextToken_166 ⟨by first | exact Nat.zero_le _ | omega | decide, by first | exact Nat.zero_le _ | omega | decide⟩) ?_
                refine c_read (va_runS (As := [.int (-1)]) (rest := []) ⟨hx, hb, hml, hown, hts⟩ (met_X2_isLetter l G (-1)) (cs_X2_X2_isLetter hts ⟨Nat.le_of_ble_eq_true rfl, Nat.le_of_ble_eq_true rfl⟩) (cP.pre hK trivial) rfl rfl hl.1 rfl (lv_room (Nat.le_of_ble_eq_true rfl)) dX2_nextToken_169 ⟨by first | exact Nat.zero_le _ | omega | decide, by first | exact Nat.zero_le _ | omega | decide⟩) ?_
                refine b_if_eq (tgt := 223) hx hb dX2_nextToken_172 (by decide) (fun _ => ?_) (fun h9 => absurd h9 (by decide))
                have hend : scn lLet tp (t - r) r = r := scn_z hq_
                have hwend : wrdL tp q (t - r) r wv = wv := wrdL_z hq_
                refine lv_aload_n hx hb dX2_nextToken_223 rfl (lv_at hl 0 rfl) ?_
                refine m_g_at hx hb hts hown hK hw dX2_nextToken_224 ?_
                rw [show Zb 7 0 = nI r from h7b]
                refine lv_aload_n hx hb dX2_nextToken_227 rfl (lv_at hl 0 rfl) ?_
                refine m_g_place hx hb hts hown hK hw dX2_nextToken_228 ?_
                rw [show Zb 8 0 = nI q from h8b]
                refine n_isub hx hb (by omega) dX2_nextToken_231 ?_
                refine lv_bipush (v := nI 7) hx hb dX2_nextToken_232 (by decide) ?_
                refine n_icmp_le (tgt := 408) hx hb dX2_nextToken_234 (by decide) (by omega) (by decide) (fun c_40 => ?_) (fun c_40 => ?_)
                · have T9 := (show lxT tp t p0 = 2 by unfold lxT; rw [hS]; simp only [if_pos hq0, if_neg c_3, if_pos c_4])
                  have Q9 := (show lxQ tp t p0 = r by unfold lxQ; rw [hS]; simp only [if_pos hq0, if_neg c_3, if_pos c_4]; exact hrs.symm.trans hend)
                  exact c_vret hx hb hr hlocks ⟨_, _, ⟨⟨by rw [Q9]; exact h7b, by rw [hS]; exact h8b, by rw [T9]; exact h9b, (fun h9 => by rw [T9] at h9; cases h9), (fun _ => by unfold lxW; rw [Q9, hS, if_pos (by omega), ← hwv, hwend]; exact h11b)⟩, (fun k9 h9 h8 h7 h6 => by funext j9; (try simp only [up2_eq, h9, h8, h7, h6, false_and, if_false]); exact congrFun (hkZb k9 h9 h8 h7 h6) j9)⟩, mH.to rfl rfl rfl hw.1⟩ hw.2 dX2_nextToken_408
                refine lv_aload_n hx hb dX2_nextToken_237 rfl (lv_at hl 0 rfl) ?_
                refine lv_lconst (v := lN 0) hx hb dX2_nextToken_238 (by decide) ?_
                refine m_p_word hx hb hts hown hK hw dX2_nextToken_239 (fun H locs hw => ?_)
                refine lv_goto (tgt := 408) hx hb dX2_nextToken_242 (by decide) ?_
                have T9 := (show lxT tp t p0 = 2 by unfold lxT; rw [hS]; simp only [if_pos hq0, if_neg c_3, if_pos c_4])
                have Q9 := (show lxQ tp t p0 = r by unfold lxQ; rw [hS]; simp only [if_pos hq0, if_neg c_3, if_pos c_4]; exact hrs.symm.trans hend)
                exact c_vret hx hb hr hlocks ⟨_, _, ⟨⟨by rw [Q9]; exact h7b, by rw [hS]; exact h8b, by rw [T9]; exact h9b, (fun h9 => by rw [T9] at h9; cases h9), (fun _ => by unfold lxW; rw [Q9, hS, if_neg (by omega)]; exact up2_at)⟩, (fun k9 h9 h8 h7 h6 => by funext j9; (try simp only [up2_eq, h9, h8, h7, h6, false_and, if_false]); exact congrFun (hkZb k9 h9 h8 h7 h6) j9)⟩, mH.to rfl rfl rfl hw.1⟩ hw.2 dX2_nextToken_408
            exact L161_36 _ q (lN 0) (up2 (up2 Za 8 0 (nI q)) 9 0 (nI 2)) (up2 V 11 0 (lN 0)) (Nat.lt_succ_self _) (Nat.le_refl _) (by omega) rfl rfl ((up2_ne (Or.inl (by decide))).trans ((up2_ne (Or.inl (by decide))).trans h7a)) ((up2_ne (Or.inl (by decide))).trans up2_at) up2_at up2_at (fun k9 h9 h8 h7 h6 => by funext j9; (try simp only [up2_eq, h9, h8, h7, h6, false_and, if_false]); exact congrFun (hka k9 h9 h8 h7 h6) j9) _ _ hw ls (lv_sub hl [1, 0] rfl)
          refine lv_aload_n hx hb dX2_nextToken_75 rfl (lv_at hl 1 rfl) ?_
          refine lv_iconst (v := nI 1) hx hb dX2_nextToken_76 (by decide) ?_
          refine m_p_token hx hb hts hown hK hw dX2_nextToken_77 (fun H locs hw => ?_)
          refine lv_aload_n hx hb dX2_nextToken_80 rfl (lv_at hl 1 rfl) ?_
          refine lv_iconst (v := nI 0) hx hb dX2_nextToken_81 (by decide) ?_
          refine m_p_number hx hb hts hown hK hw dX2_nextToken_82 (fun H locs hw => ?_)
          have L85_41 : ∀ (fuel : Nat) (r : Nat) (v : Nat) (Zb : Nat → Nat → Int32), t - r < fuel → (q ≤ r) → (r ≤ t) → (scn lDig tp (t - r) r = scn lDig tp (t - q) q) → (numL tp (t - r) r v = numL tp (t - q) q 0) → (v < 1000000) → (Zb 7 0 = nI r) → (Zb 8 0 = nI q) → (Zb 9 0 = nI 1) → (Zb 10 0 = nI v) → (∀ k9, k9 ≠ 7 → k9 ≠ 8 → k9 ≠ 9 → k9 ≠ 10 → Zb k9 = Z k9) → ∀ (H : Heap) (locs : List Loc), MS G ad s.heap M Zb V H locs → ∀ (ls : Array Slot), lv_has ls 3 [(0, .ref (ad 0)), (1, .int (nI (tp q)))] → W p l e ({ frames := 2, cells := 0, slots := 0, locals := 42 } : Room) s m ([.ref (ad 0)] : List Value).toArray below meth c H locs 0 0 (MQ below (cQ none (fun H => ∃ Z9 V9, (LX tp t p0 Z9 V9 ∧ ∀ k9, k9 ≠ 7 → k9 ≠ 8 → k9 ≠ 9 → k9 ≠ 10 → Z9 k9 = Z k9) ∧ mH G ad M Z9 V9 H) (mA ad)) ([.ref (ad 0)] : List Value).toArray s 0 0 (mA ad)) (F0 m 85 ls []) := by
            intro fuel
            induction fuel with
            | zero => intro r v Zb hf; exact absurd hf (Nat.not_lt_zero _)
            | succ fuel ih =>
              intro r v Zb hf hqr hrt hrs hv hv9 h7b h8b h9b h10b hkZb H locs hw ls hl
              have ih85 := ih
              rcases Nat.lt_or_ge r t with hq_ | hq_
              · have hb_ : tp r < 256 := (htp _ hq_).2
                refine lv_aload_n hx hb dX2_nextToken_85 rfl (lv_at hl 0 rfl) ?_
                refine lv_aload_n hx hb dX2_nextToken_86 rfl (lv_at hl 0 rfl) ?_
                refine m_g_at hx hb hts hown hK hw dX2_nextToken_87 ?_
                rw [show Zb 7 0 = nI r from h7b]
                refine c_read (va_runV (As := [.int (nI r)]) (rest := []) ⟨hx, hb, hml, hown, hts⟩ (met_X2_byteAt l G ad M Zb V r t (nI (tp r)) hT.1 (by omega) (by omega) ((pif_t hq_).trans (htp _ hq_).1)) (cv_X2_X2_byteAt hts ⟨Nat.le_of_ble_eq_true rfl, Nat.le_of_ble_eq_true rfl⟩) (cP.preV hK hw.1 (hw.1.recv hK)) rfl rfl hl.1 rfl (lv_room (Nat.le_of_ble_eq_true rfl)) dX2_nextToken_90 ⟨by first | exact Nat.zero_le _ | omega | decide, by first | exact Nat.zero_le _ | omega | decide⟩) ?_
                refine c_read (va_runS (As := [.int (nI (tp r))]) (rest := []) ⟨hx, hb, hml, hown, hts⟩ (met_X2_isDigitN l G (tp r) (by omega)) (cs_X2_X2_isDigit hts ⟨Nat.le_of_ble_eq_true rfl, Nat.le_of_ble_eq_true rfl⟩) (cP.pre hK trivial) rfl rfl hl.1 rfl (lv_room (Nat.le_of_ble_eq_true rfl)) dX2_nextToken_93 ⟨by first | exact Nat.zero_le _ | omega | decide, by first | exact Nat.zero_le _ | omega | decide⟩) ?_
                refine b_if_eq (tgt := 408) hx hb dX2_nextToken_96 (by decide) (fun c_42 => ?_) (fun c_42 => ?_)
                · have hend : scn lDig tp (t - r) r = r := scn_f hq_ c_42
                  have hvend : numL tp (t - r) r v = v := numL_f hq_ c_42
                  have T9 := (show lxT tp t p0 = 1 by unfold lxT; rw [hS]; simp only [if_pos hq0, if_pos c_3])
                  have Q9 := (show lxQ tp t p0 = r by unfold lxQ; rw [hS]; simp only [if_pos hq0, if_pos c_3]; exact hrs.symm.trans hend)
                  exact c_vret hx hb hr hlocks ⟨_, _, ⟨⟨by rw [Q9]; exact h7b, by rw [hS]; exact h8b, by rw [T9]; exact h9b, (fun _ => by rw [h10b]; unfold lxN; rw [hS, ← hv, hvend]), (fun h9 => by rw [T9] at h9; cases h9)⟩, (fun k9 h9 h8 h7 h6 => by funext j9; (try simp only [up2_eq, h9, h8, h7, h6, false_and, if_false]); exact congrFun (hkZb k9 h9 h8 h7 h6) j9)⟩, mH.to rfl rfl rfl hw.1⟩ hw.2 dX2_nextToken_408
                have hdg : 48 ≤ tp r ∧ tp r ≤ 57 := by have := c_42; simp [lDig] at this; exact this
                refine lv_aload_n hx hb dX2_nextToken_99 rfl (lv_at hl 0 rfl) ?_
                refine m_g_number hx hb hts hown hK hw dX2_nextToken_100 ?_
                rw [show Zb 10 0 = nI v from h10b]
                refine lv_ldc (v := nI 100000) hx hb hown (hts _ q1288) dX2_nextToken_103 ?_
                refine n_icmp_ge (tgt := 131) hx hb dX2_nextToken_105 (by decide) (by omega) (by decide) (fun c_43 => ?_) (fun c_43 => ?_)
                · refine lv_aload_n hx hb dX2_nextToken_131 rfl (lv_at hl 0 rfl) ?_
                  refine lv_dup hx hb dX2_nextToken_132 rfl ?_
                  refine m_g_at hx hb hts hown hK hw dX2_nextToken_133 ?_
                  rw [show Zb 7 0 = nI r from h7b]
                  refine lv_iconst (v := nI 1) hx hb dX2_nextToken_136 (by decide) ?_
                  refine n_iadd hx hb dX2_nextToken_137 ?_
                  refine m_p_at hx hb hts hown hK hw dX2_nextToken_138 (fun H locs hw => ?_)
                  refine lv_goto (tgt := 85) hx hb dX2_nextToken_141 (by decide) ?_
                  exact ih85 (r + 1) v (up2 Zb 7 0 (nI (r + 1))) (by omega) (by omega) (by omega) ((scn_t hq_ c_42).symm.trans hrs) (by rw [← hv, numL_t hq_ c_42, if_neg (Nat.not_lt.mpr c_43)]) hv9 up2_at ((up2_ne (Or.inl (by decide))).trans h8b) ((up2_ne (Or.inl (by decide))).trans h9b) ((up2_ne (Or.inl (by decide))).trans h10b) (fun k9 h9 h8 h7 h6 => by funext j9; (try simp only [up2_eq, h9, h8, h7, h6, false_and, if_false]); exact congrFun (hkZb k9 h9 h8 h7 h6) j9) _ _ hw ls (lv_sub hl [0, 1] rfl)
                refine lv_aload_n hx hb dX2_nextToken_108 rfl (lv_at hl 0 rfl) ?_
                refine lv_bipush (v := nI 10) hx hb dX2_nextToken_109 (by decide) ?_
                refine lv_aload_n hx hb dX2_nextToken_111 rfl (lv_at hl 0 rfl) ?_
                refine m_g_number hx hb hts hown hK hw dX2_nextToken_112 ?_
                rw [show Zb 10 0 = nI v from h10b]
                refine n_imul hx hb dX2_nextToken_115 ?_
                refine lv_aload_n hx hb dX2_nextToken_116 rfl (lv_at hl 0 rfl) ?_
                refine lv_aload_n hx hb dX2_nextToken_117 rfl (lv_at hl 0 rfl) ?_
                refine m_g_at hx hb hts hown hK hw dX2_nextToken_118 ?_
                rw [show Zb 7 0 = nI r from h7b]
                refine c_read (va_runV (As := [.int (nI r)]) (rest := [.int (nI (10 * v)), .ref (ad 0)]) ⟨hx, hb, hml, hown, hts⟩ (met_X2_byteAt l G ad M Zb V r t (nI (tp r)) hT.1 (by omega) (by omega) ((pif_t hq_).trans (htp _ hq_).1)) (cv_X2_X2_byteAt hts ⟨Nat.le_of_ble_eq_true rfl, Nat.le_of_ble_eq_true rfl⟩) (cP.preV hK hw.1 (hw.1.recv hK)) rfl rfl hl.1 rfl (lv_room (Nat.le_of_ble_eq_true rfl)) dX2_nextToken_121 ⟨by first | exact Nat.zero_le _ | omega | decide, by first | exact Nat.zero_le _ | omega | decide⟩) ?_
                refine n_iadd hx hb dX2_nextToken_124 ?_
                refine lv_bipush (v := nI 48) hx hb dX2_nextToken_125 (by decide) ?_
                refine n_isub hx hb (by omega) dX2_nextToken_127 ?_
                refine m_p_number hx hb hts hown hK hw dX2_nextToken_128 (fun H locs hw => ?_)
                refine lv_aload_n hx hb dX2_nextToken_131 rfl (lv_at hl 0 rfl) ?_
                refine lv_dup hx hb dX2_nextToken_132 rfl ?_
                refine m_g_at hx hb hts hown hK hw dX2_nextToken_133 ?_
                rw [show (up2 Zb 10 0 (nI ((10 * v + tp r) - 48))) 7 0 = nI r from (up2_ne (Or.inl (by decide))).trans h7b]
                refine lv_iconst (v := nI 1) hx hb dX2_nextToken_136 (by decide) ?_
                refine n_iadd hx hb dX2_nextToken_137 ?_
                refine m_p_at hx hb hts hown hK hw dX2_nextToken_138 (fun H locs hw => ?_)
                refine lv_goto (tgt := 85) hx hb dX2_nextToken_141 (by decide) ?_
                exact ih85 (r + 1) (10 * v + tp r - 48) (up2 (up2 Zb 10 0 (nI ((10 * v + tp r) - 48))) 7 0 (nI (r + 1))) (by omega) (by omega) (by omega) ((scn_t hq_ c_42).symm.trans hrs) (by rw [← hv, numL_t hq_ c_42, if_pos c_43]) (by omega) up2_at ((up2_ne (Or.inl (by decide))).trans ((up2_ne (Or.inl (by decide))).trans h8b)) ((up2_ne (Or.inl (by decide))).trans ((up2_ne (Or.inl (by decide))).trans h9b)) ((up2_ne (Or.inl (by decide))).trans up2_at) (fun k9 h9 h8 h7 h6 => by funext j9; (try simp only [up2_eq, h9, h8, h7, h6, false_and, if_false]); exact congrFun (hkZb k9 h9 h8 h7 h6) j9) _ _ hw ls (lv_sub hl [0, 1] rfl)
              refine lv_aload_n hx hb dX2_nextToken_85 rfl (lv_at hl 0 rfl) ?_
              refine lv_aload_n hx hb dX2_nextToken_86 rfl (lv_at hl 0 rfl) ?_
              refine m_g_at hx hb hts hown hK hw dX2_nextToken_87 ?_
              rw [show Zb 7 0 = nI r from h7b]
              refine c_read (va_runV (As := [.int (nI r)]) (rest := []) ⟨hx, hb, hml, hown, hts⟩ (met_X2_byteAt l G ad M Zb V r t (-1) hT.1 (by omega) (by omega) (pif_f (Nat.not_lt.mpr hq_))) (cv_X2_X2_byteAt hts ⟨Nat.le_of_ble_eq_true rfl, Nat.le_of_ble_eq_true rfl⟩) (cP.preV hK hw.1 (hw.1.recv hK)) rfl rfl hl.1 rfl (lv_room (Nat.le_of_ble_eq_true rfl)) dX2_nextToken_90 ⟨by first | exact Nat.zero_le _ | omega | decide, by first | exact Nat.zero_le _ | omega | decide⟩) ?_
              refine c_read (va_runS (As := [.int (-1)]) (rest := []) ⟨hx, hb, hml, hown, hts⟩ (met_X2_isDigit l G (-1)) (cs_X2_X2_isDigit hts ⟨Nat.le_of_ble_eq_true rfl, Nat.le_of_ble_eq_true rfl⟩) (cP.pre hK trivial) rfl rfl hl.1 rfl (lv_room (Nat.le_of_ble_eq_true rfl)) dX2_nextToken_93 ⟨by first | exact Nat.zero_le _ | omega | decide, by first | exact Nat.zero_le _ | omega | decide⟩) ?_
              refine b_if_eq (tgt := 408) hx hb dX2_nextToken_96 (by decide) (fun _ => ?_) (fun h9 => absurd h9 (by decide))
              have hend : scn lDig tp (t - r) r = r := scn_z hq_
              have hvend : numL tp (t - r) r v = v := numL_z hq_
              have T9 := (show lxT tp t p0 = 1 by unfold lxT; rw [hS]; simp only [if_pos hq0, if_pos c_3])
              have Q9 := (show lxQ tp t p0 = r by unfold lxQ; rw [hS]; simp only [if_pos hq0, if_pos c_3]; exact hrs.symm.trans hend)
              exact c_vret hx hb hr hlocks ⟨_, _, ⟨⟨by rw [Q9]; exact h7b, by rw [hS]; exact h8b, by rw [T9]; exact h9b, (fun _ => by rw [h10b]; unfold lxN; rw [hS, ← hv, hvend]), (fun h9 => by rw [T9] at h9; cases h9)⟩, (fun k9 h9 h8 h7 h6 => by funext j9; (try simp only [up2_eq, h9, h8, h7, h6, false_and, if_false]); exact congrFun (hkZb k9 h9 h8 h7 h6) j9)⟩, mH.to rfl rfl rfl hw.1⟩ hw.2 dX2_nextToken_408
          exact L85_41 _ q 0 (up2 (up2 (up2 Za 8 0 (nI q)) 9 0 (nI 1)) 10 0 (nI 0)) (Nat.lt_succ_self _) (Nat.le_refl _) (by omega) rfl rfl (by decide) ((up2_ne (Or.inl (by decide))).trans ((up2_ne (Or.inl (by decide))).trans ((up2_ne (Or.inl (by decide))).trans h7a))) ((up2_ne (Or.inl (by decide))).trans ((up2_ne (Or.inl (by decide))).trans up2_at)) ((up2_ne (Or.inl (by decide))).trans up2_at) up2_at (fun k9 h9 h8 h7 h6 => by funext j9; (try simp only [up2_eq, h9, h8, h7, h6, false_and, if_false]); exact congrFun (hka k9 h9 h8 h7 h6) j9) _ _ hw ls (lv_sub hl [1, 0] rfl)
        refine lv_aload_n hx hb dX2_nextToken_26 rfl (lv_at hl 0 rfl) ?_
        refine lv_dup hx hb dX2_nextToken_27 rfl ?_
        refine m_g_at hx hb hts hown hK hw dX2_nextToken_28 ?_
        rw [show Za 7 0 = nI q from h7a]
        refine lv_iconst (v := nI 1) hx hb dX2_nextToken_31 (by decide) ?_
        refine n_iadd hx hb dX2_nextToken_32 ?_
        refine m_p_at hx hb hts hown hK hw dX2_nextToken_33 (fun H locs hw => ?_)
        refine lv_goto (tgt := 0) hx hb dX2_nextToken_36 (by decide) ?_
        exact ih0 (q + 1) (up2 Za 7 0 (nI (q + 1))) (by omega) (by omega) (by omega) ((scn_t hq_ (by simp [lWs, c_2])).symm.trans hq) up2_at (fun k9 h9 h8 h7 h6 => by funext j9; (try simp only [up2_eq, h9, h8, h7, h6, false_and, if_false]); exact congrFun (hka k9 h9 h8 h7 h6) j9) _ _ hw ls (lv_sub hl [0] rfl)
      refine lv_aload_n hx hb dX2_nextToken_0 rfl (lv_at hl 0 rfl) ?_
      refine lv_aload_n hx hb dX2_nextToken_1 rfl (lv_at hl 0 rfl) ?_
      refine m_g_at hx hb hts hown hK hw dX2_nextToken_2 ?_
      rw [show Za 7 0 = nI q from h7a]
      refine c_read (va_runV (As := [.int (nI q)]) (rest := []) ⟨hx, hb, hml, hown, hts⟩ (met_X2_byteAt l G ad M Za V q t (-1) hT.1 (by omega) (by omega) (pif_f (Nat.not_lt.mpr hq_))) (cv_X2_X2_byteAt hts ⟨Nat.le_of_ble_eq_true rfl, Nat.le_of_ble_eq_true rfl⟩) (cP.preV hK hw.1 (hw.1.recv hK)) rfl rfl hl.1 rfl (lv_room (Nat.le_of_ble_eq_true rfl)) dX2_nextToken_5 ⟨by first | exact Nat.zero_le _ | omega | decide, by first | exact Nat.zero_le _ | omega | decide⟩) ?_
      refine lv_bipush (v := nI 32) hx hb dX2_nextToken_8 (by decide) ?_
      refine lv_icmp_eq (tgt := 26) hx hb dX2_nextToken_10 (by decide) (fun h9 => absurd h9 (by decide)) (fun _ => ?_)
      refine lv_aload_n hx hb dX2_nextToken_13 rfl (lv_at hl 0 rfl) ?_
      refine lv_aload_n hx hb dX2_nextToken_14 rfl (lv_at hl 0 rfl) ?_
      refine m_g_at hx hb hts hown hK hw dX2_nextToken_15 ?_
      rw [show Za 7 0 = nI q from h7a]
      refine c_read (va_runV (As := [.int (nI q)]) (rest := []) ⟨hx, hb, hml, hown, hts⟩ (met_X2_byteAt l G ad M Za V q t (-1) hT.1 (by omega) (by omega) (pif_f (Nat.not_lt.mpr hq_))) (cv_X2_X2_byteAt hts ⟨Nat.le_of_ble_eq_true rfl, Nat.le_of_ble_eq_true rfl⟩) (cP.preV hK hw.1 (hw.1.recv hK)) rfl rfl hl.1 rfl (lv_room (Nat.le_of_ble_eq_true rfl)) dX2_nextToken_18 ⟨by first | exact Nat.zero_le _ | omega | decide, by first | exact Nat.zero_le _ | omega | decide⟩) ?_
      refine lv_bipush (v := nI 10) hx hb dX2_nextToken_21 (by decide) ?_
      refine lv_icmp_ne (tgt := 39) hx hb dX2_nextToken_23 (by decide) (fun _ => ?_) (fun h9 => absurd h9 (by decide))
      have hS : lxS tp t p0 = q := hq.symm.trans (scn_z hq_)
      refine lv_aload_n hx hb dX2_nextToken_39 rfl (lv_at hl 0 rfl) ?_
      refine lv_aload_n hx hb dX2_nextToken_40 rfl (lv_at hl 0 rfl) ?_
      refine m_g_at hx hb hts hown hK hw dX2_nextToken_41 ?_
      rw [show Za 7 0 = nI q from h7a]
      refine m_p_place hx hb hts hown hK hw dX2_nextToken_44 (fun H locs hw => ?_)
      refine lv_aload_n hx hb dX2_nextToken_47 rfl (lv_at hl 0 rfl) ?_
      refine lv_aload_n hx hb dX2_nextToken_48 rfl (lv_at hl 0 rfl) ?_
      refine m_g_at hx hb hts hown hK hw dX2_nextToken_49 ?_
      rw [show (up2 Za 8 0 (nI q)) 7 0 = nI q from (up2_ne (Or.inl (by decide))).trans h7a]
      refine c_read (va_runV (As := [.int (nI q)]) (rest := []) ⟨hx, hb, hml, hown, hts⟩ (met_X2_byteAt l G ad M (up2 Za 8 0 (nI q)) V q t (-1) hT.1 (by omega) (by omega) (pif_f (Nat.not_lt.mpr hq_))) (cv_X2_X2_byteAt hts ⟨Nat.le_of_ble_eq_true rfl, Nat.le_of_ble_eq_true rfl⟩) (cP.preV hK hw.1 (hw.1.recv hK)) rfl rfl hl.1 rfl (lv_room (Nat.le_of_ble_eq_true rfl)) dX2_nextToken_52 ⟨by first | exact Nat.zero_le _ | omega | decide, by first | exact Nat.zero_le _ | omega | decide⟩) ?_
      refine lv_istore_n (lv' := [(1, .int (-1)), (0, .ref (ad 0))]) hx hb dX2_nextToken_55 rfl hl (by decide) rfl (fun ls hl => ?_)
      refine lv_iload_n hx hb dX2_nextToken_56 rfl (lv_at hl 0 rfl) ?_
      refine lv_if_ge (tgt := 68) hx hb dX2_nextToken_57 (by decide) (fun h9 => absurd h9 (by decide)) (fun _ => ?_)
      refine lv_aload_n hx hb dX2_nextToken_60 rfl (lv_at hl 1 rfl) ?_
      refine lv_iconst (v := nI 0) hx hb dX2_nextToken_61 (by decide) ?_
      refine m_p_token hx hb hts hown hK hw dX2_nextToken_62 (fun H locs hw => ?_)
      refine lv_goto (tgt := 408) hx hb dX2_nextToken_65 (by decide) ?_
      have T9 := (show lxT tp t p0 = 0 by unfold lxT; rw [hS]; exact if_neg (Nat.not_lt.mpr hq_))
      have Q9 := (show lxQ tp t p0 = q by unfold lxQ; rw [hS]; exact if_neg (Nat.not_lt.mpr hq_))
      exact c_vret hx hb hr hlocks ⟨_, _, ⟨⟨by rw [Q9]; exact (up2_ne (Or.inl (by decide))).trans ((up2_ne (Or.inl (by decide))).trans h7a), by rw [hS]; exact (up2_ne (Or.inl (by decide))).trans up2_at, by rw [T9]; exact up2_at, (fun h9 => by rw [T9] at h9; cases h9), (fun h9 => by rw [T9] at h9; cases h9)⟩, (fun k9 h9 h8 h7 h6 => by funext j9; (try simp only [up2_eq, h9, h8, h7, h6, false_and, if_false]); exact congrFun (hka k9 h9 h8 h7 h6) j9)⟩, mH.to rfl rfl rfl hw.1⟩ hw.2 dX2_nextToken_408
  exact L_0 _ p0 Z (Nat.lt_succ_self _) (by first | assumption | omega | rfl) (by first | assumption | omega | rfl) rfl e7 (fun _ _ _ _ _ => rfl) _ _ hw ls (lv_sub hl [0] rfl)
