/-- a clause: its sort, its code (of a sum), two numbers (of a step) -/
abbrev kC : Type := Nat × List (Nat × Int32) × Nat × Nat
/-- which names may stand in a clause of a sort -/
def nmOk (so w : Nat) : Prop := w = 0 ∨ (w < 5 ∧ (so = 1 ∨ so = 3)) ∨ (5 ≤ w ∧ w < 8 ∧ (so = 2 ∨ so = 3)) ∨ (w = 8 ∧ so = 3) ∨ (8 < w ∧ w < 11 ∧ so = 2)
def kNm (so : Nat) (L : List (Nat × Int32)) : Prop := ∀ q ∈ L, q.1 = 1 → nmOk so (cl q.2)
def kGood (L : List (Nat × Int32)) : Prop := ∀ nm : Nat → Int32, ∃ r : Int64, kRun nm L ([], []) = some ([r], [])
def kCl1 (M : Nat → Nat → Int32) (t k : Nat) (c : kC) : Prop :=
  c.1 < 7 ∧ M 2 (680 * t + 1 + 3 * k) = nI c.1 ∧ (c.1 < 4 → ∃ i : Nat, M 2 (680 * t + 1 + 3 * k + 1) = nI i ∧ M 2 (680 * t + 1 + 3 * k + 2) = nI (i + c.2.1.length) ∧ i + c.2.1.length ≤ 302 ∧ kAt M (680 * t + 75) c.2.1 i ∧ kGood c.2.1 ∧ kNm c.1 c.2.1) ∧ (4 ≤ c.1 → M 2 (680 * t + 1 + 3 * k + 1) = nI c.2.2.1 ∧ (c.1 = 5 → M 2 (680 * t + 1 + 3 * k + 2) = nI c.2.2.2))
def kCl (M : Nat → Nat → Int32) (t : Nat) : List kC → Nat → Prop
  | [], _ => True
  | c :: cs, k => kCl1 M t k c ∧ kCl M t cs (k + 1)
def kText (M : Nat → Nat → Int32) (t : Nat) (cs : List kC) : Prop := M 2 (680 * t) = nI cs.length ∧ cs.length ≤ 24 ∧ kCl M t cs 0
abbrev kT : Type := Option (Nat × List kC)
def mTx (M : Nat → Nat → Int32) (tx : kT) : Prop := match tx with
  | none => M 0 5 = (-1)
  | some q => M 0 5 = nI q.1 ∧ q.1 < 4 ∧ kText M q.1 q.2
theorem kAt_congr {M M' : Nat → Nat → Int32} (h : M' 2 = M 2) {b : Nat} : ∀ {L : List (Nat × Int32)} {i : Nat}, kAt M b L i → kAt M' b L i
  | [], _, _ => trivial
  | q :: L, i, hh => ⟨by rw [h]; exact hh.1, by rw [h]; exact hh.2.1, kAt_congr h hh.2.2⟩
theorem kCl1_congr {M M' : Nat → Nat → Int32} (h : M' 2 = M 2) {t k : Nat} {c : kC} (hh : kCl1 M t k c) : kCl1 M' t k c := by
  refine ⟨hh.1, by rw [h]; exact hh.2.1, fun q => ?_, fun q => by rw [h]; exact hh.2.2.2 q⟩
  obtain ⟨i, h1, h2, h3, h4, h5⟩ := hh.2.2.1 q
  exact ⟨i, by rw [h]; exact h1, by rw [h]; exact h2, h3, kAt_congr h h4, h5⟩
theorem kCl_congr {M M' : Nat → Nat → Int32} (h : M' 2 = M 2) {t : Nat} : ∀ {cs : List kC} {k : Nat}, kCl M t cs k → kCl M' t cs k
  | [], _, _ => trivial
  | c :: cs, k, hh => ⟨kCl1_congr h hh.1, kCl_congr h hh.2⟩
theorem kText_congr {M M' : Nat → Nat → Int32} (h : M' 2 = M 2) {t : Nat} {cs : List kC} (hh : kText M t cs) : kText M' t cs := ⟨by rw [h]; exact hh.1, hh.2.1, kCl_congr h hh.2.2⟩
theorem mTx_congr {M M' : Nat → Nat → Int32} {tx : kT} (h5 : M' 0 5 = M 0 5) (h : M' 2 = M 2) (hh : mTx M tx) : mTx M' tx := by
  cases tx with
  | none => exact h5.trans hh
  | some q => exact ⟨h5.trans hh.1, hh.2.1, kText_congr h hh.2.2⟩
noncomputable def mVal (nm : Nat → Int32) (L : List (Nat × Int32)) : Int64 := match kRun nm L ([], []) with
  | some (r :: _, _) => r
  | _ => 0
theorem mVal_of {nm : Nat → Int32} {L : List (Nat × Int32)} {r : Int64} (h : kRun nm L ([], []) = some ([r], [])) : mVal nm L = r := by
  unfold mVal
  rw [h]
noncomputable def mSum (nm : Nat → Int32) (so : Nat) (top w : Int32) : List kC → Int32
  | [] => w
  | c :: cs => if c.1 = so then mHeld (mVal nm c.2.1) (nI 0) top else mSum nm so top w cs
noncomputable def mSumT (tx : kT) (nm : Nat → Int32) (so : Nat) (top w : Int32) : Int32 := match tx with
  | none => w
  | some q => mSum nm so top w q.2
theorem kStep_congr {nm nm' : Nat → Int32} {q : Nat × Int32} (h : q.1 = 1 → nm (cl q.2) = nm' (cl q.2)) (S : List Int64 × List Bool) : kStep nm q.1 q.2 S = kStep nm' q.1 q.2 S := by
  obtain ⟨o, v⟩ := q
  by_cases e : o = 1
  · subst e
    obtain ⟨vs, bs⟩ := S
    show pif (vp_in v 11) (some ((nm (cl v)).toInt64 :: vs, bs)) none = pif (vp_in v 11) (some ((nm' (cl v)).toInt64 :: vs, bs)) none
    rw [show nm (cl v) = nm' (cl v) from h rfl]
  · unfold kStep
    split <;> first | rfl | (exfalso; simp_all)
theorem kRun_congr {nm nm' : Nat → Int32} : ∀ {L : List (Nat × Int32)} (_ : ∀ q ∈ L, q.1 = 1 → nm (cl q.2) = nm' (cl q.2)) (S : List Int64 × List Bool), kRun nm L S = kRun nm' L S
  | [], _, _ => rfl
  | q :: L, h, S => by
    unfold kRun
    rw [kStep_congr (h q List.mem_cons_self) S]
    congr 1
    funext S'
    exact kRun_congr (fun q' hq => h q' (List.mem_cons_of_mem _ hq)) S'
theorem mVal_congr {nm nm' : Nat → Int32} {L : List (Nat × Int32)} (h : ∀ q ∈ L, q.1 = 1 → nm (cl q.2) = nm' (cl q.2)) : mVal nm L = mVal nm' L := by
  unfold mVal
  rw [kRun_congr h]
theorem mSum_congr {M : Nat → Nat → Int32} {nm nm' : Nat → Int32} {so t : Nat} {top w : Int32} (hs : so < 4) (h : ∀ v, nmOk so v → nm v = nm' v) : ∀ (cs : List kC) (k : Nat), kCl M t cs k → mSum nm so top w cs = mSum nm' so top w cs
  | [], _, _ => rfl
  | c :: cs, k, hh => by
    unfold mSum
    by_cases e : c.1 = so
    · rw [if_pos e, if_pos e]
      obtain ⟨i, -, -, -, -, -, h9⟩ := hh.1.2.2.1 (by omega)
      rw [mVal_congr (fun q hq h1 => h _ (by rw [← e]; exact h9 q hq h1))]
    · rw [if_neg e, if_neg e]
      exact mSum_congr hs h cs (k + 1) hh.2
theorem mSumT_congr {M : Nat → Nat → Int32} {tx : kT} {nm nm' : Nat → Int32} {so : Nat} {top w : Int32} (hs : so < 4) (hx : mTx M tx) (h : ∀ v, nmOk so v → nm v = nm' v) : mSumT tx nm so top w = mSumT tx nm' so top w := by
  cases tx with
  | none => rfl
  | some q => exact mSum_congr hs h q.2 0 hx.2.2.2.2
noncomputable def mSmoke (tx : kT) (h : Int32) : Int32 := mSumT tx (fun w => if w = 0 then h else 0) 0 (nI 40) (nI 40)
def nmB (M : Nat → Nat → Int32) (b : Nat) (h : Int32) (w : Nat) : Int32 := if w = 0 then h else if w = 1 then nI b else if w = 2 then M 0 (10 + 5 * b) else if w = 3 then M 0 (10 + 5 * b + 1) else if w = 4 then M 0 (10 + 5 * b + 2) else 0
noncomputable def mCost (tx : kT) (M : Nat → Nat → Int32) (b : Nat) (h : Int32) : Int32 := mSumT tx (nmB M b h) 1 (nI 99) (nI 1)
def nmS (M : Nat → Nat → Int32) (q b k : Nat) (w : Nat) : Int32 := if w < 5 then nmB M b (M 0 3) w else if w = 5 then nI k else if w = 6 then M 0 (40 + 3 * k) else if w = 7 then M 0 (40 + 3 * k + 2) else if w = 8 then M 0 (150 + 10 * q + 4 + b) else 0
noncomputable def mShare (tx : kT) (M : Nat → Nat → Int32) (q b k : Nat) : Int32 := mSumT tx (nmS M q b k) 3 (nI 99) (M 0 (150 + 10 * q + 4 + b))
set_option maxHeartbeats 4000000 in
set_option maxRecDepth 100000 in
theorem met_X2_sumOf (l : Launch) (G : gG) (ad : Nat → Nat) (M Z : Nat → Nat → Int32) (V : Nat → Nat → Int64) (tx : kT) (htx : mTx M tx) (so : Nat) (hso : so < 4) (top wo : Int32) : Met l yX2_sumOf (ws_ yX2_sumOf cX2_sumOf 5 (some .int)) ({ frames := 3, cells := 0, slots := 0, locals := 73 } : Room) (cP G [.ref (ad 0), .int (nI so), .int top, .int wo] (mH G ad M Z V)) (cQ (some (.int (mSumT tx (Z 22) so top wo))) (fun H => ∃ Z9 V9, (∀ k9, k9 ≠ 24 → Z9 k9 = Z k9) ∧ mH G ad M Z9 V9 H) (mA ad)) 0 0 (mA ad) := by
  refine c_start (by decide) (Nat.le_of_ble_eq_true rfl) ?_
  intro p e s m below meth c hx hb hr hlocks hml hown hts hB hK ls hl
  have hw := MS.of hB
  have hl : lv_has ls 5 [(0, .ref (ad 0)), (1, .int (nI so)), (2, .int top), (3, .int wo)] := hl
  cases tx with
  | none =>
    refine lv_iconst (v := nI 0) hx hb dX2_sumOf_0 (by decide) ?_
    refine lv_istore (lv' := [(4, .int (nI 0)), (0, .ref (ad 0)), (1, .int (nI so)), (2, .int top), (3, .int wo)]) hx hb dX2_sumOf_1 hl (by decide) rfl (fun ls hl => ?_)
    refine lv_aload_n hx hb dX2_sumOf_3 rfl (lv_at hl 1 rfl) ?_
    refine m_g_a hx hb hts hown hK hw dX2_sumOf_4 ?_
    refine lv_iconst (v := nI 5) hx hb dX2_sumOf_7 (by decide) ?_
    refine m_l_a (j := 5) (v := (-1)) hx hb hK hw htx (by decide) dX2_sumOf_8 ?_
    refine lv_if_lt (tgt := 85) hx hb dX2_sumOf_9 (by decide) (fun _ => ?_) (fun h9 => absurd (by decide) h9)
    refine lv_iload_n hx hb dX2_sumOf_85 rfl (lv_at hl 4 rfl) ?_
    exact c_iret (v := wo) rfl hx hb hr rfl hlocks ⟨_, _, (fun _ _ => rfl), mH.to rfl rfl rfl hw.1⟩ hw.2 dX2_sumOf_86
  | some q =>
    obtain ⟨t, cs⟩ := q
    obtain ⟨h5, ht, hlen, hcs, hcl⟩ := htx
    have h5 : M 0 5 = nI t := h5
    have ht : t < 4 := ht
    have hlen : M 2 (680 * t) = nI cs.length := hlen
    have hcs : cs.length ≤ 24 := hcs
    have hcl : kCl M t cs 0 := hcl
    refine lv_iconst (v := nI 0) hx hb dX2_sumOf_0 (by decide) ?_
    refine lv_istore (lv' := [(4, .int (nI 0)), (0, .ref (ad 0)), (1, .int (nI so)), (2, .int top), (3, .int wo)]) hx hb dX2_sumOf_1 hl (by decide) rfl (fun ls hl => ?_)
    have L3_2 : ∀ (fuel : Nat) (k : Nat) (rem : List kC), cs.length - k < fuel → (k + rem.length = cs.length) → (kCl M t rem k) → (mSum (Z 22) so top wo rem = mSum (Z 22) so top wo cs) → ∀ (ls : Array Slot), lv_has ls 5 [(0, .ref (ad 0)), (1, .int (nI so)), (2, .int top), (3, .int wo), (4, .int (nI k))] → W p l e ({ frames := 3, cells := 0, slots := 0, locals := 73 } : Room) s m ([.ref (ad 0), .int (nI so), .int top, .int wo] : List Value).toArray below meth c s.heap [] 0 0 (MQ below (cQ (some (.int (mSumT (some (t, cs)) (Z 22) so top wo))) (fun H => ∃ Z9 V9, (∀ k9, k9 ≠ 24 → Z9 k9 = Z k9) ∧ mH G ad M Z9 V9 H) (mA ad)) ([.ref (ad 0), .int (nI so), .int top, .int wo] : List Value).toArray s 0 0 (mA ad)) (F0 m 3 ls []) := by
      intro fuel
      induction fuel with
      | zero => intro k rem hf; exact absurd hf (Nat.not_lt_zero _)
      | succ fuel ih =>
        intro k rem hf hk hcr hsm ls hl
        have ih3 := ih
        refine lv_aload_n hx hb dX2_sumOf_3 rfl (lv_at hl 0 rfl) ?_
        refine m_g_a hx hb hts hown hK hw dX2_sumOf_4 ?_
        refine lv_iconst (v := nI 5) hx hb dX2_sumOf_7 (by decide) ?_
        refine m_l_a (j := 5) (v := nI t) hx hb hK hw h5 (by decide) dX2_sumOf_8 ?_
        refine n_if_lt (tgt := 85) hx hb dX2_sumOf_9 (by decide) (by omega) ?_
        refine lv_iload hx hb dX2_sumOf_12 (lv_at hl 4 rfl) ?_
        refine lv_aload_n hx hb dX2_sumOf_14 rfl (lv_at hl 0 rfl) ?_
        refine m_g_texts hx hb hts hown hK hw dX2_sumOf_15 ?_
        refine lv_sipush (v := nI 680) hx hb dX2_sumOf_18 (by decide) ?_
        refine lv_aload_n hx hb dX2_sumOf_21 rfl (lv_at hl 0 rfl) ?_
        refine m_g_a hx hb hts hown hK hw dX2_sumOf_22 ?_
        refine lv_iconst (v := nI 5) hx hb dX2_sumOf_25 (by decide) ?_
        refine m_l_a (j := 5) (v := nI t) hx hb hK hw h5 (by decide) dX2_sumOf_26 ?_
        refine n_imul hx hb dX2_sumOf_27 ?_
        refine m_l_texts (j := 680 * t) (v := nI cs.length) hx hb hK hw hlen (by omega) dX2_sumOf_28 ?_
        refine n_icmp_ge (tgt := 85) hx hb dX2_sumOf_29 (by decide) (by omega) (by omega) (fun c_3 => ?_) (fun c_3 => ?_)
        · refine lv_iload_n hx hb dX2_sumOf_85 rfl (lv_at hl 3 rfl) ?_
          exact c_iret (v := wo) (by have e9 : rem = [] := List.eq_nil_of_length_eq_zero (by omega); subst e9; exact hsm) hx hb hr rfl hlocks ⟨_, _, (fun _ _ => rfl), mH.to rfl rfl rfl hw.1⟩ hw.2 dX2_sumOf_86
        obtain ⟨cx, rem', rfl⟩ : ∃ cx rem', rem = cx :: rem' := by
          cases rem with
          | nil => simp at hk; omega
          | cons cx rem' => exact ⟨cx, rem', rfl⟩
        have hk : k + 1 + rem'.length = cs.length := by simp at hk; omega
        have hc1 := hcr.1
        have hso7 : cx.1 < 7 := hc1.1
        refine lv_aload_n hx hb dX2_sumOf_32 rfl (lv_at hl 0 rfl) ?_
        refine m_g_texts hx hb hts hown hK hw dX2_sumOf_33 ?_
        refine lv_sipush (v := nI 680) hx hb dX2_sumOf_36 (by decide) ?_
        refine lv_aload_n hx hb dX2_sumOf_39 rfl (lv_at hl 0 rfl) ?_
        refine m_g_a hx hb hts hown hK hw dX2_sumOf_40 ?_
        refine lv_iconst (v := nI 5) hx hb dX2_sumOf_43 (by decide) ?_
        refine m_l_a (j := 5) (v := nI t) hx hb hK hw h5 (by decide) dX2_sumOf_44 ?_
        refine n_imul hx hb dX2_sumOf_45 ?_
        refine lv_iconst (v := nI 1) hx hb dX2_sumOf_46 (by decide) ?_
        refine n_iadd hx hb dX2_sumOf_47 ?_
        refine lv_iconst (v := nI 3) hx hb dX2_sumOf_48 (by decide) ?_
        refine lv_iload hx hb dX2_sumOf_49 (lv_at hl 4 rfl) ?_
        refine n_imul hx hb dX2_sumOf_51 ?_
        refine n_iadd hx hb dX2_sumOf_52 ?_
        refine m_l_texts (j := 680 * t + 1 + 3 * k) (v := nI cx.1) hx hb hK hw hc1.2.1 (by omega) dX2_sumOf_53 ?_
        refine lv_iload_n hx hb dX2_sumOf_54 rfl (lv_at hl 1 rfl) ?_
        refine n_icmp_eq (tgt := 61) hx hb dX2_sumOf_55 (by decide) (by omega) (by omega) (fun c_4 => ?_) (fun c_4 => ?_)
        · have eso : cx.1 = so := c_4
          obtain ⟨i, e1, e2, hL, hca, hgd, hnm⟩ := hc1.2.2.1 (by omega)
          obtain ⟨r, hrun⟩ := hgd (Z 22)
          refine lv_aload_n hx hb dX2_sumOf_61 rfl (lv_at hl 0 rfl) ?_
          refine lv_iload hx hb dX2_sumOf_62 (lv_at hl 4 rfl) ?_
          refine c_call (va_runV (As := [.int (nI k)]) (rest := []) ⟨hx, hb, hml, hown, hts⟩ (met_X2_work l G ad M Z V t k i cx.2.1 r h5 ht (by omega) e1 e2 hL hca hrun) (cv_X2_X2_work hts ⟨Nat.le_of_ble_eq_true rfl, Nat.le_of_ble_eq_true rfl⟩) (cP.preV hK hw.1 (hw.1.recv hK)) rfl rfl hl.1 rfl (lv_room (Nat.le_of_ble_eq_true rfl)) dX2_sumOf_64 ⟨by first | exact Nat.zero_le _ | omega | decide, by first | exact Nat.zero_le _ | omega | decide⟩) hw.2 (fun q _ h => h) (fun q h => h) (fun H locs hw _ _ hS => ?_)
          obtain ⟨Z1, V1, ⟨hr1, hz1⟩, hw⟩ := hw
          replace hw := MS.mk hw hS
          refine lv_aload_n hx hb dX2_sumOf_67 rfl (lv_at hl 0 rfl) ?_
          refine m_g_values hx hb hts hown hK hw dX2_sumOf_68 ?_
          refine lv_iconst (v := nI 0) hx hb dX2_sumOf_71 (by decide) ?_
          refine m_l_values (j := 0) (v := r) hx hb hK hw hr1 (by decide) dX2_sumOf_72 ?_
          refine lv_iconst (v := nI 0) hx hb dX2_sumOf_73 (by decide) ?_
          refine lv_iload_n hx hb dX2_sumOf_74 rfl (lv_at hl 2 rfl) ?_
          refine c_read (va_runS (As := [.long r, .int (nI 0), .int top]) (rest := []) ⟨hx, hb, hml, hown, hts⟩ (met_X2_held l G r (nI 0) top) (cs_X2_X2_held hts ⟨Nat.le_of_ble_eq_true rfl, Nat.le_of_ble_eq_true rfl⟩) (cP.pre hK trivial) rfl rfl hl.1 rfl (lv_room (Nat.le_of_ble_eq_true rfl)) dX2_sumOf_75 ⟨by first | exact Nat.zero_le _ | omega | decide, by first | exact Nat.zero_le _ | omega | decide⟩) ?_
          exact c_iret (v := mHeld r (nI 0) top) (by show _ = mSum (Z 22) so top wo cs; rw [← hsm]; show _ = (if cx.1 = so then _ else _); rw [if_pos eso, mVal_of hrun]) hx hb hr rfl hlocks ⟨_, _, hz1, mH.to rfl rfl rfl hw.1⟩ hw.2 dX2_sumOf_78
        refine lv_goto (tgt := 79) hx hb dX2_sumOf_58 (by decide) ?_
        refine lv_iinc (v := nI (k + 1)) (lv' := [(4, .int (nI (k + 1))), (0, .ref (ad 0)), (1, .int (nI so)), (2, .int top), (3, .int wo)]) hx hb dX2_sumOf_79 hl (k := 4) rfl (n_inc k 1) (by decide) rfl (fun ls hl => ?_)
        refine lv_goto (tgt := 3) hx hb dX2_sumOf_82 (by decide) ?_
        exact ih3 (k + 1) rem' (by omega) hk hcr.2 (by rw [← hsm]; show _ = (if cx.1 = so then _ else _); rw [if_neg c_4]) ls (lv_sub hl [1, 2, 3, 4, 0] rfl)
    exact L3_2 _ 0 cs (Nat.lt_succ_self _) (by omega) hcl rfl ls (lv_sub hl [1, 2, 3, 4, 0] rfl)
