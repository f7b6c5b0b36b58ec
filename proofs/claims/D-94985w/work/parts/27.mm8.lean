theorem n_dec2 (a : Nat) : nI (a + 1 + 1) + Int32.ofInt (-2) = nI a := by
  show nI (a + 1 + 1) + (-2) = _
  have h : nI (a + 1 + 1) = nI a + nI 2 := (nI_add a 2).symm
  rw [h, Int32.add_assoc, show nI 2 + (-2 : Int32) = 0 by decide, Int32.add_zero]
/-- a proposition's truth -/
noncomputable def bD (P : Prop) : Bool := @decide P (Classical.propDecidable P)
def bB (b : Bool) : Int32 := if b then 1 else 0
theorem bB_D (P : Prop) : bI P = bB (bD P) := by
  unfold bD bB
  by_cases h : P
  · rw [bI_t h]; simp [h]
  · rw [bI_f h]; simp [h]
/-- one step of a clause's code, on its two stacks -/
noncomputable def kStep (nm : Nat → Int32) (o : Nat) (v : Int32) (S : List Int64 × List Bool) : Option (List Int64 × List Bool) :=
  match o, S with
  | 0, (vs, bs) => some (v.toInt64 :: vs, bs)
  | 1, (vs, bs) => pif (vp_in v 11) (some ((nm (cl v)).toInt64 :: vs, bs)) none
  | 2, (x :: vs, bs) => some (-x :: vs, bs)
  | 3, (y :: x :: vs, bs) => some (mTwo 3 x y :: vs, bs)
  | 4, (y :: x :: vs, bs) => some (mTwo 4 x y :: vs, bs)
  | 5, (y :: x :: vs, bs) => some (mTwo 5 x y :: vs, bs)
  | 6, (y :: x :: vs, bs) => some (mTwo 6 x y :: vs, bs)
  | 10, (y :: x :: vs, bs) => some (vs, bD (mAsk 10 x y) :: bs)
  | 11, (y :: x :: vs, bs) => some (vs, bD (mAsk 11 x y) :: bs)
  | 12, (y :: x :: vs, bs) => some (vs, bD (mAsk 12 x y) :: bs)
  | 13, (y :: x :: vs, bs) => some (vs, bD (mAsk 13 x y) :: bs)
  | 14, (y :: x :: vs, bs) => some (vs, bD (mAsk 14 x y) :: bs)
  | 15, (y :: x :: vs, bs) => some (vs, bD (mAsk 15 x y) :: bs)
  | 20, (vs, b :: bs) => some (vs, (!b) :: bs)
  | 21, (vs, c :: b :: bs) => some (vs, (b && c) :: bs)
  | 22, (vs, c :: b :: bs) => some (vs, (b || c) :: bs)
  | 23, (y :: x :: vs, b :: bs) => some ((if b then x else y) :: vs, bs)
  | _, _ => none
noncomputable def kRun (nm : Nat → Int32) : List (Nat × Int32) → List Int64 × List Bool → Option (List Int64 × List Bool)
  | [], S => some S
  | q :: L, S => (kStep nm q.1 q.2 S).bind (fun S' => kRun nm L S')
/-- the code at its place in a text -/
def kAt (M : Nat → Nat → Int32) (b : Nat) : List (Nat × Int32) → Nat → Prop
  | [], _ => True
  | q :: L, i => M 2 (b + 2 * i) = nI q.1 ∧ M 2 (b + 2 * i + 1) = q.2 ∧ kAt M b L (i + 1)
def kVs (V : Nat → Nat → Int64) : List Int64 → Prop
  | [] => True
  | x :: r => V 23 r.length = x ∧ kVs V r
def kBs (Z : Nat → Nat → Int32) : List Bool → Prop
  | [] => True
  | x :: r => Z 24 r.length = bB x ∧ kBs Z r
theorem kVs_up {V : Nat → Nat → Int64} {j : Nat} {x : Int64} : ∀ (r : List Int64), r.length ≤ j → kVs V r → kVs (up2 V 23 j x) r
  | [], _, _ => trivial
  | y :: r, h, hv => ⟨(up2_ne (Or.inr (by simp at h; omega))).trans hv.1, kVs_up r (by simp at h; omega) hv.2⟩
theorem kBs_up {Z : Nat → Nat → Int32} {j : Nat} {x : Int32} : ∀ (r : List Bool), r.length ≤ j → kBs Z r → kBs (up2 Z 24 j x) r
  | [], _, _ => trivial
  | y :: r, h, hv => ⟨(up2_ne (Or.inr (by simp at h; omega))).trans hv.1, kBs_up r (by simp at h; omega) hv.2⟩
theorem kStep_le {nm : Nat → Int32} {o : Nat} {v : Int32} {S S' : List Int64 × List Bool} (h : kStep nm o v S = some S') : o ≤ 23 := by
  unfold kStep at h
  split at h <;> first | omega | simp at h
theorem kRun_c {nm : Nat → Int32} {o : Nat} {v : Int32} {L : List (Nat × Int32)} {S R : List Int64 × List Bool} (h : kRun nm ((o, v) :: L) S = some R) : ∃ S', kStep nm o v S = some S' ∧ kRun nm L S' = some R := by
  unfold kRun at h
  exact Option.bind_eq_some_iff.mp h
theorem kRun_0 {nm : Nat → Int32} {v : Int32} {L : List (Nat × Int32)} {vs : List Int64} {bs : List Bool} {R : List Int64 × List Bool} (h : kRun nm ((0, v) :: L) (vs, bs) = some R) : kRun nm L (v.toInt64 :: vs, bs) = some R := by
  obtain ⟨S', h1, h2⟩ := kRun_c h
  have e := Option.some.inj h1
  rw [e]
  exact h2
theorem kRun_1 {nm : Nat → Int32} {v : Int32} {L : List (Nat × Int32)} {vs : List Int64} {bs : List Bool} {R : List Int64 × List Bool} (h : kRun nm ((1, v) :: L) (vs, bs) = some R) : ∃ w, w < 11 ∧ v = nI w ∧ kRun nm L ((nm w).toInt64 :: vs, bs) = some R := by
  obtain ⟨S', h1, h2⟩ := kRun_c h
  by_cases q : vp_in v 11
  · obtain ⟨w, hw, rfl⟩ := vp_in_of q (by decide)
    have h1 : pif (vp_in (nI w) 11) (some ((nm (cl (nI w))).toInt64 :: vs, bs)) none = some S' := h1
    rw [pif_t q] at h1
    have e := Option.some.inj h1
    rw [show cl (nI w) = w from nI_clamp (by omega)] at e
    exact ⟨w, hw, rfl, by rw [e]; exact h2⟩
  · have h1 : pif (vp_in v 11) (some ((nm (cl v)).toInt64 :: vs, bs)) none = some S' := h1
    rw [pif_f q] at h1
    cases h1
theorem kRun_2 {nm : Nat → Int32} {v : Int32} {L : List (Nat × Int32)} {vs : List Int64} {bs : List Bool} {R : List Int64 × List Bool} (h : kRun nm ((2, v) :: L) (vs, bs) = some R) : ∃ x r, vs = x :: r ∧ kRun nm L (-x :: r, bs) = some R := by
  obtain ⟨S', h1, h2⟩ := kRun_c h
  cases vs with
  | nil => cases h1
  | cons x r => exact ⟨x, r, rfl, by rw [Option.some.inj h1]; exact h2⟩
theorem kRun_two {nm : Nat → Int32} {o : Nat} {v : Int32} {L : List (Nat × Int32)} {vs : List Int64} {bs : List Bool} {R : List Int64 × List Bool} (ho : 3 ≤ o ∧ o < 10) (h : kRun nm ((o, v) :: L) (vs, bs) = some R) : o ≤ 6 ∧ ∃ y x r, vs = y :: x :: r ∧ kRun nm L (mTwo o x y :: r, bs) = some R := by
  obtain ⟨S', h1, h2⟩ := kRun_c h
  obtain rfl | rfl | rfl | rfl | rfl | rfl | rfl : o = 3 ∨ o = 4 ∨ o = 5 ∨ o = 6 ∨ o = 7 ∨ o = 8 ∨ o = 9 := by omega
  all_goals
    first
    | (match vs, h1 with
       | [], h1 => cases h1
       | [a], h1 => cases h1
       | y :: x :: r, h1 => exact ⟨by decide, y, x, r, rfl, by rw [Option.some.inj h1]; exact h2⟩)
    | cases h1
theorem kRun_ask {nm : Nat → Int32} {o : Nat} {v : Int32} {L : List (Nat × Int32)} {vs : List Int64} {bs : List Bool} {R : List Int64 × List Bool} (ho : 10 ≤ o ∧ o < 20) (h : kRun nm ((o, v) :: L) (vs, bs) = some R) : ∃ y x r, vs = y :: x :: r ∧ kRun nm L (r, bD (mAsk o x y) :: bs) = some R := by
  obtain ⟨S', h1, h2⟩ := kRun_c h
  obtain rfl | rfl | rfl | rfl | rfl | rfl | rfl | rfl | rfl | rfl : o = 10 ∨ o = 11 ∨ o = 12 ∨ o = 13 ∨ o = 14 ∨ o = 15 ∨ o = 16 ∨ o = 17 ∨ o = 18 ∨ o = 19 := by omega
  all_goals
    first
    | (match vs, h1 with
       | [], h1 => cases h1
       | [a], h1 => cases h1
       | y :: x :: r, h1 => exact ⟨y, x, r, rfl, by rw [Option.some.inj h1]; exact h2⟩)
    | cases h1
theorem kRun_20 {nm : Nat → Int32} {v : Int32} {L : List (Nat × Int32)} {vs : List Int64} {bs : List Bool} {R : List Int64 × List Bool} (h : kRun nm ((20, v) :: L) (vs, bs) = some R) : ∃ b r, bs = b :: r ∧ kRun nm L (vs, (!b) :: r) = some R := by
  obtain ⟨S', h1, h2⟩ := kRun_c h
  match bs, h1 with
  | [], h1 => cases h1
  | b :: r, h1 => exact ⟨b, r, rfl, by rw [Option.some.inj h1]; exact h2⟩
theorem kRun_21 {nm : Nat → Int32} {v : Int32} {L : List (Nat × Int32)} {vs : List Int64} {bs : List Bool} {R : List Int64 × List Bool} (h : kRun nm ((21, v) :: L) (vs, bs) = some R) : ∃ c b r, bs = c :: b :: r ∧ kRun nm L (vs, (b && c) :: r) = some R := by
  obtain ⟨S', h1, h2⟩ := kRun_c h
  match bs, h1 with
  | [], h1 => cases h1
  | [a], h1 => cases h1
  | c :: b :: r, h1 => exact ⟨c, b, r, rfl, by rw [Option.some.inj h1]; exact h2⟩
theorem kRun_22 {nm : Nat → Int32} {v : Int32} {L : List (Nat × Int32)} {vs : List Int64} {bs : List Bool} {R : List Int64 × List Bool} (h : kRun nm ((22, v) :: L) (vs, bs) = some R) : ∃ c b r, bs = c :: b :: r ∧ kRun nm L (vs, (b || c) :: r) = some R := by
  obtain ⟨S', h1, h2⟩ := kRun_c h
  match bs, h1 with
  | [], h1 => cases h1
  | [a], h1 => cases h1
  | c :: b :: r, h1 => exact ⟨c, b, r, rfl, by rw [Option.some.inj h1]; exact h2⟩
theorem kRun_23 {nm : Nat → Int32} {v : Int32} {L : List (Nat × Int32)} {vs : List Int64} {bs : List Bool} {R : List Int64 × List Bool} (h : kRun nm ((23, v) :: L) (vs, bs) = some R) : ∃ y x r b q, vs = y :: x :: r ∧ bs = b :: q ∧ kRun nm L ((if b then x else y) :: r, q) = some R := by
  obtain ⟨S', h1, h2⟩ := kRun_c h
  match vs, bs, h1 with
  | [], _, h1 => cases h1
  | [a], _, h1 => cases h1
  | y :: x :: r, [], h1 => cases h1
  | y :: x :: r, b :: q, h1 => exact ⟨y, x, r, b, q, rfl, rfl, by rw [Option.some.inj h1]; exact h2⟩
set_option maxHeartbeats 4000000 in
set_option maxRecDepth 100000 in
theorem met_X2_work (l : Launch) (G : gG) (ad : Nat → Nat) (M Z : Nat → Nat → Int32) (V : Nat → Nat → Int64) (t k i : Nat) (L : List (Nat × Int32)) (r : Int64) (h5 : M 0 5 = nI t) (ht : t < 4) (hk : k < 24) (e1 : M 2 (680 * t + 1 + 3 * k + 1) = nI i) (e2 : M 2 (680 * t + 1 + 3 * k + 2) = nI (i + L.length)) (hL : i + L.length ≤ 302) (hc : kAt M (680 * t + 75) L i) (hrun : kRun (Z 22) L ([], []) = some ([r], [])) : Met l yX2_work (ws_ yX2_work cX2_work 9 none) ({ frames := 2, cells := 0, slots := 0, locals := 45 } : Room) (cP G [.ref (ad 0), .int (nI k)] (mH G ad M Z V)) (cQ none (fun H => ∃ Z9 V9, (V9 23 0 = r ∧ ∀ k9, k9 ≠ 24 → Z9 k9 = Z k9) ∧ mH G ad M Z9 V9 H) (mA ad)) 0 0 (mA ad) := by
  refine c_start (by decide) (Nat.le_of_ble_eq_true rfl) ?_
  intro p e s m below meth c hx hb hr hlocks hml hown hts hB hK ls hl
  have hw := MS.of hB
  have hl : lv_has ls 9 [(0, .ref (ad 0)), (1, .int (nI k))] := hl
  refine lv_sipush (v := nI 680) hx hb dX2_work_0 (by decide) ?_
  refine lv_aload_n hx hb dX2_work_3 rfl (lv_at hl 0 rfl) ?_
  refine m_g_a hx hb hts hown hK hw dX2_work_4 ?_
  refine lv_iconst (v := nI 5) hx hb dX2_work_7 (by decide) ?_
  refine m_l_a (j := 5) (v := nI t) hx hb hK hw h5 (by decide) dX2_work_8 ?_
  refine n_imul hx hb dX2_work_9 ?_
  refine lv_iconst (v := nI 1) hx hb dX2_work_10 (by decide) ?_
  refine n_iadd hx hb dX2_work_11 ?_
  refine lv_iconst (v := nI 3) hx hb dX2_work_12 (by decide) ?_
  refine lv_iload_n hx hb dX2_work_13 rfl (lv_at hl 1 rfl) ?_
  refine n_imul hx hb dX2_work_14 ?_
  refine n_iadd hx hb dX2_work_15 ?_
  refine lv_istore_n (lv' := [(2, .int (nI (680 * t + 1 + 3 * k))), (0, .ref (ad 0)), (1, .int (nI k))]) hx hb dX2_work_16 rfl hl (by decide) rfl (fun ls hl => ?_)
  refine lv_sipush (v := nI 680) hx hb dX2_work_17 (by decide) ?_
  refine lv_aload_n hx hb dX2_work_20 rfl (lv_at hl 1 rfl) ?_
  refine m_g_a hx hb hts hown hK hw dX2_work_21 ?_
  refine lv_iconst (v := nI 5) hx hb dX2_work_24 (by decide) ?_
  refine m_l_a (j := 5) (v := nI t) hx hb hK hw h5 (by decide) dX2_work_25 ?_
  refine n_imul hx hb dX2_work_26 ?_
  refine lv_bipush (v := nI 75) hx hb dX2_work_27 (by decide) ?_
  refine n_iadd hx hb dX2_work_29 ?_
  refine lv_istore_n (lv' := [(3, .int (nI (680 * t + 75))), (2, .int (nI (680 * t + 1 + 3 * k))), (0, .ref (ad 0)), (1, .int (nI k))]) hx hb dX2_work_30 rfl hl (by decide) rfl (fun ls hl => ?_)
  refine lv_iconst (v := nI 0) hx hb dX2_work_31 (by decide) ?_
  refine lv_istore (lv' := [(4, .int (nI 0)), (3, .int (nI (680 * t + 75))), (2, .int (nI (680 * t + 1 + 3 * k))), (0, .ref (ad 0)), (1, .int (nI k))]) hx hb dX2_work_32 hl (by decide) rfl (fun ls hl => ?_)
  refine lv_iconst (v := nI 0) hx hb dX2_work_34 (by decide) ?_
  refine lv_istore (lv' := [(5, .int (nI 0)), (4, .int (nI 0)), (3, .int (nI (680 * t + 75))), (2, .int (nI (680 * t + 1 + 3 * k))), (0, .ref (ad 0)), (1, .int (nI k))]) hx hb dX2_work_35 hl (by decide) rfl (fun ls hl => ?_)
  refine lv_aload_n hx hb dX2_work_37 rfl (lv_at hl 4 rfl) ?_
  refine m_g_texts hx hb hts hown hK hw dX2_work_38 ?_
  refine lv_iload_n hx hb dX2_work_41 rfl (lv_at hl 3 rfl) ?_
  refine lv_iconst (v := nI 1) hx hb dX2_work_42 (by decide) ?_
  refine n_iadd hx hb dX2_work_43 ?_
  refine m_l_texts (j := 680 * t + 1 + 3 * k + 1) (v := nI i) hx hb hK hw e1 (by omega) dX2_work_44 ?_
  refine lv_istore (lv' := [(6, .int (nI i)), (5, .int (nI 0)), (4, .int (nI 0)), (3, .int (nI (680 * t + 75))), (2, .int (nI (680 * t + 1 + 3 * k))), (0, .ref (ad 0)), (1, .int (nI k))]) hx hb dX2_work_45 hl (by decide) rfl (fun ls hl => ?_)
  have L_47 : ∀ (fuel : Nat) (i1 : Nat) (rem : List (Nat × Int32)) (vs : List Int64) (bs : List Bool) (Z1 : Nat → Nat → Int32) (V1 : Nat → Nat → Int64), rem.length < fuel → (i1 + rem.length = i + L.length) → (kAt M (680 * t + 75) rem i1) → (kRun (Z 22) rem (vs, bs) = some ([r], [])) → (kVs V1 vs) → (kBs Z1 bs) → (∀ k9, k9 ≠ 24 → Z1 k9 = Z k9) → (vs.length + rem.length ≤ 302) → (bs.length + rem.length ≤ 302) → ∀ (H : Heap) (locs : List Loc), MS G ad s.heap M Z1 V1 H locs → ∀ (ls : Array Slot), lv_has ls 9 [(0, .ref (ad 0)), (1, .int (nI k)), (2, .int (nI (680 * t + 1 + 3 * k))), (3, .int (nI (680 * t + 75))), (4, .int (nI vs.length)), (5, .int (nI bs.length)), (6, .int (nI i1))] → W p l e ({ frames := 2, cells := 0, slots := 0, locals := 45 } : Room) s m ([.ref (ad 0), .int (nI k)] : List Value).toArray below meth c H locs 0 0 (MQ below (cQ none (fun H => ∃ Z9 V9, (V9 23 0 = r ∧ ∀ k9, k9 ≠ 24 → Z9 k9 = Z k9) ∧ mH G ad M Z9 V9 H) (mA ad)) ([.ref (ad 0), .int (nI k)] : List Value).toArray s 0 0 (mA ad)) (F0 m 47 ls []) := by
    intro fuel
    induction fuel with
    | zero => intro i1 rem vs bs Z1 V1 hf; exact absurd hf (Nat.not_lt_zero _)
    | succ fuel ih =>
      intro i1 rem vs bs Z1 V1 hf hi1 hc1 hrun hv1 hb1 hz1 hd1 hd2 H locs hw ls hl
      have ih47 := ih
      refine lv_iload hx hb dX2_work_47 (lv_at hl 6 rfl) ?_
      refine lv_aload_n hx hb dX2_work_49 rfl (lv_at hl 0 rfl) ?_
      refine m_g_texts hx hb hts hown hK hw dX2_work_50 ?_
      refine lv_iload_n hx hb dX2_work_53 rfl (lv_at hl 2 rfl) ?_
      refine lv_iconst (v := nI 2) hx hb dX2_work_54 (by decide) ?_
      refine n_iadd hx hb dX2_work_55 ?_
      refine m_l_texts (j := 680 * t + 1 + 3 * k + 2) (v := nI (i + L.length)) hx hb hK hw e2 (by omega) dX2_work_56 ?_
      refine n_icmp_ge (tgt := 413) hx hb dX2_work_57 (by decide) (by omega) (by omega) (fun c_1 => ?_) (fun c_1 => ?_)
      · obtain rfl : rem = [] := by
          cases rem with
          | nil => rfl
          | cons q rem' => simp at hi1; omega
        have hrun : some (vs, bs) = some ([r], ([] : List Bool)) := hrun
        obtain ⟨rfl, rfl⟩ : vs = [r] ∧ bs = [] := by have := Option.some.inj hrun; exact ⟨congrArg Prod.fst this, congrArg Prod.snd this⟩
        exact c_vret hx hb hr hlocks ⟨_, _, ⟨hv1.1, hz1⟩, mH.to rfl rfl rfl hw.1⟩ hw.2 dX2_work_413
      obtain ⟨⟨o, v⟩, rem', rfl⟩ : ∃ q rem', rem = q :: rem' := by
        cases rem with
        | nil => simp at hi1; omega
        | cons q rem' => exact ⟨q, rem', rfl⟩
      have ho : o ≤ 23 := by obtain ⟨S9, h9, -⟩ := kRun_c hrun; exact kStep_le h9
      have hd1 : vs.length + (rem'.length + 1) ≤ 302 := hd1
      have hd2 : bs.length + (rem'.length + 1) ≤ 302 := hd2
      have hi1 : i1 + (rem'.length + 1) = i + L.length := hi1
      refine lv_aload_n hx hb dX2_work_60 rfl (lv_at hl 0 rfl) ?_
      refine m_g_texts hx hb hts hown hK hw dX2_work_61 ?_
      refine lv_iload_n hx hb dX2_work_64 rfl (lv_at hl 3 rfl) ?_
      refine lv_iconst (v := nI 2) hx hb dX2_work_65 (by decide) ?_
      refine lv_iload hx hb dX2_work_66 (lv_at hl 6 rfl) ?_
      refine n_imul hx hb dX2_work_68 ?_
      refine n_iadd hx hb dX2_work_69 ?_
      refine m_l_texts (j := 680 * t + 75 + 2 * i1) (v := nI o) hx hb hK hw hc1.1 (by omega) dX2_work_70 ?_
      refine lv_istore (lv' := [(7, .int (nI o)), (0, .ref (ad 0)), (1, .int (nI k)), (2, .int (nI (680 * t + 1 + 3 * k))), (3, .int (nI (680 * t + 75))), (4, .int (nI vs.length)), (5, .int (nI bs.length)), (6, .int (nI i1))]) hx hb dX2_work_71 hl (by decide) rfl (fun ls hl => ?_)
      refine lv_aload_n hx hb dX2_work_73 rfl (lv_at hl 1 rfl) ?_
      refine m_g_texts hx hb hts hown hK hw dX2_work_74 ?_
      refine lv_iload_n hx hb dX2_work_77 rfl (lv_at hl 4 rfl) ?_
      refine lv_iconst (v := nI 2) hx hb dX2_work_78 (by decide) ?_
      refine lv_iload hx hb dX2_work_79 (lv_at hl 7 rfl) ?_
      refine n_imul hx hb dX2_work_81 ?_
      refine n_iadd hx hb dX2_work_82 ?_
      refine lv_iconst (v := nI 1) hx hb dX2_work_83 (by decide) ?_
      refine n_iadd hx hb dX2_work_84 ?_
      refine m_l_texts (j := 680 * t + 75 + 2 * i1 + 1) (v := v) hx hb hK hw hc1.2.1 (by omega) dX2_work_85 ?_
      refine lv_istore (lv' := [(8, .int v), (7, .int (nI o)), (0, .ref (ad 0)), (1, .int (nI k)), (2, .int (nI (680 * t + 1 + 3 * k))), (3, .int (nI (680 * t + 75))), (4, .int (nI vs.length)), (5, .int (nI bs.length)), (6, .int (nI i1))]) hx hb dX2_work_86 hl (by decide) rfl (fun ls hl => ?_)
      refine lv_iload hx hb dX2_work_88 (lv_at hl 1 rfl) ?_
      refine lv_iconst (v := nI 1) hx hb dX2_work_90 (by decide) ?_
      refine n_icmp_gt (tgt := 126) hx hb dX2_work_91 (by decide) (by omega) (by decide) (fun c_2 => ?_) (fun c_2 => ?_)
      · refine lv_iload hx hb dX2_work_126 (lv_at hl 1 rfl) ?_
        refine lv_iconst (v := nI 2) hx hb dX2_work_128 (by decide) ?_
        refine n_icmp_ne (tgt := 154) hx hb dX2_work_129 (by decide) (by omega) (by decide) (fun c_3 => ?_) (fun c_3 => ?_)
        · refine lv_iload hx hb dX2_work_154 (lv_at hl 1 rfl) ?_
          refine lv_bipush (v := nI 10) hx hb dX2_work_156 (by decide) ?_
          refine n_icmp_ge (tgt := 197) hx hb dX2_work_158 (by decide) (by omega) (by decide) (fun c_4 => ?_) (fun c_4 => ?_)
          · refine lv_iload hx hb dX2_work_197 (lv_at hl 1 rfl) ?_
            refine lv_bipush (v := nI 20) hx hb dX2_work_199 (by decide) ?_
            refine n_icmp_ge (tgt := 241) hx hb dX2_work_201 (by decide) (by omega) (by decide) (fun c_5 => ?_) (fun c_5 => ?_)
            · refine lv_iload hx hb dX2_work_241 (lv_at hl 1 rfl) ?_
              refine lv_bipush (v := nI 20) hx hb dX2_work_243 (by decide) ?_
              refine n_icmp_ne (tgt := 277) hx hb dX2_work_245 (by decide) (by omega) (by decide) (fun c_6 => ?_) (fun c_6 => ?_)
              · refine lv_iload hx hb dX2_work_277 (lv_at hl 1 rfl) ?_
                refine lv_bipush (v := nI 23) hx hb dX2_work_279 (by decide) ?_
                refine n_icmp_ne (tgt := 331) hx hb dX2_work_281 (by decide) (by omega) (by decide) (fun c_7 => ?_) (fun c_7 => ?_)
                · obtain rfl | rfl : o = 21 ∨ o = 22 := by omega
                  · obtain ⟨b2, b1, br, rfl, hrn⟩ := kRun_21 hrun
                    have hd2 : br.length + 1 + 1 + (rem'.length + 1) ≤ 302 := hd2
                    have hl : lv_has ls 9 [(8, .int v), (7, .int (nI 21)), (0, .ref (ad 0)), (1, .int (nI k)), (2, .int (nI (680 * t + 1 + 3 * k))), (3, .int (nI (680 * t + 75))), (4, .int (nI vs.length)), (5, .int (nI (br.length + 1 + 1))), (6, .int (nI i1))] := hl
                    refine lv_iinc (v := nI (br.length + 1 + 1 - 1)) (lv' := [(5, .int (nI (br.length + 1 + 1 - 1))), (8, .int v), (7, .int (nI 21)), (0, .ref (ad 0)), (1, .int (nI k)), (2, .int (nI (680 * t + 1 + 3 * k))), (3, .int (nI (680 * t + 75))), (4, .int (nI vs.length)), (6, .int (nI i1))]) hx hb dX2_work_331 hl (k := 7) rfl (n_dec (a := br.length + 1 + 1) (by omega)) (by decide) rfl (fun ls hl => ?_)
                    refine lv_aload_n hx hb dX2_work_334 rfl (lv_at hl 3 rfl) ?_
                    refine m_g_truth hx hb hts hown hK hw dX2_work_335 ?_
                    refine lv_iload hx hb dX2_work_338 (lv_at hl 0 rfl) ?_
                    refine lv_iconst (v := nI 1) hx hb dX2_work_340 (by decide) ?_
                    refine n_isub hx hb (by omega) dX2_work_341 ?_
                    refine lv_iload hx hb dX2_work_342 (lv_at hl 2 rfl) ?_
                    refine lv_bipush (v := nI 21) hx hb dX2_work_344 (by decide) ?_
                    refine n_icmp_ne (tgt := 379) hx hb dX2_work_346 (by decide) (by decide) (by decide) (fun c_8 => ?_) (fun c_8 => ?_)
                    · refine lv_aload_n hx hb dX2_work_379 rfl (lv_at hl 3 rfl) ?_
                      refine m_g_truth hx hb hts hown hK hw dX2_work_380 ?_
                      refine lv_iload hx hb dX2_work_383 (lv_at hl 0 rfl) ?_
                      refine lv_iconst (v := nI 1) hx hb dX2_work_385 (by decide) ?_
                      refine n_isub hx hb (by omega) dX2_work_386 ?_
                      refine m_l_truth (j := (br.length + 1 + 1 - 1) - 1) (v := bB b1) hx hb hK hw hb1.2.1 (by omega) dX2_work_387 ?_
                      refine lv_if_ne (tgt := 401) hx hb dX2_work_388 (by decide) (fun c_9 => ?_) (fun c_9 => ?_)
                      · refine lv_iconst (v := nI 1) hx hb dX2_work_401 (by decide) ?_
                        refine lv_goto (tgt := 406) hx hb dX2_work_402 (by decide) ?_
                        refine m_s_truth (j := (br.length + 1 + 1 - 1) - 1) hx hb hK hw rfl (by omega) dX2_work_406 (fun H locs hw => ?_)
                        refine lv_iinc (v := nI (i1 + 1)) (lv' := [(6, .int (nI (i1 + 1))), (5, .int (nI (br.length + 1 + 1 - 1))), (8, .int v), (7, .int (nI 21)), (0, .ref (ad 0)), (1, .int (nI k)), (2, .int (nI (680 * t + 1 + 3 * k))), (3, .int (nI (680 * t + 75))), (4, .int (nI vs.length))]) hx hb dX2_work_407 hl (k := 8) rfl (n_inc i1 1) (by decide) rfl (fun ls hl => ?_)
                        refine lv_goto (tgt := 47) hx hb dX2_work_410 (by decide) ?_
                        exact ih47 (i1 + 1) rem' vs ((b1 && b2) :: br) (up2 Z1 24 ((br.length + 1 + 1 - 1) - 1) (nI 1)) V1 (by (try simp only [List.length_cons, List.length_nil]); (try simp only [List.length_cons, List.length_nil] at hf); omega) (by (try simp only [List.length_cons, List.length_nil]); (try simp only [List.length_cons, List.length_nil] at hi1); omega) hc1.2.2 hrn hv1 ⟨up2_at.trans (by cases b1 <;> cases b2 <;> first | rfl | simp_all [bB]), kBs_up _ (Nat.le_refl _) hb1.2.2⟩ (fun k9 h9 => (by funext j9; exact (up2_ne (Or.inl h9)).trans (congrFun (hz1 k9 h9) j9))) (by (try simp only [List.length_cons, List.length_nil]); (try simp only [List.length_cons, List.length_nil] at hd1); omega) (by (try simp only [List.length_cons, List.length_nil]); (try simp only [List.length_cons, List.length_nil] at hd2); omega) _ _ hw ls (lv_sub hl [4, 5, 6, 7, 8, 1, 0] rfl)
                      refine lv_aload_n hx hb dX2_work_391 rfl (lv_at hl 3 rfl) ?_
                      refine m_g_truth hx hb hts hown hK hw dX2_work_392 ?_
                      refine lv_iload hx hb dX2_work_395 (lv_at hl 0 rfl) ?_
                      refine m_l_truth (j := br.length + 1 + 1 - 1) (v := bB b2) hx hb hK hw hb1.1 (by omega) dX2_work_397 ?_
                      refine lv_if_eq (tgt := 405) hx hb dX2_work_398 (by decide) (fun c_10 => ?_) (fun c_10 => ?_)
                      · refine lv_iconst (v := nI 0) hx hb dX2_work_405 (by decide) ?_
                        refine m_s_truth (j := (br.length + 1 + 1 - 1) - 1) hx hb hK hw rfl (by omega) dX2_work_406 (fun H locs hw => ?_)
                        refine lv_iinc (v := nI (i1 + 1)) (lv' := [(6, .int (nI (i1 + 1))), (5, .int (nI (br.length + 1 + 1 - 1))), (8, .int v), (7, .int (nI 21)), (0, .ref (ad 0)), (1, .int (nI k)), (2, .int (nI (680 * t + 1 + 3 * k))), (3, .int (nI (680 * t + 75))), (4, .int (nI vs.length))]) hx hb dX2_work_407 hl (k := 8) rfl (n_inc i1 1) (by decide) rfl (fun ls hl => ?_)
                        refine lv_goto (tgt := 47) hx hb dX2_work_410 (by decide) ?_
                        exact ih47 (i1 + 1) rem' vs ((b1 && b2) :: br) (up2 Z1 24 ((br.length + 1 + 1 - 1) - 1) (nI 0)) V1 (by (try simp only [List.length_cons, List.length_nil]); (try simp only [List.length_cons, List.length_nil] at hf); omega) (by (try simp only [List.length_cons, List.length_nil]); (try simp only [List.length_cons, List.length_nil] at hi1); omega) hc1.2.2 hrn hv1 ⟨up2_at.trans (by cases b1 <;> cases b2 <;> first | rfl | simp_all [bB]), kBs_up _ (Nat.le_refl _) hb1.2.2⟩ (fun k9 h9 => (by funext j9; exact (up2_ne (Or.inl h9)).trans (congrFun (hz1 k9 h9) j9))) (by (try simp only [List.length_cons, List.length_nil]); (try simp only [List.length_cons, List.length_nil] at hd1); omega) (by (try simp only [List.length_cons, List.length_nil]); (try simp only [List.length_cons, List.length_nil] at hd2); omega) _ _ hw ls (lv_sub hl [4, 5, 6, 7, 8, 1, 0] rfl)
                      refine lv_iconst (v := nI 1) hx hb dX2_work_401 (by decide) ?_
                      refine lv_goto (tgt := 406) hx hb dX2_work_402 (by decide) ?_
                      refine m_s_truth (j := (br.length + 1 + 1 - 1) - 1) hx hb hK hw rfl (by omega) dX2_work_406 (fun H locs hw => ?_)
                      refine lv_iinc (v := nI (i1 + 1)) (lv' := [(6, .int (nI (i1 + 1))), (5, .int (nI (br.length + 1 + 1 - 1))), (8, .int v), (7, .int (nI 21)), (0, .ref (ad 0)), (1, .int (nI k)), (2, .int (nI (680 * t + 1 + 3 * k))), (3, .int (nI (680 * t + 75))), (4, .int (nI vs.length))]) hx hb dX2_work_407 hl (k := 8) rfl (n_inc i1 1) (by decide) rfl (fun ls hl => ?_)
                      refine lv_goto (tgt := 47) hx hb dX2_work_410 (by decide) ?_
                      exact ih47 (i1 + 1) rem' vs ((b1 && b2) :: br) (up2 Z1 24 ((br.length + 1 + 1 - 1) - 1) (nI 1)) V1 (by (try simp only [List.length_cons, List.length_nil]); (try simp only [List.length_cons, List.length_nil] at hf); omega) (by (try simp only [List.length_cons, List.length_nil]); (try simp only [List.length_cons, List.length_nil] at hi1); omega) hc1.2.2 hrn hv1 ⟨up2_at.trans (by cases b1 <;> cases b2 <;> first | rfl | simp_all [bB]), kBs_up _ (Nat.le_refl _) hb1.2.2⟩ (fun k9 h9 => (by funext j9; exact (up2_ne (Or.inl h9)).trans (congrFun (hz1 k9 h9) j9))) (by (try simp only [List.length_cons, List.length_nil]); (try simp only [List.length_cons, List.length_nil] at hd1); omega) (by (try simp only [List.length_cons, List.length_nil]); (try simp only [List.length_cons, List.length_nil] at hd2); omega) _ _ hw ls (lv_sub hl [4, 5, 6, 7, 8, 1, 0] rfl)
                    refine lv_aload_n hx hb dX2_work_349 rfl (lv_at hl 3 rfl) ?_
                    refine m_g_truth hx hb hts hown hK hw dX2_work_350 ?_
                    refine lv_iload hx hb dX2_work_353 (lv_at hl 0 rfl) ?_
                    refine lv_iconst (v := nI 1) hx hb dX2_work_355 (by decide) ?_
                    refine n_isub hx hb (by omega) dX2_work_356 ?_
                    refine m_l_truth (j := (br.length + 1 + 1 - 1) - 1) (v := bB b1) hx hb hK hw hb1.2.1 (by omega) dX2_work_357 ?_
                    refine lv_if_eq (tgt := 375) hx hb dX2_work_358 (by decide) (fun c_11 => ?_) (fun c_11 => ?_)
                    · refine lv_iconst (v := nI 0) hx hb dX2_work_375 (by decide) ?_
                      refine lv_goto (tgt := 406) hx hb dX2_work_376 (by decide) ?_
                      refine m_s_truth (j := (br.length + 1 + 1 - 1) - 1) hx hb hK hw rfl (by omega) dX2_work_406 (fun H locs hw => ?_)
                      refine lv_iinc (v := nI (i1 + 1)) (lv' := [(6, .int (nI (i1 + 1))), (5, .int (nI (br.length + 1 + 1 - 1))), (8, .int v), (7, .int (nI 21)), (0, .ref (ad 0)), (1, .int (nI k)), (2, .int (nI (680 * t + 1 + 3 * k))), (3, .int (nI (680 * t + 75))), (4, .int (nI vs.length))]) hx hb dX2_work_407 hl (k := 8) rfl (n_inc i1 1) (by decide) rfl (fun ls hl => ?_)
                      refine lv_goto (tgt := 47) hx hb dX2_work_410 (by decide) ?_
                      exact ih47 (i1 + 1) rem' vs ((b1 && b2) :: br) (up2 Z1 24 ((br.length + 1 + 1 - 1) - 1) (nI 0)) V1 (by (try simp only [List.length_cons, List.length_nil]); (try simp only [List.length_cons, List.length_nil] at hf); omega) (by (try simp only [List.length_cons, List.length_nil]); (try simp only [List.length_cons, List.length_nil] at hi1); omega) hc1.2.2 hrn hv1 ⟨up2_at.trans (by cases b1 <;> cases b2 <;> first | rfl | simp_all [bB]), kBs_up _ (Nat.le_refl _) hb1.2.2⟩ (fun k9 h9 => (by funext j9; exact (up2_ne (Or.inl h9)).trans (congrFun (hz1 k9 h9) j9))) (by (try simp only [List.length_cons, List.length_nil]); (try simp only [List.length_cons, List.length_nil] at hd1); omega) (by (try simp only [List.length_cons, List.length_nil]); (try simp only [List.length_cons, List.length_nil] at hd2); omega) _ _ hw ls (lv_sub hl [4, 5, 6, 7, 8, 1, 0] rfl)
                    refine lv_aload_n hx hb dX2_work_361 rfl (lv_at hl 3 rfl) ?_
                    refine m_g_truth hx hb hts hown hK hw dX2_work_362 ?_
                    refine lv_iload hx hb dX2_work_365 (lv_at hl 0 rfl) ?_
                    refine m_l_truth (j := br.length + 1 + 1 - 1) (v := bB b2) hx hb hK hw hb1.1 (by omega) dX2_work_367 ?_
                    refine lv_if_eq (tgt := 375) hx hb dX2_work_368 (by decide) (fun c_12 => ?_) (fun c_12 => ?_)
                    · refine lv_iconst (v := nI 0) hx hb dX2_work_375 (by decide) ?_
                      refine lv_goto (tgt := 406) hx hb dX2_work_376 (by decide) ?_
                      refine m_s_truth (j := (br.length + 1 + 1 - 1) - 1) hx hb hK hw rfl (by omega) dX2_work_406 (fun H locs hw => ?_)
                      refine lv_iinc (v := nI (i1 + 1)) (lv' := [(6, .int (nI (i1 + 1))), (5, .int (nI (br.length + 1 + 1 - 1))), (8, .int v), (7, .int (nI 21)), (0, .ref (ad 0)), (1, .int (nI k)), (2, .int (nI (680 * t + 1 + 3 * k))), (3, .int (nI (680 * t + 75))), (4, .int (nI vs.length))]) hx hb dX2_work_407 hl (k := 8) rfl (n_inc i1 1) (by decide) rfl (fun ls hl => ?_)
                      refine lv_goto (tgt := 47) hx hb dX2_work_410 (by decide) ?_
                      exact ih47 (i1 + 1) rem' vs ((b1 && b2) :: br) (up2 Z1 24 ((br.length + 1 + 1 - 1) - 1) (nI 0)) V1 (by (try simp only [List.length_cons, List.length_nil]); (try simp only [List.length_cons, List.length_nil] at hf); omega) (by (try simp only [List.length_cons, List.length_nil]); (try simp only [List.length_cons, List.length_nil] at hi1); omega) hc1.2.2 hrn hv1 ⟨up2_at.trans (by cases b1 <;> cases b2 <;> first | rfl | simp_all [bB]), kBs_up _ (Nat.le_refl _) hb1.2.2⟩ (fun k9 h9 => (by funext j9; exact (up2_ne (Or.inl h9)).trans (congrFun (hz1 k9 h9) j9))) (by (try simp only [List.length_cons, List.length_nil]); (try simp only [List.length_cons, List.length_nil] at hd1); omega) (by (try simp only [List.length_cons, List.length_nil]); (try simp only [List.length_cons, List.length_nil] at hd2); omega) _ _ hw ls (lv_sub hl [4, 5, 6, 7, 8, 1, 0] rfl)
                    refine lv_iconst (v := nI 1) hx hb dX2_work_371 (by decide) ?_
                    refine lv_goto (tgt := 406) hx hb dX2_work_372 (by decide) ?_
                    refine m_s_truth (j := (br.length + 1 + 1 - 1) - 1) hx hb hK hw rfl (by omega) dX2_work_406 (fun H locs hw => ?_)
                    refine lv_iinc (v := nI (i1 + 1)) (lv' := [(6, .int (nI (i1 + 1))), (5, .int (nI (br.length + 1 + 1 - 1))), (8, .int v), (7, .int (nI 21)), (0, .ref (ad 0)), (1, .int (nI k)), (2, .int (nI (680 * t + 1 + 3 * k))), (3, .int (nI (680 * t + 75))), (4, .int (nI vs.length))]) hx hb dX2_work_407 hl (k := 8) rfl (n_inc i1 1) (by decide) rfl (fun ls hl => ?_)
                    refine lv_goto (tgt := 47) hx hb dX2_work_410 (by decide) ?_
                    exact ih47 (i1 + 1) rem' vs ((b1 && b2) :: br) (up2 Z1 24 ((br.length + 1 + 1 - 1) - 1) (nI 1)) V1 (by (try simp only [List.length_cons, List.length_nil]); (try simp only [List.length_cons, List.length_nil] at hf); omega) (by (try simp only [List.length_cons, List.length_nil]); (try simp only [List.length_cons, List.length_nil] at hi1); omega) hc1.2.2 hrn hv1 ⟨up2_at.trans (by cases b1 <;> cases b2 <;> first | rfl | simp_all [bB]), kBs_up _ (Nat.le_refl _) hb1.2.2⟩ (fun k9 h9 => (by funext j9; exact (up2_ne (Or.inl h9)).trans (congrFun (hz1 k9 h9) j9))) (by (try simp only [List.length_cons, List.length_nil]); (try simp only [List.length_cons, List.length_nil] at hd1); omega) (by (try simp only [List.length_cons, List.length_nil]); (try simp only [List.length_cons, List.length_nil] at hd2); omega) _ _ hw ls (lv_sub hl [4, 5, 6, 7, 8, 1, 0] rfl)
                  · obtain ⟨b2, b1, br, rfl, hrn⟩ := kRun_22 hrun
                    have hd2 : br.length + 1 + 1 + (rem'.length + 1) ≤ 302 := hd2
                    have hl : lv_has ls 9 [(8, .int v), (7, .int (nI 22)), (0, .ref (ad 0)), (1, .int (nI k)), (2, .int (nI (680 * t + 1 + 3 * k))), (3, .int (nI (680 * t + 75))), (4, .int (nI vs.length)), (5, .int (nI (br.length + 1 + 1))), (6, .int (nI i1))] := hl
                    refine lv_iinc (v := nI (br.length + 1 + 1 - 1)) (lv' := [(5, .int (nI (br.length + 1 + 1 - 1))), (8, .int v), (7, .int (nI 22)), (0, .ref (ad 0)), (1, .int (nI k)), (2, .int (nI (680 * t + 1 + 3 * k))), (3, .int (nI (680 * t + 75))), (4, .int (nI vs.length)), (6, .int (nI i1))]) hx hb dX2_work_331 hl (k := 7) rfl (n_dec (a := br.length + 1 + 1) (by omega)) (by decide) rfl (fun ls hl => ?_)
                    refine lv_aload_n hx hb dX2_work_334 rfl (lv_at hl 3 rfl) ?_
                    refine m_g_truth hx hb hts hown hK hw dX2_work_335 ?_
                    refine lv_iload hx hb dX2_work_338 (lv_at hl 0 rfl) ?_
                    refine lv_iconst (v := nI 1) hx hb dX2_work_340 (by decide) ?_
                    refine n_isub hx hb (by omega) dX2_work_341 ?_
                    refine lv_iload hx hb dX2_work_342 (lv_at hl 2 rfl) ?_
                    refine lv_bipush (v := nI 21) hx hb dX2_work_344 (by decide) ?_
                    refine n_icmp_ne (tgt := 379) hx hb dX2_work_346 (by decide) (by decide) (by decide) (fun c_13 => ?_) (fun c_13 => ?_)
                    · refine lv_aload_n hx hb dX2_work_379 rfl (lv_at hl 3 rfl) ?_
                      refine m_g_truth hx hb hts hown hK hw dX2_work_380 ?_
                      refine lv_iload hx hb dX2_work_383 (lv_at hl 0 rfl) ?_
                      refine lv_iconst (v := nI 1) hx hb dX2_work_385 (by decide) ?_
                      refine n_isub hx hb (by omega) dX2_work_386 ?_
                      refine m_l_truth (j := (br.length + 1 + 1 - 1) - 1) (v := bB b1) hx hb hK hw hb1.2.1 (by omega) dX2_work_387 ?_
                      refine lv_if_ne (tgt := 401) hx hb dX2_work_388 (by decide) (fun c_14 => ?_) (fun c_14 => ?_)
                      · refine lv_iconst (v := nI 1) hx hb dX2_work_401 (by decide) ?_
                        refine lv_goto (tgt := 406) hx hb dX2_work_402 (by decide) ?_
                        refine m_s_truth (j := (br.length + 1 + 1 - 1) - 1) hx hb hK hw rfl (by omega) dX2_work_406 (fun H locs hw => ?_)
                        refine lv_iinc (v := nI (i1 + 1)) (lv' := [(6, .int (nI (i1 + 1))), (5, .int (nI (br.length + 1 + 1 - 1))), (8, .int v), (7, .int (nI 22)), (0, .ref (ad 0)), (1, .int (nI k)), (2, .int (nI (680 * t + 1 + 3 * k))), (3, .int (nI (680 * t + 75))), (4, .int (nI vs.length))]) hx hb dX2_work_407 hl (k := 8) rfl (n_inc i1 1) (by decide) rfl (fun ls hl => ?_)
                        refine lv_goto (tgt := 47) hx hb dX2_work_410 (by decide) ?_
                        exact ih47 (i1 + 1) rem' vs ((b1 || b2) :: br) (up2 Z1 24 ((br.length + 1 + 1 - 1) - 1) (nI 1)) V1 (by (try simp only [List.length_cons, List.length_nil]); (try simp only [List.length_cons, List.length_nil] at hf); omega) (by (try simp only [List.length_cons, List.length_nil]); (try simp only [List.length_cons, List.length_nil] at hi1); omega) hc1.2.2 hrn hv1 ⟨up2_at.trans (by cases b1 <;> cases b2 <;> first | rfl | simp_all [bB]), kBs_up _ (Nat.le_refl _) hb1.2.2⟩ (fun k9 h9 => (by funext j9; exact (up2_ne (Or.inl h9)).trans (congrFun (hz1 k9 h9) j9))) (by (try simp only [List.length_cons, List.length_nil]); (try simp only [List.length_cons, List.length_nil] at hd1); omega) (by (try simp only [List.length_cons, List.length_nil]); (try simp only [List.length_cons, List.length_nil] at hd2); omega) _ _ hw ls (lv_sub hl [4, 5, 6, 7, 8, 1, 0] rfl)
                      refine lv_aload_n hx hb dX2_work_391 rfl (lv_at hl 3 rfl) ?_
                      refine m_g_truth hx hb hts hown hK hw dX2_work_392 ?_
                      refine lv_iload hx hb dX2_work_395 (lv_at hl 0 rfl) ?_
                      refine m_l_truth (j := br.length + 1 + 1 - 1) (v := bB b2) hx hb hK hw hb1.1 (by omega) dX2_work_397 ?_
                      refine lv_if_eq (tgt := 405) hx hb dX2_work_398 (by decide) (fun c_15 => ?_) (fun c_15 => ?_)
                      · refine lv_iconst (v := nI 0) hx hb dX2_work_405 (by decide) ?_
                        refine m_s_truth (j := (br.length + 1 + 1 - 1) - 1) hx hb hK hw rfl (by omega) dX2_work_406 (fun H locs hw => ?_)
                        refine lv_iinc (v := nI (i1 + 1)) (lv' := [(6, .int (nI (i1 + 1))), (5, .int (nI (br.length + 1 + 1 - 1))), (8, .int v), (7, .int (nI 22)), (0, .ref (ad 0)), (1, .int (nI k)), (2, .int (nI (680 * t + 1 + 3 * k))), (3, .int (nI (680 * t + 75))), (4, .int (nI vs.length))]) hx hb dX2_work_407 hl (k := 8) rfl (n_inc i1 1) (by decide) rfl (fun ls hl => ?_)
                        refine lv_goto (tgt := 47) hx hb dX2_work_410 (by decide) ?_
                        exact ih47 (i1 + 1) rem' vs ((b1 || b2) :: br) (up2 Z1 24 ((br.length + 1 + 1 - 1) - 1) (nI 0)) V1 (by (try simp only [List.length_cons, List.length_nil]); (try simp only [List.length_cons, List.length_nil] at hf); omega) (by (try simp only [List.length_cons, List.length_nil]); (try simp only [List.length_cons, List.length_nil] at hi1); omega) hc1.2.2 hrn hv1 ⟨up2_at.trans (by cases b1 <;> cases b2 <;> first | rfl | simp_all [bB]), kBs_up _ (Nat.le_refl _) hb1.2.2⟩ (fun k9 h9 => (by funext j9; exact (up2_ne (Or.inl h9)).trans (congrFun (hz1 k9 h9) j9))) (by (try simp only [List.length_cons, List.length_nil]); (try simp only [List.length_cons, List.length_nil] at hd1); omega) (by (try simp only [List.length_cons, List.length_nil]); (try simp only [List.length_cons, List.length_nil] at hd2); omega) _ _ hw ls (lv_sub hl [4, 5, 6, 7, 8, 1, 0] rfl)
                      refine lv_iconst (v := nI 1) hx hb dX2_work_401 (by decide) ?_
                      refine lv_goto (tgt := 406) hx hb dX2_work_402 (by decide) ?_
                      refine m_s_truth (j := (br.length + 1 + 1 - 1) - 1) hx hb hK hw rfl (by omega) dX2_work_406 (fun H locs hw => ?_)
                      refine lv_iinc (v := nI (i1 + 1)) (lv' := [(6, .int (nI (i1 + 1))), (5, .int (nI (br.length + 1 + 1 - 1))), (8, .int v), (7, .int (nI 22)), (0, .ref (ad 0)), (1, .int (nI k)), (2, .int (nI (680 * t + 1 + 3 * k))), (3, .int (nI (680 * t + 75))), (4, .int (nI vs.length))]) hx hb dX2_work_407 hl (k := 8) rfl (n_inc i1 1) (by decide) rfl (fun ls hl => ?_)
                      refine lv_goto (tgt := 47) hx hb dX2_work_410 (by decide) ?_
                      exact ih47 (i1 + 1) rem' vs ((b1 || b2) :: br) (up2 Z1 24 ((br.length + 1 + 1 - 1) - 1) (nI 1)) V1 (by (try simp only [List.length_cons, List.length_nil]); (try simp only [List.length_cons, List.length_nil] at hf); omega) (by (try simp only [List.length_cons, List.length_nil]); (try simp only [List.length_cons, List.length_nil] at hi1); omega) hc1.2.2 hrn hv1 ⟨up2_at.trans (by cases b1 <;> cases b2 <;> first | rfl | simp_all [bB]), kBs_up _ (Nat.le_refl _) hb1.2.2⟩ (fun k9 h9 => (by funext j9; exact (up2_ne (Or.inl h9)).trans (congrFun (hz1 k9 h9) j9))) (by (try simp only [List.length_cons, List.length_nil]); (try simp only [List.length_cons, List.length_nil] at hd1); omega) (by (try simp only [List.length_cons, List.length_nil]); (try simp only [List.length_cons, List.length_nil] at hd2); omega) _ _ hw ls (lv_sub hl [4, 5, 6, 7, 8, 1, 0] rfl)
                    refine lv_aload_n hx hb dX2_work_349 rfl (lv_at hl 3 rfl) ?_
                    refine m_g_truth hx hb hts hown hK hw dX2_work_350 ?_
                    refine lv_iload hx hb dX2_work_353 (lv_at hl 0 rfl) ?_
                    refine lv_iconst (v := nI 1) hx hb dX2_work_355 (by decide) ?_
                    refine n_isub hx hb (by omega) dX2_work_356 ?_
                    refine m_l_truth (j := (br.length + 1 + 1 - 1) - 1) (v := bB b1) hx hb hK hw hb1.2.1 (by omega) dX2_work_357 ?_
                    refine lv_if_eq (tgt := 375) hx hb dX2_work_358 (by decide) (fun c_16 => ?_) (fun c_16 => ?_)
                    · refine lv_iconst (v := nI 0) hx hb dX2_work_375 (by decide) ?_
                      refine lv_goto (tgt := 406) hx hb dX2_work_376 (by decide) ?_
                      refine m_s_truth (j := (br.length + 1 + 1 - 1) - 1) hx hb hK hw rfl (by omega) dX2_work_406 (fun H locs hw => ?_)
                      refine lv_iinc (v := nI (i1 + 1)) (lv' := [(6, .int (nI (i1 + 1))), (5, .int (nI (br.length + 1 + 1 - 1))), (8, .int v), (7, .int (nI 22)), (0, .ref (ad 0)), (1, .int (nI k)), (2, .int (nI (680 * t + 1 + 3 * k))), (3, .int (nI (680 * t + 75))), (4, .int (nI vs.length))]) hx hb dX2_work_407 hl (k := 8) rfl (n_inc i1 1) (by decide) rfl (fun ls hl => ?_)
                      refine lv_goto (tgt := 47) hx hb dX2_work_410 (by decide) ?_
                      exact ih47 (i1 + 1) rem' vs ((b1 || b2) :: br) (up2 Z1 24 ((br.length + 1 + 1 - 1) - 1) (nI 0)) V1 (by (try simp only [List.length_cons, List.length_nil]); (try simp only [List.length_cons, List.length_nil] at hf); omega) (by (try simp only [List.length_cons, List.length_nil]); (try simp only [List.length_cons, List.length_nil] at hi1); omega) hc1.2.2 hrn hv1 ⟨up2_at.trans (by cases b1 <;> cases b2 <;> first | rfl | simp_all [bB]), kBs_up _ (Nat.le_refl _) hb1.2.2⟩ (fun k9 h9 => (by funext j9; exact (up2_ne (Or.inl h9)).trans (congrFun (hz1 k9 h9) j9))) (by (try simp only [List.length_cons, List.length_nil]); (try simp only [List.length_cons, List.length_nil] at hd1); omega) (by (try simp only [List.length_cons, List.length_nil]); (try simp only [List.length_cons, List.length_nil] at hd2); omega) _ _ hw ls (lv_sub hl [4, 5, 6, 7, 8, 1, 0] rfl)
                    refine lv_aload_n hx hb dX2_work_361 rfl (lv_at hl 3 rfl) ?_
                    refine m_g_truth hx hb hts hown hK hw dX2_work_362 ?_
                    refine lv_iload hx hb dX2_work_365 (lv_at hl 0 rfl) ?_
                    refine m_l_truth (j := br.length + 1 + 1 - 1) (v := bB b2) hx hb hK hw hb1.1 (by omega) dX2_work_367 ?_
                    refine lv_if_eq (tgt := 375) hx hb dX2_work_368 (by decide) (fun c_17 => ?_) (fun c_17 => ?_)
                    · refine lv_iconst (v := nI 0) hx hb dX2_work_375 (by decide) ?_
                      refine lv_goto (tgt := 406) hx hb dX2_work_376 (by decide) ?_
                      refine m_s_truth (j := (br.length + 1 + 1 - 1) - 1) hx hb hK hw rfl (by omega) dX2_work_406 (fun H locs hw => ?_)
                      refine lv_iinc (v := nI (i1 + 1)) (lv' := [(6, .int (nI (i1 + 1))), (5, .int (nI (br.length + 1 + 1 - 1))), (8, .int v), (7, .int (nI 22)), (0, .ref (ad 0)), (1, .int (nI k)), (2, .int (nI (680 * t + 1 + 3 * k))), (3, .int (nI (680 * t + 75))), (4, .int (nI vs.length))]) hx hb dX2_work_407 hl (k := 8) rfl (n_inc i1 1) (by decide) rfl (fun ls hl => ?_)
                      refine lv_goto (tgt := 47) hx hb dX2_work_410 (by decide) ?_
                      exact ih47 (i1 + 1) rem' vs ((b1 || b2) :: br) (up2 Z1 24 ((br.length + 1 + 1 - 1) - 1) (nI 0)) V1 (by (try simp only [List.length_cons, List.length_nil]); (try simp only [List.length_cons, List.length_nil] at hf); omega) (by (try simp only [List.length_cons, List.length_nil]); (try simp only [List.length_cons, List.length_nil] at hi1); omega) hc1.2.2 hrn hv1 ⟨up2_at.trans (by cases b1 <;> cases b2 <;> first | rfl | simp_all [bB]), kBs_up _ (Nat.le_refl _) hb1.2.2⟩ (fun k9 h9 => (by funext j9; exact (up2_ne (Or.inl h9)).trans (congrFun (hz1 k9 h9) j9))) (by (try simp only [List.length_cons, List.length_nil]); (try simp only [List.length_cons, List.length_nil] at hd1); omega) (by (try simp only [List.length_cons, List.length_nil]); (try simp only [List.length_cons, List.length_nil] at hd2); omega) _ _ hw ls (lv_sub hl [4, 5, 6, 7, 8, 1, 0] rfl)
                    refine lv_iconst (v := nI 1) hx hb dX2_work_371 (by decide) ?_
                    refine lv_goto (tgt := 406) hx hb dX2_work_372 (by decide) ?_
                    refine m_s_truth (j := (br.length + 1 + 1 - 1) - 1) hx hb hK hw rfl (by omega) dX2_work_406 (fun H locs hw => ?_)
                    refine lv_iinc (v := nI (i1 + 1)) (lv' := [(6, .int (nI (i1 + 1))), (5, .int (nI (br.length + 1 + 1 - 1))), (8, .int v), (7, .int (nI 22)), (0, .ref (ad 0)), (1, .int (nI k)), (2, .int (nI (680 * t + 1 + 3 * k))), (3, .int (nI (680 * t + 75))), (4, .int (nI vs.length))]) hx hb dX2_work_407 hl (k := 8) rfl (n_inc i1 1) (by decide) rfl (fun ls hl => ?_)
                    refine lv_goto (tgt := 47) hx hb dX2_work_410 (by decide) ?_
                    exact ih47 (i1 + 1) rem' vs ((b1 || b2) :: br) (up2 Z1 24 ((br.length + 1 + 1 - 1) - 1) (nI 1)) V1 (by (try simp only [List.length_cons, List.length_nil]); (try simp only [List.length_cons, List.length_nil] at hf); omega) (by (try simp only [List.length_cons, List.length_nil]); (try simp only [List.length_cons, List.length_nil] at hi1); omega) hc1.2.2 hrn hv1 ⟨up2_at.trans (by cases b1 <;> cases b2 <;> first | rfl | simp_all [bB]), kBs_up _ (Nat.le_refl _) hb1.2.2⟩ (fun k9 h9 => (by funext j9; exact (up2_ne (Or.inl h9)).trans (congrFun (hz1 k9 h9) j9))) (by (try simp only [List.length_cons, List.length_nil]); (try simp only [List.length_cons, List.length_nil] at hd1); omega) (by (try simp only [List.length_cons, List.length_nil]); (try simp only [List.length_cons, List.length_nil] at hd2); omega) _ _ hw ls (lv_sub hl [4, 5, 6, 7, 8, 1, 0] rfl)
                obtain rfl : o = 23 := by omega
                obtain ⟨y, x, vr, b, br, rfl, rfl, hrn⟩ := kRun_23 hrun
                have hd1 : vr.length + 1 + 1 + (rem'.length + 1) ≤ 302 := hd1
                have hd2 : br.length + 1 + (rem'.length + 1) ≤ 302 := hd2
                have hl : lv_has ls 9 [(8, .int v), (7, .int (nI 23)), (0, .ref (ad 0)), (1, .int (nI k)), (2, .int (nI (680 * t + 1 + 3 * k))), (3, .int (nI (680 * t + 75))), (4, .int (nI (vr.length + 1 + 1))), (5, .int (nI (br.length + 1))), (6, .int (nI i1))] := hl
                refine lv_iinc (v := nI (vr.length + 1 + 1 - 1)) (lv' := [(4, .int (nI (vr.length + 1 + 1 - 1))), (8, .int v), (7, .int (nI 23)), (0, .ref (ad 0)), (1, .int (nI k)), (2, .int (nI (680 * t + 1 + 3 * k))), (3, .int (nI (680 * t + 75))), (5, .int (nI (br.length + 1))), (6, .int (nI i1))]) hx hb dX2_work_284 hl (k := 6) rfl (n_dec (a := vr.length + 1 + 1) (by omega)) (by decide) rfl (fun ls hl => ?_)
                refine lv_iinc (v := nI (br.length + 1 - 1)) (lv' := [(5, .int (nI (br.length + 1 - 1))), (4, .int (nI (vr.length + 1 + 1 - 1))), (8, .int v), (7, .int (nI 23)), (0, .ref (ad 0)), (1, .int (nI k)), (2, .int (nI (680 * t + 1 + 3 * k))), (3, .int (nI (680 * t + 75))), (6, .int (nI i1))]) hx hb dX2_work_287 hl (k := 7) rfl (n_dec (a := br.length + 1) (by omega)) (by decide) rfl (fun ls hl => ?_)
                refine lv_aload_n hx hb dX2_work_290 rfl (lv_at hl 4 rfl) ?_
                refine m_g_values hx hb hts hown hK hw dX2_work_291 ?_
                refine lv_iload hx hb dX2_work_294 (lv_at hl 1 rfl) ?_
                refine lv_iconst (v := nI 1) hx hb dX2_work_296 (by decide) ?_
                refine n_isub hx hb (by omega) dX2_work_297 ?_
                refine lv_aload_n hx hb dX2_work_298 rfl (lv_at hl 4 rfl) ?_
                refine m_g_truth hx hb hts hown hK hw dX2_work_299 ?_
                refine lv_iload hx hb dX2_work_302 (lv_at hl 0 rfl) ?_
                refine m_l_truth (j := br.length + 1 - 1) (v := bB b) hx hb hK hw hb1.1 (by omega) dX2_work_304 ?_
                refine lv_if_eq (tgt := 320) hx hb dX2_work_305 (by decide) (fun c_18 => ?_) (fun c_18 => ?_)
                · refine lv_aload_n hx hb dX2_work_320 rfl (lv_at hl 4 rfl) ?_
                  refine m_g_values hx hb hts hown hK hw dX2_work_321 ?_
                  refine lv_iload hx hb dX2_work_324 (lv_at hl 1 rfl) ?_
                  refine m_l_values (j := vr.length + 1 + 1 - 1) (v := y) hx hb hK hw hv1.1 (by omega) dX2_work_326 ?_
                  refine m_s_values (j := (vr.length + 1 + 1 - 1) - 1) hx hb hK hw (by omega) dX2_work_327 (fun H locs hw => ?_)
                  refine lv_goto (tgt := 407) hx hb dX2_work_328 (by decide) ?_
                  refine lv_iinc (v := nI (i1 + 1)) (lv' := [(6, .int (nI (i1 + 1))), (5, .int (nI (br.length + 1 - 1))), (4, .int (nI (vr.length + 1 + 1 - 1))), (8, .int v), (7, .int (nI 23)), (0, .ref (ad 0)), (1, .int (nI k)), (2, .int (nI (680 * t + 1 + 3 * k))), (3, .int (nI (680 * t + 75)))]) hx hb dX2_work_407 hl (k := 8) rfl (n_inc i1 1) (by decide) rfl (fun ls hl => ?_)
                  refine lv_goto (tgt := 47) hx hb dX2_work_410 (by decide) ?_
                  exact ih47 (i1 + 1) rem' ((if b then x else y) :: vr) br Z1 (up2 V1 23 ((vr.length + 1 + 1 - 1) - 1) y) (by (try simp only [List.length_cons, List.length_nil]); (try simp only [List.length_cons, List.length_nil] at hf); omega) (by (try simp only [List.length_cons, List.length_nil]); (try simp only [List.length_cons, List.length_nil] at hi1); omega) hc1.2.2 hrn ⟨up2_at.trans (by cases b <;> first | rfl | simp_all [bB]), kVs_up _ (Nat.le_refl _) hv1.2.2⟩ hb1.2 hz1 (by (try simp only [List.length_cons, List.length_nil]); (try simp only [List.length_cons, List.length_nil] at hd1); omega) (by (try simp only [List.length_cons, List.length_nil]); (try simp only [List.length_cons, List.length_nil] at hd2); omega) _ _ hw ls (lv_sub hl [5, 6, 7, 8, 2, 1, 0] rfl)
                refine lv_aload_n hx hb dX2_work_308 rfl (lv_at hl 4 rfl) ?_
                refine m_g_values hx hb hts hown hK hw dX2_work_309 ?_
                refine lv_iload hx hb dX2_work_312 (lv_at hl 1 rfl) ?_
                refine lv_iconst (v := nI 1) hx hb dX2_work_314 (by decide) ?_
                refine n_isub hx hb (by omega) dX2_work_315 ?_
                refine m_l_values (j := (vr.length + 1 + 1 - 1) - 1) (v := x) hx hb hK hw hv1.2.1 (by omega) dX2_work_316 ?_
                refine lv_goto (tgt := 327) hx hb dX2_work_317 (by decide) ?_
                refine m_s_values (j := (vr.length + 1 + 1 - 1) - 1) hx hb hK hw (by omega) dX2_work_327 (fun H locs hw => ?_)
                refine lv_goto (tgt := 407) hx hb dX2_work_328 (by decide) ?_
                refine lv_iinc (v := nI (i1 + 1)) (lv' := [(6, .int (nI (i1 + 1))), (5, .int (nI (br.length + 1 - 1))), (4, .int (nI (vr.length + 1 + 1 - 1))), (8, .int v), (7, .int (nI 23)), (0, .ref (ad 0)), (1, .int (nI k)), (2, .int (nI (680 * t + 1 + 3 * k))), (3, .int (nI (680 * t + 75)))]) hx hb dX2_work_407 hl (k := 8) rfl (n_inc i1 1) (by decide) rfl (fun ls hl => ?_)
                refine lv_goto (tgt := 47) hx hb dX2_work_410 (by decide) ?_
                exact ih47 (i1 + 1) rem' ((if b then x else y) :: vr) br Z1 (up2 V1 23 ((vr.length + 1 + 1 - 1) - 1) x) (by (try simp only [List.length_cons, List.length_nil]); (try simp only [List.length_cons, List.length_nil] at hf); omega) (by (try simp only [List.length_cons, List.length_nil]); (try simp only [List.length_cons, List.length_nil] at hi1); omega) hc1.2.2 hrn ⟨up2_at.trans (by cases b <;> first | rfl | simp_all [bB]), kVs_up _ (Nat.le_refl _) hv1.2.2⟩ hb1.2 hz1 (by (try simp only [List.length_cons, List.length_nil]); (try simp only [List.length_cons, List.length_nil] at hd1); omega) (by (try simp only [List.length_cons, List.length_nil]); (try simp only [List.length_cons, List.length_nil] at hd2); omega) _ _ hw ls (lv_sub hl [5, 6, 7, 8, 2, 1, 0] rfl)
              obtain rfl : o = 20 := by omega
              obtain ⟨b, br, rfl, hrn⟩ := kRun_20 hrun
              have hd2 : br.length + 1 + (rem'.length + 1) ≤ 302 := hd2
              have hl : lv_has ls 9 [(8, .int v), (7, .int (nI 20)), (0, .ref (ad 0)), (1, .int (nI k)), (2, .int (nI (680 * t + 1 + 3 * k))), (3, .int (nI (680 * t + 75))), (4, .int (nI vs.length)), (5, .int (nI (br.length + 1))), (6, .int (nI i1))] := hl
              refine lv_aload_n hx hb dX2_work_248 rfl (lv_at hl 2 rfl) ?_
              refine m_g_truth hx hb hts hown hK hw dX2_work_249 ?_
              refine lv_iload hx hb dX2_work_252 (lv_at hl 7 rfl) ?_
              refine lv_iconst (v := nI 1) hx hb dX2_work_254 (by decide) ?_
              refine n_isub hx hb (by omega) dX2_work_255 ?_
              refine lv_aload_n hx hb dX2_work_256 rfl (lv_at hl 2 rfl) ?_
              refine m_g_truth hx hb hts hown hK hw dX2_work_257 ?_
              refine lv_iload hx hb dX2_work_260 (lv_at hl 7 rfl) ?_
              refine lv_iconst (v := nI 1) hx hb dX2_work_262 (by decide) ?_
              refine n_isub hx hb (by omega) dX2_work_263 ?_
              refine m_l_truth (j := (br.length + 1) - 1) (v := bB b) hx hb hK hw hb1.1 (by omega) dX2_work_264 ?_
              refine lv_if_ne (tgt := 272) hx hb dX2_work_265 (by decide) (fun c_19 => ?_) (fun c_19 => ?_)
              · refine lv_iconst (v := nI 0) hx hb dX2_work_272 (by decide) ?_
                refine m_s_truth (j := (br.length + 1) - 1) hx hb hK hw rfl (by omega) dX2_work_273 (fun H locs hw => ?_)
                refine lv_goto (tgt := 407) hx hb dX2_work_274 (by decide) ?_
                refine lv_iinc (v := nI (i1 + 1)) (lv' := [(6, .int (nI (i1 + 1))), (8, .int v), (7, .int (nI 20)), (0, .ref (ad 0)), (1, .int (nI k)), (2, .int (nI (680 * t + 1 + 3 * k))), (3, .int (nI (680 * t + 75))), (4, .int (nI vs.length)), (5, .int (nI (br.length + 1)))]) hx hb dX2_work_407 hl (k := 8) rfl (n_inc i1 1) (by decide) rfl (fun ls hl => ?_)
                refine lv_goto (tgt := 47) hx hb dX2_work_410 (by decide) ?_
                exact ih47 (i1 + 1) rem' vs ((!b) :: br) (up2 Z1 24 ((br.length + 1) - 1) (nI 0)) V1 (by (try simp only [List.length_cons, List.length_nil]); (try simp only [List.length_cons, List.length_nil] at hf); omega) (by (try simp only [List.length_cons, List.length_nil]); (try simp only [List.length_cons, List.length_nil] at hi1); omega) hc1.2.2 hrn hv1 ⟨up2_at.trans (by cases b <;> first | rfl | simp_all [bB]), kBs_up _ (Nat.le_refl _) hb1.2⟩ (fun k9 h9 => (by funext j9; exact (up2_ne (Or.inl h9)).trans (congrFun (hz1 k9 h9) j9))) (by (try simp only [List.length_cons, List.length_nil]); (try simp only [List.length_cons, List.length_nil] at hd1); omega) (by (try simp only [List.length_cons, List.length_nil]); (try simp only [List.length_cons, List.length_nil] at hd2); omega) _ _ hw ls (lv_sub hl [3, 4, 5, 6, 7, 8, 0] rfl)
              refine lv_iconst (v := nI 1) hx hb dX2_work_268 (by decide) ?_
              refine lv_goto (tgt := 273) hx hb dX2_work_269 (by decide) ?_
              refine m_s_truth (j := (br.length + 1) - 1) hx hb hK hw rfl (by omega) dX2_work_273 (fun H locs hw => ?_)
              refine lv_goto (tgt := 407) hx hb dX2_work_274 (by decide) ?_
              refine lv_iinc (v := nI (i1 + 1)) (lv' := [(6, .int (nI (i1 + 1))), (8, .int v), (7, .int (nI 20)), (0, .ref (ad 0)), (1, .int (nI k)), (2, .int (nI (680 * t + 1 + 3 * k))), (3, .int (nI (680 * t + 75))), (4, .int (nI vs.length)), (5, .int (nI (br.length + 1)))]) hx hb dX2_work_407 hl (k := 8) rfl (n_inc i1 1) (by decide) rfl (fun ls hl => ?_)
              refine lv_goto (tgt := 47) hx hb dX2_work_410 (by decide) ?_
              exact ih47 (i1 + 1) rem' vs ((!b) :: br) (up2 Z1 24 ((br.length + 1) - 1) (nI 1)) V1 (by (try simp only [List.length_cons, List.length_nil]); (try simp only [List.length_cons, List.length_nil] at hf); omega) (by (try simp only [List.length_cons, List.length_nil]); (try simp only [List.length_cons, List.length_nil] at hi1); omega) hc1.2.2 hrn hv1 ⟨up2_at.trans (by cases b <;> first | rfl | simp_all [bB]), kBs_up _ (Nat.le_refl _) hb1.2⟩ (fun k9 h9 => (by funext j9; exact (up2_ne (Or.inl h9)).trans (congrFun (hz1 k9 h9) j9))) (by (try simp only [List.length_cons, List.length_nil]); (try simp only [List.length_cons, List.length_nil] at hd1); omega) (by (try simp only [List.length_cons, List.length_nil]); (try simp only [List.length_cons, List.length_nil] at hd2); omega) _ _ hw ls (lv_sub hl [3, 4, 5, 6, 7, 8, 0] rfl)
            obtain ⟨y, x, vr, rfl, hrn⟩ := kRun_ask (by omega) hrun
            have hd1 : vr.length + 1 + 1 + (rem'.length + 1) ≤ 302 := hd1
            have hl : lv_has ls 9 [(8, .int v), (7, .int (nI o)), (0, .ref (ad 0)), (1, .int (nI k)), (2, .int (nI (680 * t + 1 + 3 * k))), (3, .int (nI (680 * t + 75))), (4, .int (nI (vr.length + 1 + 1))), (5, .int (nI bs.length)), (6, .int (nI i1))] := hl
            refine lv_iinc (v := nI vr.length) (lv' := [(4, .int (nI vr.length)), (8, .int v), (7, .int (nI o)), (0, .ref (ad 0)), (1, .int (nI k)), (2, .int (nI (680 * t + 1 + 3 * k))), (3, .int (nI (680 * t + 75))), (5, .int (nI bs.length)), (6, .int (nI i1))]) hx hb dX2_work_204 hl (k := 6) rfl (n_dec2 _) (by decide) rfl (fun ls hl => ?_)
            refine lv_aload_n hx hb dX2_work_207 rfl (lv_at hl 3 rfl) ?_
            refine m_g_truth hx hb hts hown hK hw dX2_work_208 ?_
            refine lv_iload hx hb dX2_work_211 (lv_at hl 7 rfl) ?_
            refine lv_iload hx hb dX2_work_213 (lv_at hl 2 rfl) ?_
            refine lv_aload_n hx hb dX2_work_215 rfl (lv_at hl 3 rfl) ?_
            refine m_g_values hx hb hts hown hK hw dX2_work_216 ?_
            refine lv_iload hx hb dX2_work_219 (lv_at hl 0 rfl) ?_
            refine m_l_values (j := vr.length) (v := x) hx hb hK hw hv1.2.1 (by omega) dX2_work_221 ?_
            refine lv_aload_n hx hb dX2_work_222 rfl (lv_at hl 3 rfl) ?_
            refine m_g_values hx hb hts hown hK hw dX2_work_223 ?_
            refine lv_iload hx hb dX2_work_226 (lv_at hl 0 rfl) ?_
            refine lv_iconst (v := nI 1) hx hb dX2_work_228 (by decide) ?_
            refine n_iadd hx hb dX2_work_229 ?_
            refine m_l_values (j := vr.length + 1) (v := y) hx hb hK hw hv1.1 (by omega) dX2_work_230 ?_
            refine c_read (va_runS (As := [.int (nI o), .long x, .long y]) (rest := [.int (nI bs.length), .ref (ad 8)]) ⟨hx, hb, hml, hown, hts⟩ (met_X2_isAsked l G o (by omega) x y) (cs_X2_X2_isAsked hts ⟨Nat.le_of_ble_eq_true rfl, Nat.le_of_ble_eq_true rfl⟩) (cP.pre hK trivial) rfl rfl hl.1 rfl (lv_room (Nat.le_of_ble_eq_true rfl)) dX2_work_231 ⟨by first | exact Nat.zero_le _ | omega | decide, by first | exact Nat.zero_le _ | omega | decide⟩) ?_
            refine m_s_truth (j := bs.length) hx hb hK hw (bI_vnar _) (by omega) dX2_work_234 (fun H locs hw => ?_)
            refine lv_iinc (v := nI (bs.length + 1)) (lv' := [(5, .int (nI (bs.length + 1))), (4, .int (nI vr.length)), (8, .int v), (7, .int (nI o)), (0, .ref (ad 0)), (1, .int (nI k)), (2, .int (nI (680 * t + 1 + 3 * k))), (3, .int (nI (680 * t + 75))), (6, .int (nI i1))]) hx hb dX2_work_235 hl (k := 7) rfl (n_inc bs.length 1) (by decide) rfl (fun ls hl => ?_)
            refine lv_goto (tgt := 407) hx hb dX2_work_238 (by decide) ?_
            refine lv_iinc (v := nI (i1 + 1)) (lv' := [(6, .int (nI (i1 + 1))), (5, .int (nI (bs.length + 1))), (4, .int (nI vr.length)), (8, .int v), (7, .int (nI o)), (0, .ref (ad 0)), (1, .int (nI k)), (2, .int (nI (680 * t + 1 + 3 * k))), (3, .int (nI (680 * t + 75)))]) hx hb dX2_work_407 hl (k := 8) rfl (n_inc i1 1) (by decide) rfl (fun ls hl => ?_)
            refine lv_goto (tgt := 47) hx hb dX2_work_410 (by decide) ?_
            exact ih47 (i1 + 1) rem' vr (bD (mAsk o x y) :: bs) (up2 Z1 24 bs.length (bI (mAsk o x y))) V1 (by (try simp only [List.length_cons, List.length_nil]); (try simp only [List.length_cons, List.length_nil] at hf); omega) (by (try simp only [List.length_cons, List.length_nil]); (try simp only [List.length_cons, List.length_nil] at hi1); omega) hc1.2.2 hrn hv1.2.2 ⟨up2_at.trans (bB_D _), kBs_up _ (Nat.le_refl _) hb1⟩ (fun k9 h9 => (by funext j9; exact (up2_ne (Or.inl h9)).trans (congrFun (hz1 k9 h9) j9))) (by (try simp only [List.length_cons, List.length_nil]); (try simp only [List.length_cons, List.length_nil] at hd1); omega) (by (try simp only [List.length_cons, List.length_nil]); (try simp only [List.length_cons, List.length_nil] at hd2); omega) _ _ hw ls (lv_sub hl [5, 6, 7, 8, 2, 1, 0] rfl)
          obtain ⟨ho6, y, x, vr, rfl, hrn⟩ := kRun_two (by omega) hrun
          have hd1 : vr.length + 1 + 1 + (rem'.length + 1) ≤ 302 := hd1
          have hl : lv_has ls 9 [(8, .int v), (7, .int (nI o)), (0, .ref (ad 0)), (1, .int (nI k)), (2, .int (nI (680 * t + 1 + 3 * k))), (3, .int (nI (680 * t + 75))), (4, .int (nI (vr.length + 1 + 1))), (5, .int (nI bs.length)), (6, .int (nI i1))] := hl
          refine lv_iinc (v := nI (vr.length + 1 + 1 - 1)) (lv' := [(4, .int (nI (vr.length + 1 + 1 - 1))), (8, .int v), (7, .int (nI o)), (0, .ref (ad 0)), (1, .int (nI k)), (2, .int (nI (680 * t + 1 + 3 * k))), (3, .int (nI (680 * t + 75))), (5, .int (nI bs.length)), (6, .int (nI i1))]) hx hb dX2_work_161 hl (k := 6) rfl (n_dec (a := vr.length + 1 + 1) (by omega)) (by decide) rfl (fun ls hl => ?_)
          refine lv_aload_n hx hb dX2_work_164 rfl (lv_at hl 3 rfl) ?_
          refine m_g_values hx hb hts hown hK hw dX2_work_165 ?_
          refine lv_iload hx hb dX2_work_168 (lv_at hl 0 rfl) ?_
          refine lv_iconst (v := nI 1) hx hb dX2_work_170 (by decide) ?_
          refine n_isub hx hb (by omega) dX2_work_171 ?_
          refine lv_iload hx hb dX2_work_172 (lv_at hl 2 rfl) ?_
          refine lv_aload_n hx hb dX2_work_174 rfl (lv_at hl 3 rfl) ?_
          refine m_g_values hx hb hts hown hK hw dX2_work_175 ?_
          refine lv_iload hx hb dX2_work_178 (lv_at hl 0 rfl) ?_
          refine lv_iconst (v := nI 1) hx hb dX2_work_180 (by decide) ?_
          refine n_isub hx hb (by omega) dX2_work_181 ?_
          refine m_l_values (j := (vr.length + 1 + 1 - 1) - 1) (v := x) hx hb hK hw hv1.2.1 (by omega) dX2_work_182 ?_
          refine lv_aload_n hx hb dX2_work_183 rfl (lv_at hl 3 rfl) ?_
          refine m_g_values hx hb hts hown hK hw dX2_work_184 ?_
          refine lv_iload hx hb dX2_work_187 (lv_at hl 0 rfl) ?_
          refine m_l_values (j := vr.length + 1 + 1 - 1) (v := y) hx hb hK hw hv1.1 (by omega) dX2_work_189 ?_
          refine c_read (va_runS (As := [.int (nI o), .long x, .long y]) (rest := [.int (nI ((vr.length + 1 + 1 - 1) - 1)), .ref (ad 7)]) ⟨hx, hb, hml, hown, hts⟩ (met_X2_two l G o (by omega) x y) (cs_X2_X2_two hts ⟨Nat.le_of_ble_eq_true rfl, Nat.le_of_ble_eq_true rfl⟩) (cP.pre hK trivial) rfl rfl hl.1 rfl (lv_room (Nat.le_of_ble_eq_true rfl)) dX2_work_190 ⟨by first | exact Nat.zero_le _ | omega | decide, by first | exact Nat.zero_le _ | omega | decide⟩) ?_
          refine m_s_values (j := (vr.length + 1 + 1 - 1) - 1) hx hb hK hw (by omega) dX2_work_193 (fun H locs hw => ?_)
          refine lv_goto (tgt := 407) hx hb dX2_work_194 (by decide) ?_
          refine lv_iinc (v := nI (i1 + 1)) (lv' := [(6, .int (nI (i1 + 1))), (4, .int (nI (vr.length + 1 + 1 - 1))), (8, .int v), (7, .int (nI o)), (0, .ref (ad 0)), (1, .int (nI k)), (2, .int (nI (680 * t + 1 + 3 * k))), (3, .int (nI (680 * t + 75))), (5, .int (nI bs.length))]) hx hb dX2_work_407 hl (k := 8) rfl (n_inc i1 1) (by decide) rfl (fun ls hl => ?_)
          refine lv_goto (tgt := 47) hx hb dX2_work_410 (by decide) ?_
          exact ih47 (i1 + 1) rem' (mTwo o x y :: vr) bs Z1 (up2 V1 23 ((vr.length + 1 + 1 - 1) - 1) (mTwo o x y)) (by (try simp only [List.length_cons, List.length_nil]); (try simp only [List.length_cons, List.length_nil] at hf); omega) (by (try simp only [List.length_cons, List.length_nil]); (try simp only [List.length_cons, List.length_nil] at hi1); omega) hc1.2.2 hrn ⟨up2_at, kVs_up _ (Nat.le_refl _) hv1.2.2⟩ hb1 hz1 (by (try simp only [List.length_cons, List.length_nil]); (try simp only [List.length_cons, List.length_nil] at hd1); omega) (by (try simp only [List.length_cons, List.length_nil]); (try simp only [List.length_cons, List.length_nil] at hd2); omega) _ _ hw ls (lv_sub hl [4, 5, 6, 7, 1, 8, 0] rfl)
        obtain rfl : o = 2 := by omega
        obtain ⟨x, vr, rfl, hrn⟩ := kRun_2 hrun
        have hd1 : vr.length + 1 + (rem'.length + 1) ≤ 302 := hd1
        have hl : lv_has ls 9 [(8, .int v), (7, .int (nI 2)), (0, .ref (ad 0)), (1, .int (nI k)), (2, .int (nI (680 * t + 1 + 3 * k))), (3, .int (nI (680 * t + 75))), (4, .int (nI (vr.length + 1))), (5, .int (nI bs.length)), (6, .int (nI i1))] := hl
        refine lv_aload_n hx hb dX2_work_132 rfl (lv_at hl 2 rfl) ?_
        refine m_g_values hx hb hts hown hK hw dX2_work_133 ?_
        refine lv_iload hx hb dX2_work_136 (lv_at hl 6 rfl) ?_
        refine lv_iconst (v := nI 1) hx hb dX2_work_138 (by decide) ?_
        refine n_isub hx hb (by omega) dX2_work_139 ?_
        refine lv_aload_n hx hb dX2_work_140 rfl (lv_at hl 2 rfl) ?_
        refine m_g_values hx hb hts hown hK hw dX2_work_141 ?_
        refine lv_iload hx hb dX2_work_144 (lv_at hl 6 rfl) ?_
        refine lv_iconst (v := nI 1) hx hb dX2_work_146 (by decide) ?_
        refine n_isub hx hb (by omega) dX2_work_147 ?_
        refine m_l_values (j := (vr.length + 1) - 1) (v := x) hx hb hK hw hv1.1 (by omega) dX2_work_148 ?_
        refine lv_lneg hx hb dX2_work_149 ?_
        refine m_s_values (j := (vr.length + 1) - 1) hx hb hK hw (by omega) dX2_work_150 (fun H locs hw => ?_)
        refine lv_goto (tgt := 407) hx hb dX2_work_151 (by decide) ?_
        refine lv_iinc (v := nI (i1 + 1)) (lv' := [(6, .int (nI (i1 + 1))), (8, .int v), (7, .int (nI 2)), (0, .ref (ad 0)), (1, .int (nI k)), (2, .int (nI (680 * t + 1 + 3 * k))), (3, .int (nI (680 * t + 75))), (4, .int (nI (vr.length + 1))), (5, .int (nI bs.length))]) hx hb dX2_work_407 hl (k := 8) rfl (n_inc i1 1) (by decide) rfl (fun ls hl => ?_)
        refine lv_goto (tgt := 47) hx hb dX2_work_410 (by decide) ?_
        exact ih47 (i1 + 1) rem' (-x :: vr) bs Z1 (up2 V1 23 ((vr.length + 1) - 1) (-x)) (by (try simp only [List.length_cons, List.length_nil]); (try simp only [List.length_cons, List.length_nil] at hf); omega) (by (try simp only [List.length_cons, List.length_nil]); (try simp only [List.length_cons, List.length_nil] at hi1); omega) hc1.2.2 hrn ⟨up2_at, kVs_up _ (Nat.le_refl _) hv1.2⟩ hb1 hz1 (by (try simp only [List.length_cons, List.length_nil]); (try simp only [List.length_cons, List.length_nil] at hd1); omega) (by (try simp only [List.length_cons, List.length_nil]); (try simp only [List.length_cons, List.length_nil] at hd2); omega) _ _ hw ls (lv_sub hl [3, 4, 5, 6, 7, 8, 0] rfl)
      refine lv_aload_n hx hb dX2_work_94 rfl (lv_at hl 2 rfl) ?_
      refine m_g_values hx hb hts hown hK hw dX2_work_95 ?_
      refine lv_iload hx hb dX2_work_98 (lv_at hl 6 rfl) ?_
      refine lv_iload hx hb dX2_work_100 (lv_at hl 1 rfl) ?_
      refine n_if_ne (tgt := 111) hx hb dX2_work_102 (by decide) (by omega) (fun c_20 => ?_) (fun c_20 => ?_)
      · obtain rfl : o = 1 := by omega
        obtain ⟨w0, hw0, rfl, hrn⟩ := kRun_1 hrun
        have hl : lv_has ls 9 [(8, .int (nI w0)), (7, .int (nI 1)), (0, .ref (ad 0)), (1, .int (nI k)), (2, .int (nI (680 * t + 1 + 3 * k))), (3, .int (nI (680 * t + 75))), (4, .int (nI vs.length)), (5, .int (nI bs.length)), (6, .int (nI i1))] := hl
        refine lv_aload_n hx hb dX2_work_111 rfl (lv_at hl 2 rfl) ?_
        refine m_g_named hx hb hts hown hK hw dX2_work_112 ?_
        refine lv_iload hx hb dX2_work_115 (lv_at hl 0 rfl) ?_
        refine m_l_named (j := w0) (v := Z 22 w0) hx hb hK hw (congrFun (hz1 22 (by decide)) w0) (by omega) dX2_work_117 ?_
        refine lv_i2l (v := (Z 22 w0).toInt64) hx hb dX2_work_118 rfl ?_
        refine m_s_values (j := vs.length) hx hb hK hw (by omega) dX2_work_119 (fun H locs hw => ?_)
        refine lv_iinc (v := nI (vs.length + 1)) (lv' := [(4, .int (nI (vs.length + 1))), (8, .int (nI w0)), (7, .int (nI 1)), (0, .ref (ad 0)), (1, .int (nI k)), (2, .int (nI (680 * t + 1 + 3 * k))), (3, .int (nI (680 * t + 75))), (5, .int (nI bs.length)), (6, .int (nI i1))]) hx hb dX2_work_120 hl (k := 6) rfl (n_inc vs.length 1) (by decide) rfl (fun ls hl => ?_)
        refine lv_goto (tgt := 407) hx hb dX2_work_123 (by decide) ?_
        refine lv_iinc (v := nI (i1 + 1)) (lv' := [(6, .int (nI (i1 + 1))), (4, .int (nI (vs.length + 1))), (8, .int (nI w0)), (7, .int (nI 1)), (0, .ref (ad 0)), (1, .int (nI k)), (2, .int (nI (680 * t + 1 + 3 * k))), (3, .int (nI (680 * t + 75))), (5, .int (nI bs.length))]) hx hb dX2_work_407 hl (k := 8) rfl (n_inc i1 1) (by decide) rfl (fun ls hl => ?_)
        refine lv_goto (tgt := 47) hx hb dX2_work_410 (by decide) ?_
        exact ih47 (i1 + 1) rem' ((Z 22 w0).toInt64 :: vs) bs Z1 (up2 V1 23 vs.length ((Z 22 w0).toInt64)) (by (try simp only [List.length_cons, List.length_nil]); (try simp only [List.length_cons, List.length_nil] at hf); omega) (by (try simp only [List.length_cons, List.length_nil]); (try simp only [List.length_cons, List.length_nil] at hi1); omega) hc1.2.2 hrn ⟨up2_at, kVs_up _ (Nat.le_refl _) hv1⟩ hb1 hz1 (by (try simp only [List.length_cons, List.length_nil]); (try simp only [List.length_cons, List.length_nil] at hd1); omega) (by (try simp only [List.length_cons, List.length_nil]); (try simp only [List.length_cons, List.length_nil] at hd2); omega) _ _ hw ls (lv_sub hl [4, 5, 6, 7, 1, 8, 0] rfl)
      obtain rfl : o = 0 := c_20
      have hrn := kRun_0 hrun
      have hl : lv_has ls 9 [(8, .int v), (7, .int (nI 0)), (0, .ref (ad 0)), (1, .int (nI k)), (2, .int (nI (680 * t + 1 + 3 * k))), (3, .int (nI (680 * t + 75))), (4, .int (nI vs.length)), (5, .int (nI bs.length)), (6, .int (nI i1))] := hl
      refine lv_iload hx hb dX2_work_105 (lv_at hl 0 rfl) ?_
      refine lv_i2l (v := (v).toInt64) hx hb dX2_work_107 rfl ?_
      refine lv_goto (tgt := 119) hx hb dX2_work_108 (by decide) ?_
      refine m_s_values (j := vs.length) hx hb hK hw (by omega) dX2_work_119 (fun H locs hw => ?_)
      refine lv_iinc (v := nI (vs.length + 1)) (lv' := [(4, .int (nI (vs.length + 1))), (8, .int v), (7, .int (nI 0)), (0, .ref (ad 0)), (1, .int (nI k)), (2, .int (nI (680 * t + 1 + 3 * k))), (3, .int (nI (680 * t + 75))), (5, .int (nI bs.length)), (6, .int (nI i1))]) hx hb dX2_work_120 hl (k := 6) rfl (n_inc vs.length 1) (by decide) rfl (fun ls hl => ?_)
      refine lv_goto (tgt := 407) hx hb dX2_work_123 (by decide) ?_
      refine lv_iinc (v := nI (i1 + 1)) (lv' := [(6, .int (nI (i1 + 1))), (4, .int (nI (vs.length + 1))), (8, .int v), (7, .int (nI 0)), (0, .ref (ad 0)), (1, .int (nI k)), (2, .int (nI (680 * t + 1 + 3 * k))), (3, .int (nI (680 * t + 75))), (5, .int (nI bs.length))]) hx hb dX2_work_407 hl (k := 8) rfl (n_inc i1 1) (by decide) rfl (fun ls hl => ?_)
      refine lv_goto (tgt := 47) hx hb dX2_work_410 (by decide) ?_
      exact ih47 (i1 + 1) rem' (v.toInt64 :: vs) bs Z1 (up2 V1 23 vs.length ((v).toInt64)) (by (try simp only [List.length_cons, List.length_nil]); (try simp only [List.length_cons, List.length_nil] at hf); omega) (by (try simp only [List.length_cons, List.length_nil]); (try simp only [List.length_cons, List.length_nil] at hi1); omega) hc1.2.2 hrn ⟨up2_at, kVs_up _ (Nat.le_refl _) hv1⟩ hb1 hz1 (by (try simp only [List.length_cons, List.length_nil]); (try simp only [List.length_cons, List.length_nil] at hd1); omega) (by (try simp only [List.length_cons, List.length_nil]); (try simp only [List.length_cons, List.length_nil] at hd2); omega) _ _ hw ls (lv_sub hl [4, 5, 6, 7, 1, 8, 0] rfl)
  exact L_47 _ i L ([]) ([]) Z V (Nat.lt_succ_self _) rfl hc hrun trivial trivial (fun _ _ => rfl) (by (try simp only [List.length_cons, List.length_nil]); omega) (by (try simp only [List.length_cons, List.length_nil]); omega) _ _ hw ls (lv_sub hl [5, 6, 4, 3, 2, 1, 0] rfl)
