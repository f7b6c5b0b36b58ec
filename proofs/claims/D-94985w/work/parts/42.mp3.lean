/-- the reader's state between two reckonings: what waits is nothing, whatever the pile holds -/
def ZC (tp : Nat → Nat) (t x0 n so : Nat) (on w : Int32) (p0 : Nat) (Z : Nat → Nat → Int32) (V : Nat → Nat → Int64) : Prop := LX tp t p0 Z V ∧ Z 12 0 = nI x0 ∧ Z 14 0 = nI n ∧ True ∧ True ∧ Z 18 0 = nI 0 ∧ Z 19 0 = w ∧ Z 20 0 = nI so ∧ Z 21 0 = on
theorem ZB_ZC {tp : Nat → Nat} {t x0 n so p0 : Nat} {on w : Int32} {Z : Nat → Nat → Int32} {V : Nat → Nat → Int64} (h : ZB tp t x0 n so on w p0 [] Z V) : ZC tp t x0 n so on w p0 Z V := ⟨h.1, h.2.1, h.2.2.1, trivial, trivial, h.2.2.2.2.2.1, h.2.2.2.2.2.2⟩
theorem nI_any (x : Int32) : ∃ a, x = nI a := ⟨x.toBitVec.toNat, Int32.toBitVec_inj.mp (by simp [nI])⟩
theorem opn_c (x : Nat) (r : List Nat) : opn (x :: r) = opn r + (if x = 2 ∨ x = 20 ∨ 40 ≤ x then 1 else 0) := rfl
theorem rk_0 {x : Nat} (h : 40 ≤ x) : rk x = 0 := if_pos h
theorem rk_40 {x a : Nat} (h : a ≤ rk x) (ha : 1 ≤ a) : x < 40 := by
  by_cases c : 40 ≤ x
  · rw [rk_0 c] at h; omega
  · omega
set_option maxHeartbeats 4000000 in
set_option maxRecDepth 100000 in
theorem met_X2_kindOpen (l : Launch) (G : gG) (ad : Nat → Nat) (M Z : Nat → Nat → Int32) (V : Nat → Nat → Int64) (P : List Nat) (e17 : Z 17 0 = nI P.length) (hPl : kPl Z P) (hP160 : P.length ≤ 160) : Met l yX2_kindOpen (ws_ yX2_kindOpen cX2_kindOpen 3 (some .int)) ({ frames := 1, cells := 0, slots := 0, locals := 21 } : Room) (cP G [.ref (ad 0), .int (nI 0)] (mH G ad M Z V)) (cR (some (.int (nI (kOp P))))) 0 0 (fun _ => False) := by
  refine c_start (by decide) (Nat.le_of_ble_eq_true rfl) ?_
  intro p e s m below meth c hx hb hr hlocks hml hown hts hB hK ls hl
  have hw := MS.of hB
  have hl : lv_has ls 3 [(0, .ref (ad 0)), (1, .int (nI 0))] := hl
  refine lv_aload_n hx hb dX2_kindOpen_0 rfl (lv_at hl 0 rfl) ?_
  refine c_read (va_runV (As := []) (rest := []) ⟨hx, hb, hml, hown, hts⟩ (met_X2_marker l G ad M Z V P e17 hPl hP160) (cv_X2_X2_marker hts ⟨Nat.le_of_ble_eq_true rfl, Nat.le_of_ble_eq_true rfl⟩) (cP.preV hK hw.1 (hw.1.recv hK)) rfl rfl hl.1 rfl (lv_room (Nat.le_of_ble_eq_true rfl)) dX2_kindOpen_1 ⟨by first | exact Nat.zero_le _ | omega | decide, by first | exact Nat.zero_le _ | omega | decide⟩) ?_
  rcases mkI_split P with ⟨hm1, hm2⟩ | ⟨j, hj, hm1, hm2, hm3⟩
  · rw [hm1]
    refine lv_istore_n (lv' := [(2, .int (-1)), (0, .ref (ad 0)), (1, .int (nI 0))]) hx hb dX2_kindOpen_4 rfl hl (by decide) rfl (fun ls hl => ?_)
    refine lv_iload_n hx hb dX2_kindOpen_5 rfl (lv_at hl 0 rfl) ?_
    refine lv_if_lt (tgt := 18) hx hb dX2_kindOpen_6 (by decide) (fun _ => ?_) (fun h9 => absurd (by decide) h9)
    refine lv_iload_n hx hb dX2_kindOpen_18 rfl (lv_at hl 2 rfl) ?_
    refine n_if_eq (tgt := 27) hx hb dX2_kindOpen_19 (by decide) (by decide) (fun _ => ?_) (fun h9 => absurd h9 (by decide))
    refine lv_bipush (v := nI 40) hx hb dX2_kindOpen_27 (by decide) ?_
    exact c_rret (v := nI 40) (by rw [hm2]) hx hb hr rfl hlocks dX2_kindOpen_29 rfl rfl
  rw [hm1]
  obtain ⟨hm4, hm5⟩ := hm3 Z hPl
  refine lv_istore_n (lv' := [(2, .int (nI j)), (0, .ref (ad 0)), (1, .int (nI 0))]) hx hb dX2_kindOpen_4 rfl hl (by decide) rfl (fun ls hl => ?_)
  refine lv_iload_n hx hb dX2_kindOpen_5 rfl (lv_at hl 0 rfl) ?_
  refine n_if_lt (tgt := 18) hx hb dX2_kindOpen_6 (by decide) (by omega) ?_
  refine lv_aload_n hx hb dX2_kindOpen_9 rfl (lv_at hl 1 rfl) ?_
  refine m_g_pile hx hb hts hown hK hw dX2_kindOpen_10 ?_
  refine lv_iload_n hx hb dX2_kindOpen_13 rfl (lv_at hl 0 rfl) ?_
  refine m_l_pile (j := j) (v := nI (kOp P)) hx hb hK hw hm4 (by omega) dX2_kindOpen_14 ?_
  refine lv_goto (tgt := 29) hx hb dX2_kindOpen_15 (by decide) ?_
  exact c_rret (v := nI (kOp P)) rfl hx hb hr rfl hlocks dX2_kindOpen_29 rfl rfl
set_option maxHeartbeats 4000000 in
set_option maxRecDepth 100000 in
theorem met_X2_settle (l : Launch) (G : gG) (ad : Nat → Nat) (M Z : Nat → Nat → Int32) (V : Nat → Nat → Int64) (tp : Nat → Nat) (t x0 n so p0 : Nat) (on w0 : Int32) (P : List Nat) (hT : TP tp t M) (hZ : ZB tp t x0 n so on w0 p0 P Z V) (hx0 : x0 ≤ 2040) (hp0 : p0 ≤ t) (hnP : n + P.length ≤ 302) (hP160 : P.length ≤ 159) (a : Nat) (ha : 1 ≤ a ∧ a ≤ 7) : Met l yX2_settle (ws_ yX2_settle cX2_settle 2 none) ({ frames := 1, cells := 0, slots := 0, locals := 22 } : Room) (cP G [.ref (ad 0), .int (nI a)] (mH G ad M Z V)) (cQ none (fun H => ∃ Z9 V9, ZB tp t x0 (n + (stl a P).1.length) so on w0 p0 ((stl a P).2) Z9 V9 ∧ mH G ad (putC M (x0 + 75) n (stl a P).1) Z9 V9 H) (mA ad)) 0 0 (mA ad) := by
  refine c_start (by decide) (Nat.le_of_ble_eq_true rfl) ?_
  intro p e s m below meth c hx hb hr hlocks hml hown hts hB hK ls hl
  have hw := MS.of hB
  have hl : lv_has ls 2 [(0, .ref (ad 0)), (1, .int (nI a))] := hl
  have hT9 := lxT_lt hT p0
  have L_0 : ∀ (fuel : Nat) (P1 : List Nat) (n1 : Nat) (M1 : Nat → Nat → Int32) (Za : Nat → Nat → Int32), P1.length < fuel → (putC M1 (x0 + 75) n1 (stl a P1).1 = putC M (x0 + 75) n (stl a P).1) → ((stl a P1).2 = (stl a P).2) → (n1 + (stl a P1).1.length = n + (stl a P).1.length) → (ZB tp t x0 n1 so on w0 p0 P1 Za V) → (n1 + P1.length ≤ 302) → (P1.length ≤ 160) → ∀ (H : Heap) (locs : List Loc), MS G ad s.heap M1 Za V H locs → ∀ (ls : Array Slot), lv_has ls 2 [(0, .ref (ad 0)), (1, .int (nI a))] → W p l e ({ frames := 1, cells := 0, slots := 0, locals := 22 } : Room) s m ([.ref (ad 0), .int (nI a)] : List Value).toArray below meth c H locs 0 0 (MQ below (cQ none (fun H => ∃ Z9 V9, ZB tp t x0 (n + (stl a P).1.length) so on w0 p0 ((stl a P).2) Z9 V9 ∧ mH G ad (putC M (x0 + 75) n (stl a P).1) Z9 V9 H) (mA ad)) ([.ref (ad 0), .int (nI a)] : List Value).toArray s 0 0 (mA ad)) (F0 m 0 ls []) := by
    intro fuel
    induction fuel with
    | zero => intro P1 n1 M1 Za hf; exact absurd hf (Nat.not_lt_zero _)
    | succ fuel ih =>
      intro P1 n1 M1 Za hf hM1 hq1 hn1 hZ1 hb1 hb2 H locs hw ls hl
      have ih0 := ih
      refine lv_aload_n hx hb dX2_settle_0 rfl (lv_at hl 0 rfl) ?_
      refine m_g_piled hx hb hts hown hK hw dX2_settle_1 ?_
      rw [show Za 17 0 = nI P1.length from hZ1.2.2.2.1]
      refine n_if_le (tgt := 89) hx hb dX2_settle_4 (by decide) (by omega) (fun c_1 => ?_) (fun c_1 => ?_)
      · obtain rfl : P1 = [] := List.eq_nil_of_length_eq_zero c_1
        have est : stl a [] = ([], []) := rfl
        exact c_vret hx hb hr hlocks ⟨_, _, (by rw [← hn1, ← hq1, est]; exact hZ1), mH.to (by rw [← hM1, est]; rfl) rfl rfl hw.1⟩ hw.2 dX2_settle_89
      obtain ⟨x, r, rfl⟩ : ∃ x r, P1 = x :: r := by
        cases P1 with
        | nil => exact absurd c_1 (Nat.lt_irrefl 0)
        | cons x r => exact ⟨x, r, rfl⟩
      have hb1 : n1 + (r.length + 1) ≤ 302 := hb1
      have hb2 : r.length + 1 ≤ 160 := hb2
      have hx64 := hZ1.2.2.2.2.1.2.1
      have hrx := rk_le x
      refine lv_aload_n hx hb dX2_settle_7 rfl (lv_at hl 0 rfl) ?_
      refine m_g_pile hx hb hts hown hK hw dX2_settle_8 ?_
      refine lv_aload_n hx hb dX2_settle_11 rfl (lv_at hl 0 rfl) ?_
      refine m_g_piled hx hb hts hown hK hw dX2_settle_12 ?_
      rw [show Za 17 0 = nI (r.length + 1) from hZ1.2.2.2.1]
      refine lv_iconst (v := nI 1) hx hb dX2_settle_15 (by decide) ?_
      refine n_isub hx hb (by omega) dX2_settle_16 ?_
      refine m_l_pile (j := (r.length + 1) - 1) (v := nI x) hx hb hK hw hZ1.2.2.2.2.1.1 (by omega) dX2_settle_17 ?_
      refine c_read (va_runS (As := [.int (nI x)]) (rest := []) ⟨hx, hb, hml, hown, hts⟩ (met_X2_rank l G x (by omega)) (cs_X2_X2_rank hts ⟨Nat.le_of_ble_eq_true rfl, Nat.le_of_ble_eq_true rfl⟩) (cP.pre hK trivial) rfl rfl hl.1 rfl (lv_room (Nat.le_of_ble_eq_true rfl)) dX2_settle_18 ⟨by first | exact Nat.zero_le _ | omega | decide, by first | exact Nat.zero_le _ | omega | decide⟩) ?_
      refine lv_iload_n hx hb dX2_settle_21 rfl (lv_at hl 1 rfl) ?_
      refine n_icmp_lt (tgt := 89) hx hb dX2_settle_22 (by decide) (by omega) (by omega) (fun c_2 => ?_) (fun c_2 => ?_)
      · have est : stl a (x :: r) = ([], x :: r) := if_neg (by omega)
        exact c_vret hx hb hr hlocks ⟨_, _, (by rw [← hn1, ← hq1, est]; exact hZ1), mH.to (by rw [← hM1, est]; rfl) rfl rfl hw.1⟩ hw.2 dX2_settle_89
      have crk : a ≤ rk x := c_2
      refine lv_aload_n hx hb dX2_settle_25 rfl (lv_at hl 0 rfl) ?_
      refine lv_dup hx hb dX2_settle_26 rfl ?_
      refine m_g_piled hx hb hts hown hK hw dX2_settle_27 ?_
      rw [show Za 17 0 = nI (r.length + 1) from hZ1.2.2.2.1]
      refine lv_iconst (v := nI 1) hx hb dX2_settle_30 (by decide) ?_
      refine n_isub hx hb (by omega) dX2_settle_31 ?_
      refine m_p_piled hx hb hts hown hK hw dX2_settle_32 (fun H locs hw => ?_)
      refine lv_aload_n hx hb dX2_settle_35 rfl (lv_at hl 0 rfl) ?_
      refine lv_aload_n hx hb dX2_settle_36 rfl (lv_at hl 0 rfl) ?_
      refine m_g_pile hx hb hts hown hK hw dX2_settle_37 ?_
      refine lv_aload_n hx hb dX2_settle_40 rfl (lv_at hl 0 rfl) ?_
      refine m_g_piled hx hb hts hown hK hw dX2_settle_41 ?_
      rw [show (up2 Za 17 0 (nI ((r.length + 1) - 1))) 17 0 = nI ((r.length + 1) - 1) from up2_at]
      refine m_l_pile (j := (r.length + 1) - 1) (v := nI x) hx hb hK hw ((up2_ne (Or.inl (by decide))).trans hZ1.2.2.2.2.1.1) (by omega) dX2_settle_44 ?_
      refine lv_iconst (v := nI 0) hx hb dX2_settle_45 (by decide) ?_
      refine c_call (va_runV (As := [.int (nI x), .int (nI 0)]) (rest := []) ⟨hx, hb, hml, hown, hts⟩ (met_X2_emit l G ad M1 (up2 Za 17 0 (nI ((r.length + 1) - 1))) V x0 n1 (nI x) (nI 0) ((up2_ne (Or.inl (by decide))).trans hZ1.2.1) ((up2_ne (Or.inl (by decide))).trans hZ1.2.2.1) (by omega)) (cv_X2_X2_emit hts ⟨Nat.le_of_ble_eq_true rfl, Nat.le_of_ble_eq_true rfl⟩) (cP.preV hK hw.1 (hw.1.recv hK)) rfl rfl hl.1 rfl (lv_room (Nat.le_of_ble_eq_true rfl)) dX2_settle_46 ⟨by first | exact Nat.zero_le _ | omega | decide, by first | exact Nat.zero_le _ | omega | decide⟩) hw.2 (fun q _ h => h) (fun q h => h) (fun H locs hw _ _ hS => ?_)
      replace hw := MS.mk hw hS
      refine lv_aload_n hx hb dX2_settle_49 rfl (lv_at hl 0 rfl) ?_
      refine m_g_pile hx hb hts hown hK hw dX2_settle_50 ?_
      refine lv_aload_n hx hb dX2_settle_53 rfl (lv_at hl 0 rfl) ?_
      refine m_g_piled hx hb hts hown hK hw dX2_settle_54 ?_
      rw [show (up2 (up2 Za 17 0 (nI ((r.length + 1) - 1))) 14 0 (nI (n1 + 1))) 17 0 = nI ((r.length + 1) - 1) from (up2_ne (Or.inl (by decide))).trans up2_at]
      refine m_l_pile (j := (r.length + 1) - 1) (v := nI x) hx hb hK hw ((up2_ne (Or.inl (by decide))).trans ((up2_ne (Or.inl (by decide))).trans hZ1.2.2.2.2.1.1)) (by omega) dX2_settle_57 ?_
      refine lv_iconst (v := nI 2) hx hb dX2_settle_58 (by decide) ?_
      refine n_icmp_eq (tgt := 76) hx hb dX2_settle_59 (by decide) (by omega) (by decide) (fun c_3 => ?_) (fun c_3 => ?_)
      · have hop : opn (x :: r) - 1 = opn r := by rw [opn_c, if_pos (by omega)]; omega
        have hop1 : 1 ≤ opn (x :: r) := by rw [opn_c, if_pos (by omega)]; omega
        refine lv_aload_n hx hb dX2_settle_76 rfl (lv_at hl 0 rfl) ?_
        refine lv_dup hx hb dX2_settle_77 rfl ?_
        refine m_g_opens hx hb hts hown hK hw dX2_settle_78 ?_
        rw [show (up2 (up2 Za 17 0 (nI ((r.length + 1) - 1))) 14 0 (nI (n1 + 1))) 18 0 = nI (opn (x :: r)) from (up2_ne (Or.inl (by decide))).trans ((up2_ne (Or.inl (by decide))).trans hZ1.2.2.2.2.2.1)]
        refine lv_iconst (v := nI 1) hx hb dX2_settle_81 (by decide) ?_
        refine n_isub hx hb (by omega) dX2_settle_82 ?_
        refine m_p_opens hx hb hts hown hK hw dX2_settle_83 (fun H locs hw => ?_)
        refine lv_goto (tgt := 0) hx hb dX2_settle_86 (by decide) ?_
        exact ih0 r (n1 + 1) (up2 (up2 M1 2 (x0 + 75 + 2 * n1) (nI x)) 2 (x0 + 75 + 2 * n1 + 1) (nI 0)) (up2 (up2 (up2 Za 17 0 (nI ((r.length + 1) - 1))) 14 0 (nI (n1 + 1))) 18 0 (nI ((opn (x :: r)) - 1))) (by simp at hf; omega) (by rw [(show stl a (x :: r) = ((x, nI 0) :: (stl a r).1, (stl a r).2) from if_pos crk)] at hM1; exact hM1) (by rw [(show stl a (x :: r) = ((x, nI 0) :: (stl a r).1, (stl a r).2) from if_pos crk)] at hq1; exact hq1) (by rw [(show stl a (x :: r) = ((x, nI 0) :: (stl a r).1, (stl a r).2) from if_pos crk)] at hn1; simp at hn1; omega) ⟨(LX_k ((up2_ne (Or.inl (by decide))).trans ((up2_ne (Or.inl (by decide))).trans ((up2_ne (Or.inl (by decide))).trans rfl))) ((up2_ne (Or.inl (by decide))).trans ((up2_ne (Or.inl (by decide))).trans ((up2_ne (Or.inl (by decide))).trans rfl))) ((up2_ne (Or.inl (by decide))).trans ((up2_ne (Or.inl (by decide))).trans ((up2_ne (Or.inl (by decide))).trans rfl))) ((up2_ne (Or.inl (by decide))).trans ((up2_ne (Or.inl (by decide))).trans ((up2_ne (Or.inl (by decide))).trans rfl))) rfl hZ1.1), ((up2_ne (Or.inl (by decide))).trans ((up2_ne (Or.inl (by decide))).trans ((up2_ne (Or.inl (by decide))).trans hZ1.2.1))), ((up2_ne (Or.inl (by decide))).trans up2_at), ((up2_ne (Or.inl (by decide))).trans ((up2_ne (Or.inl (by decide))).trans up2_at)), (kPl_k (fun j9 => (up2_ne (Or.inl (by decide))).trans ((up2_ne (Or.inl (by decide))).trans ((up2_ne (Or.inl (by decide))).trans rfl))) _ hZ1.2.2.2.2.1.2.2), (Eq.trans (up2_at) (by rw [hop]; first | done | rfl | (congr 1; omega))), ((up2_ne (Or.inl (by decide))).trans ((up2_ne (Or.inl (by decide))).trans ((up2_ne (Or.inl (by decide))).trans hZ1.2.2.2.2.2.2.1))), ((up2_ne (Or.inl (by decide))).trans ((up2_ne (Or.inl (by decide))).trans ((up2_ne (Or.inl (by decide))).trans hZ1.2.2.2.2.2.2.2.1))), ((up2_ne (Or.inl (by decide))).trans ((up2_ne (Or.inl (by decide))).trans ((up2_ne (Or.inl (by decide))).trans hZ1.2.2.2.2.2.2.2.2)))⟩ (by omega) (by omega) _ _ hw ls (lv_sub hl [0, 1] rfl)
      refine lv_aload_n hx hb dX2_settle_62 rfl (lv_at hl 0 rfl) ?_
      refine m_g_pile hx hb hts hown hK hw dX2_settle_63 ?_
      refine lv_aload_n hx hb dX2_settle_66 rfl (lv_at hl 0 rfl) ?_
      refine m_g_piled hx hb hts hown hK hw dX2_settle_67 ?_
      rw [show (up2 (up2 Za 17 0 (nI ((r.length + 1) - 1))) 14 0 (nI (n1 + 1))) 17 0 = nI ((r.length + 1) - 1) from (up2_ne (Or.inl (by decide))).trans up2_at]
      refine m_l_pile (j := (r.length + 1) - 1) (v := nI x) hx hb hK hw ((up2_ne (Or.inl (by decide))).trans ((up2_ne (Or.inl (by decide))).trans hZ1.2.2.2.2.1.1)) (by omega) dX2_settle_70 ?_
      refine lv_bipush (v := nI 20) hx hb dX2_settle_71 (by decide) ?_
      refine n_icmp_ne (tgt := 0) hx hb dX2_settle_73 (by decide) (by omega) (by decide) (fun c_4 => ?_) (fun c_4 => ?_)
      · have hop : opn (x :: r) = opn r := by rw [opn_c, if_neg (by have := rk_40 crk ha.1; omega)]; rfl
        exact ih0 r (n1 + 1) (up2 (up2 M1 2 (x0 + 75 + 2 * n1) (nI x)) 2 (x0 + 75 + 2 * n1 + 1) (nI 0)) (up2 (up2 Za 17 0 (nI ((r.length + 1) - 1))) 14 0 (nI (n1 + 1))) (by simp at hf; omega) (by rw [(show stl a (x :: r) = ((x, nI 0) :: (stl a r).1, (stl a r).2) from if_pos crk)] at hM1; exact hM1) (by rw [(show stl a (x :: r) = ((x, nI 0) :: (stl a r).1, (stl a r).2) from if_pos crk)] at hq1; exact hq1) (by rw [(show stl a (x :: r) = ((x, nI 0) :: (stl a r).1, (stl a r).2) from if_pos crk)] at hn1; simp at hn1; omega) ⟨(LX_k ((up2_ne (Or.inl (by decide))).trans ((up2_ne (Or.inl (by decide))).trans rfl)) ((up2_ne (Or.inl (by decide))).trans ((up2_ne (Or.inl (by decide))).trans rfl)) ((up2_ne (Or.inl (by decide))).trans ((up2_ne (Or.inl (by decide))).trans rfl)) ((up2_ne (Or.inl (by decide))).trans ((up2_ne (Or.inl (by decide))).trans rfl)) rfl hZ1.1), ((up2_ne (Or.inl (by decide))).trans ((up2_ne (Or.inl (by decide))).trans hZ1.2.1)), up2_at, ((up2_ne (Or.inl (by decide))).trans up2_at), (kPl_k (fun j9 => (up2_ne (Or.inl (by decide))).trans ((up2_ne (Or.inl (by decide))).trans rfl)) _ hZ1.2.2.2.2.1.2.2), (Eq.trans (((up2_ne (Or.inl (by decide))).trans ((up2_ne (Or.inl (by decide))).trans hZ1.2.2.2.2.2.1))) (by rw [hop]; first | done | rfl | (congr 1; omega))), ((up2_ne (Or.inl (by decide))).trans ((up2_ne (Or.inl (by decide))).trans hZ1.2.2.2.2.2.2.1)), ((up2_ne (Or.inl (by decide))).trans ((up2_ne (Or.inl (by decide))).trans hZ1.2.2.2.2.2.2.2.1)), ((up2_ne (Or.inl (by decide))).trans ((up2_ne (Or.inl (by decide))).trans hZ1.2.2.2.2.2.2.2.2))⟩ (by omega) (by omega) _ _ hw ls (lv_sub hl [0, 1] rfl)
      have hop : opn (x :: r) - 1 = opn r := by rw [opn_c, if_pos (by omega)]; omega
      have hop1 : 1 ≤ opn (x :: r) := by rw [opn_c, if_pos (by omega)]; omega
      refine lv_aload_n hx hb dX2_settle_76 rfl (lv_at hl 0 rfl) ?_
      refine lv_dup hx hb dX2_settle_77 rfl ?_
      refine m_g_opens hx hb hts hown hK hw dX2_settle_78 ?_
      rw [show (up2 (up2 Za 17 0 (nI ((r.length + 1) - 1))) 14 0 (nI (n1 + 1))) 18 0 = nI (opn (x :: r)) from (up2_ne (Or.inl (by decide))).trans ((up2_ne (Or.inl (by decide))).trans hZ1.2.2.2.2.2.1)]
      refine lv_iconst (v := nI 1) hx hb dX2_settle_81 (by decide) ?_
      refine n_isub hx hb (by omega) dX2_settle_82 ?_
      refine m_p_opens hx hb hts hown hK hw dX2_settle_83 (fun H locs hw => ?_)
      refine lv_goto (tgt := 0) hx hb dX2_settle_86 (by decide) ?_
      exact ih0 r (n1 + 1) (up2 (up2 M1 2 (x0 + 75 + 2 * n1) (nI x)) 2 (x0 + 75 + 2 * n1 + 1) (nI 0)) (up2 (up2 (up2 Za 17 0 (nI ((r.length + 1) - 1))) 14 0 (nI (n1 + 1))) 18 0 (nI ((opn (x :: r)) - 1))) (by simp at hf; omega) (by rw [(show stl a (x :: r) = ((x, nI 0) :: (stl a r).1, (stl a r).2) from if_pos crk)] at hM1; exact hM1) (by rw [(show stl a (x :: r) = ((x, nI 0) :: (stl a r).1, (stl a r).2) from if_pos crk)] at hq1; exact hq1) (by rw [(show stl a (x :: r) = ((x, nI 0) :: (stl a r).1, (stl a r).2) from if_pos crk)] at hn1; simp at hn1; omega) ⟨(LX_k ((up2_ne (Or.inl (by decide))).trans ((up2_ne (Or.inl (by decide))).trans ((up2_ne (Or.inl (by decide))).trans rfl))) ((up2_ne (Or.inl (by decide))).trans ((up2_ne (Or.inl (by decide))).trans ((up2_ne (Or.inl (by decide))).trans rfl))) ((up2_ne (Or.inl (by decide))).trans ((up2_ne (Or.inl (by decide))).trans ((up2_ne (Or.inl (by decide))).trans rfl))) ((up2_ne (Or.inl (by decide))).trans ((up2_ne (Or.inl (by decide))).trans ((up2_ne (Or.inl (by decide))).trans rfl))) rfl hZ1.1), ((up2_ne (Or.inl (by decide))).trans ((up2_ne (Or.inl (by decide))).trans ((up2_ne (Or.inl (by decide))).trans hZ1.2.1))), ((up2_ne (Or.inl (by decide))).trans up2_at), ((up2_ne (Or.inl (by decide))).trans ((up2_ne (Or.inl (by decide))).trans up2_at)), (kPl_k (fun j9 => (up2_ne (Or.inl (by decide))).trans ((up2_ne (Or.inl (by decide))).trans ((up2_ne (Or.inl (by decide))).trans rfl))) _ hZ1.2.2.2.2.1.2.2), (Eq.trans (up2_at) (by rw [hop]; first | done | rfl | (congr 1; omega))), ((up2_ne (Or.inl (by decide))).trans ((up2_ne (Or.inl (by decide))).trans ((up2_ne (Or.inl (by decide))).trans hZ1.2.2.2.2.2.2.1))), ((up2_ne (Or.inl (by decide))).trans ((up2_ne (Or.inl (by decide))).trans ((up2_ne (Or.inl (by decide))).trans hZ1.2.2.2.2.2.2.2.1))), ((up2_ne (Or.inl (by decide))).trans ((up2_ne (Or.inl (by decide))).trans ((up2_ne (Or.inl (by decide))).trans hZ1.2.2.2.2.2.2.2.2)))⟩ (by omega) (by omega) _ _ hw ls (lv_sub hl [0, 1] rfl)
  exact L_0 _ P n M Z (Nat.lt_succ_self _) rfl rfl rfl hZ hnP (by omega) _ _ hw ls (lv_sub hl [0, 1] rfl)
