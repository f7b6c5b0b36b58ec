/-- how closely what waits binds -/
def rk (o : Nat) : Nat := if 40 ≤ o then 0 else if o = 22 then 1 else if o = 21 then 2 else if o = 20 then 3 else if 10 ≤ o then 4 else if o = 2 then 7 else if 5 ≤ o then 6 else 5
def kPl (Z : Nat → Nat → Int32) : List Nat → Prop
  | [] => True
  | x :: r => Z 16 r.length = nI x ∧ x < 64 ∧ kPl Z r
/-- how many are open -/
def opn : List Nat → Nat
  | [] => 0
  | x :: r => opn r + (if x = 2 ∨ x = 20 ∨ 40 ≤ x then 1 else 0)
/-- what waits and binds at least as closely as a goes -/
def stl (a : Nat) : List Nat → List (Nat × Int32) × List Nat
  | [] => ([], [])
  | x :: r => if a ≤ rk x then ((x, nI 0) :: (stl a r).1, (stl a r).2) else ([], x :: r)
def mkI : List Nat → Int32
  | [] => (-1)
  | x :: r => if 40 ≤ x then nI r.length else mkI r
def kOp : List Nat → Nat
  | [] => 40
  | x :: r => if 40 ≤ x then x else kOp r
def cmpd : List Nat → Bool
  | [] => false
  | x :: r => if 4 < rk x then cmpd r else decide (rk x = 4)
def askA (P : List Nat) : Prop := kOp P = 41 ∧ (match P with
  | [] => True
  | x :: _ => x = 41 ∨ (1 ≤ rk x ∧ rk x ≤ 3))
/-- the code at its place -/
def putC (M : Nat → Nat → Int32) (b : Nat) : Nat → List (Nat × Int32) → Nat → Nat → Int32
  | _, [] => M
  | n, q :: L => putC (up2 (up2 M 2 (b + 2 * n) (nI q.1)) 2 (b + 2 * n + 1) q.2) b (n + 1) L
theorem putC_app (b : Nat) : ∀ (L1 L2 : List (Nat × Int32)) (M : Nat → Nat → Int32) (n : Nat), putC M b n (L1 ++ L2) = putC (putC M b n L1) b (n + L1.length) L2
  | [], L2, M, n => rfl
  | q :: L1, L2, M, n => by
    show putC _ b (n + 1) (L1 ++ L2) = putC (putC _ b (n + 1) L1) b (n + (L1.length + 1)) L2
    rw [putC_app b L1 L2, show n + 1 + L1.length = n + (L1.length + 1) by omega]
theorem putC_k (b : Nat) {k : Nat} (hk : k ≠ 2) : ∀ (L : List (Nat × Int32)) (M : Nat → Nat → Int32) (n j : Nat), putC M b n L k j = M k j
  | [], M, n, j => rfl
  | q :: L, M, n, j => by
    show putC _ b (n + 1) L k j = _
    rw [putC_k b hk L, up2_ne (Or.inl hk), up2_ne (Or.inl hk)]
theorem putC_lo (b : Nat) : ∀ (L : List (Nat × Int32)) (M : Nat → Nat → Int32) (n j : Nat), j < b + 2 * n → putC M b n L 2 j = M 2 j
  | [], M, n, j, _ => rfl
  | q :: L, M, n, j, h => by
    show putC _ b (n + 1) L 2 j = _
    rw [putC_lo b L _ (n + 1) j (by omega), up2_ne (Or.inr (by omega)), up2_ne (Or.inr (by omega))]
theorem putC_hi (b : Nat) : ∀ (L : List (Nat × Int32)) (M : Nat → Nat → Int32) (n j : Nat), b + 2 * (n + L.length) ≤ j → putC M b n L 2 j = M 2 j
  | [], M, n, j, _ => rfl
  | q :: L, M, n, j, h => by
    show putC _ b (n + 1) L 2 j = _
    have h : b + 2 * (n + (L.length + 1)) ≤ j := h
    rw [putC_hi b L _ (n + 1) j (by omega), up2_ne (Or.inr (by omega)), up2_ne (Or.inr (by omega))]
theorem putC_at (b : Nat) : ∀ (L : List (Nat × Int32)) (M : Nat → Nat → Int32) (n : Nat), kAt (putC M b n L) b L n
  | [], M, n => trivial
  | q :: L, M, n => by
    refine ⟨?_, ?_, putC_at b L _ (n + 1)⟩
    · show putC _ b (n + 1) L 2 (b + 2 * n) = _
      rw [putC_lo b L _ (n + 1) _ (by omega), up2_ne (Or.inr (by omega)), up2_at]
    · show putC _ b (n + 1) L 2 (b + 2 * n + 1) = _
      rw [putC_lo b L _ (n + 1) _ (by omega), up2_at]
theorem TP_putC {tp : Nat → Nat} {t : Nat} {M : Nat → Nat → Int32} {b n : Nat} {L : List (Nat × Int32)} (h : TP tp t M) : TP tp t (putC M b n L) := ⟨(putC_k b (by decide) L M n 0).trans h.1, h.2.1, fun j hj => ⟨(putC_k b (by decide) L M n j).trans (h.2.2 j hj).1, (h.2.2 j hj).2⟩⟩
theorem kPl_up {Z : Nat → Nat → Int32} {j : Nat} {x : Int32} : ∀ (r : List Nat), r.length ≤ j → kPl Z r → kPl (up2 Z 16 j x) r
  | [], _, _ => trivial
  | y :: r, h, hv => ⟨(up2_ne (Or.inr (by simp at h; omega))).trans hv.1, hv.2.1, kPl_up r (by simp at h; omega) hv.2.2⟩
theorem kPl_k {Z Z' : Nat → Nat → Int32} (e : ∀ j, Z' 16 j = Z 16 j) : ∀ (r : List Nat), kPl Z r → kPl Z' r
  | [], _ => trivial
  | y :: r, hv => ⟨(e _).trans hv.1, hv.2.1, kPl_k e r hv.2.2⟩
theorem LX_k {tp : Nat → Nat} {t p0 : Nat} {Z Z' : Nat → Nat → Int32} {V V' : Nat → Nat → Int64} (e7 : Z' 7 0 = Z 7 0) (e8 : Z' 8 0 = Z 8 0) (e9 : Z' 9 0 = Z 9 0) (e10 : Z' 10 0 = Z 10 0) (e11 : V' 11 0 = V 11 0) (h : LX tp t p0 Z V) : LX tp t p0 Z' V' :=
  ⟨e7.trans h.1, e8.trans h.2.1, e9.trans h.2.2.1, fun q => e10.trans (h.2.2.2.1 q), fun q => e11.trans (h.2.2.2.2 q)⟩
theorem lxT_lt {tp : Nat → Nat} {t : Nat} {M : Nat → Nat → Int32} (h : TP tp t M) (p0 : Nat) : lxT tp t p0 < 256 := by
  unfold lxT
  dsimp only
  split
  · next hs =>
    have := (h.2.2 _ hs).2
    repeat' split
    all_goals omega
  · omega
theorem lxS_ge (tp : Nat → Nat) (t p0 : Nat) : p0 ≤ lxS tp t p0 := scn_ge _ _ _ _
theorem lxS_le {tp : Nat → Nat} {t p0 : Nat} (h : p0 ≤ t) : lxS tp t p0 ≤ t := by have := scn_le lWs tp (t - p0) p0; unfold lxS; omega
theorem lxQ_le {tp : Nat → Nat} {t p0 : Nat} (h : p0 ≤ t) : lxQ tp t p0 ≤ t := by
  have h1 := lxS_le (tp := tp) h
  unfold lxQ
  dsimp only
  split
  · next hs =>
    have h2 := scn_le lDig tp (t - lxS tp t p0) (lxS tp t p0)
    have h3 := scn_le lLet tp (t - lxS tp t p0) (lxS tp t p0)
    repeat' split
    all_goals omega
  · exact h1
/-- a token takes at least one byte -/
theorem lxQ_gt {tp : Nat → Nat} {t p0 : Nat} (h : lxT tp t p0 ≠ 0) : p0 < lxQ tp t p0 := by
  have h1 := lxS_ge tp t p0
  unfold lxT at h
  unfold lxQ
  dsimp only at h ⊢
  by_cases hs : lxS tp t p0 < t
  · rw [if_pos hs] at h ⊢
    by_cases hd : lDig (tp (lxS tp t p0)) = true
    · rw [if_pos hd, scn_t hs hd]
      have := scn_ge lDig tp (t - (lxS tp t p0 + 1)) (lxS tp t p0 + 1)
      omega
    · rw [if_neg hd]
      by_cases hl : lLet (tp (lxS tp t p0)) = true
      · rw [if_pos hl, scn_t hs hl]
        have := scn_ge lLet tp (t - (lxS tp t p0 + 1)) (lxS tp t p0 + 1)
        omega
      · rw [if_neg hl]
        split <;> omega
  · rw [if_neg hs] at h
    exact absurd rfl h
/-- the reader's state: the token at p, the text's place, what is written, what waits, whether one is whole, the clause's sort, which came -/
def ZB (tp : Nat → Nat) (t x0 n so : Nat) (on w : Int32) (p0 : Nat) (P : List Nat) (Z : Nat → Nat → Int32) (V : Nat → Nat → Int64) : Prop := LX tp t p0 Z V ∧ Z 12 0 = nI x0 ∧ Z 14 0 = nI n ∧ Z 17 0 = nI P.length ∧ kPl Z P ∧ Z 18 0 = nI (opn P) ∧ Z 19 0 = w ∧ Z 20 0 = nI so ∧ Z 21 0 = on
theorem rk_le (o : Nat) : rk o ≤ 7 := by
  unfold rk
  repeat' split
  all_goals omega
theorem opn_le : ∀ P : List Nat, opn P ≤ P.length
  | [] => Nat.le_refl _
  | x :: r => by
    have := opn_le r
    unfold opn
    show _ ≤ r.length + 1
    split <;> omega
theorem mkI_split : ∀ P : List Nat, (mkI P = (-1) ∧ kOp P = 40) ∨ (∃ j, j < P.length ∧ mkI P = nI j ∧ 40 ≤ kOp P ∧ ∀ Z, kPl Z P → Z 16 j = nI (kOp P) ∧ kOp P < 64)
  | [] => Or.inl ⟨rfl, rfl⟩
  | x :: r => by
    unfold mkI kOp
    by_cases c : 40 ≤ x
    · rw [if_pos c, if_pos c]
      exact Or.inr ⟨r.length, Nat.lt_succ_self _, rfl, c, fun Z h => ⟨h.1, h.2.1⟩⟩
    · rw [if_neg c, if_neg c]
      rcases mkI_split r with h | ⟨j, h1, h2, h3, h4⟩
      · exact Or.inl h
      · exact Or.inr ⟨j, Nat.lt_succ_of_lt h1, h2, h3, fun Z h => h4 Z h.2.2⟩
set_option maxHeartbeats 4000000 in
set_option maxRecDepth 100000 in
theorem met_X2_rank (l : Launch) (G : gG) (o : Nat) (ho : o < 64) : Met l yX2_rank (ws_ yX2_rank cX2_rank 1 (some .int)) ({ frames := 0, cells := 0, slots := 0, locals := 0 } : Room) (cP G [.int (nI o)] (fun _ => True)) (cR (some (.int (nI (rk o))))) 0 0 (fun _ => False) := by
  refine c_start (by decide) (Nat.le_of_ble_eq_true rfl) ?_
  intro p e s m below meth c hx hb hr hlocks hml hown hts hB hK ls hl
  have hl : lv_has ls 1 [(0, .int (nI o))] := hl
  refine lv_iload_n hx hb dX2_rank_0 rfl (lv_at hl 0 rfl) ?_
  refine lv_bipush (v := nI 40) hx hb dX2_rank_1 (by decide) ?_
  refine n_icmp_lt (tgt := 10) hx hb dX2_rank_3 (by decide) (by omega) (by decide) (fun c_1 => ?_) (fun c_1 => ?_)
  · refine lv_iload_n hx hb dX2_rank_10 rfl (lv_at hl 0 rfl) ?_
    refine lv_bipush (v := nI 22) hx hb dX2_rank_11 (by decide) ?_
    refine n_icmp_ne (tgt := 20) hx hb dX2_rank_13 (by decide) (by omega) (by decide) (fun c_2 => ?_) (fun c_2 => ?_)
    · refine lv_iload_n hx hb dX2_rank_20 rfl (lv_at hl 0 rfl) ?_
      refine lv_bipush (v := nI 21) hx hb dX2_rank_21 (by decide) ?_
      refine n_icmp_ne (tgt := 30) hx hb dX2_rank_23 (by decide) (by omega) (by decide) (fun c_3 => ?_) (fun c_3 => ?_)
      · refine lv_iload_n hx hb dX2_rank_30 rfl (lv_at hl 0 rfl) ?_
        refine lv_bipush (v := nI 20) hx hb dX2_rank_31 (by decide) ?_
        refine n_icmp_ne (tgt := 40) hx hb dX2_rank_33 (by decide) (by omega) (by decide) (fun c_4 => ?_) (fun c_4 => ?_)
        · refine lv_iload_n hx hb dX2_rank_40 rfl (lv_at hl 0 rfl) ?_
          refine lv_bipush (v := nI 10) hx hb dX2_rank_41 (by decide) ?_
          refine n_icmp_lt (tgt := 50) hx hb dX2_rank_43 (by decide) (by omega) (by decide) (fun c_5 => ?_) (fun c_5 => ?_)
          · refine lv_iload_n hx hb dX2_rank_50 rfl (lv_at hl 0 rfl) ?_
            refine lv_iconst (v := nI 2) hx hb dX2_rank_51 (by decide) ?_
            refine n_icmp_ne (tgt := 60) hx hb dX2_rank_52 (by decide) (by omega) (by decide) (fun c_6 => ?_) (fun c_6 => ?_)
            · refine lv_iload_n hx hb dX2_rank_60 rfl (lv_at hl 0 rfl) ?_
              refine lv_iconst (v := nI 5) hx hb dX2_rank_61 (by decide) ?_
              refine n_icmp_lt (tgt := 70) hx hb dX2_rank_62 (by decide) (by omega) (by decide) (fun c_7 => ?_) (fun c_7 => ?_)
              · refine lv_iconst (v := nI 5) hx hb dX2_rank_70 (by decide) ?_
                exact c_rret (v := nI 5) (by have e9 : rk o = 5 := (by unfold rk; (repeat' split) <;> omega); rw [e9]) hx hb hr rfl hlocks dX2_rank_71 rfl rfl
              refine lv_bipush (v := nI 6) hx hb dX2_rank_65 (by decide) ?_
              refine lv_goto (tgt := 71) hx hb dX2_rank_67 (by decide) ?_
              exact c_rret (v := nI 6) (by have e9 : rk o = 6 := (by unfold rk; (repeat' split) <;> omega); rw [e9]) hx hb hr rfl hlocks dX2_rank_71 rfl rfl
            refine lv_bipush (v := nI 7) hx hb dX2_rank_55 (by decide) ?_
            refine lv_goto (tgt := 71) hx hb dX2_rank_57 (by decide) ?_
            exact c_rret (v := nI 7) (by have e9 : rk o = 7 := (by unfold rk; (repeat' split) <;> omega); rw [e9]) hx hb hr rfl hlocks dX2_rank_71 rfl rfl
          refine lv_iconst (v := nI 4) hx hb dX2_rank_46 (by decide) ?_
          refine lv_goto (tgt := 71) hx hb dX2_rank_47 (by decide) ?_
          exact c_rret (v := nI 4) (by have e9 : rk o = 4 := (by unfold rk; (repeat' split) <;> omega); rw [e9]) hx hb hr rfl hlocks dX2_rank_71 rfl rfl
        refine lv_iconst (v := nI 3) hx hb dX2_rank_36 (by decide) ?_
        refine lv_goto (tgt := 71) hx hb dX2_rank_37 (by decide) ?_
        exact c_rret (v := nI 3) (by have e9 : rk o = 3 := (by unfold rk; (repeat' split) <;> omega); rw [e9]) hx hb hr rfl hlocks dX2_rank_71 rfl rfl
      refine lv_iconst (v := nI 2) hx hb dX2_rank_26 (by decide) ?_
      refine lv_goto (tgt := 71) hx hb dX2_rank_27 (by decide) ?_
      exact c_rret (v := nI 2) (by have e9 : rk o = 2 := (by unfold rk; (repeat' split) <;> omega); rw [e9]) hx hb hr rfl hlocks dX2_rank_71 rfl rfl
    refine lv_iconst (v := nI 1) hx hb dX2_rank_16 (by decide) ?_
    refine lv_goto (tgt := 71) hx hb dX2_rank_17 (by decide) ?_
    exact c_rret (v := nI 1) (by have e9 : rk o = 1 := (by unfold rk; (repeat' split) <;> omega); rw [e9]) hx hb hr rfl hlocks dX2_rank_71 rfl rfl
  refine lv_iconst (v := nI 0) hx hb dX2_rank_6 (by decide) ?_
  refine lv_goto (tgt := 71) hx hb dX2_rank_7 (by decide) ?_
  exact c_rret (v := nI 0) (by have e9 : rk o = 0 := (by unfold rk; (repeat' split) <;> omega); rw [e9]) hx hb hr rfl hlocks dX2_rank_71 rfl rfl
set_option maxHeartbeats 4000000 in
set_option maxRecDepth 100000 in
theorem met_X2_emit (l : Launch) (G : gG) (ad : Nat → Nat) (M Z : Nat → Nat → Int32) (V : Nat → Nat → Int64) (x0 n : Nat) (o v : Int32) (e12 : Z 12 0 = nI x0) (e14 : Z 14 0 = nI n) (hn : x0 + 75 + 2 * n + 1 < 2720) : Met l yX2_emit (ws_ yX2_emit cX2_emit 3 none) ({ frames := 0, cells := 0, slots := 0, locals := 0 } : Room) (cP G [.ref (ad 0), .int o, .int v] (mH G ad M Z V)) (cQ none (mH G ad (up2 (up2 M 2 (x0 + 75 + 2 * n) o) 2 (x0 + 75 + 2 * n + 1) v) (up2 Z 14 0 (nI (n + 1))) V) (mA ad)) 0 0 (mA ad) := by
  refine c_start (by decide) (Nat.le_of_ble_eq_true rfl) ?_
  intro p e s m below meth c hx hb hr hlocks hml hown hts hB hK ls hl
  have hw := MS.of hB
  have hl : lv_has ls 3 [(0, .ref (ad 0)), (1, .int o), (2, .int v)] := hl
  refine lv_aload_n hx hb dX2_emit_0 rfl (lv_at hl 0 rfl) ?_
  refine m_g_texts hx hb hts hown hK hw dX2_emit_1 ?_
  refine lv_aload_n hx hb dX2_emit_4 rfl (lv_at hl 0 rfl) ?_
  refine m_g_text0 hx hb hts hown hK hw dX2_emit_5 ?_
  rw [show Z 12 0 = nI x0 from e12]
  refine lv_bipush (v := nI 75) hx hb dX2_emit_8 (by decide) ?_
  refine n_iadd hx hb dX2_emit_10 ?_
  refine lv_iconst (v := nI 2) hx hb dX2_emit_11 (by decide) ?_
  refine lv_aload_n hx hb dX2_emit_12 rfl (lv_at hl 0 rfl) ?_
  refine m_g_written hx hb hts hown hK hw dX2_emit_13 ?_
  rw [show Z 14 0 = nI n from e14]
  refine n_imul hx hb dX2_emit_16 ?_
  refine n_iadd hx hb dX2_emit_17 ?_
  refine lv_iload_n hx hb dX2_emit_18 rfl (lv_at hl 1 rfl) ?_
  refine m_s_texts (j := x0 + 75 + 2 * n) hx hb hK hw (by omega) dX2_emit_19 (fun H locs hw => ?_)
  refine lv_aload_n hx hb dX2_emit_20 rfl (lv_at hl 0 rfl) ?_
  refine m_g_texts hx hb hts hown hK hw dX2_emit_21 ?_
  refine lv_aload_n hx hb dX2_emit_24 rfl (lv_at hl 0 rfl) ?_
  refine m_g_text0 hx hb hts hown hK hw dX2_emit_25 ?_
  rw [show Z 12 0 = nI x0 from e12]
  refine lv_bipush (v := nI 75) hx hb dX2_emit_28 (by decide) ?_
  refine n_iadd hx hb dX2_emit_30 ?_
  refine lv_iconst (v := nI 2) hx hb dX2_emit_31 (by decide) ?_
  refine lv_aload_n hx hb dX2_emit_32 rfl (lv_at hl 0 rfl) ?_
  refine m_g_written hx hb hts hown hK hw dX2_emit_33 ?_
  rw [show Z 14 0 = nI n from e14]
  refine n_imul hx hb dX2_emit_36 ?_
  refine n_iadd hx hb dX2_emit_37 ?_
  refine lv_iconst (v := nI 1) hx hb dX2_emit_38 (by decide) ?_
  refine n_iadd hx hb dX2_emit_39 ?_
  refine lv_iload_n hx hb dX2_emit_40 rfl (lv_at hl 2 rfl) ?_
  refine m_s_texts (j := x0 + 75 + 2 * n + 1) hx hb hK hw (by omega) dX2_emit_41 (fun H locs hw => ?_)
  refine lv_aload_n hx hb dX2_emit_42 rfl (lv_at hl 0 rfl) ?_
  refine lv_dup hx hb dX2_emit_43 rfl ?_
  refine m_g_written hx hb hts hown hK hw dX2_emit_44 ?_
  rw [show Z 14 0 = nI n from e14]
  refine lv_iconst (v := nI 1) hx hb dX2_emit_47 (by decide) ?_
  refine n_iadd hx hb dX2_emit_48 ?_
  refine m_p_written hx hb hts hown hK hw dX2_emit_49 (fun H locs hw => ?_)
  exact c_vret hx hb hr hlocks (mH.to (by first | rfl | simp [pif_true, pif_false]) rfl rfl hw.1) hw.2 dX2_emit_52
set_option maxHeartbeats 4000000 in
set_option maxRecDepth 100000 in
theorem met_X2_push (l : Launch) (G : gG) (ad : Nat → Nat) (M Z : Nat → Nat → Int32) (V : Nat → Nat → Int64) (n : Nat) (o : Int32) (e17 : Z 17 0 = nI n) (hn : n < 160) : Met l yX2_push (ws_ yX2_push cX2_push 2 none) ({ frames := 0, cells := 0, slots := 0, locals := 0 } : Room) (cP G [.ref (ad 0), .int o] (mH G ad M Z V)) (cQ none (mH G ad M (up2 (up2 Z 16 n o) 17 0 (nI (n + 1))) V) (mA ad)) 0 0 (mA ad) := by
  refine c_start (by decide) (Nat.le_of_ble_eq_true rfl) ?_
  intro p e s m below meth c hx hb hr hlocks hml hown hts hB hK ls hl
  have hw := MS.of hB
  have hl : lv_has ls 2 [(0, .ref (ad 0)), (1, .int o)] := hl
  refine lv_aload_n hx hb dX2_push_0 rfl (lv_at hl 0 rfl) ?_
  refine m_g_pile hx hb hts hown hK hw dX2_push_1 ?_
  refine lv_aload_n hx hb dX2_push_4 rfl (lv_at hl 0 rfl) ?_
  refine m_g_piled hx hb hts hown hK hw dX2_push_5 ?_
  rw [show Z 17 0 = nI n from e17]
  refine lv_iload_n hx hb dX2_push_8 rfl (lv_at hl 1 rfl) ?_
  refine m_s_pile (j := n) hx hb hK hw (by omega) dX2_push_9 (fun H locs hw => ?_)
  refine lv_aload_n hx hb dX2_push_10 rfl (lv_at hl 0 rfl) ?_
  refine lv_dup hx hb dX2_push_11 rfl ?_
  refine m_g_piled hx hb hts hown hK hw dX2_push_12 ?_
  rw [show (up2 Z 16 n o) 17 0 = nI n from (up2_ne (Or.inl (by decide))).trans e17]
  refine lv_iconst (v := nI 1) hx hb dX2_push_15 (by decide) ?_
  refine n_iadd hx hb dX2_push_16 ?_
  refine m_p_piled hx hb hts hown hK hw dX2_push_17 (fun H locs hw => ?_)
  exact c_vret hx hb hr hlocks (mH.to (by first | rfl | simp [pif_true, pif_false]) rfl rfl hw.1) hw.2 dX2_push_20
set_option maxHeartbeats 4000000 in
set_option maxRecDepth 100000 in
theorem met_X2_w3 (l : Launch) (G : gG) (a b d : Nat) (ha : a < 256) (hb : b < 256) (hd : d < 256) : Met l yX2_w3 (ws_ yX2_w3 cX2_w3 3 (some .long)) ({ frames := 0, cells := 0, slots := 0, locals := 0 } : Room) (cP G [.int (nI a), .int (nI b), .int (nI d)] (fun _ => True)) (cR (some (.long (w8 (w8 (lN a) b) d)))) 0 0 (fun _ => False) := by
  refine c_start (by decide) (Nat.le_of_ble_eq_true rfl) ?_
  intro p e s m below meth c hx hb hr hlocks hml hown hts hB hK ls hl
  have hl : lv_has ls 3 [(0, .int (nI a)), (1, .int (nI b)), (2, .int (nI d))] := hl
  refine lv_iload_n hx hb dX2_w3_0 rfl (lv_at hl 0 rfl) ?_
  refine lv_i2l (v := lN a) hx hb dX2_w3_1 (nI_l (by omega)) ?_
  refine lv_bipush (v := nI 8) hx hb dX2_w3_2 (by decide) ?_
  refine lv_lshl (v := (lN a) <<< ((nI 8).toInt64 &&& 63)) hx hb dX2_w3_4 rfl ?_
  refine lv_iload_n hx hb dX2_w3_5 rfl (lv_at hl 1 rfl) ?_
  refine lv_i2l (v := lN b) hx hb dX2_w3_6 (nI_l (by omega)) ?_
  refine lv_lor hx hb dX2_w3_7 ?_
  refine lv_bipush (v := nI 8) hx hb dX2_w3_8 (by decide) ?_
  refine lv_lshl (v := (((lN a) <<< ((nI 8).toInt64 &&& 63)) ||| (lN b)) <<< ((nI 8).toInt64 &&& 63)) hx hb dX2_w3_10 rfl ?_
  refine lv_iload_n hx hb dX2_w3_11 rfl (lv_at hl 2 rfl) ?_
  refine lv_i2l (v := lN d) hx hb dX2_w3_12 (nI_l (by omega)) ?_
  refine lv_lor hx hb dX2_w3_13 ?_
  exact c_rlret (v := ((((lN a) <<< ((nI 8).toInt64 &&& 63)) ||| (lN b)) <<< ((nI 8).toInt64 &&& 63)) ||| (lN d)) rfl hx hb hr hlocks dX2_w3_14 rfl rfl
set_option maxHeartbeats 4000000 in
set_option maxRecDepth 100000 in
theorem met_X2_w4 (l : Launch) (G : gG) (a b d f : Nat) (ha : a < 256) (hb : b < 256) (hd : d < 256) (hf : f < 256) : Met l yX2_w4 (ws_ yX2_w4 cX2_w4 4 (some .long)) ({ frames := 1, cells := 0, slots := 0, locals := 22 } : Room) (cP G [.int (nI a), .int (nI b), .int (nI d), .int (nI f)] (fun _ => True)) (cR (some (.long (w8 (w8 (w8 (lN a) b) d) f)))) 0 0 (fun _ => False) := by
  refine c_start (by decide) (Nat.le_of_ble_eq_true rfl) ?_
  intro p e s m below meth c hx hb hr hlocks hml hown hts hB hK ls hl
  have hl : lv_has ls 4 [(0, .int (nI a)), (1, .int (nI b)), (2, .int (nI d)), (3, .int (nI f))] := hl
  refine lv_iload_n hx hb dX2_w4_0 rfl (lv_at hl 0 rfl) ?_
  refine lv_iload_n hx hb dX2_w4_1 rfl (lv_at hl 1 rfl) ?_
  refine lv_iload_n hx hb dX2_w4_2 rfl (lv_at hl 2 rfl) ?_
  refine c_read (va_runS (As := [.int (nI a), .int (nI b), .int (nI d)]) (rest := []) ⟨hx, hb, hml, hown, hts⟩ (met_X2_w3 l G a b d (by omega) (by omega) (by omega)) (cs_X2_X2_w3 hts ⟨Nat.le_of_ble_eq_true rfl, Nat.le_of_ble_eq_true rfl⟩) (cP.pre hK trivial) rfl rfl hl.1 rfl (lv_room (Nat.le_of_ble_eq_true rfl)) dX2_w4_3 ⟨by first | exact Nat.zero_le _ | omega | decide, by first | exact Nat.zero_le _ | omega | decide⟩) ?_
  refine lv_bipush (v := nI 8) hx hb dX2_w4_6 (by decide) ?_
  refine lv_lshl (v := (w8 (w8 (lN a) b) d) <<< ((nI 8).toInt64 &&& 63)) hx hb dX2_w4_8 rfl ?_
  refine lv_iload_n hx hb dX2_w4_9 rfl (lv_at hl 3 rfl) ?_
  refine lv_i2l (v := lN f) hx hb dX2_w4_10 (nI_l (by omega)) ?_
  refine lv_lor hx hb dX2_w4_11 ?_
  exact c_rlret (v := ((w8 (w8 (lN a) b) d) <<< ((nI 8).toInt64 &&& 63)) ||| (lN f)) rfl hx hb hr hlocks dX2_w4_12 rfl rfl
set_option maxHeartbeats 4000000 in
set_option maxRecDepth 100000 in
theorem met_X2_w5 (l : Launch) (G : gG) (a b d f g : Nat) (ha : a < 256) (hb : b < 256) (hd : d < 256) (hf : f < 256) (hg : g < 256) : Met l yX2_w5 (ws_ yX2_w5 cX2_w5 5 (some .long)) ({ frames := 1, cells := 0, slots := 0, locals := 22 } : Room) (cP G [.int (nI a), .int (nI b), .int (nI d), .int (nI f), .int (nI g)] (fun _ => True)) (cR (some (.long (w8 (w8 (w8 (w8 (lN a) b) d) f) g)))) 0 0 (fun _ => False) := by
  refine c_start (by decide) (Nat.le_of_ble_eq_true rfl) ?_
  intro p e s m below meth c hx hb hr hlocks hml hown hts hB hK ls hl
  have hl : lv_has ls 5 [(0, .int (nI a)), (1, .int (nI b)), (2, .int (nI d)), (3, .int (nI f)), (4, .int (nI g))] := hl
  refine lv_iload_n hx hb dX2_w5_0 rfl (lv_at hl 0 rfl) ?_
  refine lv_iload_n hx hb dX2_w5_1 rfl (lv_at hl 1 rfl) ?_
  refine lv_iload_n hx hb dX2_w5_2 rfl (lv_at hl 2 rfl) ?_
  refine c_read (va_runS (As := [.int (nI a), .int (nI b), .int (nI d)]) (rest := []) ⟨hx, hb, hml, hown, hts⟩ (met_X2_w3 l G a b d (by omega) (by omega) (by omega)) (cs_X2_X2_w3 hts ⟨Nat.le_of_ble_eq_true rfl, Nat.le_of_ble_eq_true rfl⟩) (cP.pre hK trivial) rfl rfl hl.1 rfl (lv_room (Nat.le_of_ble_eq_true rfl)) dX2_w5_3 ⟨by first | exact Nat.zero_le _ | omega | decide, by first | exact Nat.zero_le _ | omega | decide⟩) ?_
  refine lv_bipush (v := nI 8) hx hb dX2_w5_6 (by decide) ?_
  refine lv_lshl (v := (w8 (w8 (lN a) b) d) <<< ((nI 8).toInt64 &&& 63)) hx hb dX2_w5_8 rfl ?_
  refine lv_iload_n hx hb dX2_w5_9 rfl (lv_at hl 3 rfl) ?_
  refine lv_i2l (v := lN f) hx hb dX2_w5_10 (nI_l (by omega)) ?_
  refine lv_lor hx hb dX2_w5_11 ?_
  refine lv_bipush (v := nI 8) hx hb dX2_w5_12 (by decide) ?_
  refine lv_lshl (v := (((w8 (w8 (lN a) b) d) <<< ((nI 8).toInt64 &&& 63)) ||| (lN f)) <<< ((nI 8).toInt64 &&& 63)) hx hb dX2_w5_14 rfl ?_
  refine lv_iload hx hb dX2_w5_15 (lv_at hl 4 rfl) ?_
  refine lv_i2l (v := lN g) hx hb dX2_w5_17 (nI_l (by omega)) ?_
  refine lv_lor hx hb dX2_w5_18 ?_
  exact c_rlret (v := ((((w8 (w8 (lN a) b) d) <<< ((nI 8).toInt64 &&& 63)) ||| (lN f)) <<< ((nI 8).toInt64 &&& 63)) ||| (lN g)) rfl hx hb hr hlocks dX2_w5_19 rfl rfl
set_option maxHeartbeats 4000000 in
set_option maxRecDepth 100000 in
theorem met_X2_w6 (l : Launch) (G : gG) (a b d f g h : Nat) (ha : a < 256) (hb : b < 256) (hd : d < 256) (hf : f < 256) (hg : g < 256) (hh : h < 256) : Met l yX2_w6 (ws_ yX2_w6 cX2_w6 6 (some .long)) ({ frames := 2, cells := 0, slots := 0, locals := 46 } : Room) (cP G [.int (nI a), .int (nI b), .int (nI d), .int (nI f), .int (nI g), .int (nI h)] (fun _ => True)) (cR (some (.long (w8 (w8 (w8 (w8 (w8 (lN a) b) d) f) g) h)))) 0 0 (fun _ => False) := by
  refine c_start (by decide) (Nat.le_of_ble_eq_true rfl) ?_
  intro p e s m below meth c hx hb hr hlocks hml hown hts hB hK ls hl
  have hl : lv_has ls 6 [(0, .int (nI a)), (1, .int (nI b)), (2, .int (nI d)), (3, .int (nI f)), (4, .int (nI g)), (5, .int (nI h))] := hl
  refine lv_iload_n hx hb dX2_w6_0 rfl (lv_at hl 0 rfl) ?_
  refine lv_iload_n hx hb dX2_w6_1 rfl (lv_at hl 1 rfl) ?_
  refine lv_iload_n hx hb dX2_w6_2 rfl (lv_at hl 2 rfl) ?_
  refine lv_iload_n hx hb dX2_w6_3 rfl (lv_at hl 3 rfl) ?_
  refine lv_iload hx hb dX2_w6_4 (lv_at hl 4 rfl) ?_
  refine c_read (va_runS (As := [.int (nI a), .int (nI b), .int (nI d), .int (nI f), .int (nI g)]) (rest := []) ⟨hx, hb, hml, hown, hts⟩ (met_X2_w5 l G a b d f g (by omega) (by omega) (by omega) (by omega) (by omega)) (cs_X2_X2_w5 hts ⟨Nat.le_of_ble_eq_true rfl, Nat.le_of_ble_eq_true rfl⟩) (cP.pre hK trivial) rfl rfl hl.1 rfl (lv_room (Nat.le_of_ble_eq_true rfl)) dX2_w6_6 ⟨by first | exact Nat.zero_le _ | omega | decide, by first | exact Nat.zero_le _ | omega | decide⟩) ?_
  refine lv_bipush (v := nI 8) hx hb dX2_w6_9 (by decide) ?_
  refine lv_lshl (v := (w8 (w8 (w8 (w8 (lN a) b) d) f) g) <<< ((nI 8).toInt64 &&& 63)) hx hb dX2_w6_11 rfl ?_
  refine lv_iload hx hb dX2_w6_12 (lv_at hl 5 rfl) ?_
  refine lv_i2l (v := lN h) hx hb dX2_w6_14 (nI_l (by omega)) ?_
  refine lv_lor hx hb dX2_w6_15 ?_
  exact c_rlret (v := ((w8 (w8 (w8 (w8 (lN a) b) d) f) g) <<< ((nI 8).toInt64 &&& 63)) ||| (lN h)) rfl hx hb hr hlocks dX2_w6_16 rfl rfl
set_option maxHeartbeats 4000000 in
set_option maxRecDepth 100000 in
theorem met_X2_isWord (l : Launch) (G : gG) (ad : Nat → Nat) (M Z : Nat → Nat → Int32) (V : Nat → Nat → Int64) (tp : Nat → Nat) (t p0 : Nat) (hT : TP tp t M) (hX : LX tp t p0 Z V) (wd : Int64) : Met l yX2_isWord (ws_ yX2_isWord cX2_isWord 3 (some .boolean)) ({ frames := 0, cells := 0, slots := 0, locals := 0 } : Room) (cP G [.ref (ad 0), .long wd] (mH G ad M Z V)) (cR (some (.int (bI (lxT tp t p0 = 2 ∧ lxW tp t p0 = wd))))) 0 0 (fun _ => False) := by
  refine c_start (by decide) (Nat.le_of_ble_eq_true rfl) ?_
  intro p e s m below meth c hx hb hr hlocks hml hown hts hB hK ls hl
  have hw := MS.of hB
  have hl : lv_has ls 3 [(0, .ref (ad 0)), (1, .long wd)] := hl
  have hT9 := lxT_lt hT p0
  refine lv_aload_n hx hb dX2_isWord_0 rfl (lv_at hl 0 rfl) ?_
  refine m_g_token hx hb hts hown hK hw dX2_isWord_1 ?_
  rw [show Z 9 0 = nI (lxT tp t p0) from hX.2.2.1]
  refine lv_iconst (v := nI 2) hx hb dX2_isWord_4 (by decide) ?_
  refine n_icmp_ne (tgt := 21) hx hb dX2_isWord_5 (by decide) (by omega) (by decide) (fun c_1 => ?_) (fun c_1 => ?_)
  · refine lv_iconst (v := nI 0) hx hb dX2_isWord_21 (by decide) ?_
    exact c_rret (v := nI 0) ((bI_f (fun h9 => by first | exact absurd h9.1 (by assumption) | exact absurd h9.2 (by assumption))).symm) hx hb hr rfl hlocks dX2_isWord_22 rfl rfl
  have e11_ := hX.2.2.2.2 c_1
  refine lv_aload_n hx hb dX2_isWord_8 rfl (lv_at hl 0 rfl) ?_
  refine m_g_word hx hb hts hown hK hw dX2_isWord_9 ?_
  rw [show V 11 0 = lxW tp t p0 from e11_]
  refine lv_lload_n hx hb dX2_isWord_12 rfl (lv_at hl 1 rfl) ?_
  refine l_cmp_ne (tgt := 21) hx hb dX2_isWord_13 dX2_isWord_14 (by decide) (fun c_2 => ?_) (fun c_2 => ?_)
  · refine lv_iconst (v := nI 0) hx hb dX2_isWord_21 (by decide) ?_
    exact c_rret (v := nI 0) ((bI_f (fun h9 => by first | exact absurd h9.1 (by assumption) | exact absurd h9.2 (by assumption))).symm) hx hb hr rfl hlocks dX2_isWord_22 rfl rfl
  refine lv_iconst (v := nI 1) hx hb dX2_isWord_17 (by decide) ?_
  refine lv_goto (tgt := 22) hx hb dX2_isWord_18 (by decide) ?_
  exact c_rret (v := nI 1) ((bI_t ⟨by assumption, by assumption⟩).symm) hx hb hr rfl hlocks dX2_isWord_22 rfl rfl
set_option maxHeartbeats 4000000 in
set_option maxRecDepth 100000 in
theorem met_X2_marker (l : Launch) (G : gG) (ad : Nat → Nat) (M Z : Nat → Nat → Int32) (V : Nat → Nat → Int64) (P : List Nat) (e17 : Z 17 0 = nI P.length) (hPl : kPl Z P) (hP160 : P.length ≤ 160) : Met l yX2_marker (ws_ yX2_marker cX2_marker 2 (some .int)) ({ frames := 0, cells := 0, slots := 0, locals := 0 } : Room) (cP G [.ref (ad 0)] (mH G ad M Z V)) (cR (some (.int (mkI P)))) 0 0 (fun _ => False) := by
  refine c_start (by decide) (Nat.le_of_ble_eq_true rfl) ?_
  intro p e s m below meth c hx hb hr hlocks hml hown hts hB hK ls hl
  have hw := MS.of hB
  have hl : lv_has ls 2 [(0, .ref (ad 0))] := hl
  refine lv_aload_n hx hb dX2_marker_0 rfl (lv_at hl 0 rfl) ?_
  refine m_g_piled hx hb hts hown hK hw dX2_marker_1 ?_
  rw [show Z 17 0 = nI P.length from e17]
  refine lv_iconst (v := nI 1) hx hb dX2_marker_4 (by decide) ?_
  refine lv_isub hx hb dX2_marker_5 ?_
  rw [show nI P.length - nI 1 = nI P.length + (-1) by rw [Int32.sub_eq_add_neg]; rfl]
  refine lv_istore_n (lv' := [(1, .int (nI P.length + (-1))), (0, .ref (ad 0))]) hx hb dX2_marker_6 rfl hl (by decide) rfl (fun ls hl => ?_)
  have L_7 : ∀ (fuel : Nat) (P1 : List Nat) (xv : Int32), P1.length < fuel → (xv = nI P1.length + (-1)) → (kPl Z P1) → (P1.length ≤ 160) → (mkI P1 = mkI P) → ∀ (ls : Array Slot), lv_has ls 2 [(0, .ref (ad 0)), (1, .int xv)] → W p l e ({ frames := 0, cells := 0, slots := 0, locals := 0 } : Room) s m ([.ref (ad 0)] : List Value).toArray below meth c s.heap [] 0 0 (MQ below (cR (some (.int (mkI P)))) ([.ref (ad 0)] : List Value).toArray s 0 0 (fun _ => False)) (F0 m 7 ls []) := by
    intro fuel
    induction fuel with
    | zero => intro P1 xv hf; exact absurd hf (Nat.not_lt_zero _)
    | succ fuel ih =>
      intro P1 xv hf hxv hP1 hl1 hq1 ls hl
      have ih7 := ih
      cases P1 with
      | nil =>
        obtain rfl : xv = (-1) := by rw [hxv]; decide
        refine lv_iload_n hx hb dX2_marker_7 rfl (lv_at hl 1 rfl) ?_
        refine lv_if_lt (tgt := 28) hx hb dX2_marker_8 (by decide) (fun _ => ?_) (fun h9 => absurd (by decide) h9)
        refine lv_iload_n hx hb dX2_marker_28 rfl (lv_at hl 1 rfl) ?_
        exact c_rret (v := (-1)) (hq1) hx hb hr rfl hlocks dX2_marker_29 rfl rfl
      | cons x r =>
        obtain rfl : xv = nI r.length := by rw [hxv]; exact pk_m1 r.length
        have hl2 : r.length + 1 ≤ 160 := hl1
        have hx64 := hP1.2.1
        refine lv_iload_n hx hb dX2_marker_7 rfl (lv_at hl 1 rfl) ?_
        refine n_if_lt (tgt := 28) hx hb dX2_marker_8 (by decide) (by omega) ?_
        refine lv_aload_n hx hb dX2_marker_11 rfl (lv_at hl 0 rfl) ?_
        refine m_g_pile hx hb hts hown hK hw dX2_marker_12 ?_
        refine lv_iload_n hx hb dX2_marker_15 rfl (lv_at hl 1 rfl) ?_
        refine m_l_pile (j := r.length) (v := nI x) hx hb hK hw hP1.1 (by omega) dX2_marker_16 ?_
        refine lv_bipush (v := nI 40) hx hb dX2_marker_17 (by decide) ?_
        refine n_icmp_ge (tgt := 28) hx hb dX2_marker_19 (by decide) (by omega) (by decide) (fun c_2 => ?_) (fun c_2 => ?_)
        · refine lv_iload_n hx hb dX2_marker_28 rfl (lv_at hl 1 rfl) ?_
          exact c_rret (v := nI r.length) ((show mkI (x :: r) = nI r.length from if_pos (by omega)).symm.trans hq1) hx hb hr rfl hlocks dX2_marker_29 rfl rfl
        refine lv_iinc (v := nI r.length + Int32.ofInt (-1)) (lv' := [(1, .int (nI r.length + Int32.ofInt (-1))), (0, .ref (ad 0))]) hx hb dX2_marker_22 hl (k := 1) rfl rfl (by decide) rfl (fun ls hl => ?_)
        refine lv_goto (tgt := 7) hx hb dX2_marker_25 (by decide) ?_
        exact ih7 r (nI r.length + Int32.ofInt (-1)) (by simp at hf; omega) rfl hP1.2.2 (by simp at hl1; omega) ((show mkI (x :: r) = mkI r from if_neg (by omega)).symm.trans hq1) ls (lv_sub hl [1, 0] rfl)
  exact L_7 _ P (nI P.length + (-1)) (Nat.lt_succ_self _) rfl hPl hP160 rfl ls (lv_sub hl [1, 0] rfl)
set_option maxHeartbeats 4000000 in
set_option maxRecDepth 100000 in
theorem met_X2_isCompared (l : Launch) (G : gG) (ad : Nat → Nat) (M Z : Nat → Nat → Int32) (V : Nat → Nat → Int64) (P : List Nat) (e17 : Z 17 0 = nI P.length) (hPl : kPl Z P) (hP160 : P.length ≤ 160) : Met l yX2_isCompared (ws_ yX2_isCompared cX2_isCompared 2 (some .boolean)) ({ frames := 1, cells := 0, slots := 0, locals := 20 } : Room) (cP G [.ref (ad 0)] (mH G ad M Z V)) (cR (some (.int (bI (cmpd P = true))))) 0 0 (fun _ => False) := by
  refine c_start (by decide) (Nat.le_of_ble_eq_true rfl) ?_
  intro p e s m below meth c hx hb hr hlocks hml hown hts hB hK ls hl
  have hw := MS.of hB
  have hl : lv_has ls 2 [(0, .ref (ad 0))] := hl
  refine lv_aload_n hx hb dX2_isCompared_0 rfl (lv_at hl 0 rfl) ?_
  refine m_g_piled hx hb hts hown hK hw dX2_isCompared_1 ?_
  rw [show Z 17 0 = nI P.length from e17]
  refine lv_iconst (v := nI 1) hx hb dX2_isCompared_4 (by decide) ?_
  refine lv_isub hx hb dX2_isCompared_5 ?_
  rw [show nI P.length - nI 1 = nI P.length + (-1) by rw [Int32.sub_eq_add_neg]; rfl]
  refine lv_istore_n (lv' := [(1, .int (nI P.length + (-1))), (0, .ref (ad 0))]) hx hb dX2_isCompared_6 rfl hl (by decide) rfl (fun ls hl => ?_)
  have L_7 : ∀ (fuel : Nat) (P1 : List Nat) (xv : Int32), P1.length < fuel → (xv = nI P1.length + (-1)) → (kPl Z P1) → (P1.length ≤ 160) → (cmpd P1 = cmpd P) → ∀ (ls : Array Slot), lv_has ls 2 [(0, .ref (ad 0)), (1, .int xv)] → W p l e ({ frames := 1, cells := 0, slots := 0, locals := 20 } : Room) s m ([.ref (ad 0)] : List Value).toArray below meth c s.heap [] 0 0 (MQ below (cR (some (.int (bI (cmpd P = true))))) ([.ref (ad 0)] : List Value).toArray s 0 0 (fun _ => False)) (F0 m 7 ls []) := by
    intro fuel
    induction fuel with
    | zero => intro P1 xv hf; exact absurd hf (Nat.not_lt_zero _)
    | succ fuel ih =>
      intro P1 xv hf hxv hP1 hl1 hq1 ls hl
      have ih7 := ih
      have hrk := rk_le
      cases P1 with
      | nil =>
        obtain rfl : xv = (-1) := by rw [hxv]; decide
        refine lv_iload_n hx hb dX2_isCompared_7 rfl (lv_at hl 1 rfl) ?_
        refine lv_if_lt (tgt := 30) hx hb dX2_isCompared_8 (by decide) (fun _ => ?_) (fun h9 => absurd (by decide) h9)
        refine lv_iload_n hx hb dX2_isCompared_30 rfl (lv_at hl 1 rfl) ?_
        refine lv_if_lt (tgt := 51) hx hb dX2_isCompared_31 (by decide) (fun _ => ?_) (fun h9 => absurd (by decide) h9)
        refine lv_iconst (v := nI 0) hx hb dX2_isCompared_51 (by decide) ?_
        exact c_rret (v := nI 0) ((bI_f (by rw [← hq1]; simp [cmpd])).symm) hx hb hr rfl hlocks dX2_isCompared_52 rfl rfl
      | cons x r =>
        obtain rfl : xv = nI r.length := by rw [hxv]; exact pk_m1 r.length
        have hl2 : r.length + 1 ≤ 160 := hl1
        have hx64 := hP1.2.1
        refine lv_iload_n hx hb dX2_isCompared_7 rfl (lv_at hl 1 rfl) ?_
        refine n_if_lt (tgt := 30) hx hb dX2_isCompared_8 (by decide) (by omega) ?_
        refine lv_aload_n hx hb dX2_isCompared_11 rfl (lv_at hl 0 rfl) ?_
        refine m_g_pile hx hb hts hown hK hw dX2_isCompared_12 ?_
        refine lv_iload_n hx hb dX2_isCompared_15 rfl (lv_at hl 1 rfl) ?_
        refine m_l_pile (j := r.length) (v := nI x) hx hb hK hw hP1.1 (by omega) dX2_isCompared_16 ?_
        have hrx := rk_le x
        refine c_read (va_runS (As := [.int (nI x)]) (rest := []) ⟨hx, hb, hml, hown, hts⟩ (met_X2_rank l G x (by omega)) (cs_X2_X2_rank hts ⟨Nat.le_of_ble_eq_true rfl, Nat.le_of_ble_eq_true rfl⟩) (cP.pre hK trivial) rfl rfl hl.1 rfl (lv_room (Nat.le_of_ble_eq_true rfl)) dX2_isCompared_17 ⟨by first | exact Nat.zero_le _ | omega | decide, by first | exact Nat.zero_le _ | omega | decide⟩) ?_
        refine lv_iconst (v := nI 4) hx hb dX2_isCompared_20 (by decide) ?_
        refine n_icmp_le (tgt := 30) hx hb dX2_isCompared_21 (by decide) (by omega) (by decide) (fun c_3 => ?_) (fun c_3 => ?_)
        · refine lv_iload_n hx hb dX2_isCompared_30 rfl (lv_at hl 1 rfl) ?_
          refine n_if_lt (tgt := 51) hx hb dX2_isCompared_31 (by decide) (by omega) ?_
          refine lv_aload_n hx hb dX2_isCompared_34 rfl (lv_at hl 0 rfl) ?_
          refine m_g_pile hx hb hts hown hK hw dX2_isCompared_35 ?_
          refine lv_iload_n hx hb dX2_isCompared_38 rfl (lv_at hl 1 rfl) ?_
          refine m_l_pile (j := r.length) (v := nI x) hx hb hK hw hP1.1 (by omega) dX2_isCompared_39 ?_
          refine c_read (va_runS (As := [.int (nI x)]) (rest := []) ⟨hx, hb, hml, hown, hts⟩ (met_X2_rank l G x (by omega)) (cs_X2_X2_rank hts ⟨Nat.le_of_ble_eq_true rfl, Nat.le_of_ble_eq_true rfl⟩) (cP.pre hK trivial) rfl rfl hl.1 rfl (lv_room (Nat.le_of_ble_eq_true rfl)) dX2_isCompared_40 ⟨by first | exact Nat.zero_le _ | omega | decide, by first | exact Nat.zero_le _ | omega | decide⟩) ?_
          refine lv_iconst (v := nI 4) hx hb dX2_isCompared_43 (by decide) ?_
          refine n_icmp_ne (tgt := 51) hx hb dX2_isCompared_44 (by decide) (by omega) (by decide) (fun c_4 => ?_) (fun c_4 => ?_)
          · refine lv_iconst (v := nI 0) hx hb dX2_isCompared_51 (by decide) ?_
            exact c_rret (v := nI 0) ((bI_f (by rw [← hq1]; unfold cmpd; rw [if_neg (by omega)]; simp; omega)).symm) hx hb hr rfl hlocks dX2_isCompared_52 rfl rfl
          refine lv_iconst (v := nI 1) hx hb dX2_isCompared_47 (by decide) ?_
          refine lv_goto (tgt := 52) hx hb dX2_isCompared_48 (by decide) ?_
          exact c_rret (v := nI 1) ((bI_t (by rw [← hq1]; unfold cmpd; rw [if_neg (by omega)]; simp; omega)).symm) hx hb hr rfl hlocks dX2_isCompared_52 rfl rfl
        refine lv_iinc (v := nI r.length + Int32.ofInt (-1)) (lv' := [(1, .int (nI r.length + Int32.ofInt (-1))), (0, .ref (ad 0))]) hx hb dX2_isCompared_24 hl (k := 1) rfl rfl (by decide) rfl (fun ls hl => ?_)
        refine lv_goto (tgt := 7) hx hb dX2_isCompared_27 (by decide) ?_
        exact ih7 r (nI r.length + Int32.ofInt (-1)) (by simp at hf; omega) rfl hP1.2.2 (by simp at hl1; omega) ((show cmpd (x :: r) = cmpd r from if_pos (by omega)).symm.trans hq1) ls (lv_sub hl [1, 0] rfl)
  exact L_7 _ P (nI P.length + (-1)) (Nat.lt_succ_self _) rfl hPl hP160 rfl ls (lv_sub hl [1, 0] rfl)
