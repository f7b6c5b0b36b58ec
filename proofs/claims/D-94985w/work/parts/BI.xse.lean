/-! doing (printed by gen/xse.py) -/
/-- what stands behind a line's word: the numbers, the place behind -/
def dOk (tp : Nat → Nat) (t kd p a : Nat) (b : Int32) (n q : Nat) : Prop :=
  lxT tp t p = 1 ∧ a = lxN tp t p ∧
  ((kd = 6 ∧ (1 ≤ a ∧ a ≤ 99) ∧ b = (-1) ∧ n = 0 ∧ q = lxQ tp t p) ∨ (kd = 4 ∧ a ≤ 5 ∧ b = (-1) ∧ n = 0 ∧ q = lxQ tp t p) ∨
   (kd = 5 ∧ a ≤ 9 ∧ cst tp t (lxQ tp t p) = 207 ∧ lxT tp t (lxQ tp t (lxQ tp t p)) = 1 ∧ lxN tp t (lxQ tp t (lxQ tp t p)) ≤ 5 ∧ b = nI (lxN tp t (lxQ tp t (lxQ tp t p))) ∧ cst tp t (lxQ tp t (lxQ tp t (lxQ tp t p))) = 208 ∧
     lxT tp t (lxQ tp t (lxQ tp t (lxQ tp t (lxQ tp t p)))) = 1 ∧ (1 ≤ n ∧ n ≤ 9) ∧ n = lxN tp t (lxQ tp t (lxQ tp t (lxQ tp t (lxQ tp t p)))) ∧ q = lxQ tp t (lxQ tp t (lxQ tp t (lxQ tp t (lxQ tp t p))))))
/-- the fault there, and where -/
def dEr (tp : Nat → Nat) (t kd p f q : Nat) : Prop := (f = 1 ∨ f = 2) ∧
  ((f = fgO tp t p (if kd = 6 then 1 else 0) (if kd = 6 then 99 else if kd = 4 then 5 else 9) ∧ q = p) ∨
   (kd = 5 ∧ fgO tp t p 0 9 = 0 ∧
     ((cst tp t (lxQ tp t p) ≠ 207 ∧ f = 1 ∧ q = lxQ tp t p) ∨
      (cst tp t (lxQ tp t p) = 207 ∧ ((f = fgO tp t (lxQ tp t (lxQ tp t p)) 0 5 ∧ q = lxQ tp t (lxQ tp t p)) ∨
        (fgO tp t (lxQ tp t (lxQ tp t p)) 0 5 = 0 ∧
          ((cst tp t (lxQ tp t (lxQ tp t (lxQ tp t p))) ≠ 208 ∧ f = 1 ∧ q = lxQ tp t (lxQ tp t (lxQ tp t p))) ∨
           (cst tp t (lxQ tp t (lxQ tp t (lxQ tp t p))) = 208 ∧ f = fgO tp t (lxQ tp t (lxQ tp t (lxQ tp t (lxQ tp t p)))) 1 9 ∧ q = lxQ tp t (lxQ tp t (lxQ tp t (lxQ tp t p)))))))))))
theorem fgO_1 {tp : Nat → Nat} {t p lo hi : Nat} (h : lxT tp t p ≠ 1) : fgO tp t p lo hi = 1 := if_neg h
theorem fgO_2 {tp : Nat → Nat} {t p lo hi : Nat} (h : lxT tp t p = 1) (h2 : lxN tp t p < lo ∨ hi < lxN tp t p) : fgO tp t p lo hi = 2 := by
  unfold fgO
  rw [if_pos h, if_neg (by omega)]
theorem fgO_0 {tp : Nat → Nat} {t p lo hi : Nat} (h : lxT tp t p = 1) (h2 : lo ≤ lxN tp t p ∧ lxN tp t p ≤ hi) : fgO tp t p lo hi = 0 := by
  unfold fgO
  rw [if_pos h, if_pos h2]
set_option maxHeartbeats 4000000 in
set_option maxRecDepth 100000 in
theorem met_X3_doing (l : Launch) (G : gG) (κ : kK) (z : Nat) (tp : Nat → Nat) (Xb : Nat → Int32) (r ta t p0 o kd N0 : Nat) (c9 : Nat) (hXb : ∀ j, j < t → Xb j = sb (tp j) ∧ tp j < 256) (ht : t ≤ 300) (hp : p0 ≤ t) (hra : r ≠ ta) (hz : z ≤ r) (hzN : z ≤ N0) (hst : l.stackTraces = false) (hkd : 4 ≤ kd ∧ kd ≤ 6) (hc24 : c9 ≤ 24) : vq_Met l yX3_doing (ws_ yX3_doing cX3_doing 5 (some (Jvm.ClassFile.FieldType.object "BreathOnLoan$Doing"))) ({ frames := 16, cells := 6, slots := 45, locals := 300 } : Room) (cT G κ z [.ref r, .int (nI c9)] (fun H => tkP G r ta t Xb tp p0 o kd H ∧ H.size = N0)) (tQ (fun ov H0 H1 => ∃ (x q a n : Nat) (b : Int32), ov = some (.ref x) ∧ dOk tp t kd p0 a b n q ∧ q ≤ t ∧ va_at (gD G) g_cl (x, .inr (6, [.int (nI (200 + kd)), .int (nI a), .int b, .int (nI n), .int (nI c9)])) H1 ∧ tkP G r ta t Xb tp q o kd H1 ∧ N0 ≤ x ∧ H1.size ≤ H0.size + 6 ∧ hU H1 ≤ hU H0 + 45) (fun q => q = r ∨ N0 ≤ q)) (tX (fun q9 H0 H1 => ∃ f q : Nat, dEr tp t kd p0 f q ∧ XW G q9 (nI f) (nI (lxS tp t q)) H1) (fun q => q = r ∨ N0 ≤ q)) 6 45 (fun q => q = r ∨ N0 ≤ q) := by
  refine t_start (by decide) (Nat.le_of_ble_eq_true rfl) ?_
  intro p e s m below meth c hx hb hr hlocks hml hown hts hB hK hZ htab ls hl
  have hl : lv_has ls 5 [(0, .ref r), (1, .int (nI c9))] := hl
  obtain ⟨⟨num, hnum, hk, htp⟩, hN⟩ := hB
  have hAZ : ∀ q, (q = r ∨ N0 ≤ q) → aZ z q := fun q e => show z ≤ q by rcases e with e | e <;> omega
  have hS : va_S (fun q => q = r ∨ N0 ≤ q) s.heap s.heap [] := va_S.rf
  have hrN := at_lt hk
  have htN := at_lt htp
  have hcb := cst_b tp t p0
  refine lv_sipush (v := nI 200) hx hb dX3_doing_0 (by decide) ?_
  refine lv_aload_n hx hb dX3_doing_3 rfl (lv_at hl 0 rfl) ?_
  refine a_get (own := RX3) (C := RX3) (T := TX3) (N := 8) (ci := 3) hx hb hts in_X3 hown hK hk rfl 7 (by decide) (hts _ q304) (fun _ h9 => h9) rfl dX3_doing_4 ?_
  refine n_iadd hx hb dX3_doing_7 ?_
  refine lv_istore_n (lv' := [(2, .int (nI (200 + kd))), (0, .ref r), (1, .int (nI c9))]) hx hb dX3_doing_8 rfl hl (by decide) rfl (fun ls hl => ?_)
  refine lv_iload_n hx hb dX3_doing_9 rfl (lv_at hl 0 rfl) ?_
  refine lv_sipush (v := nI 206) hx hb dX3_doing_10 (by decide) ?_
  refine n_icmp_ne (tgt := 26) hx hb dX3_doing_13 (by decide) (by omega) (by omega) (fun hk6 => ?_) (fun hk6 => ?_)
  · replace hk6 : ¬ kd = 6 := by omega
    refine lv_aload_n hx hb dX3_doing_26 rfl (lv_at hl 1 rfl) ?_
    refine lv_iconst (v := nI 0) hx hb dX3_doing_27 (by decide) ?_
    refine lv_iload_n hx hb dX3_doing_28 rfl (lv_at hl 0 rfl) ?_
    refine lv_sipush (v := nI 204) hx hb dX3_doing_29 (by decide) ?_
    refine n_icmp_ne (tgt := 39) hx hb dX3_doing_32 (by decide) (by omega) (by omega) (fun hk4 => ?_) (fun hk4 => ?_)
    · replace hk4 : ¬ kd = 4 := by omega
      refine lv_bipush (v := nI 9) hx hb dX3_doing_39 (by decide) ?_
      refine W_own (fun zw1 zw2 => ?_)
      have hNN := hS.1
      refine t_call (vq_runV (As := [.int (nI 0), .int (nI 9)]) (rest := []) ⟨hx, hb, hml, hown, hts⟩ (met_X3_number l G κ z tp Xb r ta t p0 o kd _ 0 9 hXb ht hp hra hz (Nat.le_trans hzN (Nat.le_trans (Nat.le_of_eq hN.symm) hS.1)) hst (by decide) (by decide)) (cv_X3_X3_number hts ⟨Nat.le_of_ble_eq_true rfl, Nat.le_of_ble_eq_true rfl⟩) (cT.preV hK hZ (xS_mono hS hAZ) ⟨⟨_, hnum, hk, htp⟩, rfl⟩ (a_recv (ci := 3) hK hk rfl)) rfl rfl hl.1 rfl (lv_room (Nat.le_of_ble_eq_true rfl)) dX3_doing_41 ⟨Nat.le_of_ble_eq_true rfl, Nat.le_of_ble_eq_true rfl⟩) hS (fun q hq e => Or.inl (e.resolve_right (Nat.not_le.mpr hq))) (fun q e => e.elim Or.inl (fun e => Or.inr (Nat.le_trans (Nat.le_trans (Nat.le_of_eq hN.symm) hS.1) e))) (fun q9 ce9 H locs hX9 hz9 hk9 hS hc9 hv9 hl9 => ?_) (fun v9 H locs hB9 hz9 hk9 hS => ?_)
      · rcases hX9 with ⟨hX1, hxw⟩ | ⟨hX1, hX2, hxw⟩
        · exact t_out htab hlocks hc9 hv9 hl9 ⟨1, p0, ⟨Or.inl rfl, Or.inl ⟨by rw [if_neg hk6, if_neg hk6, if_neg hk4]; exact (fgO_1 hX1).symm, rfl⟩⟩, hxw⟩ hS (by omega) (by omega)
        · exact t_out htab hlocks hc9 hv9 hl9 ⟨2, p0, ⟨Or.inr rfl, Or.inl ⟨by rw [if_neg hk6, if_neg hk6, if_neg hk4]; exact (fgO_2 hX1 hX2).symm, rfl⟩⟩, hxw⟩ hS (by omega) (by omega)
      obtain ⟨rfl, hTA, hBA, ⟨num9, hnum, hk, htp⟩, hszA, husA⟩ := hB9
      have hcb := cst_b tp t (lxQ tp t p0)
      have hltA : lxQ tp t p0 ≤ t := lxQ_le hp
      refine lv_istore_n (lv' := [(3, .int (nI (lxN tp t p0))), (2, .int (nI (200 + kd))), (0, .ref r), (1, .int (nI c9))]) hx hb dX3_doing_44 rfl hl (by decide) rfl (fun ls hl => ?_)
      refine lv_iload_n hx hb dX3_doing_45 rfl (lv_at hl 1 rfl) ?_
      refine lv_sipush (v := nI 205) hx hb dX3_doing_46 (by decide) ?_
      refine n_icmp_eq (tgt := 65) hx hb dX3_doing_49 (by decide) (by omega) (by omega) (fun _ => ?_) (fun h9 => absurd h9 (by omega))
      have hk5 : kd = 5 := by omega
      refine lv_aload_n hx hb dX3_doing_65 rfl (lv_at hl 2 rfl) ?_
      refine lv_sipush (v := nI 207) hx hb dX3_doing_66 (by decide) ?_
      refine W_own (fun zw1 zw2 => ?_)
      have hNN := hS.1
      refine t_call (vq_runV (As := [.int (nI 207)]) (rest := []) ⟨hx, hb, hml, hown, hts⟩ (met_X3_want l G κ z tp Xb r ta t (lxQ tp t p0) o kd _ 207 hXb ht (lxQ_le hp) hra hz (Nat.le_trans hzN (Nat.le_trans (Nat.le_of_eq hN.symm) hS.1)) hst (by decide)) (cv_X3_X3_want hts ⟨Nat.le_of_ble_eq_true rfl, Nat.le_of_ble_eq_true rfl⟩) (cT.preV hK hZ (xS_mono hS hAZ) ⟨⟨_, hnum, hk, htp⟩, rfl⟩ (a_recv (ci := 3) hK hk rfl)) rfl rfl hl.1 rfl (lv_room (Nat.le_of_ble_eq_true rfl)) dX3_doing_69 ⟨Nat.le_of_ble_eq_true rfl, Nat.le_of_ble_eq_true rfl⟩) hS (fun q hq e => Or.inl (e.resolve_right (Nat.not_le.mpr hq))) (fun q e => e.elim Or.inl (fun e => Or.inr (Nat.le_trans (Nat.le_trans (Nat.le_of_eq hN.symm) hS.1) e))) (fun q9 ce9 H locs hX9 hz9 hk9 hS hc9 hv9 hl9 => ?_) (fun v9 H locs hB9 hz9 hk9 hS => ?_)
      · obtain ⟨hX1, hxw⟩ := hX9
        exact t_out htab hlocks hc9 hv9 hl9 ⟨1, (lxQ tp t p0), ⟨Or.inl rfl, Or.inr ⟨hk5, fgO_0 hTA ⟨Nat.zero_le _, by omega⟩, Or.inl ⟨hX1, rfl, rfl⟩⟩⟩, hxw⟩ hS (by omega) (by omega)
      obtain ⟨rfl, hcW, ⟨num9, hnum, hk, htp⟩, hszW, husW⟩ := hB9
      have hcb := cst_b tp t (lxQ tp t (lxQ tp t p0))
      have hltW : lxQ tp t (lxQ tp t p0) ≤ t := lxQ_le (lxQ_le hp)
      refine lv_aload_n hx hb dX3_doing_72 rfl (lv_at hl 2 rfl) ?_
      refine lv_iconst (v := nI 0) hx hb dX3_doing_73 (by decide) ?_
      refine lv_iconst (v := nI 5) hx hb dX3_doing_74 (by decide) ?_
      refine W_own (fun zw1 zw2 => ?_)
      have hNN := hS.1
      refine t_call (vq_runV (As := [.int (nI 0), .int (nI 5)]) (rest := []) ⟨hx, hb, hml, hown, hts⟩ (met_X3_number l G κ z tp Xb r ta t (lxQ tp t (lxQ tp t p0)) o kd _ 0 5 hXb ht (lxQ_le (lxQ_le hp)) hra hz (Nat.le_trans hzN (Nat.le_trans (Nat.le_of_eq hN.symm) hS.1)) hst (by decide) (by decide)) (cv_X3_X3_number hts ⟨Nat.le_of_ble_eq_true rfl, Nat.le_of_ble_eq_true rfl⟩) (cT.preV hK hZ (xS_mono hS hAZ) ⟨⟨_, hnum, hk, htp⟩, rfl⟩ (a_recv (ci := 3) hK hk rfl)) rfl rfl hl.1 rfl (lv_room (Nat.le_of_ble_eq_true rfl)) dX3_doing_75 ⟨Nat.le_of_ble_eq_true rfl, Nat.le_of_ble_eq_true rfl⟩) hS (fun q hq e => Or.inl (e.resolve_right (Nat.not_le.mpr hq))) (fun q e => e.elim Or.inl (fun e => Or.inr (Nat.le_trans (Nat.le_trans (Nat.le_of_eq hN.symm) hS.1) e))) (fun q9 ce9 H locs hX9 hz9 hk9 hS hc9 hv9 hl9 => ?_) (fun v9 H locs hB9 hz9 hk9 hS => ?_)
      · rcases hX9 with ⟨hX1, hxw⟩ | ⟨hX1, hX2, hxw⟩
        · exact t_out htab hlocks hc9 hv9 hl9 ⟨1, (lxQ tp t (lxQ tp t p0)), ⟨Or.inl rfl, Or.inr ⟨hk5, fgO_0 hTA ⟨Nat.zero_le _, by omega⟩, Or.inr ⟨hcW, Or.inl ⟨(fgO_1 hX1).symm, rfl⟩⟩⟩⟩, hxw⟩ hS (by omega) (by omega)
        · exact t_out htab hlocks hc9 hv9 hl9 ⟨2, (lxQ tp t (lxQ tp t p0)), ⟨Or.inr rfl, Or.inr ⟨hk5, fgO_0 hTA ⟨Nat.zero_le _, by omega⟩, Or.inr ⟨hcW, Or.inl ⟨(fgO_2 hX1 hX2).symm, rfl⟩⟩⟩⟩, hxw⟩ hS (by omega) (by omega)
      obtain ⟨rfl, hTB, hBB, ⟨num9, hnum, hk, htp⟩, hszB, husB⟩ := hB9
      have hcb := cst_b tp t (lxQ tp t (lxQ tp t (lxQ tp t p0)))
      have hltB : lxQ tp t (lxQ tp t (lxQ tp t p0)) ≤ t := lxQ_le (lxQ_le (lxQ_le hp))
      refine lv_istore (lv' := [(4, .int (nI (lxN tp t (lxQ tp t (lxQ tp t p0))))), (3, .int (nI (lxN tp t p0))), (2, .int (nI (200 + kd))), (0, .ref r), (1, .int (nI c9))]) hx hb dX3_doing_78 hl (by decide) rfl (fun ls hl => ?_)
      refine lv_aload_n hx hb dX3_doing_80 rfl (lv_at hl 3 rfl) ?_
      refine lv_sipush (v := nI 208) hx hb dX3_doing_81 (by decide) ?_
      refine W_own (fun zw1 zw2 => ?_)
      have hNN := hS.1
      refine t_call (vq_runV (As := [.int (nI 208)]) (rest := []) ⟨hx, hb, hml, hown, hts⟩ (met_X3_want l G κ z tp Xb r ta t (lxQ tp t (lxQ tp t (lxQ tp t p0))) o kd _ 208 hXb ht (lxQ_le (lxQ_le (lxQ_le hp))) hra hz (Nat.le_trans hzN (Nat.le_trans (Nat.le_of_eq hN.symm) hS.1)) hst (by decide)) (cv_X3_X3_want hts ⟨Nat.le_of_ble_eq_true rfl, Nat.le_of_ble_eq_true rfl⟩) (cT.preV hK hZ (xS_mono hS hAZ) ⟨⟨_, hnum, hk, htp⟩, rfl⟩ (a_recv (ci := 3) hK hk rfl)) rfl rfl hl.1 rfl (lv_room (Nat.le_of_ble_eq_true rfl)) dX3_doing_84 ⟨Nat.le_of_ble_eq_true rfl, Nat.le_of_ble_eq_true rfl⟩) hS (fun q hq e => Or.inl (e.resolve_right (Nat.not_le.mpr hq))) (fun q e => e.elim Or.inl (fun e => Or.inr (Nat.le_trans (Nat.le_trans (Nat.le_of_eq hN.symm) hS.1) e))) (fun q9 ce9 H locs hX9 hz9 hk9 hS hc9 hv9 hl9 => ?_) (fun v9 H locs hB9 hz9 hk9 hS => ?_)
      · obtain ⟨hX1, hxw⟩ := hX9
        exact t_out htab hlocks hc9 hv9 hl9 ⟨1, (lxQ tp t (lxQ tp t (lxQ tp t p0))), ⟨Or.inl rfl, Or.inr ⟨hk5, fgO_0 hTA ⟨Nat.zero_le _, by omega⟩, Or.inr ⟨hcW, Or.inr ⟨fgO_0 hTB ⟨Nat.zero_le _, by omega⟩, Or.inl ⟨hX1, rfl, rfl⟩⟩⟩⟩⟩, hxw⟩ hS (by omega) (by omega)
      obtain ⟨rfl, hcV, ⟨num9, hnum, hk, htp⟩, hszV, husV⟩ := hB9
      have hcb := cst_b tp t (lxQ tp t (lxQ tp t (lxQ tp t (lxQ tp t p0))))
      have hltV : lxQ tp t (lxQ tp t (lxQ tp t (lxQ tp t p0))) ≤ t := lxQ_le (lxQ_le (lxQ_le (lxQ_le hp)))
      refine p_new (own := RX3) (C := RX6) (T := TX6) (N := 5) (ci := 6) (fs := [.int (nI 0), .int (nI 0), .int (nI 0), .int (nI 0), .int (nI 0)]) hx hb hts in_X6 tyX6 tyX6_ok hown (hts _ q519) (hts _ q520) (hts _ q114) hK rfl (by decide +kernel) (Nat.le_of_ble_eq_true rfl) (Nat.le_of_ble_eq_true rfl) dX3_doing_87 (fun q_1 H hq_1 eq_1 zq_1 oq_1 => ?_)
      have lr_q_1 : r < q_1 := by have := at_lt hk; omega
      have lta_q_1 : ta < q_1 := by have := at_lt htp; omega
      replace hk := va_at.kept hk (oq_1 _ (at_lt hk))
      replace htp := va_at.kept htp (oq_1 _ (at_lt htp))
      replace hS := xS_new hS (by omega) oq_1
      refine lv_dup hx hb dX3_doing_90 rfl ?_
      refine lv_iload_n hx hb dX3_doing_91 rfl (lv_at hl 2 rfl) ?_
      refine lv_iload_n hx hb dX3_doing_92 rfl (lv_at hl 1 rfl) ?_
      refine lv_iload hx hb dX3_doing_93 (lv_at hl 0 rfl) ?_
      refine lv_aload_n hx hb dX3_doing_95 rfl (lv_at hl 3 rfl) ?_
      refine lv_iconst (v := nI 1) hx hb dX3_doing_96 (by decide) ?_
      refine lv_bipush (v := nI 9) hx hb dX3_doing_97 (by decide) ?_
      refine W_own (fun zw1 zw2 => ?_)
      have hNN := hS.1
      refine t_call (vq_runV (As := [.int (nI 1), .int (nI 9)]) (rest := [.int (nI (lxN tp t (lxQ tp t (lxQ tp t p0)))), .int (nI (lxN tp t p0)), .int (nI (200 + kd)), .ref q_1, .ref q_1]) ⟨hx, hb, hml, hown, hts⟩ (met_X3_number l G κ z tp Xb r ta t (lxQ tp t (lxQ tp t (lxQ tp t (lxQ tp t p0)))) o kd _ 1 9 hXb ht (lxQ_le (lxQ_le (lxQ_le (lxQ_le hp)))) hra hz (Nat.le_trans hzN (Nat.le_trans (Nat.le_of_eq hN.symm) hS.1)) hst (by decide) (by decide)) (cv_X3_X3_number hts ⟨Nat.le_of_ble_eq_true rfl, Nat.le_of_ble_eq_true rfl⟩) (cT.preV hK hZ (xS_mono hS hAZ) ⟨⟨_, hnum, hk, htp⟩, rfl⟩ (a_recv (ci := 3) hK hk rfl)) rfl rfl hl.1 rfl (lv_room (Nat.le_of_ble_eq_true rfl)) dX3_doing_99 ⟨Nat.le_of_ble_eq_true rfl, Nat.le_of_ble_eq_true rfl⟩) hS (fun q hq e => Or.inl (e.resolve_right (Nat.not_le.mpr hq))) (fun q e => e.elim Or.inl (fun e => Or.inr (Nat.le_trans (Nat.le_trans (Nat.le_of_eq hN.symm) hS.1) e))) (fun q9 ce9 H locs hX9 hz9 hk9 hS hc9 hv9 hl9 => ?_) (fun v9 H locs hB9 hz9 hk9 hS => ?_)
      · rcases hX9 with ⟨hX1, hxw⟩ | ⟨hX1, hX2, hxw⟩
        · exact t_out htab hlocks hc9 hv9 hl9 ⟨1, (lxQ tp t (lxQ tp t (lxQ tp t (lxQ tp t p0)))), ⟨Or.inl rfl, Or.inr ⟨hk5, fgO_0 hTA ⟨Nat.zero_le _, by omega⟩, Or.inr ⟨hcW, Or.inr ⟨fgO_0 hTB ⟨Nat.zero_le _, by omega⟩, Or.inr ⟨hcV, (fgO_1 hX1).symm, rfl⟩⟩⟩⟩⟩, hxw⟩ hS (by omega) (by omega)
        · exact t_out htab hlocks hc9 hv9 hl9 ⟨2, (lxQ tp t (lxQ tp t (lxQ tp t (lxQ tp t p0)))), ⟨Or.inr rfl, Or.inr ⟨hk5, fgO_0 hTA ⟨Nat.zero_le _, by omega⟩, Or.inr ⟨hcW, Or.inr ⟨fgO_0 hTB ⟨Nat.zero_le _, by omega⟩, Or.inr ⟨hcV, (fgO_2 hX1 hX2).symm, rfl⟩⟩⟩⟩⟩, hxw⟩ hS (by omega) (by omega)
      obtain ⟨rfl, hTC, hBC, ⟨num9, hnum, hk, htp⟩, hszC, husC⟩ := hB9
      replace hq_1 := va_at.kept hq_1 (hk9 _ (at_lt hq_1) (by have := at_lt hq_1; omega))
      have hcb := cst_b tp t (lxQ tp t (lxQ tp t (lxQ tp t (lxQ tp t (lxQ tp t p0)))))
      have hltC : lxQ tp t (lxQ tp t (lxQ tp t (lxQ tp t (lxQ tp t p0)))) ≤ t := lxQ_le (lxQ_le (lxQ_le (lxQ_le (lxQ_le hp))))
      refine lv_iload_n hx hb dX3_doing_102 rfl (lv_at hl 4 rfl) ?_
      have hNN := hS.1
      refine t_callR (va_runIN (As := [.int (nI (200 + kd)), .int (nI (lxN tp t p0)), .int (nI (lxN tp t (lxQ tp t (lxQ tp t p0)))), .int (nI (lxN tp t (lxQ tp t (lxQ tp t (lxQ tp t (lxQ tp t p0)))))), .int (nI c9)]) (rest := [.ref q_1]) ⟨hx, hb, hml, hown, hts⟩ (met_X6_init l G κ z q_1 (nI (200 + kd)) (nI (lxN tp t p0)) (nI (lxN tp t (lxQ tp t (lxQ tp t p0)))) (nI (lxN tp t (lxQ tp t (lxQ tp t (lxQ tp t (lxQ tp t p0)))))) (nI c9) (by omega)) ⟨cn_X3_X6_init hts hK ⟨Nat.le_of_ble_eq_true rfl, Nat.le_of_ble_eq_true rfl⟩, rfl, hts _ q522⟩ (cT.pre hK hZ (xS_mono hS hAZ) hq_1) rfl rfl hl.1 rfl (lv_room (Nat.le_of_ble_eq_true rfl)) dX3_doing_103 ⟨Nat.le_of_ble_eq_true rfl, Nat.le_of_ble_eq_true rfl⟩) hS (fun q hq e => Or.inr (by have e : @Eq Nat q q_1 := e; omega)) (fun q e => Or.inr (by have e : @Eq Nat q q_1 := e; omega)) (fun v9 H locs hB9 hz9 hk9 hS => ?_)
      obtain ⟨rfl, hq_1, hsv, huv⟩ := hB9
      replace hk := va_at.kept hk (hk9 _ (at_lt hk) (by omega))
      replace htp := va_at.kept htp (hk9 _ (at_lt htp) (by omega))
      refine W_own (fun z1 z2 => ?_)
      refine vq_ret ?_
      refine W.widen (k := 6) (n := 45) (by omega) (by omega) ?_
      exact t_aret hx hb hr (Or.inl ⟨_, rfl⟩) (Or.inr ⟨_, rfl⟩) hlocks ⟨q_1, (lxQ tp t (lxQ tp t (lxQ tp t (lxQ tp t (lxQ tp t p0))))), _, _, _, rfl, ⟨hTA, rfl, Or.inr (Or.inr ⟨hk5, hBA.2, hcW, hTB, hBB.2, rfl, hcV, hTC, hBC, rfl, rfl⟩)⟩, lxQ_le (lxQ_le (lxQ_le (lxQ_le (lxQ_le hp)))), hq_1, ⟨_, hnum, hk, htp⟩, by omega, by omega, by omega⟩ hS dX3_doing_106
    replace hk4 : kd = 4 := by omega
    refine lv_iconst (v := nI 5) hx hb dX3_doing_35 (by decide) ?_
    refine lv_goto (tgt := 41) hx hb dX3_doing_36 (by decide) ?_
    refine W_own (fun zw1 zw2 => ?_)
    have hNN := hS.1
    refine t_call (vq_runV (As := [.int (nI 0), .int (nI 5)]) (rest := []) ⟨hx, hb, hml, hown, hts⟩ (met_X3_number l G κ z tp Xb r ta t p0 o kd _ 0 5 hXb ht hp hra hz (Nat.le_trans hzN (Nat.le_trans (Nat.le_of_eq hN.symm) hS.1)) hst (by decide) (by decide)) (cv_X3_X3_number hts ⟨Nat.le_of_ble_eq_true rfl, Nat.le_of_ble_eq_true rfl⟩) (cT.preV hK hZ (xS_mono hS hAZ) ⟨⟨_, hnum, hk, htp⟩, rfl⟩ (a_recv (ci := 3) hK hk rfl)) rfl rfl hl.1 rfl (lv_room (Nat.le_of_ble_eq_true rfl)) dX3_doing_41 ⟨Nat.le_of_ble_eq_true rfl, Nat.le_of_ble_eq_true rfl⟩) hS (fun q hq e => Or.inl (e.resolve_right (Nat.not_le.mpr hq))) (fun q e => e.elim Or.inl (fun e => Or.inr (Nat.le_trans (Nat.le_trans (Nat.le_of_eq hN.symm) hS.1) e))) (fun q9 ce9 H locs hX9 hz9 hk9 hS hc9 hv9 hl9 => ?_) (fun v9 H locs hB9 hz9 hk9 hS => ?_)
    · rcases hX9 with ⟨hX1, hxw⟩ | ⟨hX1, hX2, hxw⟩
      · exact t_out htab hlocks hc9 hv9 hl9 ⟨1, p0, ⟨Or.inl rfl, Or.inl ⟨by rw [if_neg hk6, if_neg hk6, if_pos hk4]; exact (fgO_1 hX1).symm, rfl⟩⟩, hxw⟩ hS (by omega) (by omega)
      · exact t_out htab hlocks hc9 hv9 hl9 ⟨2, p0, ⟨Or.inr rfl, Or.inl ⟨by rw [if_neg hk6, if_neg hk6, if_pos hk4]; exact (fgO_2 hX1 hX2).symm, rfl⟩⟩, hxw⟩ hS (by omega) (by omega)
    obtain ⟨rfl, hTA, hBA, ⟨num9, hnum, hk, htp⟩, hszA, husA⟩ := hB9
    have hcb := cst_b tp t (lxQ tp t p0)
    have hltA : lxQ tp t p0 ≤ t := lxQ_le hp
    refine lv_istore_n (lv' := [(3, .int (nI (lxN tp t p0))), (2, .int (nI (200 + kd))), (0, .ref r), (1, .int (nI c9))]) hx hb dX3_doing_44 rfl hl (by decide) rfl (fun ls hl => ?_)
    refine lv_iload_n hx hb dX3_doing_45 rfl (lv_at hl 1 rfl) ?_
    refine lv_sipush (v := nI 205) hx hb dX3_doing_46 (by decide) ?_
    refine n_icmp_eq (tgt := 65) hx hb dX3_doing_49 (by decide) (by omega) (by omega) (fun h9 => absurd h9 (by omega)) (fun _ => ?_)
    refine p_new (own := RX3) (C := RX6) (T := TX6) (N := 5) (ci := 6) (fs := [.int (nI 0), .int (nI 0), .int (nI 0), .int (nI 0), .int (nI 0)]) hx hb hts in_X6 tyX6 tyX6_ok hown (hts _ q519) (hts _ q520) (hts _ q114) hK rfl (by decide +kernel) (Nat.le_of_ble_eq_true rfl) (Nat.le_of_ble_eq_true rfl) dX3_doing_52 (fun q_2 H hq_2 eq_2 zq_2 oq_2 => ?_)
    have lr_q_2 : r < q_2 := by have := at_lt hk; omega
    have lta_q_2 : ta < q_2 := by have := at_lt htp; omega
    replace hk := va_at.kept hk (oq_2 _ (at_lt hk))
    replace htp := va_at.kept htp (oq_2 _ (at_lt htp))
    replace hS := xS_new hS (by omega) oq_2
    refine lv_dup hx hb dX3_doing_55 rfl ?_
    refine lv_iload_n hx hb dX3_doing_56 rfl (lv_at hl 1 rfl) ?_
    refine lv_iload_n hx hb dX3_doing_57 rfl (lv_at hl 0 rfl) ?_
    refine lv_iconst (v := (-1)) hx hb dX3_doing_58 (by decide) ?_
    refine lv_iconst (v := nI 0) hx hb dX3_doing_59 (by decide) ?_
    refine lv_iload_n hx hb dX3_doing_60 rfl (lv_at hl 3 rfl) ?_
    have hNN := hS.1
    refine t_callR (va_runIN (As := [.int (nI (200 + kd)), .int (nI (lxN tp t p0)), .int (-1), .int (nI 0), .int (nI c9)]) (rest := [.ref q_2]) ⟨hx, hb, hml, hown, hts⟩ (met_X6_init l G κ z q_2 (nI (200 + kd)) (nI (lxN tp t p0)) (-1) (nI 0) (nI c9) (by omega)) ⟨cn_X3_X6_init hts hK ⟨Nat.le_of_ble_eq_true rfl, Nat.le_of_ble_eq_true rfl⟩, rfl, hts _ q522⟩ (cT.pre hK hZ (xS_mono hS hAZ) hq_2) rfl rfl hl.1 rfl (lv_room (Nat.le_of_ble_eq_true rfl)) dX3_doing_61 ⟨Nat.le_of_ble_eq_true rfl, Nat.le_of_ble_eq_true rfl⟩) hS (fun q hq e => Or.inr (by have e : @Eq Nat q q_2 := e; omega)) (fun q e => Or.inr (by have e : @Eq Nat q q_2 := e; omega)) (fun v9 H locs hB9 hz9 hk9 hS => ?_)
    obtain ⟨rfl, hq_2, hsv, huv⟩ := hB9
    replace hk := va_at.kept hk (hk9 _ (at_lt hk) (by omega))
    replace htp := va_at.kept htp (hk9 _ (at_lt htp) (by omega))
    refine W_own (fun z1 z2 => ?_)
    refine vq_ret ?_
    refine W.widen (k := 6) (n := 45) (by omega) (by omega) ?_
    exact t_aret hx hb hr (Or.inl ⟨_, rfl⟩) (Or.inr ⟨_, rfl⟩) hlocks ⟨q_2, (lxQ tp t p0), _, _, _, rfl, ⟨hTA, rfl, Or.inr (Or.inl ⟨hk4, hBA.2, rfl, rfl, rfl⟩)⟩, lxQ_le hp, hq_2, ⟨_, hnum, hk, htp⟩, by omega, by omega, by omega⟩ hS dX3_doing_64
  replace hk6 : kd = 6 := by omega
  refine lv_aload_n hx hb dX3_doing_16 rfl (lv_at hl 1 rfl) ?_
  refine lv_iconst (v := nI 1) hx hb dX3_doing_17 (by decide) ?_
  refine lv_bipush (v := nI 99) hx hb dX3_doing_18 (by decide) ?_
  refine W_own (fun zw1 zw2 => ?_)
  have hNN := hS.1
  refine t_call (vq_runV (As := [.int (nI 1), .int (nI 99)]) (rest := []) ⟨hx, hb, hml, hown, hts⟩ (met_X3_number l G κ z tp Xb r ta t p0 o kd _ 1 99 hXb ht hp hra hz (Nat.le_trans hzN (Nat.le_trans (Nat.le_of_eq hN.symm) hS.1)) hst (by decide) (by decide)) (cv_X3_X3_number hts ⟨Nat.le_of_ble_eq_true rfl, Nat.le_of_ble_eq_true rfl⟩) (cT.preV hK hZ (xS_mono hS hAZ) ⟨⟨_, hnum, hk, htp⟩, rfl⟩ (a_recv (ci := 3) hK hk rfl)) rfl rfl hl.1 rfl (lv_room (Nat.le_of_ble_eq_true rfl)) dX3_doing_20 ⟨Nat.le_of_ble_eq_true rfl, Nat.le_of_ble_eq_true rfl⟩) hS (fun q hq e => Or.inl (e.resolve_right (Nat.not_le.mpr hq))) (fun q e => e.elim Or.inl (fun e => Or.inr (Nat.le_trans (Nat.le_trans (Nat.le_of_eq hN.symm) hS.1) e))) (fun q9 ce9 H locs hX9 hz9 hk9 hS hc9 hv9 hl9 => ?_) (fun v9 H locs hB9 hz9 hk9 hS => ?_)
  · rcases hX9 with ⟨hX1, hxw⟩ | ⟨hX1, hX2, hxw⟩
    · exact t_out htab hlocks hc9 hv9 hl9 ⟨1, p0, ⟨Or.inl rfl, Or.inl ⟨by rw [if_pos hk6, if_pos hk6]; exact (fgO_1 hX1).symm, rfl⟩⟩, hxw⟩ hS (by omega) (by omega)
    · exact t_out htab hlocks hc9 hv9 hl9 ⟨2, p0, ⟨Or.inr rfl, Or.inl ⟨by rw [if_pos hk6, if_pos hk6]; exact (fgO_2 hX1 hX2).symm, rfl⟩⟩, hxw⟩ hS (by omega) (by omega)
  obtain ⟨rfl, hTA, hBA, ⟨num9, hnum, hk, htp⟩, hszA, husA⟩ := hB9
  have hcb := cst_b tp t (lxQ tp t p0)
  have hltA : lxQ tp t p0 ≤ t := lxQ_le hp
  refine lv_goto (tgt := 44) hx hb dX3_doing_23 (by decide) ?_
  refine lv_istore_n (lv' := [(3, .int (nI (lxN tp t p0))), (2, .int (nI (200 + kd))), (0, .ref r), (1, .int (nI c9))]) hx hb dX3_doing_44 rfl hl (by decide) rfl (fun ls hl => ?_)
  refine lv_iload_n hx hb dX3_doing_45 rfl (lv_at hl 1 rfl) ?_
  refine lv_sipush (v := nI 205) hx hb dX3_doing_46 (by decide) ?_
  refine n_icmp_eq (tgt := 65) hx hb dX3_doing_49 (by decide) (by omega) (by omega) (fun h9 => absurd h9 (by omega)) (fun _ => ?_)
  refine p_new (own := RX3) (C := RX6) (T := TX6) (N := 5) (ci := 6) (fs := [.int (nI 0), .int (nI 0), .int (nI 0), .int (nI 0), .int (nI 0)]) hx hb hts in_X6 tyX6 tyX6_ok hown (hts _ q519) (hts _ q520) (hts _ q114) hK rfl (by decide +kernel) (Nat.le_of_ble_eq_true rfl) (Nat.le_of_ble_eq_true rfl) dX3_doing_52 (fun q_3 H hq_3 eq_3 zq_3 oq_3 => ?_)
  have lr_q_3 : r < q_3 := by have := at_lt hk; omega
  have lta_q_3 : ta < q_3 := by have := at_lt htp; omega
  replace hk := va_at.kept hk (oq_3 _ (at_lt hk))
  replace htp := va_at.kept htp (oq_3 _ (at_lt htp))
  replace hS := xS_new hS (by omega) oq_3
  refine lv_dup hx hb dX3_doing_55 rfl ?_
  refine lv_iload_n hx hb dX3_doing_56 rfl (lv_at hl 1 rfl) ?_
  refine lv_iload_n hx hb dX3_doing_57 rfl (lv_at hl 0 rfl) ?_
  refine lv_iconst (v := (-1)) hx hb dX3_doing_58 (by decide) ?_
  refine lv_iconst (v := nI 0) hx hb dX3_doing_59 (by decide) ?_
  refine lv_iload_n hx hb dX3_doing_60 rfl (lv_at hl 3 rfl) ?_
  have hNN := hS.1
  refine t_callR (va_runIN (As := [.int (nI (200 + kd)), .int (nI (lxN tp t p0)), .int (-1), .int (nI 0), .int (nI c9)]) (rest := [.ref q_3]) ⟨hx, hb, hml, hown, hts⟩ (met_X6_init l G κ z q_3 (nI (200 + kd)) (nI (lxN tp t p0)) (-1) (nI 0) (nI c9) (by omega)) ⟨cn_X3_X6_init hts hK ⟨Nat.le_of_ble_eq_true rfl, Nat.le_of_ble_eq_true rfl⟩, rfl, hts _ q522⟩ (cT.pre hK hZ (xS_mono hS hAZ) hq_3) rfl rfl hl.1 rfl (lv_room (Nat.le_of_ble_eq_true rfl)) dX3_doing_61 ⟨Nat.le_of_ble_eq_true rfl, Nat.le_of_ble_eq_true rfl⟩) hS (fun q hq e => Or.inr (by have e : @Eq Nat q q_3 := e; omega)) (fun q e => Or.inr (by have e : @Eq Nat q q_3 := e; omega)) (fun v9 H locs hB9 hz9 hk9 hS => ?_)
  obtain ⟨rfl, hq_3, hsv, huv⟩ := hB9
  replace hk := va_at.kept hk (hk9 _ (at_lt hk) (by omega))
  replace htp := va_at.kept htp (hk9 _ (at_lt htp) (by omega))
  refine W_own (fun z1 z2 => ?_)
  refine vq_ret ?_
  refine W.widen (k := 6) (n := 45) (by omega) (by omega) ?_
  exact t_aret hx hb hr (Or.inl ⟨_, rfl⟩) (Or.inr ⟨_, rfl⟩) hlocks ⟨q_3, (lxQ tp t p0), _, _, _, rfl, ⟨hTA, rfl, Or.inl ⟨hk6, hBA, rfl, rfl, rfl⟩⟩, lxQ_le hp, hq_3, ⟨_, hnum, hk, htp⟩, by omega, by omega, by omega⟩ hS dX3_doing_64
