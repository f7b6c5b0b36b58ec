/-! The functions that read sums: product, sum (printed by gen/xsa.py) -/
abbrev rmG (d a b mc ms : Nat) : Room := { frames := 7 * d + a, cells := mc, slots := ms, locals := 300 * d + b }
/-- how such a function returns: x the tree, L its code, q the place behind -/
def gN (G : gG) (z r ta t : Nat) (Xb : Nat → Int32) (tp : Nat → Nat) (kd o p0 N0 : Nat) (bb : Bool) (D sc su : Nat) (P : Nat × Cd × Nat → Prop) : Option Value → Heap → Heap → Prop := fun ov H0 H1 => ∃ (x : Nat) (L : Cd) (q : Nat), ov = some (.ref x) ∧ P (0, L, q) ∧ (p0 < q ∧ q ≤ t) ∧ tkP G r ta t Xb tp q o kd H1 ∧ aS G (gO z N0 H1.size) H1 D bb x L ∧ H1.size + 16 * p0 + sc ≤ H0.size + 16 * q ∧ hU H1 + 160 * p0 + su ≤ hU H0 + 160 * q
/-- how it throws: the fault, the place -/
def gX (G : gG) (t : Nat) (tp : Nat → Nat) (P : Nat × Cd × Nat → Prop) : Nat → Heap → Heap → Prop := fun q9 _ H1 => ∃ f q : Nat, f ≠ 0 ∧ f ≤ 6 ∧ P (f, [], q) ∧ XW G q9 (nI f) (nI (lxS tp t q)) H1
theorem gK {G : gG} {z N1 D x r : Nat} {b : Bool} {L : Cd} {H H1 : Heap} (h : aS G (gO z N1 H.size) H D b x L) (hr : z ≤ r ∧ r < N1) (hs : H.size ≤ H1.size) (ho : ∀ q, q < H.size → ¬ q = r → H1[q]? = H[q]?) : aS G (gO z N1 H1.size) H1 D b x L :=
  aS.kept (fun q hq => ho q hq.1 (by have := hq.2; omega)) (fun q hq => ⟨Nat.lt_of_lt_of_le hq.1 hs, hq.2⟩) _ _ _ _ h
theorem ySm_timesN {tp : Nat → Nat} {t so o p x q q2 : Nat} {L L2 : Cd} (hr : ySm tp t so 6 o p (0, L, q)) (hx : (lxT tp t q = 42 ∧ x = 5) ∨ (lxT tp t q = 47 ∧ x = 6)) (h2 : yOne tp t so o (lxQ tp t q) (0, L2, q2)) : ySm tp t so 6 o p (0, L ++ (L2 ++ [(x, nI 0)]), q2) := ySm_times hr rfl hx h2
theorem ySm_timesE {tp : Nat → Nat} {t so o p x q q2 f : Nat} {L : Cd} (hf : f ≠ 0) (hr : ySm tp t so 6 o p (0, L, q)) (hx : (lxT tp t q = 42 ∧ x = 5) ∨ (lxT tp t q = 47 ∧ x = 6)) (h2 : yOne tp t so o (lxQ tp t q) (f, [], q2)) : ySm tp t so 6 o p (f, [], q2) := Eq.mp (congrArg (fun X => ySm tp t so 6 o p (f, X, q2)) (if_neg hf)) (ySm_times hr rfl hx h2)
theorem ySm_plusN {tp : Nat → Nat} {t so o p x q q2 : Nat} {L L2 : Cd} (hr : ySm tp t so 5 o p (0, L, q)) (hx : (lxT tp t q = 43 ∧ x = 3) ∨ (lxT tp t q = 45 ∧ x = 4)) (h2 : ySm tp t so 6 o (lxQ tp t q) (0, L2, q2)) (hn : nop tp t 6 q2) : ySm tp t so 5 o p (0, L ++ (L2 ++ [(x, nI 0)]), q2) := ySm_plus hr rfl hx h2 (fun _ => hn)
theorem ySm_plusE {tp : Nat → Nat} {t so o p x q q2 f : Nat} {L : Cd} (hf : f ≠ 0) (hr : ySm tp t so 5 o p (0, L, q)) (hx : (lxT tp t q = 43 ∧ x = 3) ∨ (lxT tp t q = 45 ∧ x = 4)) (h2 : ySm tp t so 6 o (lxQ tp t q) (f, [], q2)) : ySm tp t so 5 o p (f, [], q2) := Eq.mp (congrArg (fun X => ySm tp t so 5 o p (f, X, q2)) (if_neg hf)) (ySm_plus hr rfl hx h2 (fun e => absurd e hf))
def g_one (l : Launch) (G : gG) (κ : kK) (z : Nat) (tp : Nat → Nat) (Xb : Nat → Int32) (r ta t kd o d : Nat) : Prop := ∀ (p0 N0 n : Nat), p0 + n = t → z ≤ N0 → vq_Met l yX3_one (ws_ yX3_one cX3_one 2 (some (Jvm.ClassFile.FieldType.object "BreathOnLoan$Sum"))) (rmG d 20 400 (16 * n + 8) (160 * n + 64)) (cT G κ z [.ref r] (fun H => tkP G r ta t Xb tp p0 o kd H ∧ H.size = N0)) (tQ (gN G z r ta t Xb tp kd o p0 N0 true (6 * d + 1) 6 18 (yOne tp t kd o p0)) (fun q => q = r ∨ N0 ≤ q)) (tX (gX G t tp (yOne tp t kd o p0)) (fun q => q = r ∨ N0 ≤ q)) (16 * n + 8) (160 * n + 64) (fun q => q = r ∨ N0 ≤ q)
def g_product (l : Launch) (G : gG) (κ : kK) (z : Nat) (tp : Nat → Nat) (Xb : Nat → Int32) (r ta t kd o d : Nat) : Prop := ∀ (p0 N0 n : Nat), p0 + n = t → z ≤ N0 → vq_Met l yX3_product (ws_ yX3_product cX3_product 3 (some (Jvm.ClassFile.FieldType.object "BreathOnLoan$Sum"))) (rmG d 21 430 (16 * n + 10) (160 * n + 80)) (cT G κ z [.ref r] (fun H => tkP G r ta t Xb tp p0 o kd H ∧ H.size = N0)) (tQ (gN G z r ta t Xb tp kd o p0 N0 true (6 * d + 2) 3 9 (fun v => ySm tp t kd 6 o p0 v ∧ (v.1 = 0 → nop tp t 6 v.2.2))) (fun q => q = r ∨ N0 ≤ q)) (tX (gX G t tp (fun v => ySm tp t kd 6 o p0 v ∧ (v.1 = 0 → nop tp t 6 v.2.2))) (fun q => q = r ∨ N0 ≤ q)) (16 * n + 10) (160 * n + 80) (fun q => q = r ∨ N0 ≤ q)
def g_sum (l : Launch) (G : gG) (κ : kK) (z : Nat) (tp : Nat → Nat) (Xb : Nat → Int32) (r ta t kd o d : Nat) : Prop := ∀ (p0 N0 n : Nat), p0 + n = t → z ≤ N0 → vq_Met l yX3_sum (ws_ yX3_sum cX3_sum 3 (some (Jvm.ClassFile.FieldType.object "BreathOnLoan$Sum"))) (rmG d 22 460 (16 * n + 12) (160 * n + 96)) (cT G κ z [.ref r] (fun H => tkP G r ta t Xb tp p0 o kd H ∧ H.size = N0)) (tQ (gN G z r ta t Xb tp kd o p0 N0 true (6 * d + 3) 0 0 (fun v => ySm tp t kd 5 o p0 v ∧ (v.1 = 0 → nop tp t 5 v.2.2))) (fun q => q = r ∨ N0 ≤ q)) (tX (gX G t tp (fun v => ySm tp t kd 5 o p0 v ∧ (v.1 = 0 → nop tp t 5 v.2.2))) (fun q => q = r ∨ N0 ≤ q)) (16 * n + 12) (160 * n + 96) (fun q => q = r ∨ N0 ≤ q)
def g_ask (l : Launch) (G : gG) (κ : kK) (z : Nat) (tp : Nat → Nat) (Xb : Nat → Int32) (r ta t kd o d : Nat) : Prop := ∀ (p0 N0 n : Nat), p0 + n = t → z ≤ N0 → vq_Met l yX3_ask (ws_ yX3_ask cX3_ask 3 (some (Jvm.ClassFile.FieldType.object "BreathOnLoan$Asked"))) (rmG d 23 490 (16 * n + 14) (160 * n + 112)) (cT G κ z [.ref r] (fun H => tkP G r ta t Xb tp p0 o kd H ∧ H.size = N0)) (tQ (gN G z r ta t Xb tp kd o p0 N0 false (6 * d + 4) 7 157 (yBl tp t kd 4 3 o p0)) (fun q => q = r ∨ N0 ≤ q)) (tX (gX G t tp (yBl tp t kd 4 3 o p0)) (fun q => q = r ∨ N0 ≤ q)) (16 * n + 14) (160 * n + 112) (fun q => q = r ∨ N0 ≤ q)
def g_both (l : Launch) (G : gG) (κ : kK) (z : Nat) (tp : Nat → Nat) (Xb : Nat → Int32) (r ta t kd o d : Nat) : Prop := ∀ (p0 N0 n : Nat), p0 + n = t → z ≤ N0 → vq_Met l yX3_both (ws_ yX3_both cX3_both 2 (some (Jvm.ClassFile.FieldType.object "BreathOnLoan$Asked"))) (rmG d 24 520 (16 * n + 16) (160 * n + 128)) (cT G κ z [.ref r] (fun H => tkP G r ta t Xb tp p0 o kd H ∧ H.size = N0)) (tQ (gN G z r ta t Xb tp kd o p0 N0 false (6 * d + 5) 4 104 (fun v => yBl tp t kd 2 2 o p0 v ∧ (v.1 = 0 → cst tp t v.2.2 ≠ 212))) (fun q => q = r ∨ N0 ≤ q)) (tX (gX G t tp (fun v => yBl tp t kd 2 2 o p0 v ∧ (v.1 = 0 → cst tp t v.2.2 ≠ 212))) (fun q => q = r ∨ N0 ≤ q)) (16 * n + 16) (160 * n + 128) (fun q => q = r ∨ N0 ≤ q)
def g_either (l : Launch) (G : gG) (κ : kK) (z : Nat) (tp : Nat → Nat) (Xb : Nat → Int32) (r ta t kd o d : Nat) : Prop := ∀ (p0 N0 n : Nat), p0 + n = t → z ≤ N0 → vq_Met l yX3_either (ws_ yX3_either cX3_either 2 (some (Jvm.ClassFile.FieldType.object "BreathOnLoan$Asked"))) (rmG d 25 550 (16 * n + 18) (160 * n + 144)) (cT G κ z [.ref r] (fun H => tkP G r ta t Xb tp p0 o kd H ∧ H.size = N0)) (tQ (gN G z r ta t Xb tp kd o p0 N0 false (6 * d + 6) 1 51 (fun v => yBl tp t kd 1 1 o p0 v ∧ (v.1 = 0 → cst tp t v.2.2 ≠ 211 ∧ cst tp t v.2.2 ≠ 212))) (fun q => q = r ∨ N0 ≤ q)) (tX (gX G t tp (fun v => yBl tp t kd 1 1 o p0 v ∧ (v.1 = 0 → cst tp t v.2.2 ≠ 211 ∧ cst tp t v.2.2 ≠ 212))) (fun q => q = r ∨ N0 ≤ q)) (16 * n + 18) (160 * n + 144) (fun q => q = r ∨ N0 ≤ q)
def g_choice (l : Launch) (G : gG) (κ : kK) (z : Nat) (tp : Nat → Nat) (Xb : Nat → Int32) (r ta t kd o d : Nat) : Prop := ∀ (p0 N0 n : Nat), p0 + n = t → z ≤ N0 → cst tp t p0 = 209 → o + d = 8 → vq_Met l yX3_choice (ws_ yX3_choice cX3_choice 4 (some (Jvm.ClassFile.FieldType.object "BreathOnLoan$Sum"))) (rmG d 19 370 (16 * n + 8) (160 * n + 64)) (cT G κ z [.ref r] (fun H => tkP G r ta t Xb tp p0 o kd H ∧ H.size = N0)) (tQ (gN G z r ta t Xb tp kd (o + 1) p0 N0 true (6 * d + 1) 6 18 (yOne tp t kd o p0)) (fun q => q = r ∨ N0 ≤ q)) (tX (gX G t tp (yOne tp t kd o p0)) (fun q => q = r ∨ N0 ≤ q)) (16 * n + 8) (160 * n + 64) (fun q => q = r ∨ N0 ≤ q)
set_option maxHeartbeats 4000000 in
set_option maxRecDepth 100000 in
theorem met_X3_product (l : Launch) (G : gG) (κ : kK) (z : Nat) (tp : Nat → Nat) (Xb : Nat → Int32) (r ta t kd o d : Nat) (hXb : ∀ j, j < t → Xb j = sb (tp j) ∧ tp j < 256) (ht : t ≤ 300) (hra : r ≠ ta) (hz : z ≤ r) (hst : l.stackTraces = false) (hod : o + d = 8) (h1 : g_one l G κ z tp Xb r ta t kd o d) : g_product l G κ z tp Xb r ta t kd o d := by
  intro p0 N0 n hn0 hzN
  have hp : p0 ≤ t := by omega
  show vq_Met l yX3_product (ws_ yX3_product cX3_product 3 (some (Jvm.ClassFile.FieldType.object "BreathOnLoan$Sum"))) (rmG d 21 430 (16 * n + 10) (160 * n + 80)) (cT G κ z [.ref r] (fun H => tkP G r ta t Xb tp p0 o kd H ∧ H.size = N0)) (tQ (gN G z r ta t Xb tp kd o p0 N0 true (6 * d + 2) 3 9 (fun v => ySm tp t kd 6 o p0 v ∧ (v.1 = 0 → nop tp t 6 v.2.2))) (fun q => q = r ∨ N0 ≤ q)) (tX (gX G t tp (fun v => ySm tp t kd 6 o p0 v ∧ (v.1 = 0 → nop tp t 6 v.2.2))) (fun q => q = r ∨ N0 ≤ q)) (16 * n + 10) (160 * n + 80) (fun q => q = r ∨ N0 ≤ q)
  refine t_start (by decide) (Nat.le_of_ble_eq_true rfl) ?_
  intro p e s m below meth c hx hb hr hlocks hml hown hts hB hK hZ htab ls hl
  have hl : lv_has ls 3 [(0, .ref r)] := hl
  obtain ⟨⟨num, hnum, hk, htp⟩, hN⟩ := hB
  have hAZ : ∀ q, (q = r ∨ N0 ≤ q) → aZ z q := fun q e => show z ≤ q by rcases e with e | e <;> omega
  have hS : va_S (fun q => q = r ∨ N0 ≤ q) s.heap s.heap [] := va_S.rf
  have hrN := at_lt hk
  have htN := at_lt htp
  have hcb := cst_b tp t p0
  have hrN0 : r < s.heap.size := hrN
  have htN0 : ta < s.heap.size := htN
  refine p_new (own := RX3) (C := RX7) (T := TX7) (N := 3) (ci := 7) (fs := [.null, .null, .null]) hx hb hts in_X7 tyX7 tyX7_ok hown (hts _ q612) (hts _ q613) (hts _ q117) hK rfl (by decide +kernel) (by dsimp only [rmG]; omega) (by dsimp only [rmG]; omega) dX3_product_0 (fun q_1 H hq_1 eq_1 zq_1 oq_1 => ?_)
  have lr_q_1 : r < q_1 := by have := at_lt hk; omega
  have lta_q_1 : ta < q_1 := by have := at_lt htp; omega
  replace hk := va_at.kept hk (oq_1 _ (at_lt hk))
  replace htp := va_at.kept htp (oq_1 _ (at_lt htp))
  replace hS := xS_new hS (by omega) oq_1
  refine lv_dup hx hb dX3_product_3 rfl ?_
  refine lv_aload_n hx hb dX3_product_4 rfl (lv_at hl 0 rfl) ?_
  refine W_own (fun zw1 zw2 => ?_)
  have hNN := hS.1
  refine t_call (vq_runV (As := []) (rest := [.ref q_1, .ref q_1]) ⟨hx, hb, hml, hown, hts⟩ (h1 p0 _ n hn0 (Nat.le_trans hzN (Nat.le_trans (Nat.le_of_eq hN.symm) hS.1))) (cv_X3_X3_one hts ⟨by dsimp only [rmG]; omega, by dsimp only [rmG]; omega⟩) (cT.preV hK hZ (xS_mono hS hAZ) ⟨⟨_, hnum, hk, htp⟩, rfl⟩ (a_recv (ci := 3) hK hk rfl)) rfl rfl hl.1 rfl (lv_room (Nat.le_of_ble_eq_true rfl)) dX3_product_5 ⟨by dsimp only [rmG]; omega, by dsimp only [rmG]; omega⟩) hS (fun q hq e => Or.inl (e.resolve_right (Nat.not_le.mpr hq))) (fun q e => e.elim Or.inl (fun e => Or.inr (Nat.le_trans (Nat.le_trans (Nat.le_of_eq hN.symm) hS.1) e))) (fun q9 ce9 H locs hX9 hz9 hk9 hS hc9 hv9 hl9 => ?_) (fun v9 H locs hB9 hz9 hk9 hS => ?_)
  · obtain ⟨f9, p9, hf0, hf6, hP9, hxw⟩ := hX9
    exact t_out htab hlocks hc9 hv9 hl9 ⟨f9, p9, hf0, hf6, ⟨ySm_one hP9, fun e => absurd e hf0⟩, hxw⟩ hS (by omega) (by omega)
  obtain ⟨xA, LA, qA, rfl, hPA, hqA, ⟨num9, hnum, hk, htp⟩, haA, hszA, husA⟩ := hB9
  replace hq_1 := va_at.kept hq_1 (hk9 _ (at_lt hq_1) (by have := at_lt hq_1; omega))
  have hcb := cst_b tp t qA
  refine W_own (fun zw3 zw4 => ?_)
  have hNN := hS.1
  have hchl := at_lt hq_1
  obtain ⟨cQ, hcQ, hdQ⟩ : ∃ c9 : Nat, H.size ≤ s.heap.size + c9 ∧ c9 + 16 * p0 + 5 ≤ 16 * qA := ⟨16 * qA - 16 * p0 - 5, by omega, by omega⟩
  obtain ⟨sQ, hsQ, htQ⟩ : ∃ s9 : Nat, hU H ≤ hU s.heap + s9 ∧ s9 + 160 * p0 + 15 ≤ 160 * qA := ⟨160 * qA - 160 * p0 - 15, by omega, by omega⟩
  refine W_tight (k := cQ) (n := sQ) hcQ hsQ ?_
  refine t_callR (va_runI (As := [.ref xA]) (rest := [.ref q_1]) ⟨hx, hb, hml, hown, hts⟩ (met_X7_init l G κ z q_1 xA _ (by omega) (Nat.le_trans hzN (Nat.le_trans (Nat.le_of_eq hN.symm) hS.1))) (ci_X3_X7_init hts ⟨by dsimp only [rmG]; omega, by dsimp only [rmG]; omega⟩) (cT.pre hK hZ (xS_mono hS hAZ) ⟨hq_1, rfl⟩) rfl rfl hl.1 rfl (lv_room (Nat.le_of_ble_eq_true rfl)) dX3_product_8 ⟨by dsimp only [rmG]; omega, by dsimp only [rmG]; omega⟩) hS (fun q hq e => Or.inr (by have e : @Eq Nat q q_1 ∨ @LE.le Nat instLENat _ q := e; omega)) (fun q e => Or.inr (by have e : @Eq Nat q q_1 ∨ @LE.le Nat instLENat _ q := e; omega)) (fun v9 H locs hB9 hz9 hk9 hS => ?_)
  obtain ⟨rfl, hc1, hc2, hc3, hcz, hcu⟩ := hB9
  replace hk := va_at.kept hk (hk9 _ (at_lt hk) (by have := at_lt hk; have := at_lt htp; omega))
  replace htp := va_at.kept htp (hk9 _ (at_lt htp) (by have := at_lt hk; have := at_lt htp; omega))
  have hch : chK G κ z N0 (6 * d + 1) q_1 0 0 LA H := chK.init haA hz9 (fun q h1 h2 => hk9 q h1 h2) ⟨by omega, by omega, by omega, hchl⟩ hc1 hc2 hc3
  refine lv_astore_n (lv' := [(1, .ref q_1), (0, .ref r)]) hx hb dX3_product_11 rfl hl (by decide) rfl (fun ls hl => ?_)
  have L12_2 : ∀ (fuel : Nat) (q : Nat) (k : Nat) (pot : Nat) (cN : Nat) (sN : Nat) (L : Cd) (num : Int32), t - q < fuel → (p0 + 2 * k < q ∧ q ≤ t) → (cN + 16 * p0 + 3 ≤ 16 * q) → (sN + 160 * p0 + 9 + 160 * k ≤ 160 * q + pot) → (ySm tp t kd 6 o p0 (0, L, q)) → (lxT tp t q = 1 → num = nI (min 99999 (lxN tp t q))) → ∀ (H : Heap) (locs : List Loc), (va_at (gD G) g_cl (r, .inr (3, [.ref ta, .int (nI t), .int (nI (lxQ tp t q)), .int (nI (lxS tp t q)), .int (nI (cst tp t q)), .int num, .int (nI o), .int (nI kd)])) H ∧ va_at (gD G) g_cl (ta, .inl (G.2.2 1, 300, .inl Xb)) H ∧ va_S (fun q => q = r ∨ N0 ≤ q) s.heap H locs ∧ chK G κ z N0 (6 * d + 1) q_1 k pot L H) → ∀ (ls : Array Slot), lv_has ls 3 [(0, .ref r), (1, .ref q_1)] → W p l e (rmG d 21 430 (16 * n + 10) (160 * n + 80)) s m ([.ref r] : List Value).toArray below meth c H locs cN sN (vq_MQ below (tQ (gN G z r ta t Xb tp kd o p0 N0 true (6 * d + 2) 3 9 (fun v => ySm tp t kd 6 o p0 v ∧ (v.1 = 0 → nop tp t 6 v.2.2))) (fun q => q = r ∨ N0 ≤ q)) (tX (gX G t tp (fun v => ySm tp t kd 6 o p0 v ∧ (v.1 = 0 → nop tp t 6 v.2.2))) (fun q => q = r ∨ N0 ≤ q)) ([.ref r] : List Value).toArray s (16 * n + 10) (160 * n + 80) (fun q => q = r ∨ N0 ≤ q)) (F0 m 12 ls []) := by
    intro fuel
    induction fuel with
    | zero => intro q k pot cN sN L num hf; exact absurd hf (Nat.not_lt_zero _)
    | succ fuel ih =>
      intro q k pot cN sN L num hf hq hcN hsN hP hnum H locs hw ls hl
      have ih12 := ih
      obtain ⟨hk, htp, hS, hch⟩ := hw
      have hpot := hch.pot
      have hcb := cst_b tp t q
      have hrN := at_lt hk
      refine W_own (fun zo1 zo2 => ?_)
      have hNN := hS.1
      refine lv_aload_n hx hb dX3_product_12 rfl (lv_at hl 0 rfl) ?_
      refine a_get (own := RX3) (C := RX3) (T := TX3) (N := 8) (ci := 3) hx hb hts in_X3 hown hK hk rfl 4 (by decide) (hts _ q301) (fun _ h9 => h9) rfl dX3_product_13 ?_
      refine lv_bipush (v := nI 42) hx hb dX3_product_16 (by decide) ?_
      refine n_icmp_eq (tgt := 30) hx hb dX3_product_18 (by decide) (by omega) (by omega) (fun hc42 => ?_) (fun hc42 => ?_)
      · have hsg : cst tp t q = sgN 5 := hc42
        have hlx : lxT tp t q = sgN 5 := (cst_sg (by decide)).mpr hsg
        have hgt : q < lxQ tp t q := lxQ_gt (by rw [hlx]; decide)
        have hlq : lxQ tp t q ≤ t := lxQ_le hq.2
        refine lv_aload_n hx hb dX3_product_30 rfl (lv_at hl 0 rfl) ?_
        refine a_get (own := RX3) (C := RX3) (T := TX3) (N := 8) (ci := 3) hx hb hts in_X3 hown hK hk rfl 4 (by decide) (hts _ q301) (fun _ h9 => h9) rfl dX3_product_31 ?_
        refine lv_istore_n (lv' := [(2, .int (nI (cst tp t q))), (0, .ref r), (1, .ref q_1)]) hx hb dX3_product_34 rfl hl (by decide) rfl (fun ls hl => ?_)
        refine lv_aload_n hx hb dX3_product_35 rfl (lv_at hl 1 rfl) ?_
        refine t_callR (va_runV (As := []) (rest := []) ⟨hx, hb, hml, hown, hts⟩ (met_X3_next l G κ z tp Xb r ta t (lxQ tp t q) (nI (lxS tp t q)) (nI (cst tp t q)) num (nI o) (nI kd) hXb ht (lxQ_le hq.2) hra hz) (cv_X3_X3_next hts ⟨by dsimp only [rmG]; omega, by dsimp only [rmG]; omega⟩) (cT.preV hK hZ (xS_mono hS hAZ) ⟨hk, htp⟩ (a_recv (ci := 3) hK hk rfl)) rfl rfl hl.1 rfl (lv_room (Nat.le_of_ble_eq_true rfl)) dX3_product_36 ⟨by dsimp only [rmG]; omega, by dsimp only [rmG]; omega⟩) hS (fun q hq e => Or.inl e) (fun q e => Or.inl e) (fun v9 H locs hB9 hz9 hk9 hS => ?_)
        obtain ⟨rfl, num9, hnum, hk, htp⟩ := hB9
        replace hch := chK.kept hch ⟨hz, by omega⟩ hz9 (fun q h1 h2 => hk9 q h1 h2)
        refine lv_aload_n hx hb dX3_product_39 rfl (lv_at hl 2 rfl) ?_
        refine lv_iload_n hx hb dX3_product_40 rfl (lv_at hl 0 rfl) ?_
        refine lv_aload_n hx hb dX3_product_41 rfl (lv_at hl 1 rfl) ?_
        replace hch := hch.bnd
        obtain ⟨nB, hnB⟩ := Nat.le.dest hlq
        refine W_own (fun zw1 zw2 => ?_)
        have hNN := hS.1
        refine t_call (vq_runV (As := []) (rest := [.int (nI (cst tp t q)), .ref q_1]) ⟨hx, hb, hml, hown, hts⟩ (h1 (lxQ tp t q) _ nB hnB (Nat.le_trans hzN (Nat.le_trans (Nat.le_of_eq hN.symm) hS.1))) (cv_X3_X3_one hts ⟨by dsimp only [rmG]; omega, by dsimp only [rmG]; omega⟩) (cT.preV hK hZ (xS_mono hS hAZ) ⟨⟨_, hnum, hk, htp⟩, rfl⟩ (a_recv (ci := 3) hK hk rfl)) rfl rfl hl.1 rfl (lv_room (Nat.le_of_ble_eq_true rfl)) dX3_product_42 ⟨by dsimp only [rmG]; omega, by dsimp only [rmG]; omega⟩) hS (fun q hq e => Or.inl (e.resolve_right (Nat.not_le.mpr hq))) (fun q e => e.elim Or.inl (fun e => Or.inr (Nat.le_trans (Nat.le_trans (Nat.le_of_eq hN.symm) hS.1) e))) (fun q9 ce9 H locs hX9 hz9 hk9 hS hc9 hv9 hl9 => ?_) (fun v9 H locs hB9 hz9 hk9 hS => ?_)
        · obtain ⟨f9, p9, hf0, hf6, hP9, hxw⟩ := hX9
          exact t_out htab hlocks hc9 hv9 hl9 ⟨f9, p9, hf0, hf6, ⟨ySm_timesE hf0 hP (Or.inl ⟨hlx, rfl⟩) hP9, fun e => absurd e hf0⟩, hxw⟩ hS (by omega) (by omega)
        obtain ⟨xB, LB, qB, rfl, hPB, hqB, ⟨num9, hnum, hk, htp⟩, haB, hszB, husB⟩ := hB9
        replace hch := chKb.kept hch ⟨hz, by omega⟩ hz9 (fun q h1 h2 => hk9 q h1 (by omega))
        have hcb := cst_b tp t qB
        have hP2 := ySm_timesN hP (Or.inl ⟨hlx, rfl⟩) hPB
        have hkq : p0 + 2 * (k + 1) < qB := by omega
        obtain ⟨x0, lm, lg, am, cm, as_, cs, fm, fs, xs, L0, Ls, os, hc, he, h0, hL0, hpot0, hn, hN1⟩ := hch
        have hcc : cm ≤ 12 * k ∧ cs ≤ 12 * k := ⟨hc.2.2.2.1.2.2, hc.2.2.2.2.1.2.2⟩
        have gbm := gC_b cm
        have gbs := gC_b cs
        obtain ⟨cK, hcK, hdK⟩ : ∃ c9 : Nat, H.size ≤ s.heap.size + c9 ∧ c9 + 16 * p0 + 5 ≤ 16 * qB := ⟨16 * qB - 16 * p0 - 5, by omega, by omega⟩
        obtain ⟨sK, hsK, htK⟩ : ∃ s9 : Nat, hU H ≤ hU s.heap + s9 ∧ s9 + 160 * p0 + 9 + 160 * (k + 1) ≤ 160 * qB + pot := ⟨160 * qB + pot - 160 * p0 - 9 - 160 * (k + 1), by omega, by omega⟩
        refine W_tight (k := cK) (n := sK) hcK hsK ?_
        have hNN := hS.1
        have hN0H : N0 ≤ H.size := Nat.le_trans (Nat.le_of_eq hN.symm) hS.1
        refine t_callR (va_runV (As := [.int (nI (cst tp t q)), .ref xB]) (rest := []) ⟨hx, hb, hml, hown, hts⟩ (met_X7_add l G κ z q_1 x0 lm lg k am cm as_ cs _ xB (cst tp t q) fm fs (Nat.le_trans hzN (Nat.le_trans (Nat.le_of_eq hN.symm) hS.1)) (by omega) (by rw [hsg]; decide)) (cv_X3_X7_add hts ⟨by dsimp only [rmG]; omega, by dsimp only [rmG]; omega⟩) (cT.preV hK hZ (xS_mono hS hAZ) ⟨hc, fun i hi y hy => by rw [(he i hi).1] at hy; obtain rfl := Option.some.inj hy; exact (he i hi).2.2.2.aO, fun i hi y hy => by rw [(he i hi).2.1] at hy; obtain rfl := Option.some.inj hy; exact (aI_cache hK hZ (xS_mono hS hAZ) (sgN_c (he i hi).2.2.1).2).1.aO, haB.aO, rfl⟩ (a_recv (ci := 7) hK hc.1 rfl)) rfl rfl hl.1 rfl (lv_room (Nat.le_of_ble_eq_true rfl)) dX3_product_45 ⟨by dsimp only [rmG]; omega, by dsimp only [rmG]; omega⟩) hS (fun q hq e => Or.inr (hc.inA hn hN0H e)) (fun q e => Or.inr (hc.inA hn hN0H e)) (fun v9 H locs hB9 hz9 hk9 hS => ?_)
        obtain ⟨rfl, am1, cm1, as1, cs1, gm, gs, hc2, hgm, hgs, hgi, hgj, horm, hors, hsz3, hus3⟩ := hB9
        replace hk := va_at.kept hk (hk9 _ (at_lt hk) (hc.notA hn hN0H (hN ▸ hrN0)))
        replace htp := va_at.kept htp (hk9 _ (at_lt htp) (hc.notA hn hN0H (hN ▸ htN0)))
        have hch := chK.add hc he h0 hL0 hn haB hN1 (show 3 ≤ 5 ∧ 5 ≤ 6 by decide) hc2 hgm (by rw [← hsg]; exact hgs) hgi hgj horm hors hz9 (fun q h1 h2 => hk9 q h1 h2)
        refine lv_goto (tgt := 12) hx hb dX3_product_48 (by decide) ?_
        obtain ⟨cJ, hcJ, hdJ⟩ : ∃ c9 : Nat, H.size ≤ s.heap.size + c9 ∧ c9 + 16 * p0 + 3 ≤ 16 * qB := ⟨16 * qB - 16 * p0 - 3, by omega, by omega⟩
        obtain ⟨sJ, hsJ, htJ⟩ : ∃ s9 : Nat, hU H ≤ hU s.heap + s9 ∧ s9 + 160 * p0 + 9 + 160 * (k + 1) ≤ 160 * qB + (4 * cm1 + 4 * cs1) := ⟨160 * qB + (4 * cm1 + 4 * cs1) - 160 * p0 - 9 - 160 * (k + 1), by omega, by omega⟩
        refine W_tight (k := cJ) (n := sJ) hcJ hsJ ?_
        exact ih12 qB (k + 1) (4 * cm1 + 4 * cs1) cJ sJ (L ++ (LB ++ [(5, nI 0)])) num9 (by omega) ⟨hkq, hqB.2⟩ hdJ htJ hP2 hnum _ _ ⟨hk, htp, hS, hch⟩ ls (lv_sub hl [1, 2] rfl)
      refine lv_aload_n hx hb dX3_product_21 rfl (lv_at hl 0 rfl) ?_
      refine a_get (own := RX3) (C := RX3) (T := TX3) (N := 8) (ci := 3) hx hb hts in_X3 hown hK hk rfl 4 (by decide) (hts _ q301) (fun _ h9 => h9) rfl dX3_product_22 ?_
      refine lv_bipush (v := nI 47) hx hb dX3_product_25 (by decide) ?_
      refine n_icmp_ne (tgt := 51) hx hb dX3_product_27 (by decide) (by omega) (by omega) (fun hc47 => ?_) (fun hc47 => ?_)
      · refine lv_aload_n hx hb dX3_product_51 rfl (lv_at hl 1 rfl) ?_
        obtain ⟨x0, lm, lg, am, cm, as_, cs, fm, fs, xs, hc, hxs, haF⟩ := hch.fin (fun n hn => aI_cache hK hZ (xS_mono hS hAZ) hn) (Nat.le_trans hzN (Nat.le_trans (Nat.le_of_eq hN.symm) hS.1)) (by omega)
        refine c_read (va_runV (As := []) (rest := []) ⟨hx, hb, hml, hown, hts⟩ (met_X7_itself l G κ z q_1 x0 lm lg k am cm as_ cs fm fs xs (by omega)) (cv_X3_X7_itself hts ⟨by dsimp only [rmG]; omega, by dsimp only [rmG]; omega⟩) (cT.preV hK hZ (xS_mono hS hAZ) ⟨hc, hxs⟩ (a_recv (ci := 7) hK hc.1 rfl)) rfl rfl hl.1 rfl (lv_room (Nat.le_of_ble_eq_true rfl)) dX3_product_52 ⟨by dsimp only [rmG]; omega, by dsimp only [rmG]; omega⟩) ?_
        refine W_own (fun z1 z2 => ?_)
        have hn6 : nop tp t 6 q := nop_of hc42 hc47 (fun e => absurd e (by decide))
        refine vq_ret ?_
        refine W.widen (k := 16 * n + 10) (n := 160 * n + 80) (by omega) (by omega) ?_
        exact t_aret hx hb hr (Or.inl ⟨_, rfl⟩) (Or.inr ⟨_, rfl⟩) hlocks ⟨_, L, q, rfl, ⟨hP, fun _ => hn6⟩, ⟨by omega, hq.2⟩, ⟨_, hnum, hk, htp⟩, haF, by omega, by omega⟩ hS dX3_product_55
      have hsg : cst tp t q = sgN 6 := hc47
      have hlx : lxT tp t q = sgN 6 := (cst_sg (by decide)).mpr hsg
      have hgt : q < lxQ tp t q := lxQ_gt (by rw [hlx]; decide)
      have hlq : lxQ tp t q ≤ t := lxQ_le hq.2
      refine lv_aload_n hx hb dX3_product_30 rfl (lv_at hl 0 rfl) ?_
      refine a_get (own := RX3) (C := RX3) (T := TX3) (N := 8) (ci := 3) hx hb hts in_X3 hown hK hk rfl 4 (by decide) (hts _ q301) (fun _ h9 => h9) rfl dX3_product_31 ?_
      refine lv_istore_n (lv' := [(2, .int (nI (cst tp t q))), (0, .ref r), (1, .ref q_1)]) hx hb dX3_product_34 rfl hl (by decide) rfl (fun ls hl => ?_)
      refine lv_aload_n hx hb dX3_product_35 rfl (lv_at hl 1 rfl) ?_
      refine t_callR (va_runV (As := []) (rest := []) ⟨hx, hb, hml, hown, hts⟩ (met_X3_next l G κ z tp Xb r ta t (lxQ tp t q) (nI (lxS tp t q)) (nI (cst tp t q)) num (nI o) (nI kd) hXb ht (lxQ_le hq.2) hra hz) (cv_X3_X3_next hts ⟨by dsimp only [rmG]; omega, by dsimp only [rmG]; omega⟩) (cT.preV hK hZ (xS_mono hS hAZ) ⟨hk, htp⟩ (a_recv (ci := 3) hK hk rfl)) rfl rfl hl.1 rfl (lv_room (Nat.le_of_ble_eq_true rfl)) dX3_product_36 ⟨by dsimp only [rmG]; omega, by dsimp only [rmG]; omega⟩) hS (fun q hq e => Or.inl e) (fun q e => Or.inl e) (fun v9 H locs hB9 hz9 hk9 hS => ?_)
      obtain ⟨rfl, num9, hnum, hk, htp⟩ := hB9
      replace hch := chK.kept hch ⟨hz, by omega⟩ hz9 (fun q h1 h2 => hk9 q h1 h2)
      refine lv_aload_n hx hb dX3_product_39 rfl (lv_at hl 2 rfl) ?_
      refine lv_iload_n hx hb dX3_product_40 rfl (lv_at hl 0 rfl) ?_
      refine lv_aload_n hx hb dX3_product_41 rfl (lv_at hl 1 rfl) ?_
      replace hch := hch.bnd
      obtain ⟨nB, hnB⟩ := Nat.le.dest hlq
      refine W_own (fun zw1 zw2 => ?_)
      have hNN := hS.1
      refine t_call (vq_runV (As := []) (rest := [.int (nI (cst tp t q)), .ref q_1]) ⟨hx, hb, hml, hown, hts⟩ (h1 (lxQ tp t q) _ nB hnB (Nat.le_trans hzN (Nat.le_trans (Nat.le_of_eq hN.symm) hS.1))) (cv_X3_X3_one hts ⟨by dsimp only [rmG]; omega, by dsimp only [rmG]; omega⟩) (cT.preV hK hZ (xS_mono hS hAZ) ⟨⟨_, hnum, hk, htp⟩, rfl⟩ (a_recv (ci := 3) hK hk rfl)) rfl rfl hl.1 rfl (lv_room (Nat.le_of_ble_eq_true rfl)) dX3_product_42 ⟨by dsimp only [rmG]; omega, by dsimp only [rmG]; omega⟩) hS (fun q hq e => Or.inl (e.resolve_right (Nat.not_le.mpr hq))) (fun q e => e.elim Or.inl (fun e => Or.inr (Nat.le_trans (Nat.le_trans (Nat.le_of_eq hN.symm) hS.1) e))) (fun q9 ce9 H locs hX9 hz9 hk9 hS hc9 hv9 hl9 => ?_) (fun v9 H locs hB9 hz9 hk9 hS => ?_)
      · obtain ⟨f9, p9, hf0, hf6, hP9, hxw⟩ := hX9
        exact t_out htab hlocks hc9 hv9 hl9 ⟨f9, p9, hf0, hf6, ⟨ySm_timesE hf0 hP (Or.inr ⟨hlx, rfl⟩) hP9, fun e => absurd e hf0⟩, hxw⟩ hS (by omega) (by omega)
      obtain ⟨xB, LB, qB, rfl, hPB, hqB, ⟨num9, hnum, hk, htp⟩, haB, hszB, husB⟩ := hB9
      replace hch := chKb.kept hch ⟨hz, by omega⟩ hz9 (fun q h1 h2 => hk9 q h1 (by omega))
      have hcb := cst_b tp t qB
      have hP2 := ySm_timesN hP (Or.inr ⟨hlx, rfl⟩) hPB
      have hkq : p0 + 2 * (k + 1) < qB := by omega
      obtain ⟨x0, lm, lg, am, cm, as_, cs, fm, fs, xs, L0, Ls, os, hc, he, h0, hL0, hpot0, hn, hN1⟩ := hch
      have hcc : cm ≤ 12 * k ∧ cs ≤ 12 * k := ⟨hc.2.2.2.1.2.2, hc.2.2.2.2.1.2.2⟩
      have gbm := gC_b cm
      have gbs := gC_b cs
      obtain ⟨cK, hcK, hdK⟩ : ∃ c9 : Nat, H.size ≤ s.heap.size + c9 ∧ c9 + 16 * p0 + 5 ≤ 16 * qB := ⟨16 * qB - 16 * p0 - 5, by omega, by omega⟩
      obtain ⟨sK, hsK, htK⟩ : ∃ s9 : Nat, hU H ≤ hU s.heap + s9 ∧ s9 + 160 * p0 + 9 + 160 * (k + 1) ≤ 160 * qB + pot := ⟨160 * qB + pot - 160 * p0 - 9 - 160 * (k + 1), by omega, by omega⟩
      refine W_tight (k := cK) (n := sK) hcK hsK ?_
      have hNN := hS.1
      have hN0H : N0 ≤ H.size := Nat.le_trans (Nat.le_of_eq hN.symm) hS.1
      refine t_callR (va_runV (As := [.int (nI (cst tp t q)), .ref xB]) (rest := []) ⟨hx, hb, hml, hown, hts⟩ (met_X7_add l G κ z q_1 x0 lm lg k am cm as_ cs _ xB (cst tp t q) fm fs (Nat.le_trans hzN (Nat.le_trans (Nat.le_of_eq hN.symm) hS.1)) (by omega) (by rw [hsg]; decide)) (cv_X3_X7_add hts ⟨by dsimp only [rmG]; omega, by dsimp only [rmG]; omega⟩) (cT.preV hK hZ (xS_mono hS hAZ) ⟨hc, fun i hi y hy => by rw [(he i hi).1] at hy; obtain rfl := Option.some.inj hy; exact (he i hi).2.2.2.aO, fun i hi y hy => by rw [(he i hi).2.1] at hy; obtain rfl := Option.some.inj hy; exact (aI_cache hK hZ (xS_mono hS hAZ) (sgN_c (he i hi).2.2.1).2).1.aO, haB.aO, rfl⟩ (a_recv (ci := 7) hK hc.1 rfl)) rfl rfl hl.1 rfl (lv_room (Nat.le_of_ble_eq_true rfl)) dX3_product_45 ⟨by dsimp only [rmG]; omega, by dsimp only [rmG]; omega⟩) hS (fun q hq e => Or.inr (hc.inA hn hN0H e)) (fun q e => Or.inr (hc.inA hn hN0H e)) (fun v9 H locs hB9 hz9 hk9 hS => ?_)
      obtain ⟨rfl, am1, cm1, as1, cs1, gm, gs, hc2, hgm, hgs, hgi, hgj, horm, hors, hsz3, hus3⟩ := hB9
      replace hk := va_at.kept hk (hk9 _ (at_lt hk) (hc.notA hn hN0H (hN ▸ hrN0)))
      replace htp := va_at.kept htp (hk9 _ (at_lt htp) (hc.notA hn hN0H (hN ▸ htN0)))
      have hch := chK.add hc he h0 hL0 hn haB hN1 (show 3 ≤ 6 ∧ 6 ≤ 6 by decide) hc2 hgm (by rw [← hsg]; exact hgs) hgi hgj horm hors hz9 (fun q h1 h2 => hk9 q h1 h2)
      refine lv_goto (tgt := 12) hx hb dX3_product_48 (by decide) ?_
      obtain ⟨cJ, hcJ, hdJ⟩ : ∃ c9 : Nat, H.size ≤ s.heap.size + c9 ∧ c9 + 16 * p0 + 3 ≤ 16 * qB := ⟨16 * qB - 16 * p0 - 3, by omega, by omega⟩
      obtain ⟨sJ, hsJ, htJ⟩ : ∃ s9 : Nat, hU H ≤ hU s.heap + s9 ∧ s9 + 160 * p0 + 9 + 160 * (k + 1) ≤ 160 * qB + (4 * cm1 + 4 * cs1) := ⟨160 * qB + (4 * cm1 + 4 * cs1) - 160 * p0 - 9 - 160 * (k + 1), by omega, by omega⟩
      refine W_tight (k := cJ) (n := sJ) hcJ hsJ ?_
      exact ih12 qB (k + 1) (4 * cm1 + 4 * cs1) cJ sJ (L ++ (LB ++ [(6, nI 0)])) num9 (by omega) ⟨hkq, hqB.2⟩ hdJ htJ hP2 hnum _ _ ⟨hk, htp, hS, hch⟩ ls (lv_sub hl [1, 2] rfl)
  obtain ⟨cI, hcI, hdI⟩ : ∃ c9 : Nat, H.size ≤ s.heap.size + c9 ∧ c9 + 16 * p0 + 3 ≤ 16 * qA := ⟨16 * qA - 16 * p0 - 3, by omega, by omega⟩
  obtain ⟨sI, hsI, htI⟩ : ∃ s9 : Nat, hU H ≤ hU s.heap + s9 ∧ s9 + 160 * p0 + 9 ≤ 160 * qA := ⟨160 * qA - 160 * p0 - 9, by omega, by omega⟩
  refine W_tight (k := cI) (n := sI) hcI hsI ?_
  exact L12_2 _ qA 0 0 cI sI LA num9 (Nat.lt_succ_self _) ⟨hqA.1, hqA.2⟩ hdI htI (ySm_one hPA) hnum _ _ ⟨hk, htp, hS, hch⟩ ls (lv_sub hl [1, 0] rfl)
set_option maxHeartbeats 4000000 in
set_option maxRecDepth 100000 in
theorem met_X3_sum (l : Launch) (G : gG) (κ : kK) (z : Nat) (tp : Nat → Nat) (Xb : Nat → Int32) (r ta t kd o d : Nat) (hXb : ∀ j, j < t → Xb j = sb (tp j) ∧ tp j < 256) (ht : t ≤ 300) (hra : r ≠ ta) (hz : z ≤ r) (hst : l.stackTraces = false) (hod : o + d = 8) (h1 : g_product l G κ z tp Xb r ta t kd o d) : g_sum l G κ z tp Xb r ta t kd o d := by
  intro p0 N0 n hn0 hzN
  have hp : p0 ≤ t := by omega
  show vq_Met l yX3_sum (ws_ yX3_sum cX3_sum 3 (some (Jvm.ClassFile.FieldType.object "BreathOnLoan$Sum"))) (rmG d 22 460 (16 * n + 12) (160 * n + 96)) (cT G κ z [.ref r] (fun H => tkP G r ta t Xb tp p0 o kd H ∧ H.size = N0)) (tQ (gN G z r ta t Xb tp kd o p0 N0 true (6 * d + 3) 0 0 (fun v => ySm tp t kd 5 o p0 v ∧ (v.1 = 0 → nop tp t 5 v.2.2))) (fun q => q = r ∨ N0 ≤ q)) (tX (gX G t tp (fun v => ySm tp t kd 5 o p0 v ∧ (v.1 = 0 → nop tp t 5 v.2.2))) (fun q => q = r ∨ N0 ≤ q)) (16 * n + 12) (160 * n + 96) (fun q => q = r ∨ N0 ≤ q)
  refine t_start (by decide) (Nat.le_of_ble_eq_true rfl) ?_
  intro p e s m below meth c hx hb hr hlocks hml hown hts hB hK hZ htab ls hl
  have hl : lv_has ls 3 [(0, .ref r)] := hl
  obtain ⟨⟨num, hnum, hk, htp⟩, hN⟩ := hB
  have hAZ : ∀ q, (q = r ∨ N0 ≤ q) → aZ z q := fun q e => show z ≤ q by rcases e with e | e <;> omega
  have hS : va_S (fun q => q = r ∨ N0 ≤ q) s.heap s.heap [] := va_S.rf
  have hrN := at_lt hk
  have htN := at_lt htp
  have hcb := cst_b tp t p0
  have hrN0 : r < s.heap.size := hrN
  have htN0 : ta < s.heap.size := htN
  refine p_new (own := RX3) (C := RX7) (T := TX7) (N := 3) (ci := 7) (fs := [.null, .null, .null]) hx hb hts in_X7 tyX7 tyX7_ok hown (hts _ q612) (hts _ q613) (hts _ q117) hK rfl (by decide +kernel) (by dsimp only [rmG]; omega) (by dsimp only [rmG]; omega) dX3_sum_0 (fun q_1 H hq_1 eq_1 zq_1 oq_1 => ?_)
  have lr_q_1 : r < q_1 := by have := at_lt hk; omega
  have lta_q_1 : ta < q_1 := by have := at_lt htp; omega
  replace hk := va_at.kept hk (oq_1 _ (at_lt hk))
  replace htp := va_at.kept htp (oq_1 _ (at_lt htp))
  replace hS := xS_new hS (by omega) oq_1
  refine lv_dup hx hb dX3_sum_3 rfl ?_
  refine lv_aload_n hx hb dX3_sum_4 rfl (lv_at hl 0 rfl) ?_
  refine W_own (fun zw1 zw2 => ?_)
  have hNN := hS.1
  refine t_call (vq_runV (As := []) (rest := [.ref q_1, .ref q_1]) ⟨hx, hb, hml, hown, hts⟩ (h1 p0 _ n hn0 (Nat.le_trans hzN (Nat.le_trans (Nat.le_of_eq hN.symm) hS.1))) (cv_X3_X3_product hts ⟨by dsimp only [rmG]; omega, by dsimp only [rmG]; omega⟩) (cT.preV hK hZ (xS_mono hS hAZ) ⟨⟨_, hnum, hk, htp⟩, rfl⟩ (a_recv (ci := 3) hK hk rfl)) rfl rfl hl.1 rfl (lv_room (Nat.le_of_ble_eq_true rfl)) dX3_sum_5 ⟨by dsimp only [rmG]; omega, by dsimp only [rmG]; omega⟩) hS (fun q hq e => Or.inl (e.resolve_right (Nat.not_le.mpr hq))) (fun q e => e.elim Or.inl (fun e => Or.inr (Nat.le_trans (Nat.le_trans (Nat.le_of_eq hN.symm) hS.1) e))) (fun q9 ce9 H locs hX9 hz9 hk9 hS hc9 hv9 hl9 => ?_) (fun v9 H locs hB9 hz9 hk9 hS => ?_)
  · obtain ⟨f9, p9, hf0, hf6, hP9, hxw⟩ := hX9
    exact t_out htab hlocks hc9 hv9 hl9 ⟨f9, p9, hf0, hf6, ⟨ySm_prod hP9.1, fun e => absurd e hf0⟩, hxw⟩ hS (by omega) (by omega)
  obtain ⟨xA, LA, qA, rfl, hPA, hqA, ⟨num9, hnum, hk, htp⟩, haA, hszA, husA⟩ := hB9
  replace hq_1 := va_at.kept hq_1 (hk9 _ (at_lt hq_1) (by have := at_lt hq_1; omega))
  have hcb := cst_b tp t qA
  refine W_own (fun zw3 zw4 => ?_)
  have hNN := hS.1
  have hchl := at_lt hq_1
  obtain ⟨cQ, hcQ, hdQ⟩ : ∃ c9 : Nat, H.size ≤ s.heap.size + c9 ∧ c9 + 16 * p0 + 2 ≤ 16 * qA := ⟨16 * qA - 16 * p0 - 2, by omega, by omega⟩
  obtain ⟨sQ, hsQ, htQ⟩ : ∃ s9 : Nat, hU H ≤ hU s.heap + s9 ∧ s9 + 160 * p0 + 6 ≤ 160 * qA := ⟨160 * qA - 160 * p0 - 6, by omega, by omega⟩
  refine W_tight (k := cQ) (n := sQ) hcQ hsQ ?_
  refine t_callR (va_runI (As := [.ref xA]) (rest := [.ref q_1]) ⟨hx, hb, hml, hown, hts⟩ (met_X7_init l G κ z q_1 xA _ (by omega) (Nat.le_trans hzN (Nat.le_trans (Nat.le_of_eq hN.symm) hS.1))) (ci_X3_X7_init hts ⟨by dsimp only [rmG]; omega, by dsimp only [rmG]; omega⟩) (cT.pre hK hZ (xS_mono hS hAZ) ⟨hq_1, rfl⟩) rfl rfl hl.1 rfl (lv_room (Nat.le_of_ble_eq_true rfl)) dX3_sum_8 ⟨by dsimp only [rmG]; omega, by dsimp only [rmG]; omega⟩) hS (fun q hq e => Or.inr (by have e : @Eq Nat q q_1 ∨ @LE.le Nat instLENat _ q := e; omega)) (fun q e => Or.inr (by have e : @Eq Nat q q_1 ∨ @LE.le Nat instLENat _ q := e; omega)) (fun v9 H locs hB9 hz9 hk9 hS => ?_)
  obtain ⟨rfl, hc1, hc2, hc3, hcz, hcu⟩ := hB9
  replace hk := va_at.kept hk (hk9 _ (at_lt hk) (by have := at_lt hk; have := at_lt htp; omega))
  replace htp := va_at.kept htp (hk9 _ (at_lt htp) (by have := at_lt hk; have := at_lt htp; omega))
  have hch : chK G κ z N0 (6 * d + 2) q_1 0 0 LA H := chK.init haA hz9 (fun q h1 h2 => hk9 q h1 h2) ⟨by omega, by omega, by omega, hchl⟩ hc1 hc2 hc3
  refine lv_astore_n (lv' := [(1, .ref q_1), (0, .ref r)]) hx hb dX3_sum_11 rfl hl (by decide) rfl (fun ls hl => ?_)
  have L12_2 : ∀ (fuel : Nat) (q : Nat) (k : Nat) (pot : Nat) (cN : Nat) (sN : Nat) (L : Cd) (num : Int32), t - q < fuel → (p0 + 2 * k < q ∧ q ≤ t) → (cN + 16 * p0 + 0 ≤ 16 * q) → (sN + 160 * p0 + 0 + 160 * k ≤ 160 * q + pot) → (ySm tp t kd 5 o p0 (0, L, q)) → (lxT tp t q = 1 → num = nI (min 99999 (lxN tp t q))) → (nop tp t 6 q) → ∀ (H : Heap) (locs : List Loc), (va_at (gD G) g_cl (r, .inr (3, [.ref ta, .int (nI t), .int (nI (lxQ tp t q)), .int (nI (lxS tp t q)), .int (nI (cst tp t q)), .int num, .int (nI o), .int (nI kd)])) H ∧ va_at (gD G) g_cl (ta, .inl (G.2.2 1, 300, .inl Xb)) H ∧ va_S (fun q => q = r ∨ N0 ≤ q) s.heap H locs ∧ chK G κ z N0 (6 * d + 2) q_1 k pot L H) → ∀ (ls : Array Slot), lv_has ls 3 [(0, .ref r), (1, .ref q_1)] → W p l e (rmG d 22 460 (16 * n + 12) (160 * n + 96)) s m ([.ref r] : List Value).toArray below meth c H locs cN sN (vq_MQ below (tQ (gN G z r ta t Xb tp kd o p0 N0 true (6 * d + 3) 0 0 (fun v => ySm tp t kd 5 o p0 v ∧ (v.1 = 0 → nop tp t 5 v.2.2))) (fun q => q = r ∨ N0 ≤ q)) (tX (gX G t tp (fun v => ySm tp t kd 5 o p0 v ∧ (v.1 = 0 → nop tp t 5 v.2.2))) (fun q => q = r ∨ N0 ≤ q)) ([.ref r] : List Value).toArray s (16 * n + 12) (160 * n + 96) (fun q => q = r ∨ N0 ≤ q)) (F0 m 12 ls []) := by
    intro fuel
    induction fuel with
    | zero => intro q k pot cN sN L num hf; exact absurd hf (Nat.not_lt_zero _)
    | succ fuel ih =>
      intro q k pot cN sN L num hf hq hcN hsN hP hnum hn6 H locs hw ls hl
      have ih12 := ih
      obtain ⟨hk, htp, hS, hch⟩ := hw
      have hpot := hch.pot
      have hcb := cst_b tp t q
      have hrN := at_lt hk
      refine W_own (fun zo1 zo2 => ?_)
      have hNN := hS.1
      refine lv_aload_n hx hb dX3_sum_12 rfl (lv_at hl 0 rfl) ?_
      refine a_get (own := RX3) (C := RX3) (T := TX3) (N := 8) (ci := 3) hx hb hts in_X3 hown hK hk rfl 4 (by decide) (hts _ q301) (fun _ h9 => h9) rfl dX3_sum_13 ?_
      refine lv_bipush (v := nI 43) hx hb dX3_sum_16 (by decide) ?_
      refine n_icmp_eq (tgt := 30) hx hb dX3_sum_18 (by decide) (by omega) (by omega) (fun hc42 => ?_) (fun hc42 => ?_)
      · have hsg : cst tp t q = sgN 3 := hc42
        have hlx : lxT tp t q = sgN 3 := (cst_sg (by decide)).mpr hsg
        have hgt : q < lxQ tp t q := lxQ_gt (by rw [hlx]; decide)
        have hlq : lxQ tp t q ≤ t := lxQ_le hq.2
        refine lv_aload_n hx hb dX3_sum_30 rfl (lv_at hl 0 rfl) ?_
        refine a_get (own := RX3) (C := RX3) (T := TX3) (N := 8) (ci := 3) hx hb hts in_X3 hown hK hk rfl 4 (by decide) (hts _ q301) (fun _ h9 => h9) rfl dX3_sum_31 ?_
        refine lv_istore_n (lv' := [(2, .int (nI (cst tp t q))), (0, .ref r), (1, .ref q_1)]) hx hb dX3_sum_34 rfl hl (by decide) rfl (fun ls hl => ?_)
        refine lv_aload_n hx hb dX3_sum_35 rfl (lv_at hl 1 rfl) ?_
        refine t_callR (va_runV (As := []) (rest := []) ⟨hx, hb, hml, hown, hts⟩ (met_X3_next l G κ z tp Xb r ta t (lxQ tp t q) (nI (lxS tp t q)) (nI (cst tp t q)) num (nI o) (nI kd) hXb ht (lxQ_le hq.2) hra hz) (cv_X3_X3_next hts ⟨by dsimp only [rmG]; omega, by dsimp only [rmG]; omega⟩) (cT.preV hK hZ (xS_mono hS hAZ) ⟨hk, htp⟩ (a_recv (ci := 3) hK hk rfl)) rfl rfl hl.1 rfl (lv_room (Nat.le_of_ble_eq_true rfl)) dX3_sum_36 ⟨by dsimp only [rmG]; omega, by dsimp only [rmG]; omega⟩) hS (fun q hq e => Or.inl e) (fun q e => Or.inl e) (fun v9 H locs hB9 hz9 hk9 hS => ?_)
        obtain ⟨rfl, num9, hnum, hk, htp⟩ := hB9
        replace hch := chK.kept hch ⟨hz, by omega⟩ hz9 (fun q h1 h2 => hk9 q h1 h2)
        refine lv_aload_n hx hb dX3_sum_39 rfl (lv_at hl 2 rfl) ?_
        refine lv_iload_n hx hb dX3_sum_40 rfl (lv_at hl 0 rfl) ?_
        refine lv_aload_n hx hb dX3_sum_41 rfl (lv_at hl 1 rfl) ?_
        replace hch := hch.bnd
        obtain ⟨nB, hnB⟩ := Nat.le.dest hlq
        refine W_own (fun zw1 zw2 => ?_)
        have hNN := hS.1
        refine t_call (vq_runV (As := []) (rest := [.int (nI (cst tp t q)), .ref q_1]) ⟨hx, hb, hml, hown, hts⟩ (h1 (lxQ tp t q) _ nB hnB (Nat.le_trans hzN (Nat.le_trans (Nat.le_of_eq hN.symm) hS.1))) (cv_X3_X3_product hts ⟨by dsimp only [rmG]; omega, by dsimp only [rmG]; omega⟩) (cT.preV hK hZ (xS_mono hS hAZ) ⟨⟨_, hnum, hk, htp⟩, rfl⟩ (a_recv (ci := 3) hK hk rfl)) rfl rfl hl.1 rfl (lv_room (Nat.le_of_ble_eq_true rfl)) dX3_sum_42 ⟨by dsimp only [rmG]; omega, by dsimp only [rmG]; omega⟩) hS (fun q hq e => Or.inl (e.resolve_right (Nat.not_le.mpr hq))) (fun q e => e.elim Or.inl (fun e => Or.inr (Nat.le_trans (Nat.le_trans (Nat.le_of_eq hN.symm) hS.1) e))) (fun q9 ce9 H locs hX9 hz9 hk9 hS hc9 hv9 hl9 => ?_) (fun v9 H locs hB9 hz9 hk9 hS => ?_)
        · obtain ⟨f9, p9, hf0, hf6, hP9, hxw⟩ := hX9
          exact t_out htab hlocks hc9 hv9 hl9 ⟨f9, p9, hf0, hf6, ⟨ySm_plusE hf0 hP (Or.inl ⟨hlx, rfl⟩) hP9.1, fun e => absurd e hf0⟩, hxw⟩ hS (by omega) (by omega)
        obtain ⟨xB, LB, qB, rfl, hPB, hqB, ⟨num9, hnum, hk, htp⟩, haB, hszB, husB⟩ := hB9
        replace hch := chKb.kept hch ⟨hz, by omega⟩ hz9 (fun q h1 h2 => hk9 q h1 (by omega))
        have hcb := cst_b tp t qB
        have hP2 := ySm_plusN hP (Or.inl ⟨hlx, rfl⟩) hPB.1 (hPB.2 rfl)
        have hkq : p0 + 2 * (k + 1) < qB := by omega
        obtain ⟨x0, lm, lg, am, cm, as_, cs, fm, fs, xs, L0, Ls, os, hc, he, h0, hL0, hpot0, hn, hN1⟩ := hch
        have hcc : cm ≤ 12 * k ∧ cs ≤ 12 * k := ⟨hc.2.2.2.1.2.2, hc.2.2.2.2.1.2.2⟩
        have gbm := gC_b cm
        have gbs := gC_b cs
        obtain ⟨cK, hcK, hdK⟩ : ∃ c9 : Nat, H.size ≤ s.heap.size + c9 ∧ c9 + 16 * p0 + 2 ≤ 16 * qB := ⟨16 * qB - 16 * p0 - 2, by omega, by omega⟩
        obtain ⟨sK, hsK, htK⟩ : ∃ s9 : Nat, hU H ≤ hU s.heap + s9 ∧ s9 + 160 * p0 + 0 + 160 * (k + 1) ≤ 160 * qB + pot := ⟨160 * qB + pot - 160 * p0 - 0 - 160 * (k + 1), by omega, by omega⟩
        refine W_tight (k := cK) (n := sK) hcK hsK ?_
        have hNN := hS.1
        have hN0H : N0 ≤ H.size := Nat.le_trans (Nat.le_of_eq hN.symm) hS.1
        refine t_callR (va_runV (As := [.int (nI (cst tp t q)), .ref xB]) (rest := []) ⟨hx, hb, hml, hown, hts⟩ (met_X7_add l G κ z q_1 x0 lm lg k am cm as_ cs _ xB (cst tp t q) fm fs (Nat.le_trans hzN (Nat.le_trans (Nat.le_of_eq hN.symm) hS.1)) (by omega) (by rw [hsg]; decide)) (cv_X3_X7_add hts ⟨by dsimp only [rmG]; omega, by dsimp only [rmG]; omega⟩) (cT.preV hK hZ (xS_mono hS hAZ) ⟨hc, fun i hi y hy => by rw [(he i hi).1] at hy; obtain rfl := Option.some.inj hy; exact (he i hi).2.2.2.aO, fun i hi y hy => by rw [(he i hi).2.1] at hy; obtain rfl := Option.some.inj hy; exact (aI_cache hK hZ (xS_mono hS hAZ) (sgN_c (he i hi).2.2.1).2).1.aO, haB.aO, rfl⟩ (a_recv (ci := 7) hK hc.1 rfl)) rfl rfl hl.1 rfl (lv_room (Nat.le_of_ble_eq_true rfl)) dX3_sum_45 ⟨by dsimp only [rmG]; omega, by dsimp only [rmG]; omega⟩) hS (fun q hq e => Or.inr (hc.inA hn hN0H e)) (fun q e => Or.inr (hc.inA hn hN0H e)) (fun v9 H locs hB9 hz9 hk9 hS => ?_)
        obtain ⟨rfl, am1, cm1, as1, cs1, gm, gs, hc2, hgm, hgs, hgi, hgj, horm, hors, hsz3, hus3⟩ := hB9
        replace hk := va_at.kept hk (hk9 _ (at_lt hk) (hc.notA hn hN0H (hN ▸ hrN0)))
        replace htp := va_at.kept htp (hk9 _ (at_lt htp) (hc.notA hn hN0H (hN ▸ htN0)))
        have hch := chK.add hc he h0 hL0 hn haB hN1 (show 3 ≤ 3 ∧ 3 ≤ 6 by decide) hc2 hgm (by rw [← hsg]; exact hgs) hgi hgj horm hors hz9 (fun q h1 h2 => hk9 q h1 h2)
        refine lv_goto (tgt := 12) hx hb dX3_sum_48 (by decide) ?_
        obtain ⟨cJ, hcJ, hdJ⟩ : ∃ c9 : Nat, H.size ≤ s.heap.size + c9 ∧ c9 + 16 * p0 + 0 ≤ 16 * qB := ⟨16 * qB - 16 * p0 - 0, by omega, by omega⟩
        obtain ⟨sJ, hsJ, htJ⟩ : ∃ s9 : Nat, hU H ≤ hU s.heap + s9 ∧ s9 + 160 * p0 + 0 + 160 * (k + 1) ≤ 160 * qB + (4 * cm1 + 4 * cs1) := ⟨160 * qB + (4 * cm1 + 4 * cs1) - 160 * p0 - 0 - 160 * (k + 1), by omega, by omega⟩
        refine W_tight (k := cJ) (n := sJ) hcJ hsJ ?_
        exact ih12 qB (k + 1) (4 * cm1 + 4 * cs1) cJ sJ (L ++ (LB ++ [(3, nI 0)])) num9 (by omega) ⟨hkq, hqB.2⟩ hdJ htJ hP2 hnum (hPB.2 rfl) _ _ ⟨hk, htp, hS, hch⟩ ls (lv_sub hl [1, 2] rfl)
      refine lv_aload_n hx hb dX3_sum_21 rfl (lv_at hl 0 rfl) ?_
      refine a_get (own := RX3) (C := RX3) (T := TX3) (N := 8) (ci := 3) hx hb hts in_X3 hown hK hk rfl 4 (by decide) (hts _ q301) (fun _ h9 => h9) rfl dX3_sum_22 ?_
      refine lv_bipush (v := nI 45) hx hb dX3_sum_25 (by decide) ?_
      refine n_icmp_ne (tgt := 51) hx hb dX3_sum_27 (by decide) (by omega) (by omega) (fun hc47 => ?_) (fun hc47 => ?_)
      · refine lv_aload_n hx hb dX3_sum_51 rfl (lv_at hl 1 rfl) ?_
        obtain ⟨x0, lm, lg, am, cm, as_, cs, fm, fs, xs, hc, hxs, haF⟩ := hch.fin (fun n hn => aI_cache hK hZ (xS_mono hS hAZ) hn) (Nat.le_trans hzN (Nat.le_trans (Nat.le_of_eq hN.symm) hS.1)) (by omega)
        refine c_read (va_runV (As := []) (rest := []) ⟨hx, hb, hml, hown, hts⟩ (met_X7_itself l G κ z q_1 x0 lm lg k am cm as_ cs fm fs xs (by omega)) (cv_X3_X7_itself hts ⟨by dsimp only [rmG]; omega, by dsimp only [rmG]; omega⟩) (cT.preV hK hZ (xS_mono hS hAZ) ⟨hc, hxs⟩ (a_recv (ci := 7) hK hc.1 rfl)) rfl rfl hl.1 rfl (lv_room (Nat.le_of_ble_eq_true rfl)) dX3_sum_52 ⟨by dsimp only [rmG]; omega, by dsimp only [rmG]; omega⟩) ?_
        refine W_own (fun z1 z2 => ?_)
        have hn5 : nop tp t 5 q := ⟨hn6.1, hn6.2.1, fun _ => ⟨fun e => hc42 ((cst_sg (by decide)).mp e), fun e => hc47 ((cst_sg (by decide)).mp e)⟩⟩
        refine vq_ret ?_
        refine W.widen (k := 16 * n + 12) (n := 160 * n + 96) (by omega) (by omega) ?_
        exact t_aret hx hb hr (Or.inl ⟨_, rfl⟩) (Or.inr ⟨_, rfl⟩) hlocks ⟨_, L, q, rfl, ⟨hP, fun _ => hn5⟩, ⟨by omega, hq.2⟩, ⟨_, hnum, hk, htp⟩, haF, by omega, by omega⟩ hS dX3_sum_55
      have hsg : cst tp t q = sgN 4 := hc47
      have hlx : lxT tp t q = sgN 4 := (cst_sg (by decide)).mpr hsg
      have hgt : q < lxQ tp t q := lxQ_gt (by rw [hlx]; decide)
      have hlq : lxQ tp t q ≤ t := lxQ_le hq.2
      refine lv_aload_n hx hb dX3_sum_30 rfl (lv_at hl 0 rfl) ?_
      refine a_get (own := RX3) (C := RX3) (T := TX3) (N := 8) (ci := 3) hx hb hts in_X3 hown hK hk rfl 4 (by decide) (hts _ q301) (fun _ h9 => h9) rfl dX3_sum_31 ?_
      refine lv_istore_n (lv' := [(2, .int (nI (cst tp t q))), (0, .ref r), (1, .ref q_1)]) hx hb dX3_sum_34 rfl hl (by decide) rfl (fun ls hl => ?_)
      refine lv_aload_n hx hb dX3_sum_35 rfl (lv_at hl 1 rfl) ?_
      refine t_callR (va_runV (As := []) (rest := []) ⟨hx, hb, hml, hown, hts⟩ (met_X3_next l G κ z tp Xb r ta t (lxQ tp t q) (nI (lxS tp t q)) (nI (cst tp t q)) num (nI o) (nI kd) hXb ht (lxQ_le hq.2) hra hz) (cv_X3_X3_next hts ⟨by dsimp only [rmG]; omega, by dsimp only [rmG]; omega⟩) (cT.preV hK hZ (xS_mono hS hAZ) ⟨hk, htp⟩ (a_recv (ci := 3) hK hk rfl)) rfl rfl hl.1 rfl (lv_room (Nat.le_of_ble_eq_true rfl)) dX3_sum_36 ⟨by dsimp only [rmG]; omega, by dsimp only [rmG]; omega⟩) hS (fun q hq e => Or.inl e) (fun q e => Or.inl e) (fun v9 H locs hB9 hz9 hk9 hS => ?_)
      obtain ⟨rfl, num9, hnum, hk, htp⟩ := hB9
      replace hch := chK.kept hch ⟨hz, by omega⟩ hz9 (fun q h1 h2 => hk9 q h1 h2)
      refine lv_aload_n hx hb dX3_sum_39 rfl (lv_at hl 2 rfl) ?_
      refine lv_iload_n hx hb dX3_sum_40 rfl (lv_at hl 0 rfl) ?_
      refine lv_aload_n hx hb dX3_sum_41 rfl (lv_at hl 1 rfl) ?_
      replace hch := hch.bnd
      obtain ⟨nB, hnB⟩ := Nat.le.dest hlq
      refine W_own (fun zw1 zw2 => ?_)
      have hNN := hS.1
      refine t_call (vq_runV (As := []) (rest := [.int (nI (cst tp t q)), .ref q_1]) ⟨hx, hb, hml, hown, hts⟩ (h1 (lxQ tp t q) _ nB hnB (Nat.le_trans hzN (Nat.le_trans (Nat.le_of_eq hN.symm) hS.1))) (cv_X3_X3_product hts ⟨by dsimp only [rmG]; omega, by dsimp only [rmG]; omega⟩) (cT.preV hK hZ (xS_mono hS hAZ) ⟨⟨_, hnum, hk, htp⟩, rfl⟩ (a_recv (ci := 3) hK hk rfl)) rfl rfl hl.1 rfl (lv_room (Nat.le_of_ble_eq_true rfl)) dX3_sum_42 ⟨by dsimp only [rmG]; omega, by dsimp only [rmG]; omega⟩) hS (fun q hq e => Or.inl (e.resolve_right (Nat.not_le.mpr hq))) (fun q e => e.elim Or.inl (fun e => Or.inr (Nat.le_trans (Nat.le_trans (Nat.le_of_eq hN.symm) hS.1) e))) (fun q9 ce9 H locs hX9 hz9 hk9 hS hc9 hv9 hl9 => ?_) (fun v9 H locs hB9 hz9 hk9 hS => ?_)
      · obtain ⟨f9, p9, hf0, hf6, hP9, hxw⟩ := hX9
        exact t_out htab hlocks hc9 hv9 hl9 ⟨f9, p9, hf0, hf6, ⟨ySm_plusE hf0 hP (Or.inr ⟨hlx, rfl⟩) hP9.1, fun e => absurd e hf0⟩, hxw⟩ hS (by omega) (by omega)
      obtain ⟨xB, LB, qB, rfl, hPB, hqB, ⟨num9, hnum, hk, htp⟩, haB, hszB, husB⟩ := hB9
      replace hch := chKb.kept hch ⟨hz, by omega⟩ hz9 (fun q h1 h2 => hk9 q h1 (by omega))
      have hcb := cst_b tp t qB
      have hP2 := ySm_plusN hP (Or.inr ⟨hlx, rfl⟩) hPB.1 (hPB.2 rfl)
      have hkq : p0 + 2 * (k + 1) < qB := by omega
      obtain ⟨x0, lm, lg, am, cm, as_, cs, fm, fs, xs, L0, Ls, os, hc, he, h0, hL0, hpot0, hn, hN1⟩ := hch
      have hcc : cm ≤ 12 * k ∧ cs ≤ 12 * k := ⟨hc.2.2.2.1.2.2, hc.2.2.2.2.1.2.2⟩
      have gbm := gC_b cm
      have gbs := gC_b cs
      obtain ⟨cK, hcK, hdK⟩ : ∃ c9 : Nat, H.size ≤ s.heap.size + c9 ∧ c9 + 16 * p0 + 2 ≤ 16 * qB := ⟨16 * qB - 16 * p0 - 2, by omega, by omega⟩
      obtain ⟨sK, hsK, htK⟩ : ∃ s9 : Nat, hU H ≤ hU s.heap + s9 ∧ s9 + 160 * p0 + 0 + 160 * (k + 1) ≤ 160 * qB + pot := ⟨160 * qB + pot - 160 * p0 - 0 - 160 * (k + 1), by omega, by omega⟩
      refine W_tight (k := cK) (n := sK) hcK hsK ?_
      have hNN := hS.1
      have hN0H : N0 ≤ H.size := Nat.le_trans (Nat.le_of_eq hN.symm) hS.1
      refine t_callR (va_runV (As := [.int (nI (cst tp t q)), .ref xB]) (rest := []) ⟨hx, hb, hml, hown, hts⟩ (met_X7_add l G κ z q_1 x0 lm lg k am cm as_ cs _ xB (cst tp t q) fm fs (Nat.le_trans hzN (Nat.le_trans (Nat.le_of_eq hN.symm) hS.1)) (by omega) (by rw [hsg]; decide)) (cv_X3_X7_add hts ⟨by dsimp only [rmG]; omega, by dsimp only [rmG]; omega⟩) (cT.preV hK hZ (xS_mono hS hAZ) ⟨hc, fun i hi y hy => by rw [(he i hi).1] at hy; obtain rfl := Option.some.inj hy; exact (he i hi).2.2.2.aO, fun i hi y hy => by rw [(he i hi).2.1] at hy; obtain rfl := Option.some.inj hy; exact (aI_cache hK hZ (xS_mono hS hAZ) (sgN_c (he i hi).2.2.1).2).1.aO, haB.aO, rfl⟩ (a_recv (ci := 7) hK hc.1 rfl)) rfl rfl hl.1 rfl (lv_room (Nat.le_of_ble_eq_true rfl)) dX3_sum_45 ⟨by dsimp only [rmG]; omega, by dsimp only [rmG]; omega⟩) hS (fun q hq e => Or.inr (hc.inA hn hN0H e)) (fun q e => Or.inr (hc.inA hn hN0H e)) (fun v9 H locs hB9 hz9 hk9 hS => ?_)
      obtain ⟨rfl, am1, cm1, as1, cs1, gm, gs, hc2, hgm, hgs, hgi, hgj, horm, hors, hsz3, hus3⟩ := hB9
      replace hk := va_at.kept hk (hk9 _ (at_lt hk) (hc.notA hn hN0H (hN ▸ hrN0)))
      replace htp := va_at.kept htp (hk9 _ (at_lt htp) (hc.notA hn hN0H (hN ▸ htN0)))
      have hch := chK.add hc he h0 hL0 hn haB hN1 (show 3 ≤ 4 ∧ 4 ≤ 6 by decide) hc2 hgm (by rw [← hsg]; exact hgs) hgi hgj horm hors hz9 (fun q h1 h2 => hk9 q h1 h2)
      refine lv_goto (tgt := 12) hx hb dX3_sum_48 (by decide) ?_
      obtain ⟨cJ, hcJ, hdJ⟩ : ∃ c9 : Nat, H.size ≤ s.heap.size + c9 ∧ c9 + 16 * p0 + 0 ≤ 16 * qB := ⟨16 * qB - 16 * p0 - 0, by omega, by omega⟩
      obtain ⟨sJ, hsJ, htJ⟩ : ∃ s9 : Nat, hU H ≤ hU s.heap + s9 ∧ s9 + 160 * p0 + 0 + 160 * (k + 1) ≤ 160 * qB + (4 * cm1 + 4 * cs1) := ⟨160 * qB + (4 * cm1 + 4 * cs1) - 160 * p0 - 0 - 160 * (k + 1), by omega, by omega⟩
      refine W_tight (k := cJ) (n := sJ) hcJ hsJ ?_
      exact ih12 qB (k + 1) (4 * cm1 + 4 * cs1) cJ sJ (L ++ (LB ++ [(4, nI 0)])) num9 (by omega) ⟨hkq, hqB.2⟩ hdJ htJ hP2 hnum (hPB.2 rfl) _ _ ⟨hk, htp, hS, hch⟩ ls (lv_sub hl [1, 2] rfl)
  obtain ⟨cI, hcI, hdI⟩ : ∃ c9 : Nat, H.size ≤ s.heap.size + c9 ∧ c9 + 16 * p0 + 0 ≤ 16 * qA := ⟨16 * qA - 16 * p0 - 0, by omega, by omega⟩
  obtain ⟨sI, hsI, htI⟩ : ∃ s9 : Nat, hU H ≤ hU s.heap + s9 ∧ s9 + 160 * p0 + 0 ≤ 160 * qA := ⟨160 * qA - 160 * p0 - 0, by omega, by omega⟩
  refine W_tight (k := cI) (n := sI) hcI hsI ?_
  exact L12_2 _ qA 0 0 cI sI LA num9 (Nat.lt_succ_self _) ⟨hqA.1, hqA.2⟩ hdI htI (ySm_prod hPA.1) hnum (hPA.2 rfl) _ _ ⟨hk, htp, hS, hch⟩ ls (lv_sub hl [1, 0] rfl)
