/-! the component's next (printed by gen/xs3.py) -/
theorem tk_to {G : gG} {r ta t a b c a' b' c' : Nat} {Xb : Nat → Int32} {num opn knd : Int32} {H : Heap} (e1 : a = a') (e2 : b = b') (e3 : c = c') (h : tkC G r ta t Xb (nI a) (nI b) (nI c) num opn knd H) : tkC G r ta t Xb (nI a') (nI b') (nI c') num opn knd H := by
  subst e1 e2 e3; exact h
theorem nx_0 {tp : Nat → Nat} {t p s0 : Nat} (hs : lxS tp t p = s0) (h : ¬ s0 < t) : s0 = lxQ tp t p ∧ 301 = cst tp t p ∧ ¬ lxT tp t p = 1 := by
  subst hs
  unfold lxQ cst lxT
  dsimp only
  rw [if_neg h, if_neg h, if_neg h]
  exact ⟨rfl, rfl, by decide⟩
theorem nx_l {tp : Nat → Nat} {t p s0 e1 : Nat} (hs : lxS tp t p = s0) (h : s0 < t) (hl : lLet (tp s0) = true) (he : scn lLet tp (t - s0) s0 = e1) : e1 = lxQ tp t p ∧ wst tp s0 e1 25 = cst tp t p ∧ ¬ lxT tp t p = 1 := by
  subst hs
  have hd : ¬ lDig (tp (lxS tp t p)) = true := fun q => by have a := lDig_i.mp q; have b := lLet_i.mp hl; omega
  have e := lxQ_let h hl
  refine ⟨by rw [e, he], ?_, ?_⟩
  · unfold cst
    rw [if_pos h, if_pos hl, e, he]
  · unfold lxT
    dsimp only
    rw [if_pos h, if_neg hd, if_pos hl]
    decide
theorem nx_d {tp : Nat → Nat} {t p s0 q v : Nat} (hs : lxS tp t p = s0) (h : s0 < t) (hd : lDig (tp s0) = true) (hn : ¬ lLet (tp s0) = true) (he : scn lDig tp (t - s0) s0 = q) (hv : numL tp (t - s0) s0 0 = v) : q = lxQ tp t p ∧ 300 = cst tp t p ∧ nI (min 99999 v) = nI (min 99999 (lxN tp t p)) := by
  subst hs
  refine ⟨by rw [lxQ_dig h hd, he], ?_, ?_⟩
  · unfold cst
    rw [if_pos h, if_neg hn, if_pos hd]
  · unfold lxN
    rw [hv]
theorem nx_s {tp : Nat → Nat} {t p s0 : Nat} (hs : lxS tp t p = s0) (h : s0 < t) (hn : ¬ lLet (tp s0) = true) (hd : ¬ lDig (tp s0) = true) : ((tp s0 = 60 ∨ tp s0 = 62) ∧ s0 + 1 < t ∧ tp (s0 + 1) = 61 → s0 + 2 = lxQ tp t p ∧ (if tp s0 = 60 then 303 else 304) = cst tp t p ∧ ¬ lxT tp t p = 1) ∧ (¬ ((tp s0 = 60 ∨ tp s0 = 62) ∧ s0 + 1 < t ∧ tp (s0 + 1) = 61) → s0 + 1 = lxQ tp t p ∧ (if sgn (tp s0) = true then tp s0 else 302) = cst tp t p ∧ ¬ lxT tp t p = 1) := by
  subst hs
  constructor
  · intro c
    refine ⟨?_, ?_, ?_⟩
    · unfold lxQ; dsimp only; rw [if_pos h, if_neg hd, if_neg hn, if_pos c]
    · unfold cst; rw [if_pos h, if_neg hn, if_neg hd, if_pos c]
    · unfold lxT; dsimp only; rw [if_pos h, if_neg hd, if_neg hn, if_pos c]
      split <;> decide
  · intro c
    refine ⟨?_, ?_, ?_⟩
    · unfold lxQ; dsimp only; rw [if_pos h, if_neg hd, if_neg hn, if_neg c]
    · unfold cst; rw [if_pos h, if_neg hn, if_neg hd, if_neg c]
    · unfold lxT; dsimp only; rw [if_pos h, if_neg hd, if_neg hn, if_neg c]
      split
      · next h9 => rw [lSign_i] at h9; omega
      · decide
set_option maxHeartbeats 4000000 in
set_option maxRecDepth 100000 in
theorem met_X3_next (l : Launch) (G : gG) (κ : kK) (z : Nat) (tp : Nat → Nat) (Xb : Nat → Int32) (r ta t p0 : Nat) (tok srt num opn knd : Int32) (hXb : ∀ j, j < t → Xb j = sb (tp j) ∧ tp j < 256) (ht : t ≤ 300) (hp : p0 ≤ t) (hra : r ≠ ta) (hz : z ≤ r) : Met l yX3_next (ws_ yX3_next cX3_next 3 none) ({ frames := 5, cells := 0, slots := 0, locals := 107 } : Room) (cT G κ z [.ref r] (tkC G r ta t Xb (nI p0) tok srt num opn knd)) (tQ (fun v _ H1 => v = none ∧ ∃ num9, (lxT tp t p0 = 1 → num9 = nI (min 99999 (lxN tp t p0))) ∧ tkC G r ta t Xb (nI (lxQ tp t p0)) (nI (lxS tp t p0)) (nI (cst tp t p0)) num9 opn knd H1) (fun q => q = r)) 0 0 (fun q => q = r) := by
  refine t_startR (by decide) (Nat.le_of_ble_eq_true rfl) ?_
  intro p e s m below meth c hx hb hr hlocks hml hown hts hB hK hZ hname ls hl
  have hl : lv_has ls 3 [(0, .ref r)] := hl
  obtain ⟨hk, htp⟩ := hB
  have hAZ : ∀ q, q = r → aZ z q := fun q e => e ▸ hz
  have hS : va_S (fun q => q = r) s.heap s.heap [] := va_S.rf
  have J_52 : ∀ (s0 : Nat), (s0 ≤ t) → (lxS tp t p0 = s0) → ∀ (H : Heap) (locs : List Loc), (va_at (gD G) g_cl (r, .inr (3, [.ref ta, .int (nI t), .int (nI s0), .int tok, .int srt, .int num, .int opn, .int knd])) H ∧ va_at (gD G) g_cl (ta, .inl (G.2.2 1, 300, .inl Xb)) H ∧ va_S (fun q => q = r) s.heap H locs) → ∀ (ls : Array Slot), lv_has ls 3 [(0, .ref r)] → W p l e ({ frames := 5, cells := 0, slots := 0, locals := 107 } : Room) s m ([.ref r] : List Value).toArray below meth c H locs 0 0 (MQ below (tQ (fun v _ H1 => v = none ∧ ∃ num9, (lxT tp t p0 = 1 → num9 = nI (min 99999 (lxN tp t p0))) ∧ tkC G r ta t Xb (nI (lxQ tp t p0)) (nI (lxS tp t p0)) (nI (cst tp t p0)) num9 opn knd H1) (fun q => q = r)) ([.ref r] : List Value).toArray s (0) (0) (fun q => q = r)) (F0 m 52 ls []) := by
    intro s0 hs0 hs1 H locs hw ls hl
    obtain ⟨hk, htp, hS⟩ := hw
    refine lv_aload_n hx hb dX3_next_52 rfl (lv_at hl 0 rfl) ?_
    refine lv_aload_n hx hb dX3_next_53 rfl (lv_at hl 0 rfl) ?_
    refine a_get (own := RX3) (C := RX3) (T := TX3) (N := 8) (ci := 3) hx hb hts in_X3 hown hK hk rfl 2 (by decide) (hts _ q299) (fun _ h9 => h9) rfl dX3_next_54 ?_
    refine p_put (own := RX3) (C := RX3) (T := TX3) (N := 8) (ci := 3) (a := r) (fs := [.ref ta, .int (nI t), .int (nI s0), .int tok, .int srt, .int num, .int opn, .int knd]) (ty := tyX3 3) (v := .int (nI s0)) hx hb hts in_X3 tyX3 tyX3_ok nmX3 hown hK hk rfl 3 (by decide) (hts _ q300) (fun _ h9 => h9) rfl (tyX3_ok 3 (by decide)) rfl rfl (Nat.le_of_ble_eq_true rfl) dX3_next_57 (fun H locs hk hz9 ho9 hl9 => ?_)
    replace hk : va_at (gD G) g_cl (r, .inr (3, [.ref ta, .int (nI t), .int (nI s0), .int (nI s0), .int srt, .int num, .int opn, .int knd])) H := hk
    replace htp := va_at.kept htp (ho9 _ hra.symm)
    replace hS := xS_put hS rfl hz9 ho9 hl9
    refine lv_aload_n hx hb dX3_next_60 rfl (lv_at hl 0 rfl) ?_
    refine a_get (own := RX3) (C := RX3) (T := TX3) (N := 8) (ci := 3) hx hb hts in_X3 hown hK hk rfl 2 (by decide) (hts _ q299) (fun _ h9 => h9) rfl dX3_next_61 ?_
    refine lv_aload_n hx hb dX3_next_64 rfl (lv_at hl 0 rfl) ?_
    refine a_get (own := RX3) (C := RX3) (T := TX3) (N := 8) (ci := 3) hx hb hts in_X3 hown hK hk rfl 1 (by decide) (hts _ q298) (fun _ h9 => h9) rfl dX3_next_65 ?_
    refine n_icmp_ne (tgt := 81) hx hb dX3_next_68 (by decide) (by omega) (by omega) (fun g68 => ?_) (fun g68 => ?_)
    · have hlt0 : s0 < t := by omega
      refine lv_aload_n hx hb dX3_next_81 rfl (lv_at hl 0 rfl) ?_
      refine a_get (own := RX3) (C := RX3) (T := TX3) (N := 8) (ci := 3) hx hb hts in_X3 hown hK hk rfl 0 (by decide) (hts _ q297) (fun _ h9 => h9) rfl dX3_next_82 ?_
      refine lv_aload_n hx hb dX3_next_85 rfl (lv_at hl 0 rfl) ?_
      refine a_get (own := RX3) (C := RX3) (T := TX3) (N := 8) (ci := 3) hx hb hts in_X3 hown hK hk rfl 2 (by decide) (hts _ q299) (fun _ h9 => h9) rfl dX3_next_86 ?_
      refine p_bald (j := s0) (v := sb (tp s0)) hx hb hK (hXb s0 (by omega)).1 htp (by decide) (by omega) dX3_next_89 ?_
      refine c_read (va_runS (As := [.int (sb (tp s0))]) (rest := []) ⟨hx, hb, hml, hown, hts⟩ (met_X3_isLetter l G (sb (tp s0))) (cs_X3_X3_isLetter hts ⟨Nat.le_of_ble_eq_true rfl, Nat.le_of_ble_eq_true rfl⟩) (cP.pre hK trivial) rfl rfl hl.1 rfl (lv_room (Nat.le_of_ble_eq_true rfl)) dX3_next_90 ⟨by first | exact Nat.zero_le _ | omega | decide, by first | exact Nat.zero_le _ | omega | decide⟩) ?_
      rw [bI_congr (sb_let (tp s0) ((hXb s0 (by omega)).2))]
      refine b_if_eq (tgt := 182) hx hb dX3_next_93 (by decide) (fun hl0 => ?_) (fun hl0 => ?_)
      · refine lv_aload_n hx hb dX3_next_182 rfl (lv_at hl 0 rfl) ?_
        refine a_get (own := RX3) (C := RX3) (T := TX3) (N := 8) (ci := 3) hx hb hts in_X3 hown hK hk rfl 0 (by decide) (hts _ q297) (fun _ h9 => h9) rfl dX3_next_183 ?_
        refine lv_aload_n hx hb dX3_next_186 rfl (lv_at hl 0 rfl) ?_
        refine a_get (own := RX3) (C := RX3) (T := TX3) (N := 8) (ci := 3) hx hb hts in_X3 hown hK hk rfl 2 (by decide) (hts _ q299) (fun _ h9 => h9) rfl dX3_next_187 ?_
        refine p_bald (j := s0) (v := sb (tp s0)) hx hb hK (hXb s0 (by omega)).1 htp (by decide) (by omega) dX3_next_190 ?_
        refine c_read (va_runS (As := [.int (sb (tp s0))]) (rest := []) ⟨hx, hb, hml, hown, hts⟩ (met_X3_isDigit l G (sb (tp s0))) (cs_X3_X3_isDigit hts ⟨Nat.le_of_ble_eq_true rfl, Nat.le_of_ble_eq_true rfl⟩) (cP.pre hK trivial) rfl rfl hl.1 rfl (lv_room (Nat.le_of_ble_eq_true rfl)) dX3_next_191 ⟨by first | exact Nat.zero_le _ | omega | decide, by first | exact Nat.zero_le _ | omega | decide⟩) ?_
        rw [bI_congr (sb_dig (tp s0) ((hXb s0 (by omega)).2))]
        refine b_if_eq (tgt := 277) hx hb dX3_next_194 (by decide) (fun hd0 => ?_) (fun hd0 => ?_)
        · refine lv_aload_n hx hb dX3_next_277 rfl (lv_at hl 0 rfl) ?_
          refine a_get (own := RX3) (C := RX3) (T := TX3) (N := 8) (ci := 3) hx hb hts in_X3 hown hK hk rfl 0 (by decide) (hts _ q297) (fun _ h9 => h9) rfl dX3_next_278 ?_
          refine lv_aload_n hx hb dX3_next_281 rfl (lv_at hl 0 rfl) ?_
          refine a_get (own := RX3) (C := RX3) (T := TX3) (N := 8) (ci := 3) hx hb hts in_X3 hown hK hk rfl 2 (by decide) (hts _ q299) (fun _ h9 => h9) rfl dX3_next_282 ?_
          refine p_bald (j := s0) (v := sb (tp s0)) hx hb hK (hXb s0 (by omega)).1 htp (by decide) (by omega) dX3_next_285 ?_
          refine lv_istore_n (lv' := [(1, .int (sb (tp s0))), (0, .ref r)]) hx hb dX3_next_286 rfl hl (by decide) rfl (fun ls hl => ?_)
          refine lv_aload_n hx hb dX3_next_287 rfl (lv_at hl 1 rfl) ?_
          refine lv_dup hx hb dX3_next_288 rfl ?_
          refine a_get (own := RX3) (C := RX3) (T := TX3) (N := 8) (ci := 3) hx hb hts in_X3 hown hK hk rfl 2 (by decide) (hts _ q299) (fun _ h9 => h9) rfl dX3_next_289 ?_
          refine lv_iconst (v := nI 1) hx hb dX3_next_292 (by decide) ?_
          refine n_iadd hx hb dX3_next_293 ?_
          refine p_put (own := RX3) (C := RX3) (T := TX3) (N := 8) (ci := 3) (a := r) (fs := [.ref ta, .int (nI t), .int (nI s0), .int (nI s0), .int srt, .int num, .int opn, .int knd]) (ty := tyX3 2) (v := .int (nI (s0 + 1))) hx hb hts in_X3 tyX3 tyX3_ok nmX3 hown hK hk rfl 2 (by decide) (hts _ q299) (fun _ h9 => h9) rfl (tyX3_ok 2 (by decide)) rfl rfl (Nat.le_of_ble_eq_true rfl) dX3_next_294 (fun H locs hk hz9 ho9 hl9 => ?_)
          replace hk : va_at (gD G) g_cl (r, .inr (3, [.ref ta, .int (nI t), .int (nI (s0 + 1)), .int (nI s0), .int srt, .int num, .int opn, .int knd])) H := hk
          replace htp := va_at.kept htp (ho9 _ hra.symm)
          replace hS := xS_put hS rfl hz9 ho9 hl9
          refine lv_aload_n hx hb dX3_next_297 rfl (lv_at hl 1 rfl) ?_
          refine lv_sipush (v := nI 302) hx hb dX3_next_298 (by decide) ?_
          refine p_put (own := RX3) (C := RX3) (T := TX3) (N := 8) (ci := 3) (a := r) (fs := [.ref ta, .int (nI t), .int (nI (s0 + 1)), .int (nI s0), .int srt, .int num, .int opn, .int knd]) (ty := tyX3 4) (v := .int (nI 302)) hx hb hts in_X3 tyX3 tyX3_ok nmX3 hown hK hk rfl 4 (by decide) (hts _ q301) (fun _ h9 => h9) rfl (tyX3_ok 4 (by decide)) rfl rfl (Nat.le_of_ble_eq_true rfl) dX3_next_301 (fun H locs hk hz9 ho9 hl9 => ?_)
          replace hk : va_at (gD G) g_cl (r, .inr (3, [.ref ta, .int (nI t), .int (nI (s0 + 1)), .int (nI s0), .int (nI 302), .int num, .int opn, .int knd])) H := hk
          replace htp := va_at.kept htp (ho9 _ hra.symm)
          replace hS := xS_put hS rfl hz9 ho9 hl9
          refine lv_iconst (v := nI 0) hx hb dX3_next_304 (by decide) ?_
          refine lv_istore_n (lv' := [(2, .int (nI 0)), (1, .int (sb (tp s0))), (0, .ref r)]) hx hb dX3_next_305 rfl hl (by decide) rfl (fun ls hl => ?_)
          have L_306 : ∀ (fuel : Nat) (k : Nat), 13 - k < fuel → (k ≤ 13) → ∀ (H : Heap) (locs : List Loc), (va_at (gD G) g_cl (r, .inr (3, [.ref ta, .int (nI t), .int (nI (s0 + 1)), .int (nI s0), .int (sgI (tp s0) k), .int num, .int opn, .int knd])) H ∧ va_at (gD G) g_cl (ta, .inl (G.2.2 1, 300, .inl Xb)) H ∧ va_S (fun q => q = r) s.heap H locs) → ∀ (ls : Array Slot), lv_has ls 3 [(0, .ref r), (1, .int (sb (tp s0))), (2, .int (nI k))] → W p l e ({ frames := 5, cells := 0, slots := 0, locals := 107 } : Room) s m ([.ref r] : List Value).toArray below meth c H locs 0 0 (MQ below (tQ (fun v _ H1 => v = none ∧ ∃ num9, (lxT tp t p0 = 1 → num9 = nI (min 99999 (lxN tp t p0))) ∧ tkC G r ta t Xb (nI (lxQ tp t p0)) (nI (lxS tp t p0)) (nI (cst tp t p0)) num9 opn knd H1) (fun q => q = r)) ([.ref r] : List Value).toArray s (0) (0) (fun q => q = r)) (F0 m 306 ls []) := by
            intro fuel
            induction fuel with
            | zero => intro k hf; exact absurd hf (Nat.not_lt_zero _)
            | succ fuel ih =>
              intro k hf hk9 H locs hw ls hl
              have ih306 := ih
              obtain ⟨hk, htp, hS⟩ := hw
              refine lv_iload_n hx hb dX3_next_306 rfl (lv_at hl 2 rfl) ?_
              refine va_ldcS hx hb hown hZ.1.2 dX3_next_307 ?_
              refine c_read (va_runV (As := []) (rest := [.int (nI k)]) ⟨hx, hb, hml, hown, hts⟩ (met_J3_length l G κ z 25 (by decide)) (cv_X3_J3_length hts ⟨Nat.le_of_ble_eq_true rfl, Nat.le_of_ble_eq_true rfl⟩) (cT.preV hK hZ (xS_mono hS hAZ) trivial (vk_recv hZ.1.1 (show 25 < 26 by decide) (xS_mono hS hAZ))) rfl rfl hl.1 rfl (lv_room (Nat.le_of_ble_eq_true rfl)) dX3_next_309 ⟨by first | exact Nat.zero_le _ | omega | decide, by first | exact Nat.zero_le _ | omega | decide⟩) ?_
              rw [show (kNt 25).length = 13 from rfl]
              refine n_icmp_ge (tgt := 336) hx hb dX3_next_312 (by decide) (by omega) (by decide) (fun c_1 => ?_) (fun c_1 => ?_)
              · obtain rfl : k = 13 := by omega
                rw [sgI_13 (tp s0) (hXb s0 (by omega)).2] at hk
                obtain ⟨nx1, nx2⟩ := nx_s hs1 hlt0 hl0 hd0
                refine lv_iload_n hx hb dX3_next_336 rfl (lv_at hl 1 rfl) ?_
                refine lv_bipush (v := nI 60) hx hb dX3_next_337 (by decide) ?_
                refine lv_icmp_eq (tgt := 348) hx hb dX3_next_339 (by decide) (fun b339 => ?_) (fun b339 => ?_)
                · replace b339 := (sb_eq (hXb s0 (by omega)).2 (by decide)).mp b339
                  refine lv_aload_n hx hb dX3_next_348 rfl (lv_at hl 0 rfl) ?_
                  refine a_get (own := RX3) (C := RX3) (T := TX3) (N := 8) (ci := 3) hx hb hts in_X3 hown hK hk rfl 2 (by decide) (hts _ q299) (fun _ h9 => h9) rfl dX3_next_349 ?_
                  refine lv_aload_n hx hb dX3_next_352 rfl (lv_at hl 0 rfl) ?_
                  refine a_get (own := RX3) (C := RX3) (T := TX3) (N := 8) (ci := 3) hx hb hts in_X3 hown hK hk rfl 1 (by decide) (hts _ q298) (fun _ h9 => h9) rfl dX3_next_353 ?_
                  refine n_icmp_ge (tgt := 402) hx hb dX3_next_356 (by decide) (by omega) (by omega) (fun g8 => ?_) (fun g8 => ?_)
                  · obtain ⟨x1, x2, x3⟩ := nx2 (fun h9 => absurd h9.2.1 (by omega))
                    exact t_vret hx hb hr hlocks ⟨rfl, ⟨_, fun h9 => absurd h9 x3, tk_to x1 hs1.symm x2 ⟨hk, htp⟩⟩⟩ hS dX3_next_402
                  refine lv_aload_n hx hb dX3_next_359 rfl (lv_at hl 0 rfl) ?_
                  refine a_get (own := RX3) (C := RX3) (T := TX3) (N := 8) (ci := 3) hx hb hts in_X3 hown hK hk rfl 0 (by decide) (hts _ q297) (fun _ h9 => h9) rfl dX3_next_360 ?_
                  refine lv_aload_n hx hb dX3_next_363 rfl (lv_at hl 0 rfl) ?_
                  refine a_get (own := RX3) (C := RX3) (T := TX3) (N := 8) (ci := 3) hx hb hts in_X3 hown hK hk rfl 2 (by decide) (hts _ q299) (fun _ h9 => h9) rfl dX3_next_364 ?_
                  refine p_bald (j := s0 + 1) (v := sb (tp (s0 + 1))) hx hb hK (hXb (s0 + 1) (by omega)).1 htp (by decide) (by omega) dX3_next_367 ?_
                  refine lv_bipush (v := nI 61) hx hb dX3_next_368 (by decide) ?_
                  refine lv_icmp_ne (tgt := 402) hx hb dX3_next_370 (by decide) (fun b61 => ?_) (fun b61 => ?_)
                  · obtain ⟨x1, x2, x3⟩ := nx2 (fun h9 => b61 ((sb_eq (hXb (s0 + 1) (by omega)).2 (by decide)).mpr h9.2.2))
                    exact t_vret hx hb hr hlocks ⟨rfl, ⟨_, fun h9 => absurd h9 x3, tk_to x1 hs1.symm x2 ⟨hk, htp⟩⟩⟩ hS dX3_next_402
                  replace b61 := (sb_eq (hXb (s0 + 1) (by omega)).2 (by decide)).mp b61
                  refine lv_aload_n hx hb dX3_next_373 rfl (lv_at hl 0 rfl) ?_
                  refine lv_iload_n hx hb dX3_next_374 rfl (lv_at hl 1 rfl) ?_
                  refine lv_bipush (v := nI 60) hx hb dX3_next_375 (by decide) ?_
                  refine lv_icmp_ne (tgt := 386) hx hb dX3_next_377 (by decide) (fun b377 => ?_) (fun b377 => ?_)
                  · replace b377 : ¬ tp s0 = 60 := fun q9 => b377 ((sb_eq (hXb s0 (by omega)).2 (by decide)).mpr q9)
                    refine lv_sipush (v := nI 304) hx hb dX3_next_386 (by decide) ?_
                    refine p_put (own := RX3) (C := RX3) (T := TX3) (N := 8) (ci := 3) (a := r) (fs := [.ref ta, .int (nI t), .int (nI (s0 + 1)), .int (nI s0), .int (nI (if sgn (tp s0) = true then tp s0 else 302)), .int num, .int opn, .int knd]) (ty := tyX3 4) (v := .int (nI 304)) hx hb hts in_X3 tyX3 tyX3_ok nmX3 hown hK hk rfl 4 (by decide) (hts _ q301) (fun _ h9 => h9) rfl (tyX3_ok 4 (by decide)) rfl rfl (Nat.le_of_ble_eq_true rfl) dX3_next_389 (fun H locs hk hz9 ho9 hl9 => ?_)
                    replace hk : va_at (gD G) g_cl (r, .inr (3, [.ref ta, .int (nI t), .int (nI (s0 + 1)), .int (nI s0), .int (nI 304), .int num, .int opn, .int knd])) H := hk
                    replace htp := va_at.kept htp (ho9 _ hra.symm)
                    replace hS := xS_put hS rfl hz9 ho9 hl9
                    refine lv_aload_n hx hb dX3_next_392 rfl (lv_at hl 0 rfl) ?_
                    refine lv_dup hx hb dX3_next_393 rfl ?_
                    refine a_get (own := RX3) (C := RX3) (T := TX3) (N := 8) (ci := 3) hx hb hts in_X3 hown hK hk rfl 2 (by decide) (hts _ q299) (fun _ h9 => h9) rfl dX3_next_394 ?_
                    refine lv_iconst (v := nI 1) hx hb dX3_next_397 (by decide) ?_
                    refine n_iadd hx hb dX3_next_398 ?_
                    refine p_put (own := RX3) (C := RX3) (T := TX3) (N := 8) (ci := 3) (a := r) (fs := [.ref ta, .int (nI t), .int (nI (s0 + 1)), .int (nI s0), .int (nI 304), .int num, .int opn, .int knd]) (ty := tyX3 2) (v := .int (nI (s0 + 2))) hx hb hts in_X3 tyX3 tyX3_ok nmX3 hown hK hk rfl 2 (by decide) (hts _ q299) (fun _ h9 => h9) rfl (tyX3_ok 2 (by decide)) rfl rfl (Nat.le_of_ble_eq_true rfl) dX3_next_399 (fun H locs hk hz9 ho9 hl9 => ?_)
                    replace hk : va_at (gD G) g_cl (r, .inr (3, [.ref ta, .int (nI t), .int (nI (s0 + 2)), .int (nI s0), .int (nI 304), .int num, .int opn, .int knd])) H := hk
                    replace htp := va_at.kept htp (ho9 _ hra.symm)
                    replace hS := xS_put hS rfl hz9 ho9 hl9
                    obtain ⟨x1, x2, x3⟩ := nx1 ⟨(Or.inl b339), by omega, b61⟩
                    rw [if_neg b377] at x2
                    exact t_vret hx hb hr hlocks ⟨rfl, ⟨_, fun h9 => absurd h9 x3, tk_to x1 hs1.symm x2 ⟨hk, htp⟩⟩⟩ hS dX3_next_402
                  replace b377 := (sb_eq (hXb s0 (by omega)).2 (by decide)).mp b377
                  refine lv_sipush (v := nI 303) hx hb dX3_next_380 (by decide) ?_
                  refine lv_goto (tgt := 389) hx hb dX3_next_383 (by decide) ?_
                  refine p_put (own := RX3) (C := RX3) (T := TX3) (N := 8) (ci := 3) (a := r) (fs := [.ref ta, .int (nI t), .int (nI (s0 + 1)), .int (nI s0), .int (nI (if sgn (tp s0) = true then tp s0 else 302)), .int num, .int opn, .int knd]) (ty := tyX3 4) (v := .int (nI 303)) hx hb hts in_X3 tyX3 tyX3_ok nmX3 hown hK hk rfl 4 (by decide) (hts _ q301) (fun _ h9 => h9) rfl (tyX3_ok 4 (by decide)) rfl rfl (Nat.le_of_ble_eq_true rfl) dX3_next_389 (fun H locs hk hz9 ho9 hl9 => ?_)
                  replace hk : va_at (gD G) g_cl (r, .inr (3, [.ref ta, .int (nI t), .int (nI (s0 + 1)), .int (nI s0), .int (nI 303), .int num, .int opn, .int knd])) H := hk
                  replace htp := va_at.kept htp (ho9 _ hra.symm)
                  replace hS := xS_put hS rfl hz9 ho9 hl9
                  refine lv_aload_n hx hb dX3_next_392 rfl (lv_at hl 0 rfl) ?_
                  refine lv_dup hx hb dX3_next_393 rfl ?_
                  refine a_get (own := RX3) (C := RX3) (T := TX3) (N := 8) (ci := 3) hx hb hts in_X3 hown hK hk rfl 2 (by decide) (hts _ q299) (fun _ h9 => h9) rfl dX3_next_394 ?_
                  refine lv_iconst (v := nI 1) hx hb dX3_next_397 (by decide) ?_
                  refine n_iadd hx hb dX3_next_398 ?_
                  refine p_put (own := RX3) (C := RX3) (T := TX3) (N := 8) (ci := 3) (a := r) (fs := [.ref ta, .int (nI t), .int (nI (s0 + 1)), .int (nI s0), .int (nI 303), .int num, .int opn, .int knd]) (ty := tyX3 2) (v := .int (nI (s0 + 2))) hx hb hts in_X3 tyX3 tyX3_ok nmX3 hown hK hk rfl 2 (by decide) (hts _ q299) (fun _ h9 => h9) rfl (tyX3_ok 2 (by decide)) rfl rfl (Nat.le_of_ble_eq_true rfl) dX3_next_399 (fun H locs hk hz9 ho9 hl9 => ?_)
                  replace hk : va_at (gD G) g_cl (r, .inr (3, [.ref ta, .int (nI t), .int (nI (s0 + 2)), .int (nI s0), .int (nI 303), .int num, .int opn, .int knd])) H := hk
                  replace htp := va_at.kept htp (ho9 _ hra.symm)
                  replace hS := xS_put hS rfl hz9 ho9 hl9
                  obtain ⟨x1, x2, x3⟩ := nx1 ⟨(Or.inl b339), by omega, b61⟩
                  rw [if_pos b377] at x2
                  exact t_vret hx hb hr hlocks ⟨rfl, ⟨_, fun h9 => absurd h9 x3, tk_to x1 hs1.symm x2 ⟨hk, htp⟩⟩⟩ hS dX3_next_402
                replace b339 : ¬ tp s0 = 60 := fun q9 => b339 ((sb_eq (hXb s0 (by omega)).2 (by decide)).mpr q9)
                refine lv_iload_n hx hb dX3_next_342 rfl (lv_at hl 1 rfl) ?_
                refine lv_bipush (v := nI 62) hx hb dX3_next_343 (by decide) ?_
                refine lv_icmp_ne (tgt := 402) hx hb dX3_next_345 (by decide) (fun b345 => ?_) (fun b345 => ?_)
                · replace b345 : ¬ tp s0 = 62 := fun q9 => b345 ((sb_eq (hXb s0 (by omega)).2 (by decide)).mpr q9)
                  obtain ⟨x1, x2, x3⟩ := nx2 (fun h9 => h9.1.elim b339 b345)
                  exact t_vret hx hb hr hlocks ⟨rfl, ⟨_, fun h9 => absurd h9 x3, tk_to x1 hs1.symm x2 ⟨hk, htp⟩⟩⟩ hS dX3_next_402
                replace b345 := (sb_eq (hXb s0 (by omega)).2 (by decide)).mp b345
                refine lv_aload_n hx hb dX3_next_348 rfl (lv_at hl 0 rfl) ?_
                refine a_get (own := RX3) (C := RX3) (T := TX3) (N := 8) (ci := 3) hx hb hts in_X3 hown hK hk rfl 2 (by decide) (hts _ q299) (fun _ h9 => h9) rfl dX3_next_349 ?_
                refine lv_aload_n hx hb dX3_next_352 rfl (lv_at hl 0 rfl) ?_
                refine a_get (own := RX3) (C := RX3) (T := TX3) (N := 8) (ci := 3) hx hb hts in_X3 hown hK hk rfl 1 (by decide) (hts _ q298) (fun _ h9 => h9) rfl dX3_next_353 ?_
                refine n_icmp_ge (tgt := 402) hx hb dX3_next_356 (by decide) (by omega) (by omega) (fun g8 => ?_) (fun g8 => ?_)
                · obtain ⟨x1, x2, x3⟩ := nx2 (fun h9 => absurd h9.2.1 (by omega))
                  exact t_vret hx hb hr hlocks ⟨rfl, ⟨_, fun h9 => absurd h9 x3, tk_to x1 hs1.symm x2 ⟨hk, htp⟩⟩⟩ hS dX3_next_402
                refine lv_aload_n hx hb dX3_next_359 rfl (lv_at hl 0 rfl) ?_
                refine a_get (own := RX3) (C := RX3) (T := TX3) (N := 8) (ci := 3) hx hb hts in_X3 hown hK hk rfl 0 (by decide) (hts _ q297) (fun _ h9 => h9) rfl dX3_next_360 ?_
                refine lv_aload_n hx hb dX3_next_363 rfl (lv_at hl 0 rfl) ?_
                refine a_get (own := RX3) (C := RX3) (T := TX3) (N := 8) (ci := 3) hx hb hts in_X3 hown hK hk rfl 2 (by decide) (hts _ q299) (fun _ h9 => h9) rfl dX3_next_364 ?_
                refine p_bald (j := s0 + 1) (v := sb (tp (s0 + 1))) hx hb hK (hXb (s0 + 1) (by omega)).1 htp (by decide) (by omega) dX3_next_367 ?_
                refine lv_bipush (v := nI 61) hx hb dX3_next_368 (by decide) ?_
                refine lv_icmp_ne (tgt := 402) hx hb dX3_next_370 (by decide) (fun b61 => ?_) (fun b61 => ?_)
                · obtain ⟨x1, x2, x3⟩ := nx2 (fun h9 => b61 ((sb_eq (hXb (s0 + 1) (by omega)).2 (by decide)).mpr h9.2.2))
                  exact t_vret hx hb hr hlocks ⟨rfl, ⟨_, fun h9 => absurd h9 x3, tk_to x1 hs1.symm x2 ⟨hk, htp⟩⟩⟩ hS dX3_next_402
                replace b61 := (sb_eq (hXb (s0 + 1) (by omega)).2 (by decide)).mp b61
                refine lv_aload_n hx hb dX3_next_373 rfl (lv_at hl 0 rfl) ?_
                refine lv_iload_n hx hb dX3_next_374 rfl (lv_at hl 1 rfl) ?_
                refine lv_bipush (v := nI 60) hx hb dX3_next_375 (by decide) ?_
                refine lv_icmp_ne (tgt := 386) hx hb dX3_next_377 (by decide) (fun b377 => ?_) (fun b377 => ?_)
                · replace b377 : ¬ tp s0 = 60 := fun q9 => b377 ((sb_eq (hXb s0 (by omega)).2 (by decide)).mpr q9)
                  refine lv_sipush (v := nI 304) hx hb dX3_next_386 (by decide) ?_
                  refine p_put (own := RX3) (C := RX3) (T := TX3) (N := 8) (ci := 3) (a := r) (fs := [.ref ta, .int (nI t), .int (nI (s0 + 1)), .int (nI s0), .int (nI (if sgn (tp s0) = true then tp s0 else 302)), .int num, .int opn, .int knd]) (ty := tyX3 4) (v := .int (nI 304)) hx hb hts in_X3 tyX3 tyX3_ok nmX3 hown hK hk rfl 4 (by decide) (hts _ q301) (fun _ h9 => h9) rfl (tyX3_ok 4 (by decide)) rfl rfl (Nat.le_of_ble_eq_true rfl) dX3_next_389 (fun H locs hk hz9 ho9 hl9 => ?_)
                  replace hk : va_at (gD G) g_cl (r, .inr (3, [.ref ta, .int (nI t), .int (nI (s0 + 1)), .int (nI s0), .int (nI 304), .int num, .int opn, .int knd])) H := hk
                  replace htp := va_at.kept htp (ho9 _ hra.symm)
                  replace hS := xS_put hS rfl hz9 ho9 hl9
                  refine lv_aload_n hx hb dX3_next_392 rfl (lv_at hl 0 rfl) ?_
                  refine lv_dup hx hb dX3_next_393 rfl ?_
                  refine a_get (own := RX3) (C := RX3) (T := TX3) (N := 8) (ci := 3) hx hb hts in_X3 hown hK hk rfl 2 (by decide) (hts _ q299) (fun _ h9 => h9) rfl dX3_next_394 ?_
                  refine lv_iconst (v := nI 1) hx hb dX3_next_397 (by decide) ?_
                  refine n_iadd hx hb dX3_next_398 ?_
                  refine p_put (own := RX3) (C := RX3) (T := TX3) (N := 8) (ci := 3) (a := r) (fs := [.ref ta, .int (nI t), .int (nI (s0 + 1)), .int (nI s0), .int (nI 304), .int num, .int opn, .int knd]) (ty := tyX3 2) (v := .int (nI (s0 + 2))) hx hb hts in_X3 tyX3 tyX3_ok nmX3 hown hK hk rfl 2 (by decide) (hts _ q299) (fun _ h9 => h9) rfl (tyX3_ok 2 (by decide)) rfl rfl (Nat.le_of_ble_eq_true rfl) dX3_next_399 (fun H locs hk hz9 ho9 hl9 => ?_)
                  replace hk : va_at (gD G) g_cl (r, .inr (3, [.ref ta, .int (nI t), .int (nI (s0 + 2)), .int (nI s0), .int (nI 304), .int num, .int opn, .int knd])) H := hk
                  replace htp := va_at.kept htp (ho9 _ hra.symm)
                  replace hS := xS_put hS rfl hz9 ho9 hl9
                  obtain ⟨x1, x2, x3⟩ := nx1 ⟨(Or.inr b345), by omega, b61⟩
                  rw [if_neg b377] at x2
                  exact t_vret hx hb hr hlocks ⟨rfl, ⟨_, fun h9 => absurd h9 x3, tk_to x1 hs1.symm x2 ⟨hk, htp⟩⟩⟩ hS dX3_next_402
                replace b377 := (sb_eq (hXb s0 (by omega)).2 (by decide)).mp b377
                refine lv_sipush (v := nI 303) hx hb dX3_next_380 (by decide) ?_
                refine lv_goto (tgt := 389) hx hb dX3_next_383 (by decide) ?_
                refine p_put (own := RX3) (C := RX3) (T := TX3) (N := 8) (ci := 3) (a := r) (fs := [.ref ta, .int (nI t), .int (nI (s0 + 1)), .int (nI s0), .int (nI (if sgn (tp s0) = true then tp s0 else 302)), .int num, .int opn, .int knd]) (ty := tyX3 4) (v := .int (nI 303)) hx hb hts in_X3 tyX3 tyX3_ok nmX3 hown hK hk rfl 4 (by decide) (hts _ q301) (fun _ h9 => h9) rfl (tyX3_ok 4 (by decide)) rfl rfl (Nat.le_of_ble_eq_true rfl) dX3_next_389 (fun H locs hk hz9 ho9 hl9 => ?_)
                replace hk : va_at (gD G) g_cl (r, .inr (3, [.ref ta, .int (nI t), .int (nI (s0 + 1)), .int (nI s0), .int (nI 303), .int num, .int opn, .int knd])) H := hk
                replace htp := va_at.kept htp (ho9 _ hra.symm)
                replace hS := xS_put hS rfl hz9 ho9 hl9
                refine lv_aload_n hx hb dX3_next_392 rfl (lv_at hl 0 rfl) ?_
                refine lv_dup hx hb dX3_next_393 rfl ?_
                refine a_get (own := RX3) (C := RX3) (T := TX3) (N := 8) (ci := 3) hx hb hts in_X3 hown hK hk rfl 2 (by decide) (hts _ q299) (fun _ h9 => h9) rfl dX3_next_394 ?_
                refine lv_iconst (v := nI 1) hx hb dX3_next_397 (by decide) ?_
                refine n_iadd hx hb dX3_next_398 ?_
                refine p_put (own := RX3) (C := RX3) (T := TX3) (N := 8) (ci := 3) (a := r) (fs := [.ref ta, .int (nI t), .int (nI (s0 + 1)), .int (nI s0), .int (nI 303), .int num, .int opn, .int knd]) (ty := tyX3 2) (v := .int (nI (s0 + 2))) hx hb hts in_X3 tyX3 tyX3_ok nmX3 hown hK hk rfl 2 (by decide) (hts _ q299) (fun _ h9 => h9) rfl (tyX3_ok 2 (by decide)) rfl rfl (Nat.le_of_ble_eq_true rfl) dX3_next_399 (fun H locs hk hz9 ho9 hl9 => ?_)
                replace hk : va_at (gD G) g_cl (r, .inr (3, [.ref ta, .int (nI t), .int (nI (s0 + 2)), .int (nI s0), .int (nI 303), .int num, .int opn, .int knd])) H := hk
                replace htp := va_at.kept htp (ho9 _ hra.symm)
                replace hS := xS_put hS rfl hz9 ho9 hl9
                obtain ⟨x1, x2, x3⟩ := nx1 ⟨(Or.inr b345), by omega, b61⟩
                rw [if_pos b377] at x2
                exact t_vret hx hb hr hlocks ⟨rfl, ⟨_, fun h9 => absurd h9 x3, tk_to x1 hs1.symm x2 ⟨hk, htp⟩⟩⟩ hS dX3_next_402
              refine va_ldcS hx hb hown hZ.1.2 dX3_next_315 ?_
              refine lv_iload_n hx hb dX3_next_317 rfl (lv_at hl 2 rfl) ?_
              refine c_read (va_runV (As := [.int (nI k)]) (rest := []) ⟨hx, hb, hml, hown, hts⟩ (met_J3_charAt l G κ z 25 k (by decide) (by rw [show (kNt 25).length = 13 from rfl]; omega)) (cv_X3_J3_charAt hts ⟨Nat.le_of_ble_eq_true rfl, Nat.le_of_ble_eq_true rfl⟩) (cT.preV hK hZ (xS_mono hS hAZ) trivial (vk_recv hZ.1.1 (show 25 < 26 by decide) (xS_mono hS hAZ))) rfl rfl hl.1 rfl (lv_room (Nat.le_of_ble_eq_true rfl)) dX3_next_318 ⟨by first | exact Nat.zero_le _ | omega | decide, by first | exact Nat.zero_le _ | omega | decide⟩) ?_
              refine lv_iload_n hx hb dX3_next_321 rfl (lv_at hl 1 rfl) ?_
              refine lv_icmp_ne (tgt := 330) hx hb dX3_next_322 (by decide) (fun hsg => ?_) (fun hsg => ?_)
              · rw [show sgI (tp s0) k = sgI (tp s0) (k + 1) from (pif_f hsg).symm] at hk
                refine lv_iinc (v := nI (k + 1)) (lv' := [(2, .int (nI (k + 1))), (0, .ref r), (1, .int (sb (tp s0)))]) hx hb dX3_next_330 hl (k := 2) rfl (n_inc k 1) (by decide) rfl (fun ls hl => ?_)
                refine lv_goto (tgt := 306) hx hb dX3_next_333 (by decide) ?_
                exact ih306 (k + 1) (by omega) (by omega) _ _ ⟨hk, htp, hS⟩ ls (lv_sub hl [1, 2, 0] rfl)
              refine lv_aload_n hx hb dX3_next_325 rfl (lv_at hl 0 rfl) ?_
              refine lv_iload_n hx hb dX3_next_326 rfl (lv_at hl 1 rfl) ?_
              refine p_put (own := RX3) (C := RX3) (T := TX3) (N := 8) (ci := 3) (a := r) (fs := [.ref ta, .int (nI t), .int (nI (s0 + 1)), .int (nI s0), .int (sgI (tp s0) k), .int num, .int opn, .int knd]) (ty := tyX3 4) (v := .int (sb (tp s0))) hx hb hts in_X3 tyX3 tyX3_ok nmX3 hown hK hk rfl 4 (by decide) (hts _ q301) (fun _ h9 => h9) rfl (tyX3_ok 4 (by decide)) rfl rfl (Nat.le_of_ble_eq_true rfl) dX3_next_327 (fun H locs hk hz9 ho9 hl9 => ?_)
              replace hk : va_at (gD G) g_cl (r, .inr (3, [.ref ta, .int (nI t), .int (nI (s0 + 1)), .int (nI s0), .int (sb (tp s0)), .int num, .int opn, .int knd])) H := hk
              replace htp := va_at.kept htp (ho9 _ hra.symm)
              replace hS := xS_put hS rfl hz9 ho9 hl9
              rw [show sb (tp s0) = sgI (tp s0) (k + 1) from (pif_t hsg).symm] at hk
              refine lv_iinc (v := nI (k + 1)) (lv' := [(2, .int (nI (k + 1))), (0, .ref r), (1, .int (sb (tp s0)))]) hx hb dX3_next_330 hl (k := 2) rfl (n_inc k 1) (by decide) rfl (fun ls hl => ?_)
              refine lv_goto (tgt := 306) hx hb dX3_next_333 (by decide) ?_
              exact ih306 (k + 1) (by omega) (by omega) _ _ ⟨hk, htp, hS⟩ ls (lv_sub hl [1, 2, 0] rfl)
          exact L_306 _ 0 (Nat.lt_succ_self _) (by decide) _ _ ⟨hk, htp, hS⟩ ls (lv_sub hl [2, 1, 0] rfl)
        refine lv_aload_n hx hb dX3_next_197 rfl (lv_at hl 0 rfl) ?_
        refine lv_sipush (v := nI 300) hx hb dX3_next_198 (by decide) ?_
        refine p_put (own := RX3) (C := RX3) (T := TX3) (N := 8) (ci := 3) (a := r) (fs := [.ref ta, .int (nI t), .int (nI s0), .int (nI s0), .int srt, .int num, .int opn, .int knd]) (ty := tyX3 4) (v := .int (nI 300)) hx hb hts in_X3 tyX3 tyX3_ok nmX3 hown hK hk rfl 4 (by decide) (hts _ q301) (fun _ h9 => h9) rfl (tyX3_ok 4 (by decide)) rfl rfl (Nat.le_of_ble_eq_true rfl) dX3_next_201 (fun H locs hk hz9 ho9 hl9 => ?_)
        replace hk : va_at (gD G) g_cl (r, .inr (3, [.ref ta, .int (nI t), .int (nI s0), .int (nI s0), .int (nI 300), .int num, .int opn, .int knd])) H := hk
        replace htp := va_at.kept htp (ho9 _ hra.symm)
        replace hS := xS_put hS rfl hz9 ho9 hl9
        refine lv_aload_n hx hb dX3_next_204 rfl (lv_at hl 0 rfl) ?_
        refine lv_iconst (v := nI 0) hx hb dX3_next_205 (by decide) ?_
        refine p_put (own := RX3) (C := RX3) (T := TX3) (N := 8) (ci := 3) (a := r) (fs := [.ref ta, .int (nI t), .int (nI s0), .int (nI s0), .int (nI 300), .int num, .int opn, .int knd]) (ty := tyX3 5) (v := .int (nI 0)) hx hb hts in_X3 tyX3 tyX3_ok nmX3 hown hK hk rfl 5 (by decide) (hts _ q302) (fun _ h9 => h9) rfl (tyX3_ok 5 (by decide)) rfl rfl (Nat.le_of_ble_eq_true rfl) dX3_next_206 (fun H locs hk hz9 ho9 hl9 => ?_)
        replace hk : va_at (gD G) g_cl (r, .inr (3, [.ref ta, .int (nI t), .int (nI s0), .int (nI s0), .int (nI 300), .int (nI 0), .int opn, .int knd])) H := hk
        replace htp := va_at.kept htp (ho9 _ hra.symm)
        replace hS := xS_put hS rfl hz9 ho9 hl9
        have L209_2 : ∀ (fuel : Nat) (q : Nat) (v : Nat), t - q < fuel → (s0 ≤ q ∧ q ≤ t) → (scn lDig tp (t - q) q = scn lDig tp (t - s0) s0) → (numL tp (t - q) q v = numL tp (t - s0) s0 0) → (v < 1000000) → ∀ (H : Heap) (locs : List Loc), (va_at (gD G) g_cl (r, .inr (3, [.ref ta, .int (nI t), .int (nI q), .int (nI s0), .int (nI 300), .int (nI (min 99999 v)), .int opn, .int knd])) H ∧ va_at (gD G) g_cl (ta, .inl (G.2.2 1, 300, .inl Xb)) H ∧ va_S (fun q => q = r) s.heap H locs) → ∀ (ls : Array Slot), lv_has ls 3 [(0, .ref r)] → W p l e ({ frames := 5, cells := 0, slots := 0, locals := 107 } : Room) s m ([.ref r] : List Value).toArray below meth c H locs 0 0 (MQ below (tQ (fun v _ H1 => v = none ∧ ∃ num9, (lxT tp t p0 = 1 → num9 = nI (min 99999 (lxN tp t p0))) ∧ tkC G r ta t Xb (nI (lxQ tp t p0)) (nI (lxS tp t p0)) (nI (cst tp t p0)) num9 opn knd H1) (fun q => q = r)) ([.ref r] : List Value).toArray s (0) (0) (fun q => q = r)) (F0 m 209 ls []) := by
          intro fuel
          induction fuel with
          | zero => intro q v hf; exact absurd hf (Nat.not_lt_zero _)
          | succ fuel ih =>
            intro q v hf hq hsc hnu hv H locs hw ls hl
            have ih209 := ih
            obtain ⟨hk, htp, hS⟩ := hw
            refine lv_aload_n hx hb dX3_next_209 rfl (lv_at hl 0 rfl) ?_
            refine a_get (own := RX3) (C := RX3) (T := TX3) (N := 8) (ci := 3) hx hb hts in_X3 hown hK hk rfl 2 (by decide) (hts _ q299) (fun _ h9 => h9) rfl dX3_next_210 ?_
            refine lv_aload_n hx hb dX3_next_213 rfl (lv_at hl 0 rfl) ?_
            refine a_get (own := RX3) (C := RX3) (T := TX3) (N := 8) (ci := 3) hx hb hts in_X3 hown hK hk rfl 1 (by decide) (hts _ q298) (fun _ h9 => h9) rfl dX3_next_214 ?_
            refine n_icmp_ge (tgt := 402) hx hb dX3_next_217 (by decide) (by omega) (by omega) (fun g8 => ?_) (fun g8 => ?_)
            · obtain ⟨x1, x2, x3⟩ := nx_d hs1 hlt0 hd0 hl0 (hsc.symm.trans (scn_z g8)) (hnu.symm.trans (numL_z g8))
              exact t_vret hx hb hr hlocks ⟨rfl, ⟨_, fun _ => x3, tk_to x1 hs1.symm x2 ⟨hk, htp⟩⟩⟩ hS dX3_next_402
            refine lv_aload_n hx hb dX3_next_220 rfl (lv_at hl 0 rfl) ?_
            refine a_get (own := RX3) (C := RX3) (T := TX3) (N := 8) (ci := 3) hx hb hts in_X3 hown hK hk rfl 0 (by decide) (hts _ q297) (fun _ h9 => h9) rfl dX3_next_221 ?_
            refine lv_aload_n hx hb dX3_next_224 rfl (lv_at hl 0 rfl) ?_
            refine a_get (own := RX3) (C := RX3) (T := TX3) (N := 8) (ci := 3) hx hb hts in_X3 hown hK hk rfl 2 (by decide) (hts _ q299) (fun _ h9 => h9) rfl dX3_next_225 ?_
            refine p_bald (j := q) (v := sb (tp q)) hx hb hK (hXb q (by omega)).1 htp (by decide) (by omega) dX3_next_228 ?_
            refine c_read (va_runS (As := [.int (sb (tp q))]) (rest := []) ⟨hx, hb, hml, hown, hts⟩ (met_X3_isDigit l G (sb (tp q))) (cs_X3_X3_isDigit hts ⟨Nat.le_of_ble_eq_true rfl, Nat.le_of_ble_eq_true rfl⟩) (cP.pre hK trivial) rfl rfl hl.1 rfl (lv_room (Nat.le_of_ble_eq_true rfl)) dX3_next_229 ⟨by first | exact Nat.zero_le _ | omega | decide, by first | exact Nat.zero_le _ | omega | decide⟩) ?_
            rw [bI_congr (sb_dig (tp q) ((hXb q (by omega)).2))]
            refine b_if_eq (tgt := 402) hx hb dX3_next_232 (by decide) (fun hdq => ?_) (fun hdq => ?_)
            · obtain ⟨x1, x2, x3⟩ := nx_d hs1 hlt0 hd0 hl0 (hsc.symm.trans (scn_f (by omega) hdq)) (hnu.symm.trans (numL_f (by omega) hdq))
              exact t_vret hx hb hr hlocks ⟨rfl, ⟨_, fun _ => x3, tk_to x1 hs1.symm x2 ⟨hk, htp⟩⟩⟩ hS dX3_next_402
            have hdi := lDig_i.mp hdq
            refine lv_aload_n hx hb dX3_next_235 rfl (lv_at hl 0 rfl) ?_
            refine lv_ldc (v := nI 99999) hx hb hown (hts _ q438) dX3_next_236 ?_
            refine lv_bipush (v := nI 10) hx hb dX3_next_238 (by decide) ?_
            refine lv_aload_n hx hb dX3_next_240 rfl (lv_at hl 0 rfl) ?_
            refine a_get (own := RX3) (C := RX3) (T := TX3) (N := 8) (ci := 3) hx hb hts in_X3 hown hK hk rfl 5 (by decide) (hts _ q302) (fun _ h9 => h9) rfl dX3_next_241 ?_
            refine n_imul hx hb dX3_next_244 ?_
            refine lv_aload_n hx hb dX3_next_245 rfl (lv_at hl 0 rfl) ?_
            refine a_get (own := RX3) (C := RX3) (T := TX3) (N := 8) (ci := 3) hx hb hts in_X3 hown hK hk rfl 0 (by decide) (hts _ q297) (fun _ h9 => h9) rfl dX3_next_246 ?_
            refine lv_aload_n hx hb dX3_next_249 rfl (lv_at hl 0 rfl) ?_
            refine a_get (own := RX3) (C := RX3) (T := TX3) (N := 8) (ci := 3) hx hb hts in_X3 hown hK hk rfl 2 (by decide) (hts _ q299) (fun _ h9 => h9) rfl dX3_next_250 ?_
            refine p_bald (j := q) (v := nI (tp q)) hx hb hK ((hXb q (by omega)).1.trans (sb_lt (by omega))) htp (by decide) (by omega) dX3_next_253 ?_
            refine n_iadd hx hb dX3_next_254 ?_
            refine lv_bipush (v := nI 48) hx hb dX3_next_255 (by decide) ?_
            refine n_isub hx hb (by omega) dX3_next_257 ?_
            refine c_mmin (x := (nI 99999)) (y := (nI ((10 * (min 99999 v) + tp q) - 48))) hx hb (hml.trans hl.1.symm) hown (hts _ q439) (hts _ q440) (hts _ q109) (hts _ q441) (Nat.le_of_ble_eq_true rfl) (Nat.le_trans (Nat.add_le_add_right (show (([.ref r] : List Value).map fun v => v.category).sum ≤ 20 from Nat.le_of_ble_eq_true rfl) 13) (Nat.le_of_ble_eq_true rfl)) (Nat.le_of_ble_eq_true rfl) (Nat.le_of_ble_eq_true rfl) dX3_next_258 ?_
            rw [pif_min (by decide) (by omega)]
            refine p_put (own := RX3) (C := RX3) (T := TX3) (N := 8) (ci := 3) (a := r) (fs := [.ref ta, .int (nI t), .int (nI q), .int (nI s0), .int (nI 300), .int (nI (min 99999 v)), .int opn, .int knd]) (ty := tyX3 5) (v := .int (nI (min 99999 (10 * min 99999 v + tp q - 48)))) hx hb hts in_X3 tyX3 tyX3_ok nmX3 hown hK hk rfl 5 (by decide) (hts _ q302) (fun _ h9 => h9) rfl (tyX3_ok 5 (by decide)) rfl rfl (Nat.le_of_ble_eq_true rfl) dX3_next_261 (fun H locs hk hz9 ho9 hl9 => ?_)
            replace hk : va_at (gD G) g_cl (r, .inr (3, [.ref ta, .int (nI t), .int (nI q), .int (nI s0), .int (nI 300), .int (nI (min 99999 (10 * min 99999 v + tp q - 48))), .int opn, .int knd])) H := hk
            replace htp := va_at.kept htp (ho9 _ hra.symm)
            replace hS := xS_put hS rfl hz9 ho9 hl9
            refine lv_aload_n hx hb dX3_next_264 rfl (lv_at hl 0 rfl) ?_
            refine lv_dup hx hb dX3_next_265 rfl ?_
            refine a_get (own := RX3) (C := RX3) (T := TX3) (N := 8) (ci := 3) hx hb hts in_X3 hown hK hk rfl 2 (by decide) (hts _ q299) (fun _ h9 => h9) rfl dX3_next_266 ?_
            refine lv_iconst (v := nI 1) hx hb dX3_next_269 (by decide) ?_
            refine n_iadd hx hb dX3_next_270 ?_
            refine p_put (own := RX3) (C := RX3) (T := TX3) (N := 8) (ci := 3) (a := r) (fs := [.ref ta, .int (nI t), .int (nI q), .int (nI s0), .int (nI 300), .int (nI (min 99999 (10 * min 99999 v + tp q - 48))), .int opn, .int knd]) (ty := tyX3 2) (v := .int (nI (q + 1))) hx hb hts in_X3 tyX3 tyX3_ok nmX3 hown hK hk rfl 2 (by decide) (hts _ q299) (fun _ h9 => h9) rfl (tyX3_ok 2 (by decide)) rfl rfl (Nat.le_of_ble_eq_true rfl) dX3_next_271 (fun H locs hk hz9 ho9 hl9 => ?_)
            replace hk : va_at (gD G) g_cl (r, .inr (3, [.ref ta, .int (nI t), .int (nI (q + 1)), .int (nI s0), .int (nI 300), .int (nI (min 99999 (10 * min 99999 v + tp q - 48))), .int opn, .int knd])) H := hk
            replace htp := va_at.kept htp (ho9 _ hra.symm)
            replace hS := xS_put hS rfl hz9 ho9 hl9
            refine lv_goto (tgt := 209) hx hb dX3_next_274 (by decide) ?_
            have hd9 := lDig_i.mp hdq
            have ev : min 99999 (10 * min 99999 v + tp q - 48) = min 99999 (if v < 100000 then 10 * v + tp q - 48 else v) := by split <;> omega
            rw [ev] at hk
            exact ih209 (q + 1) (if v < 100000 then 10 * v + tp q - 48 else v) (by omega) (by omega) ((scn_t (by omega) hdq).symm.trans hsc) ((numL_t (by omega) hdq).symm.trans hnu) (by split <;> omega) _ _ ⟨hk, htp, hS⟩ ls (lv_sub hl [0] rfl)
        exact L209_2 _ s0 0 (Nat.lt_succ_self _) ⟨Nat.le_refl _, hs0⟩ rfl rfl (by decide) _ _ ⟨hk, htp, hS⟩ ls (lv_sub hl [0] rfl)
      have J_135 : ∀ (e1 : Nat), (scn lLet tp (t - s0) s0 = e1) → (s0 ≤ e1 ∧ e1 ≤ t) → ∀ (H : Heap) (locs : List Loc), (va_at (gD G) g_cl (r, .inr (3, [.ref ta, .int (nI t), .int (nI e1), .int (nI s0), .int srt, .int num, .int opn, .int knd])) H ∧ va_at (gD G) g_cl (ta, .inl (G.2.2 1, 300, .inl Xb)) H ∧ va_S (fun q => q = r) s.heap H locs) → ∀ (ls : Array Slot), lv_has ls 3 [(0, .ref r)] → W p l e ({ frames := 5, cells := 0, slots := 0, locals := 107 } : Room) s m ([.ref r] : List Value).toArray below meth c H locs 0 0 (MQ below (tQ (fun v _ H1 => v = none ∧ ∃ num9, (lxT tp t p0 = 1 → num9 = nI (min 99999 (lxN tp t p0))) ∧ tkC G r ta t Xb (nI (lxQ tp t p0)) (nI (lxS tp t p0)) (nI (cst tp t p0)) num9 opn knd H1) (fun q => q = r)) ([.ref r] : List Value).toArray s (0) (0) (fun q => q = r)) (F0 m 135 ls []) := by
        intro e1 he1 he2 H locs hw ls hl
        obtain ⟨hk, htp, hS⟩ := hw
        refine lv_aload_n hx hb dX3_next_135 rfl (lv_at hl 0 rfl) ?_
        refine lv_sipush (v := nI 302) hx hb dX3_next_136 (by decide) ?_
        refine p_put (own := RX3) (C := RX3) (T := TX3) (N := 8) (ci := 3) (a := r) (fs := [.ref ta, .int (nI t), .int (nI e1), .int (nI s0), .int srt, .int num, .int opn, .int knd]) (ty := tyX3 4) (v := .int (nI 302)) hx hb hts in_X3 tyX3 tyX3_ok nmX3 hown hK hk rfl 4 (by decide) (hts _ q301) (fun _ h9 => h9) rfl (tyX3_ok 4 (by decide)) rfl rfl (Nat.le_of_ble_eq_true rfl) dX3_next_139 (fun H locs hk hz9 ho9 hl9 => ?_)
        replace hk : va_at (gD G) g_cl (r, .inr (3, [.ref ta, .int (nI t), .int (nI e1), .int (nI s0), .int (nI 302), .int num, .int opn, .int knd])) H := hk
        replace htp := va_at.kept htp (ho9 _ hra.symm)
        replace hS := xS_put hS rfl hz9 ho9 hl9
        refine lv_iconst (v := nI 0) hx hb dX3_next_142 (by decide) ?_
        refine lv_istore_n (lv' := [(1, .int (nI 0)), (0, .ref r)]) hx hb dX3_next_143 rfl hl (by decide) rfl (fun ls hl => ?_)
        have L144_3 : ∀ (fuel : Nat) (i : Nat), 25 - i < fuel → (i ≤ 25) → ∀ (H : Heap) (locs : List Loc), (va_at (gD G) g_cl (r, .inr (3, [.ref ta, .int (nI t), .int (nI e1), .int (nI s0), .int (nI (wst tp s0 e1 i)), .int num, .int opn, .int knd])) H ∧ va_at (gD G) g_cl (ta, .inl (G.2.2 1, 300, .inl Xb)) H ∧ va_S (fun q => q = r) s.heap H locs) → ∀ (ls : Array Slot), lv_has ls 3 [(0, .ref r), (1, .int (nI i))] → W p l e ({ frames := 5, cells := 0, slots := 0, locals := 107 } : Room) s m ([.ref r] : List Value).toArray below meth c H locs 0 0 (MQ below (tQ (fun v _ H1 => v = none ∧ ∃ num9, (lxT tp t p0 = 1 → num9 = nI (min 99999 (lxN tp t p0))) ∧ tkC G r ta t Xb (nI (lxQ tp t p0)) (nI (lxS tp t p0)) (nI (cst tp t p0)) num9 opn knd H1) (fun q => q = r)) ([.ref r] : List Value).toArray s (0) (0) (fun q => q = r)) (F0 m 144 ls []) := by
          intro fuel
          induction fuel with
          | zero => intro i hf; exact absurd hf (Nat.not_lt_zero _)
          | succ fuel ih =>
            intro i hf hi9 H locs hw ls hl
            have ih144 := ih
            obtain ⟨hk, htp, hS⟩ := hw
            refine lv_iload_n hx hb dX3_next_144 rfl (lv_at hl 1 rfl) ?_
            refine va_gets (v := .ref (κ.2.2.2 0)) hx hb hZ.2.1.1 (xS_mono hS hAZ) hown (hts _ q381) (fun _ h9 => h9) dX3_next_145 ?_
            refine va_tlen (v := nI 25) hx hb hZ.2.1.2 (xS_mono hS hAZ) rfl dX3_next_148 ?_
            refine n_icmp_ge (tgt := 179) hx hb dX3_next_149 (by decide) (by omega) (by decide) (fun c_4 => ?_) (fun c_4 => ?_)
            · refine lv_goto (tgt := 402) hx hb dX3_next_179 (by decide) ?_
              obtain rfl : i = 25 := by omega
              obtain ⟨x1, x2, x3⟩ := nx_l hs1 hlt0 hl0 he1
              exact t_vret hx hb hr hlocks ⟨rfl, ⟨_, fun h9 => absurd h9 x3, tk_to x1 hs1.symm x2 ⟨hk, htp⟩⟩⟩ hS dX3_next_402
            refine lv_aload_n hx hb dX3_next_152 rfl (lv_at hl 0 rfl) ?_
            refine va_gets (v := .ref (κ.2.2.2 0)) hx hb hZ.2.1.1 (xS_mono hS hAZ) hown (hts _ q381) (fun _ h9 => h9) dX3_next_153 ?_
            refine lv_iload_n hx hb dX3_next_156 rfl (lv_at hl 1 rfl) ?_
            refine vb_tq (v := .ref (κ.1 i)) hx hb hZ.2.1.2 (xS_mono hS hAZ) (vp_in_nI (by omega) (by decide)) (by rw [nI_clamp (show i < 2 ^ 31 by omega)]) dX3_next_157 ?_
            refine c_read (va_runV (As := [.ref (κ.1 i)]) (rest := []) ⟨hx, hb, hml, hown, hts⟩ (met_X3_isWord l G κ z tp Xb r ta t i e1 s0 (nI (wst tp s0 e1 i)) num opn knd (by omega) hXb ht (by omega)) (cv_X3_X3_isWord hts ⟨Nat.le_of_ble_eq_true rfl, Nat.le_of_ble_eq_true rfl⟩) (cT.preV hK hZ (xS_mono hS hAZ) ⟨hk, htp⟩ (a_recv (ci := 3) hK hk rfl)) rfl rfl hl.1 rfl (lv_room (Nat.le_of_ble_eq_true rfl)) dX3_next_158 ⟨by first | exact Nat.zero_le _ | omega | decide, by first | exact Nat.zero_le _ | omega | decide⟩) ?_
            refine b_if_eq (tgt := 173) hx hb dX3_next_161 (by decide) (fun hwe => ?_) (fun hwe => ?_)
            · rw [show wst tp s0 e1 i = wst tp s0 e1 (i + 1) from (pif_f hwe).symm] at hk
              refine lv_iinc (v := nI (i + 1)) (lv' := [(1, .int (nI (i + 1))), (0, .ref r)]) hx hb dX3_next_173 hl (k := 1) rfl (n_inc i 1) (by decide) rfl (fun ls hl => ?_)
              refine lv_goto (tgt := 144) hx hb dX3_next_176 (by decide) ?_
              exact ih144 (i + 1) (by omega) (by omega) _ _ ⟨hk, htp, hS⟩ ls (lv_sub hl [1, 0] rfl)
            refine lv_aload_n hx hb dX3_next_164 rfl (lv_at hl 0 rfl) ?_
            refine lv_sipush (v := nI 200) hx hb dX3_next_165 (by decide) ?_
            refine lv_iload_n hx hb dX3_next_168 rfl (lv_at hl 1 rfl) ?_
            refine n_iadd hx hb dX3_next_169 ?_
            refine p_put (own := RX3) (C := RX3) (T := TX3) (N := 8) (ci := 3) (a := r) (fs := [.ref ta, .int (nI t), .int (nI e1), .int (nI s0), .int (nI (wst tp s0 e1 i)), .int num, .int opn, .int knd]) (ty := tyX3 4) (v := .int (nI (200 + i))) hx hb hts in_X3 tyX3 tyX3_ok nmX3 hown hK hk rfl 4 (by decide) (hts _ q301) (fun _ h9 => h9) rfl (tyX3_ok 4 (by decide)) rfl rfl (Nat.le_of_ble_eq_true rfl) dX3_next_170 (fun H locs hk hz9 ho9 hl9 => ?_)
            replace hk : va_at (gD G) g_cl (r, .inr (3, [.ref ta, .int (nI t), .int (nI e1), .int (nI s0), .int (nI (200 + i)), .int num, .int opn, .int knd])) H := hk
            replace htp := va_at.kept htp (ho9 _ hra.symm)
            replace hS := xS_put hS rfl hz9 ho9 hl9
            rw [show 200 + i = wst tp s0 e1 (i + 1) from (pif_t hwe).symm] at hk
            refine lv_iinc (v := nI (i + 1)) (lv' := [(1, .int (nI (i + 1))), (0, .ref r)]) hx hb dX3_next_173 hl (k := 1) rfl (n_inc i 1) (by decide) rfl (fun ls hl => ?_)
            refine lv_goto (tgt := 144) hx hb dX3_next_176 (by decide) ?_
            exact ih144 (i + 1) (by omega) (by omega) _ _ ⟨hk, htp, hS⟩ ls (lv_sub hl [1, 0] rfl)
        exact L144_3 _ 0 (Nat.lt_succ_self _) (by decide) _ _ ⟨hk, htp, hS⟩ ls (lv_sub hl [1, 0] rfl)
      have L96_5 : ∀ (fuel : Nat) (q : Nat), t - q < fuel → (s0 ≤ q ∧ q ≤ t) → (scn lLet tp (t - q) q = scn lLet tp (t - s0) s0) → ∀ (H : Heap) (locs : List Loc), (va_at (gD G) g_cl (r, .inr (3, [.ref ta, .int (nI t), .int (nI q), .int (nI s0), .int srt, .int num, .int opn, .int knd])) H ∧ va_at (gD G) g_cl (ta, .inl (G.2.2 1, 300, .inl Xb)) H ∧ va_S (fun q => q = r) s.heap H locs) → ∀ (ls : Array Slot), lv_has ls 3 [(0, .ref r)] → W p l e ({ frames := 5, cells := 0, slots := 0, locals := 107 } : Room) s m ([.ref r] : List Value).toArray below meth c H locs 0 0 (MQ below (tQ (fun v _ H1 => v = none ∧ ∃ num9, (lxT tp t p0 = 1 → num9 = nI (min 99999 (lxN tp t p0))) ∧ tkC G r ta t Xb (nI (lxQ tp t p0)) (nI (lxS tp t p0)) (nI (cst tp t p0)) num9 opn knd H1) (fun q => q = r)) ([.ref r] : List Value).toArray s (0) (0) (fun q => q = r)) (F0 m 96 ls []) := by
        intro fuel
        induction fuel with
        | zero => intro q hf; exact absurd hf (Nat.not_lt_zero _)
        | succ fuel ih =>
          intro q hf hq hsc H locs hw ls hl
          have ih96 := ih
          obtain ⟨hk, htp, hS⟩ := hw
          refine lv_aload_n hx hb dX3_next_96 rfl (lv_at hl 0 rfl) ?_
          refine a_get (own := RX3) (C := RX3) (T := TX3) (N := 8) (ci := 3) hx hb hts in_X3 hown hK hk rfl 2 (by decide) (hts _ q299) (fun _ h9 => h9) rfl dX3_next_97 ?_
          refine lv_aload_n hx hb dX3_next_100 rfl (lv_at hl 0 rfl) ?_
          refine a_get (own := RX3) (C := RX3) (T := TX3) (N := 8) (ci := 3) hx hb hts in_X3 hown hK hk rfl 1 (by decide) (hts _ q298) (fun _ h9 => h9) rfl dX3_next_101 ?_
          refine n_icmp_ge (tgt := 135) hx hb dX3_next_104 (by decide) (by omega) (by omega) (fun g8 => ?_) (fun g8 => ?_)
          · exact J_135 q  (hsc.symm.trans (scn_z g8)) hq _ _ ⟨hk, htp, hS⟩ ls (lv_sub hl [0] rfl)
          refine lv_aload_n hx hb dX3_next_107 rfl (lv_at hl 0 rfl) ?_
          refine a_get (own := RX3) (C := RX3) (T := TX3) (N := 8) (ci := 3) hx hb hts in_X3 hown hK hk rfl 0 (by decide) (hts _ q297) (fun _ h9 => h9) rfl dX3_next_108 ?_
          refine lv_aload_n hx hb dX3_next_111 rfl (lv_at hl 0 rfl) ?_
          refine a_get (own := RX3) (C := RX3) (T := TX3) (N := 8) (ci := 3) hx hb hts in_X3 hown hK hk rfl 2 (by decide) (hts _ q299) (fun _ h9 => h9) rfl dX3_next_112 ?_
          refine p_bald (j := q) (v := sb (tp q)) hx hb hK (hXb q (by omega)).1 htp (by decide) (by omega) dX3_next_115 ?_
          refine c_read (va_runS (As := [.int (sb (tp q))]) (rest := []) ⟨hx, hb, hml, hown, hts⟩ (met_X3_isLetter l G (sb (tp q))) (cs_X3_X3_isLetter hts ⟨Nat.le_of_ble_eq_true rfl, Nat.le_of_ble_eq_true rfl⟩) (cP.pre hK trivial) rfl rfl hl.1 rfl (lv_room (Nat.le_of_ble_eq_true rfl)) dX3_next_116 ⟨by first | exact Nat.zero_le _ | omega | decide, by first | exact Nat.zero_le _ | omega | decide⟩) ?_
          rw [bI_congr (sb_let (tp q) ((hXb q (by omega)).2))]
          refine b_if_eq (tgt := 135) hx hb dX3_next_119 (by decide) (fun hlq => ?_) (fun hlq => ?_)
          · exact J_135 q  (hsc.symm.trans (scn_f (by omega) hlq)) hq _ _ ⟨hk, htp, hS⟩ ls (lv_sub hl [0] rfl)
          refine lv_aload_n hx hb dX3_next_122 rfl (lv_at hl 0 rfl) ?_
          refine lv_dup hx hb dX3_next_123 rfl ?_
          refine a_get (own := RX3) (C := RX3) (T := TX3) (N := 8) (ci := 3) hx hb hts in_X3 hown hK hk rfl 2 (by decide) (hts _ q299) (fun _ h9 => h9) rfl dX3_next_124 ?_
          refine lv_iconst (v := nI 1) hx hb dX3_next_127 (by decide) ?_
          refine n_iadd hx hb dX3_next_128 ?_
          refine p_put (own := RX3) (C := RX3) (T := TX3) (N := 8) (ci := 3) (a := r) (fs := [.ref ta, .int (nI t), .int (nI q), .int (nI s0), .int srt, .int num, .int opn, .int knd]) (ty := tyX3 2) (v := .int (nI (q + 1))) hx hb hts in_X3 tyX3 tyX3_ok nmX3 hown hK hk rfl 2 (by decide) (hts _ q299) (fun _ h9 => h9) rfl (tyX3_ok 2 (by decide)) rfl rfl (Nat.le_of_ble_eq_true rfl) dX3_next_129 (fun H locs hk hz9 ho9 hl9 => ?_)
          replace hk : va_at (gD G) g_cl (r, .inr (3, [.ref ta, .int (nI t), .int (nI (q + 1)), .int (nI s0), .int srt, .int num, .int opn, .int knd])) H := hk
          replace htp := va_at.kept htp (ho9 _ hra.symm)
          replace hS := xS_put hS rfl hz9 ho9 hl9
          refine lv_goto (tgt := 96) hx hb dX3_next_132 (by decide) ?_
          exact ih96 (q + 1) (by omega) (by omega) ((scn_t (by omega) hlq).symm.trans hsc) _ _ ⟨hk, htp, hS⟩ ls (lv_sub hl [0] rfl)
      exact L96_5 _ s0 (Nat.lt_succ_self _) ⟨Nat.le_refl _, hs0⟩ rfl _ _ ⟨hk, htp, hS⟩ ls (lv_sub hl [0] rfl)
    refine lv_aload_n hx hb dX3_next_71 rfl (lv_at hl 0 rfl) ?_
    refine lv_sipush (v := nI 301) hx hb dX3_next_72 (by decide) ?_
    refine p_put (own := RX3) (C := RX3) (T := TX3) (N := 8) (ci := 3) (a := r) (fs := [.ref ta, .int (nI t), .int (nI s0), .int (nI s0), .int srt, .int num, .int opn, .int knd]) (ty := tyX3 4) (v := .int (nI 301)) hx hb hts in_X3 tyX3 tyX3_ok nmX3 hown hK hk rfl 4 (by decide) (hts _ q301) (fun _ h9 => h9) rfl (tyX3_ok 4 (by decide)) rfl rfl (Nat.le_of_ble_eq_true rfl) dX3_next_75 (fun H locs hk hz9 ho9 hl9 => ?_)
    replace hk : va_at (gD G) g_cl (r, .inr (3, [.ref ta, .int (nI t), .int (nI s0), .int (nI s0), .int (nI 301), .int num, .int opn, .int knd])) H := hk
    replace htp := va_at.kept htp (ho9 _ hra.symm)
    replace hS := xS_put hS rfl hz9 ho9 hl9
    refine lv_goto (tgt := 402) hx hb dX3_next_78 (by decide) ?_
    obtain ⟨x1, x2, x3⟩ := nx_0 (tp := tp) (p := p0) hs1 (by omega)
    exact t_vret hx hb hr hlocks ⟨rfl, ⟨_, fun h9 => absurd h9 x3, tk_to x1 hs1.symm x2 ⟨hk, htp⟩⟩⟩ hS dX3_next_402
  have L0_6 : ∀ (fuel : Nat) (p1 : Nat), t - p1 < fuel → (p1 ≤ t) → (lxS tp t p1 = lxS tp t p0) → ∀ (H : Heap) (locs : List Loc), (va_at (gD G) g_cl (r, .inr (3, [.ref ta, .int (nI t), .int (nI p1), .int tok, .int srt, .int num, .int opn, .int knd])) H ∧ va_at (gD G) g_cl (ta, .inl (G.2.2 1, 300, .inl Xb)) H ∧ va_S (fun q => q = r) s.heap H locs) → ∀ (ls : Array Slot), lv_has ls 3 [(0, .ref r)] → W p l e ({ frames := 5, cells := 0, slots := 0, locals := 107 } : Room) s m ([.ref r] : List Value).toArray below meth c H locs 0 0 (MQ below (tQ (fun v _ H1 => v = none ∧ ∃ num9, (lxT tp t p0 = 1 → num9 = nI (min 99999 (lxN tp t p0))) ∧ tkC G r ta t Xb (nI (lxQ tp t p0)) (nI (lxS tp t p0)) (nI (cst tp t p0)) num9 opn knd H1) (fun q => q = r)) ([.ref r] : List Value).toArray s (0) (0) (fun q => q = r)) (F0 m 0 ls []) := by
    intro fuel
    induction fuel with
    | zero => intro p1 hf; exact absurd hf (Nat.not_lt_zero _)
    | succ fuel ih =>
      intro p1 hf hp1 hs H locs hw ls hl
      have ih0 := ih
      obtain ⟨hk, htp, hS⟩ := hw
      refine lv_aload_n hx hb dX3_next_0 rfl (lv_at hl 0 rfl) ?_
      refine a_get (own := RX3) (C := RX3) (T := TX3) (N := 8) (ci := 3) hx hb hts in_X3 hown hK hk rfl 2 (by decide) (hts _ q299) (fun _ h9 => h9) rfl dX3_next_1 ?_
      refine lv_aload_n hx hb dX3_next_4 rfl (lv_at hl 0 rfl) ?_
      refine a_get (own := RX3) (C := RX3) (T := TX3) (N := 8) (ci := 3) hx hb hts in_X3 hown hK hk rfl 1 (by decide) (hts _ q298) (fun _ h9 => h9) rfl dX3_next_5 ?_
      refine n_icmp_ge (tgt := 52) hx hb dX3_next_8 (by decide) (by omega) (by omega) (fun g8 => ?_) (fun g8 => ?_)
      · exact J_52 p1  (by omega) (hs.symm.trans (lxS_z (Or.inl g8))) _ _ ⟨hk, htp, hS⟩ ls (lv_sub hl [0] rfl)
      refine lv_aload_n hx hb dX3_next_11 rfl (lv_at hl 0 rfl) ?_
      refine a_get (own := RX3) (C := RX3) (T := TX3) (N := 8) (ci := 3) hx hb hts in_X3 hown hK hk rfl 0 (by decide) (hts _ q297) (fun _ h9 => h9) rfl dX3_next_12 ?_
      refine lv_aload_n hx hb dX3_next_15 rfl (lv_at hl 0 rfl) ?_
      refine a_get (own := RX3) (C := RX3) (T := TX3) (N := 8) (ci := 3) hx hb hts in_X3 hown hK hk rfl 2 (by decide) (hts _ q299) (fun _ h9 => h9) rfl dX3_next_16 ?_
      refine p_bald (j := p1) (v := sb (tp p1)) hx hb hK (hXb p1 (by omega)).1 htp (by decide) (by omega) dX3_next_19 ?_
      refine lv_bipush (v := nI 32) hx hb dX3_next_20 (by decide) ?_
      refine lv_icmp_eq (tgt := 39) hx hb dX3_next_22 (by decide) (fun b22 => ?_) (fun b22 => ?_)
      · replace b22 := (sb_eq (hXb p1 (by omega)).2 (by decide)).mp b22
        refine lv_aload_n hx hb dX3_next_39 rfl (lv_at hl 0 rfl) ?_
        refine lv_dup hx hb dX3_next_40 rfl ?_
        refine a_get (own := RX3) (C := RX3) (T := TX3) (N := 8) (ci := 3) hx hb hts in_X3 hown hK hk rfl 2 (by decide) (hts _ q299) (fun _ h9 => h9) rfl dX3_next_41 ?_
        refine lv_iconst (v := nI 1) hx hb dX3_next_44 (by decide) ?_
        refine n_iadd hx hb dX3_next_45 ?_
        refine p_put (own := RX3) (C := RX3) (T := TX3) (N := 8) (ci := 3) (a := r) (fs := [.ref ta, .int (nI t), .int (nI p1), .int tok, .int srt, .int num, .int opn, .int knd]) (ty := tyX3 2) (v := .int (nI (p1 + 1))) hx hb hts in_X3 tyX3 tyX3_ok nmX3 hown hK hk rfl 2 (by decide) (hts _ q299) (fun _ h9 => h9) rfl (tyX3_ok 2 (by decide)) rfl rfl (Nat.le_of_ble_eq_true rfl) dX3_next_46 (fun H locs hk hz9 ho9 hl9 => ?_)
        replace hk : va_at (gD G) g_cl (r, .inr (3, [.ref ta, .int (nI t), .int (nI (p1 + 1)), .int tok, .int srt, .int num, .int opn, .int knd])) H := hk
        replace htp := va_at.kept htp (ho9 _ hra.symm)
        replace hS := xS_put hS rfl hz9 ho9 hl9
        refine lv_goto (tgt := 0) hx hb dX3_next_49 (by decide) ?_
        exact ih0 (p1 + 1) (by omega) (by omega) ((lxS_s (by omega) (lWs_i.mpr (by first | exact Or.inl b22 | exact Or.inr b36))).trans hs) _ _ ⟨hk, htp, hS⟩ ls (lv_sub hl [0] rfl)
      replace b22 : ¬ tp p1 = 32 := fun q9 => b22 ((sb_eq (hXb p1 (by omega)).2 (by decide)).mpr q9)
      refine lv_aload_n hx hb dX3_next_25 rfl (lv_at hl 0 rfl) ?_
      refine a_get (own := RX3) (C := RX3) (T := TX3) (N := 8) (ci := 3) hx hb hts in_X3 hown hK hk rfl 0 (by decide) (hts _ q297) (fun _ h9 => h9) rfl dX3_next_26 ?_
      refine lv_aload_n hx hb dX3_next_29 rfl (lv_at hl 0 rfl) ?_
      refine a_get (own := RX3) (C := RX3) (T := TX3) (N := 8) (ci := 3) hx hb hts in_X3 hown hK hk rfl 2 (by decide) (hts _ q299) (fun _ h9 => h9) rfl dX3_next_30 ?_
      refine p_bald (j := p1) (v := sb (tp p1)) hx hb hK (hXb p1 (by omega)).1 htp (by decide) (by omega) dX3_next_33 ?_
      refine lv_bipush (v := nI 10) hx hb dX3_next_34 (by decide) ?_
      refine lv_icmp_ne (tgt := 52) hx hb dX3_next_36 (by decide) (fun b36 => ?_) (fun b36 => ?_)
      · replace b36 : ¬ tp p1 = 10 := fun q9 => b36 ((sb_eq (hXb p1 (by omega)).2 (by decide)).mpr q9)
        exact J_52 p1  (by omega) (hs.symm.trans (lxS_z (Or.inr (fun q9 => (lWs_i.mp q9).elim b22 b36)))) _ _ ⟨hk, htp, hS⟩ ls (lv_sub hl [0] rfl)
      replace b36 := (sb_eq (hXb p1 (by omega)).2 (by decide)).mp b36
      refine lv_aload_n hx hb dX3_next_39 rfl (lv_at hl 0 rfl) ?_
      refine lv_dup hx hb dX3_next_40 rfl ?_
      refine a_get (own := RX3) (C := RX3) (T := TX3) (N := 8) (ci := 3) hx hb hts in_X3 hown hK hk rfl 2 (by decide) (hts _ q299) (fun _ h9 => h9) rfl dX3_next_41 ?_
      refine lv_iconst (v := nI 1) hx hb dX3_next_44 (by decide) ?_
      refine n_iadd hx hb dX3_next_45 ?_
      refine p_put (own := RX3) (C := RX3) (T := TX3) (N := 8) (ci := 3) (a := r) (fs := [.ref ta, .int (nI t), .int (nI p1), .int tok, .int srt, .int num, .int opn, .int knd]) (ty := tyX3 2) (v := .int (nI (p1 + 1))) hx hb hts in_X3 tyX3 tyX3_ok nmX3 hown hK hk rfl 2 (by decide) (hts _ q299) (fun _ h9 => h9) rfl (tyX3_ok 2 (by decide)) rfl rfl (Nat.le_of_ble_eq_true rfl) dX3_next_46 (fun H locs hk hz9 ho9 hl9 => ?_)
      replace hk : va_at (gD G) g_cl (r, .inr (3, [.ref ta, .int (nI t), .int (nI (p1 + 1)), .int tok, .int srt, .int num, .int opn, .int knd])) H := hk
      replace htp := va_at.kept htp (ho9 _ hra.symm)
      replace hS := xS_put hS rfl hz9 ho9 hl9
      refine lv_goto (tgt := 0) hx hb dX3_next_49 (by decide) ?_
      exact ih0 (p1 + 1) (by omega) (by omega) ((lxS_s (by omega) (lWs_i.mpr (by first | exact Or.inl b22 | exact Or.inr b36))).trans hs) _ _ ⟨hk, htp, hS⟩ ls (lv_sub hl [0] rfl)
  exact L0_6 _ p0 (Nat.lt_succ_self _) hp rfl _ _ ⟨hk, htp, hS⟩ ls (lv_sub hl [0] rfl)
