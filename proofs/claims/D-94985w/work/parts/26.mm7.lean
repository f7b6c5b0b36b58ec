theorem shl1 : ∀ k, k < 31 → nI 1 <<< (nI k &&& 31) = nI (2 ^ k) := by decide +kernel
noncomputable def mCoughF (nb q : Nat) (z : Int32) : Nat → Int32 × Int32 → Int32 × Int32 := fun _ st => it (fun b st => (mCoughX st.1, mCough1 b q z st.1 st.2)) (nb - 0) 0 st
noncomputable def mCough (nb : Nat) (x y z w : Int32) : Int32 := pif (mCoughOk nb x y z w) (it (mCoughF nb (cl w) z) (cl y - 0) 0 (x * nI 7 + nI 5, nI 0)).2 (-1)
/-- the set at hand can be it: the search goes on or has found its set -/
noncomputable def mWhoF (M : Nat → Nat → Int32) (nb ne : Nat) (x : Int32) (set : Nat) (st : Int32 × Option Nat) : Int32 × Option Nat :=
  match st with
  | (n, some r) => (n, some r)
  | (n, none) => pif (nI 3 < mBits (nI set)) (n, none) (pif (mCanBe M (nI set) nb ne) (pif (n = x) (n, some set) (n + Int32.ofInt 1, none)) (n, none))
theorem mWhoF_none {M : Nat → Nat → Int32} {nb ne : Nat} {x : Int32} {set : Nat} {n : Int32} : mWhoF M nb ne x set (n, none) = pif (nI 3 < mBits (nI set)) (n, none) (pif (mCanBe M (nI set) nb ne) (pif (n = x) (n, some set) (n + Int32.ofInt 1, none)) (n, none)) := rfl
theorem mWho_some {M : Nat → Nat → Int32} {nb ne : Nat} {x : Int32} {r : Nat} : ∀ (k i : Nat) (n : Int32), it (mWhoF M nb ne x) k i (n, some r) = (n, some r)
  | 0, i, n => it_0
  | k + 1, i, n => by rw [it_succ]; exact mWho_some k (i + 1) n
noncomputable def mWhoEnd (x : Int32) (st : Int32 × Option Nat) : Int32 :=
  match st with
  | (_, some r) => nI r
  | (n, none) => pif (x = (-1)) n (-1)
noncomputable def mWhose (M : Nat → Nat → Int32) (nb ne : Nat) (x : Int32) : Int32 := pif (x < (-1)) (-1) (mWhoEnd x (pif (0 < ne) (it (mWhoF M nb ne x) (2 ^ nb - 1) 1 (nI 0, none)) (nI 0, none)))
set_option maxHeartbeats 4000000 in
set_option maxRecDepth 100000 in
theorem met_X2_canBe (l : Launch) (G : gG) (ad : Nat → Nat) (M Z : Nat → Nat → Int32) (V : Nat → Nat → Int64) (x : Int32) (nb : Nat) (en : M 0 0 = nI nb) (hn : nb ≤ 6) (ne : Nat) (ee : M 0 7 = nI ne) (he : ne ≤ 8) : Met l yX2_canBe (ws_ yX2_canBe cX2_canBe 5 (some .boolean)) ({ frames := 1, cells := 0, slots := 0, locals := 22 } : Room) (cP G [.ref (ad 0), .int x] (mH G ad M Z V)) (cR (some (.int (bI (mCanBe M x nb ne))))) 0 0 (fun _ => False) := by
  refine c_start (by decide) (Nat.le_of_ble_eq_true rfl) ?_
  intro p e s m below meth c hx hb hr hlocks hml hown hts hB hK ls hl
  have hw := MS.of hB
  have hl : lv_has ls 5 [(0, .ref (ad 0)), (1, .int x)] := hl
  refine lv_iconst (v := nI 0) hx hb dX2_canBe_0 (by decide) ?_
  refine lv_istore_n (lv' := [(2, .int (nI 0)), (0, .ref (ad 0)), (1, .int x)]) hx hb dX2_canBe_1 rfl hl (by decide) rfl (fun ls hl => ?_)
  refine lv_iconst (v := nI 0) hx hb dX2_canBe_2 (by decide) ?_
  refine lv_istore_n (lv' := [(3, .int (nI 0)), (2, .int (nI 0)), (0, .ref (ad 0)), (1, .int x)]) hx hb dX2_canBe_3 rfl hl (by decide) rfl (fun ls hl => ?_)
  have L_4 : ∀ (fuel : Nat) (k : Nat) (g : Int32), ne - k < fuel → (k ≤ ne) → (it (fun k g => pif (M 0 (60 + k) ≤ g) g (M 0 (60 + k))) (ne - k) k g = mMost M ne) → ∀ (ls : Array Slot), lv_has ls 5 [(0, .ref (ad 0)), (1, .int x), (2, .int g), (3, .int (nI k))] → W p l e ({ frames := 1, cells := 0, slots := 0, locals := 22 } : Room) s m ([.ref (ad 0), .int x] : List Value).toArray below meth c s.heap [] 0 0 (MQ below (cR (some (.int (bI (mCanBe M x nb ne))))) ([.ref (ad 0), .int x] : List Value).toArray s 0 0 (fun _ => False)) (F0 m 4 ls []) := by
    intro fuel
    induction fuel with
    | zero => intro k g hf; exact absurd hf (Nat.not_lt_zero _)
    | succ fuel ih =>
      intro k g hf hi_k hq_g ls hl
      have ih4 := ih
      refine lv_iload_n hx hb dX2_canBe_4 rfl (lv_at hl 3 rfl) ?_
      refine lv_aload_n hx hb dX2_canBe_5 rfl (lv_at hl 0 rfl) ?_
      refine m_g_a hx hb hts hown hK hw dX2_canBe_6 ?_
      refine lv_bipush (v := nI 7) hx hb dX2_canBe_9 (by decide) ?_
      refine m_l_a (j := 7) (v := nI ne) hx hb hK hw ee (by decide) dX2_canBe_11 ?_
      refine n_icmp_ge (tgt := 44) hx hb dX2_canBe_12 (by decide) (by omega) (by omega) (fun c_1 => ?_) (fun c_1 => ?_)
      · obtain rfl : g = mMost M ne := (it_z (by omega)).symm.trans hq_g
        refine lv_iconst (v := nI 0) hx hb dX2_canBe_44 (by decide) ?_
        refine lv_istore_n (lv' := [(3, .int (nI 0)), (0, .ref (ad 0)), (1, .int x), (2, .int (mMost M ne))]) hx hb dX2_canBe_45 rfl hl (by decide) rfl (fun ls hl => ?_)
        refine lv_iconst (v := nI 0) hx hb dX2_canBe_46 (by decide) ?_
        refine lv_istore (lv' := [(4, .int (nI 0)), (3, .int (nI 0)), (0, .ref (ad 0)), (1, .int x), (2, .int (mMost M ne))]) hx hb dX2_canBe_47 hl (by decide) rfl (fun ls hl => ?_)
        have L49_2 : ∀ (fuel : Nat) (b : Nat) (u : Int32), nb - b < fuel → (b ≤ nb) → (it (fun b g => g + pif (mHas x b) (M 0 (10 + 5 * b)) (nI 0)) (nb - b) b u = mAll M x nb) → ∀ (ls : Array Slot), lv_has ls 5 [(0, .ref (ad 0)), (1, .int x), (2, .int (mMost M ne)), (3, .int u), (4, .int (nI b))] → W p l e ({ frames := 1, cells := 0, slots := 0, locals := 22 } : Room) s m ([.ref (ad 0), .int x] : List Value).toArray below meth c s.heap [] 0 0 (MQ below (cR (some (.int (bI (mCanBe M x nb ne))))) ([.ref (ad 0), .int x] : List Value).toArray s 0 0 (fun _ => False)) (F0 m 49 ls []) := by
          intro fuel
          induction fuel with
          | zero => intro b u hf; exact absurd hf (Nat.not_lt_zero _)
          | succ fuel ih =>
            intro b u hf hi_b hq_u ls hl
            have ih49 := ih
            refine lv_iload hx hb dX2_canBe_49 (lv_at hl 4 rfl) ?_
            refine lv_aload_n hx hb dX2_canBe_51 rfl (lv_at hl 0 rfl) ?_
            refine m_g_a hx hb hts hown hK hw dX2_canBe_52 ?_
            refine lv_iconst (v := nI 0) hx hb dX2_canBe_55 (by decide) ?_
            refine m_l_a (j := 0) (v := nI nb) hx hb hK hw en (by decide) dX2_canBe_56 ?_
            refine n_icmp_ge (tgt := 89) hx hb dX2_canBe_57 (by decide) (by omega) (by omega) (fun c_3 => ?_) (fun c_3 => ?_)
            · obtain rfl : u = mAll M x nb := (it_z (by omega)).symm.trans hq_u
              refine lv_iload_n hx hb dX2_canBe_89 rfl (lv_at hl 3 rfl) ?_
              refine lv_iload_n hx hb dX2_canBe_90 rfl (lv_at hl 2 rfl) ?_
              refine lv_icmp_ge (tgt := 96) hx hb dX2_canBe_91 (by decide) (fun c_4 => ?_) (fun c_4 => ?_)
              · refine lv_iconst (v := nI 0) hx hb dX2_canBe_96 (by decide) ?_
                refine lv_istore (lv' := [(4, .int (nI 0)), (0, .ref (ad 0)), (1, .int x), (2, .int (mMost M ne)), (3, .int (mAll M x nb))]) hx hb dX2_canBe_97 hl (by decide) rfl (fun ls hl => ?_)
                have L99_5 : ∀ (fuel : Nat) (b : Nat), nb - b < fuel → (b ≤ nb) → (∀ b', b' < b → nI 1 < mBits x → mHas x b' → mAll M x nb - M 0 (10 + 5 * b') < mMost M ne) → ∀ (ls : Array Slot), lv_has ls 5 [(0, .ref (ad 0)), (1, .int x), (2, .int (mMost M ne)), (3, .int (mAll M x nb)), (4, .int (nI b))] → W p l e ({ frames := 1, cells := 0, slots := 0, locals := 22 } : Room) s m ([.ref (ad 0), .int x] : List Value).toArray below meth c s.heap [] 0 0 (MQ below (cR (some (.int (bI (mCanBe M x nb ne))))) ([.ref (ad 0), .int x] : List Value).toArray s 0 0 (fun _ => False)) (F0 m 99 ls []) := by
                  intro fuel
                  induction fuel with
                  | zero => intro b hf; exact absurd hf (Nat.not_lt_zero _)
                  | succ fuel ih =>
                    intro b hf hi_b hq ls hl
                    have ih99 := ih
                    refine lv_iload hx hb dX2_canBe_99 (lv_at hl 4 rfl) ?_
                    refine lv_aload_n hx hb dX2_canBe_101 rfl (lv_at hl 0 rfl) ?_
                    refine m_g_a hx hb hts hown hK hw dX2_canBe_102 ?_
                    refine lv_iconst (v := nI 0) hx hb dX2_canBe_105 (by decide) ?_
                    refine m_l_a (j := 0) (v := nI nb) hx hb hK hw en (by decide) dX2_canBe_106 ?_
                    refine n_icmp_ge (tgt := 148) hx hb dX2_canBe_107 (by decide) (by omega) (by omega) (fun c_6 => ?_) (fun c_6 => ?_)
                    · refine lv_iconst (v := nI 1) hx hb dX2_canBe_148 (by decide) ?_
                      exact c_rret (v := nI 1) ((bI_t ⟨by first | assumption | exact Int32.not_lt.mpr (by assumption), fun b' h9 h8 h7 => by first | exact absurd h8 (Int32.not_lt.mpr (by assumption)) | exact absurd h8 (by assumption) | exact hq b' (by omega) h8 h7⟩).symm) hx hb hr rfl hlocks dX2_canBe_149 rfl rfl
                    refine lv_iload_n hx hb dX2_canBe_110 rfl (lv_at hl 1 rfl) ?_
                    refine c_read (va_runS (As := [.int x]) (rest := []) ⟨hx, hb, hml, hown, hts⟩ (met_X2_bits l G x) (cs_X2_X2_bits hts ⟨Nat.le_of_ble_eq_true rfl, Nat.le_of_ble_eq_true rfl⟩) (cP.pre hK trivial) rfl rfl hl.1 rfl (lv_room (Nat.le_of_ble_eq_true rfl)) dX2_canBe_111 ⟨by first | exact Nat.zero_le _ | omega | decide, by first | exact Nat.zero_le _ | omega | decide⟩) ?_
                    refine lv_iconst (v := nI 1) hx hb dX2_canBe_114 (by decide) ?_
                    refine lv_icmp_le (tgt := 148) hx hb dX2_canBe_115 (by decide) (fun c_7 => ?_) (fun c_7 => ?_)
                    · refine lv_iconst (v := nI 1) hx hb dX2_canBe_148 (by decide) ?_
                      exact c_rret (v := nI 1) ((bI_t ⟨by first | assumption | exact Int32.not_lt.mpr (by assumption), fun b' h9 h8 h7 => by first | exact absurd h8 (Int32.not_lt.mpr (by assumption)) | exact absurd h8 (by assumption) | exact hq b' (by omega) h8 h7⟩).symm) hx hb hr rfl hlocks dX2_canBe_149 rfl rfl
                    refine lv_iload_n hx hb dX2_canBe_118 rfl (lv_at hl 1 rfl) ?_
                    refine lv_iload hx hb dX2_canBe_119 (lv_at hl 4 rfl) ?_
                    refine c_read (va_runS (As := [.int x, .int (nI b)]) (rest := []) ⟨hx, hb, hml, hown, hts⟩ (met_X2_has l G x (nI b)) (cs_X2_X2_has hts ⟨Nat.le_of_ble_eq_true rfl, Nat.le_of_ble_eq_true rfl⟩) (cP.pre hK trivial) rfl rfl hl.1 rfl (lv_room (Nat.le_of_ble_eq_true rfl)) dX2_canBe_121 ⟨by first | exact Nat.zero_le _ | omega | decide, by first | exact Nat.zero_le _ | omega | decide⟩) ?_
                    refine b_if_eq (tgt := 142) hx hb dX2_canBe_124 (by decide) (fun c_8 => ?_) (fun c_8 => ?_)
                    · refine lv_iinc (v := nI (b + 1)) (lv' := [(4, .int (nI (b + 1))), (0, .ref (ad 0)), (1, .int x), (2, .int (mMost M ne)), (3, .int (mAll M x nb))]) hx hb dX2_canBe_142 hl (k := 4) rfl (n_inc b 1) (by decide) rfl (fun ls hl => ?_)
                      refine lv_goto (tgt := 99) hx hb dX2_canBe_145 (by decide) ?_
                      exact ih99 (b + 1) (by omega) (by first | assumption | omega | rfl) (fun b' h9 h8 h7 => by rcases Nat.lt_succ_iff_lt_or_eq.mp h9 with h6 | h6; (exact hq b' h6 h8 h7); (subst h6; first | assumption | exact absurd h7 (by assumption) | exact Int32.not_le.mp (by assumption))) ls (lv_sub hl [1, 2, 3, 4, 0] rfl)
                    refine lv_iload_n hx hb dX2_canBe_127 rfl (lv_at hl 3 rfl) ?_
                    refine lv_aload_n hx hb dX2_canBe_128 rfl (lv_at hl 0 rfl) ?_
                    refine lv_iload hx hb dX2_canBe_129 (lv_at hl 4 rfl) ?_
                    refine lv_iconst (v := nI 0) hx hb dX2_canBe_131 (by decide) ?_
                    refine c_read (va_runV (As := [.int (nI b), .int (nI 0)]) (rest := [.int (mAll M x nb)]) ⟨hx, hb, hml, hown, hts⟩ (met_X2_get l G ad M Z V b 0 (M 0 (10 + 5 * b)) (by omega) rfl) (cv_X2_X2_get hts ⟨Nat.le_of_ble_eq_true rfl, Nat.le_of_ble_eq_true rfl⟩) (cP.preV hK hw.1 (hw.1.recv hK)) rfl rfl hl.1 rfl (lv_room (Nat.le_of_ble_eq_true rfl)) dX2_canBe_132 ⟨by first | exact Nat.zero_le _ | omega | decide, by first | exact Nat.zero_le _ | omega | decide⟩) ?_
                    refine lv_isub hx hb dX2_canBe_135 ?_
                    refine lv_iload_n hx hb dX2_canBe_136 rfl (lv_at hl 2 rfl) ?_
                    refine lv_icmp_lt (tgt := 142) hx hb dX2_canBe_137 (by decide) (fun c_9 => ?_) (fun c_9 => ?_)
                    · refine lv_iinc (v := nI (b + 1)) (lv' := [(4, .int (nI (b + 1))), (0, .ref (ad 0)), (1, .int x), (2, .int (mMost M ne)), (3, .int (mAll M x nb))]) hx hb dX2_canBe_142 hl (k := 4) rfl (n_inc b 1) (by decide) rfl (fun ls hl => ?_)
                      refine lv_goto (tgt := 99) hx hb dX2_canBe_145 (by decide) ?_
                      exact ih99 (b + 1) (by omega) (by first | assumption | omega | rfl) (fun b' h9 h8 h7 => by rcases Nat.lt_succ_iff_lt_or_eq.mp h9 with h6 | h6; (exact hq b' h6 h8 h7); (subst h6; first | assumption | exact absurd h7 (by assumption) | exact Int32.not_le.mp (by assumption))) ls (lv_sub hl [1, 2, 3, 4, 0] rfl)
                    refine lv_iconst (v := nI 0) hx hb dX2_canBe_140 (by decide) ?_
                    exact c_rret (v := nI 0) ((bI_f (fun h9 => by first | exact h9.1 (by assumption) | exact h9.1 (Int32.not_le.mp (by assumption)) | exact absurd (h9.2 b (by omega) (by first | assumption | exact Int32.not_le.mp (by assumption)) (by assumption)) (by first | assumption | exact Int32.not_lt.mpr (by assumption)))).symm) hx hb hr rfl hlocks dX2_canBe_141 rfl rfl
                exact L99_5 _ 0 (Nat.lt_succ_self _) (by first | assumption | omega | rfl) (fun _ h9 => absurd h9 (Nat.not_lt_zero _)) ls (lv_sub hl [1, 2, 3, 4, 0] rfl)
              refine lv_iconst (v := nI 0) hx hb dX2_canBe_94 (by decide) ?_
              exact c_rret (v := nI 0) ((bI_f (fun h9 => by first | exact h9.1 (by assumption) | exact h9.1 (Int32.not_le.mp (by assumption)) | exact absurd (h9.2 b (by omega) (by first | assumption | exact Int32.not_le.mp (by assumption)) (by assumption)) (by first | assumption | exact Int32.not_lt.mpr (by assumption)))).symm) hx hb hr rfl hlocks dX2_canBe_95 rfl rfl
            refine lv_iload_n hx hb dX2_canBe_60 rfl (lv_at hl 3 rfl) ?_
            refine lv_iload_n hx hb dX2_canBe_61 rfl (lv_at hl 1 rfl) ?_
            refine lv_iload hx hb dX2_canBe_62 (lv_at hl 4 rfl) ?_
            refine c_read (va_runS (As := [.int x, .int (nI b)]) (rest := [.int u]) ⟨hx, hb, hml, hown, hts⟩ (met_X2_has l G x (nI b)) (cs_X2_X2_has hts ⟨Nat.le_of_ble_eq_true rfl, Nat.le_of_ble_eq_true rfl⟩) (cP.pre hK trivial) rfl rfl hl.1 rfl (lv_room (Nat.le_of_ble_eq_true rfl)) dX2_canBe_64 ⟨by first | exact Nat.zero_le _ | omega | decide, by first | exact Nat.zero_le _ | omega | decide⟩) ?_
            refine b_if_eq (tgt := 80) hx hb dX2_canBe_67 (by decide) (fun c_10 => ?_) (fun c_10 => ?_)
            · refine lv_iconst (v := nI 0) hx hb dX2_canBe_80 (by decide) ?_
              refine lv_iadd hx hb dX2_canBe_81 ?_
              refine lv_istore_n (lv' := [(3, .int (u + (nI 0))), (0, .ref (ad 0)), (1, .int x), (2, .int (mMost M ne)), (4, .int (nI b))]) hx hb dX2_canBe_82 rfl hl (by decide) rfl (fun ls hl => ?_)
              refine lv_iinc (v := nI (b + 1)) (lv' := [(4, .int (nI (b + 1))), (3, .int (u + (nI 0))), (0, .ref (ad 0)), (1, .int x), (2, .int (mMost M ne))]) hx hb dX2_canBe_83 hl (k := 4) rfl (n_inc b 1) (by decide) rfl (fun ls hl => ?_)
              refine lv_goto (tgt := 49) hx hb dX2_canBe_86 (by decide) ?_
              exact ih49 (b + 1) (u + (nI 0)) (by omega) (by first | assumption | omega | rfl) (by refine Eq.trans ?_ ((it_s (by omega)).symm.trans hq_u); congr 1; show _ = _; first | rw [pif_t (by assumption)] | rw [pif_f (by assumption)]) ls (lv_sub hl [2, 3, 4, 1, 0] rfl)
            refine lv_aload_n hx hb dX2_canBe_70 rfl (lv_at hl 0 rfl) ?_
            refine lv_iload hx hb dX2_canBe_71 (lv_at hl 4 rfl) ?_
            refine lv_iconst (v := nI 0) hx hb dX2_canBe_73 (by decide) ?_
            refine c_read (va_runV (As := [.int (nI b), .int (nI 0)]) (rest := [.int u]) ⟨hx, hb, hml, hown, hts⟩ (met_X2_get l G ad M Z V b 0 (M 0 (10 + 5 * b)) (by omega) rfl) (cv_X2_X2_get hts ⟨Nat.le_of_ble_eq_true rfl, Nat.le_of_ble_eq_true rfl⟩) (cP.preV hK hw.1 (hw.1.recv hK)) rfl rfl hl.1 rfl (lv_room (Nat.le_of_ble_eq_true rfl)) dX2_canBe_74 ⟨by first | exact Nat.zero_le _ | omega | decide, by first | exact Nat.zero_le _ | omega | decide⟩) ?_
            refine lv_goto (tgt := 81) hx hb dX2_canBe_77 (by decide) ?_
            refine lv_iadd hx hb dX2_canBe_81 ?_
            refine lv_istore_n (lv' := [(3, .int (u + (M 0 (10 + 5 * b)))), (0, .ref (ad 0)), (1, .int x), (2, .int (mMost M ne)), (4, .int (nI b))]) hx hb dX2_canBe_82 rfl hl (by decide) rfl (fun ls hl => ?_)
            refine lv_iinc (v := nI (b + 1)) (lv' := [(4, .int (nI (b + 1))), (3, .int (u + (M 0 (10 + 5 * b)))), (0, .ref (ad 0)), (1, .int x), (2, .int (mMost M ne))]) hx hb dX2_canBe_83 hl (k := 4) rfl (n_inc b 1) (by decide) rfl (fun ls hl => ?_)
            refine lv_goto (tgt := 49) hx hb dX2_canBe_86 (by decide) ?_
            exact ih49 (b + 1) (u + (M 0 (10 + 5 * b))) (by omega) (by first | assumption | omega | rfl) (by refine Eq.trans ?_ ((it_s (by omega)).symm.trans hq_u); congr 1; show _ = _; first | rw [pif_t (by assumption)] | rw [pif_f (by assumption)]) ls (lv_sub hl [2, 3, 4, 1, 0] rfl)
        exact L49_2 _ 0 (nI 0) (Nat.lt_succ_self _) (by first | assumption | omega | rfl) rfl ls (lv_sub hl [2, 3, 4, 1, 0] rfl)
      refine lv_aload_n hx hb dX2_canBe_15 rfl (lv_at hl 0 rfl) ?_
      refine m_g_a hx hb hts hown hK hw dX2_canBe_16 ?_
      refine lv_bipush (v := nI 60) hx hb dX2_canBe_19 (by decide) ?_
      refine lv_iload_n hx hb dX2_canBe_21 rfl (lv_at hl 3 rfl) ?_
      refine n_iadd hx hb dX2_canBe_22 ?_
      refine m_l_a (j := 60 + k) (v := M 0 (60 + k)) hx hb hK hw rfl (by omega) dX2_canBe_23 ?_
      refine lv_iload_n hx hb dX2_canBe_24 rfl (lv_at hl 2 rfl) ?_
      refine lv_icmp_le (tgt := 38) hx hb dX2_canBe_25 (by decide) (fun c_11 => ?_) (fun c_11 => ?_)
      · refine lv_iinc (v := nI (k + 1)) (lv' := [(3, .int (nI (k + 1))), (0, .ref (ad 0)), (1, .int x), (2, .int g)]) hx hb dX2_canBe_38 hl (k := 3) rfl (n_inc k 1) (by decide) rfl (fun ls hl => ?_)
        refine lv_goto (tgt := 4) hx hb dX2_canBe_41 (by decide) ?_
        exact ih4 (k + 1) g (by omega) (by first | assumption | omega | rfl) (by refine Eq.trans ?_ ((it_s (by omega)).symm.trans hq_g); congr 1; show _ = _; first | rw [pif_t (by assumption)] | rw [pif_f (by assumption)]) ls (lv_sub hl [1, 2, 3, 0] rfl)
      refine lv_aload_n hx hb dX2_canBe_28 rfl (lv_at hl 0 rfl) ?_
      refine m_g_a hx hb hts hown hK hw dX2_canBe_29 ?_
      refine lv_bipush (v := nI 60) hx hb dX2_canBe_32 (by decide) ?_
      refine lv_iload_n hx hb dX2_canBe_34 rfl (lv_at hl 3 rfl) ?_
      refine n_iadd hx hb dX2_canBe_35 ?_
      refine m_l_a (j := 60 + k) (v := M 0 (60 + k)) hx hb hK hw rfl (by omega) dX2_canBe_36 ?_
      refine lv_istore_n (lv' := [(2, .int (M 0 (60 + k))), (0, .ref (ad 0)), (1, .int x), (3, .int (nI k))]) hx hb dX2_canBe_37 rfl hl (by decide) rfl (fun ls hl => ?_)
      refine lv_iinc (v := nI (k + 1)) (lv' := [(3, .int (nI (k + 1))), (2, .int (M 0 (60 + k))), (0, .ref (ad 0)), (1, .int x)]) hx hb dX2_canBe_38 hl (k := 3) rfl (n_inc k 1) (by decide) rfl (fun ls hl => ?_)
      refine lv_goto (tgt := 4) hx hb dX2_canBe_41 (by decide) ?_
      exact ih4 (k + 1) (M 0 (60 + k)) (by omega) (by first | assumption | omega | rfl) (by refine Eq.trans ?_ ((it_s (by omega)).symm.trans hq_g); congr 1; show _ = _; first | rw [pif_t (by assumption)] | rw [pif_f (by assumption)]) ls (lv_sub hl [2, 3, 1, 0] rfl)
  exact L_4 _ 0 (nI 0) (Nat.lt_succ_self _) (by first | assumption | omega | rfl) rfl ls (lv_sub hl [2, 3, 1, 0] rfl)
set_option maxHeartbeats 4000000 in
set_option maxRecDepth 100000 in
theorem met_X2_whose (l : Launch) (G : gG) (ad : Nat → Nat) (M Z : Nat → Nat → Int32) (V : Nat → Nat → Int64) (x : Int32) (nb : Nat) (en : M 0 0 = nI nb) (hn : nb ≤ 6) (ne : Nat) (ee : M 0 7 = nI ne) (he : ne ≤ 8) : Met l yX2_whose (ws_ yX2_whose cX2_whose 4 (some .int)) ({ frames := 2, cells := 0, slots := 0, locals := 46 } : Room) (cP G [.ref (ad 0), .int x] (mH G ad M Z V)) (cR (some (.int (mWhose M nb ne x)))) 0 0 (fun _ => False) := by
  refine c_start (by decide) (Nat.le_of_ble_eq_true rfl) ?_
  intro p e s m below meth c hx hb hr hlocks hml hown hts hB hK ls hl
  have hw := MS.of hB
  have hl : lv_has ls 4 [(0, .ref (ad 0)), (1, .int x)] := hl
  have h2nb : 2 ^ nb ≤ 64 := Nat.pow_le_pow_right (by decide) hn
  refine lv_iload_n hx hb dX2_whose_0 rfl (lv_at hl 1 rfl) ?_
  refine lv_iconst (v := (-1)) hx hb dX2_whose_1 (by decide) ?_
  refine lv_icmp_ge (tgt := 7) hx hb dX2_whose_2 (by decide) (fun c_1 => ?_) (fun c_1 => ?_)
  · refine lv_iconst (v := nI 0) hx hb dX2_whose_7 (by decide) ?_
    refine lv_istore_n (lv' := [(2, .int (nI 0)), (0, .ref (ad 0)), (1, .int x)]) hx hb dX2_whose_8 rfl hl (by decide) rfl (fun ls hl => ?_)
    refine lv_iconst (v := nI 1) hx hb dX2_whose_9 (by decide) ?_
    refine lv_istore_n (lv' := [(3, .int (nI 1)), (2, .int (nI 0)), (0, .ref (ad 0)), (1, .int x)]) hx hb dX2_whose_10 rfl hl (by decide) rfl (fun ls hl => ?_)
    have L11_2 : ∀ (fuel : Nat) (k : Nat) (n : Int32), 2 ^ nb - k < fuel → (1 ≤ k) → (k ≤ 2 ^ nb) → (pif (0 < ne) (it (mWhoF M nb ne x) (2 ^ nb - k) k (n, none)) (n, none) = pif (0 < ne) (it (mWhoF M nb ne x) (2 ^ nb - 1) 1 (nI 0, none)) (nI 0, none)) → ∀ (ls : Array Slot), lv_has ls 4 [(0, .ref (ad 0)), (1, .int x), (2, .int n), (3, .int (nI k))] → W p l e ({ frames := 2, cells := 0, slots := 0, locals := 46 } : Room) s m ([.ref (ad 0), .int x] : List Value).toArray below meth c s.heap [] 0 0 (MQ below (cR (some (.int (mWhose M nb ne x)))) ([.ref (ad 0), .int x] : List Value).toArray s 0 0 (fun _ => False)) (F0 m 11 ls []) := by
      intro fuel
      induction fuel with
      | zero => intro k n hf; exact absurd hf (Nat.not_lt_zero _)
      | succ fuel ih =>
        intro k n hf h1k hi_k hq ls hl
        have ih11 := ih
        refine lv_iload_n hx hb dX2_whose_11 rfl (lv_at hl 3 rfl) ?_
        refine lv_iconst (v := nI 1) hx hb dX2_whose_12 (by decide) ?_
        refine lv_aload_n hx hb dX2_whose_13 rfl (lv_at hl 0 rfl) ?_
        refine m_g_a hx hb hts hown hK hw dX2_whose_14 ?_
        refine lv_iconst (v := nI 0) hx hb dX2_whose_17 (by decide) ?_
        refine m_l_a (j := 0) (v := nI nb) hx hb hK hw en (by decide) dX2_whose_18 ?_
        refine lv_ishl hx hb dX2_whose_19 ?_
        rw [shl1 nb (by omega)]
        refine n_icmp_ge (tgt := 68) hx hb dX2_whose_20 (by decide) (by omega) (by omega) (fun c_3 => ?_) (fun c_3 => ?_)
        · refine lv_iload_n hx hb dX2_whose_68 rfl (lv_at hl 1 rfl) ?_
          refine lv_iconst (v := (-1)) hx hb dX2_whose_69 (by decide) ?_
          refine lv_icmp_ne (tgt := 77) hx hb dX2_whose_70 (by decide) (fun c_4 => ?_) (fun c_4 => ?_)
          · refine lv_iconst (v := (-1)) hx hb dX2_whose_77 (by decide) ?_
            exact c_rret (v := (-1)) (by unfold mWhose; rw [pif_f (by first | assumption | exact Int32.not_lt.mpr (by assumption) | exact Int32.not_le.mpr (by assumption)), ← hq]; first | (rw [pif_t (by assumption), it_z (by omega)]; show _ = pif _ _ _; first | rw [pif_t (by assumption)] | rw [pif_f (by assumption)]) | (rw [pif_f (by omega)]; show _ = pif _ _ _; first | rw [pif_t (by assumption)] | rw [pif_f (by assumption)]) | (by_cases h0 : 0 < ne; (rw [pif_t h0, it_z (by omega)]; show _ = pif _ _ _; first | rw [pif_t (by assumption)] | rw [pif_f (by assumption)]); (rw [pif_f h0]; show _ = pif _ _ _; first | rw [pif_t (by assumption)] | rw [pif_f (by assumption)]))) hx hb hr rfl hlocks dX2_whose_78 rfl rfl
          refine lv_iload_n hx hb dX2_whose_73 rfl (lv_at hl 2 rfl) ?_
          refine lv_goto (tgt := 78) hx hb dX2_whose_74 (by decide) ?_
          exact c_rret (v := n) (by unfold mWhose; rw [pif_f (by first | assumption | exact Int32.not_lt.mpr (by assumption) | exact Int32.not_le.mpr (by assumption)), ← hq]; first | (rw [pif_t (by assumption), it_z (by omega)]; show _ = pif _ _ _; first | rw [pif_t (by assumption)] | rw [pif_f (by assumption)]) | (rw [pif_f (by omega)]; show _ = pif _ _ _; first | rw [pif_t (by assumption)] | rw [pif_f (by assumption)]) | (by_cases h0 : 0 < ne; (rw [pif_t h0, it_z (by omega)]; show _ = pif _ _ _; first | rw [pif_t (by assumption)] | rw [pif_f (by assumption)]); (rw [pif_f h0]; show _ = pif _ _ _; first | rw [pif_t (by assumption)] | rw [pif_f (by assumption)]))) hx hb hr rfl hlocks dX2_whose_78 rfl rfl
        refine lv_aload_n hx hb dX2_whose_23 rfl (lv_at hl 0 rfl) ?_
        refine m_g_a hx hb hts hown hK hw dX2_whose_24 ?_
        refine lv_bipush (v := nI 7) hx hb dX2_whose_27 (by decide) ?_
        refine m_l_a (j := 7) (v := nI ne) hx hb hK hw ee (by decide) dX2_whose_29 ?_
        refine n_if_le (tgt := 68) hx hb dX2_whose_30 (by decide) (by omega) (fun c_5 => ?_) (fun c_5 => ?_)
        · refine lv_iload_n hx hb dX2_whose_68 rfl (lv_at hl 1 rfl) ?_
          refine lv_iconst (v := (-1)) hx hb dX2_whose_69 (by decide) ?_
          refine lv_icmp_ne (tgt := 77) hx hb dX2_whose_70 (by decide) (fun c_6 => ?_) (fun c_6 => ?_)
          · refine lv_iconst (v := (-1)) hx hb dX2_whose_77 (by decide) ?_
            exact c_rret (v := (-1)) (by unfold mWhose; rw [pif_f (by first | assumption | exact Int32.not_lt.mpr (by assumption) | exact Int32.not_le.mpr (by assumption)), ← hq]; first | (rw [pif_t (by assumption), it_z (by omega)]; show _ = pif _ _ _; first | rw [pif_t (by assumption)] | rw [pif_f (by assumption)]) | (rw [pif_f (by omega)]; show _ = pif _ _ _; first | rw [pif_t (by assumption)] | rw [pif_f (by assumption)]) | (by_cases h0 : 0 < ne; (rw [pif_t h0, it_z (by omega)]; show _ = pif _ _ _; first | rw [pif_t (by assumption)] | rw [pif_f (by assumption)]); (rw [pif_f h0]; show _ = pif _ _ _; first | rw [pif_t (by assumption)] | rw [pif_f (by assumption)]))) hx hb hr rfl hlocks dX2_whose_78 rfl rfl
          refine lv_iload_n hx hb dX2_whose_73 rfl (lv_at hl 2 rfl) ?_
          refine lv_goto (tgt := 78) hx hb dX2_whose_74 (by decide) ?_
          exact c_rret (v := n) (by unfold mWhose; rw [pif_f (by first | assumption | exact Int32.not_lt.mpr (by assumption) | exact Int32.not_le.mpr (by assumption)), ← hq]; first | (rw [pif_t (by assumption), it_z (by omega)]; show _ = pif _ _ _; first | rw [pif_t (by assumption)] | rw [pif_f (by assumption)]) | (rw [pif_f (by omega)]; show _ = pif _ _ _; first | rw [pif_t (by assumption)] | rw [pif_f (by assumption)]) | (by_cases h0 : 0 < ne; (rw [pif_t h0, it_z (by omega)]; show _ = pif _ _ _; first | rw [pif_t (by assumption)] | rw [pif_f (by assumption)]); (rw [pif_f h0]; show _ = pif _ _ _; first | rw [pif_t (by assumption)] | rw [pif_f (by assumption)]))) hx hb hr rfl hlocks dX2_whose_78 rfl rfl
        refine lv_iload_n hx hb dX2_whose_33 rfl (lv_at hl 3 rfl) ?_
        refine c_read (va_runS (As := [.int (nI k)]) (rest := []) ⟨hx, hb, hml, hown, hts⟩ (met_X2_bits l G (nI k)) (cs_X2_X2_bits hts ⟨Nat.le_of_ble_eq_true rfl, Nat.le_of_ble_eq_true rfl⟩) (cP.pre hK trivial) rfl rfl hl.1 rfl (lv_room (Nat.le_of_ble_eq_true rfl)) dX2_whose_34 ⟨by first | exact Nat.zero_le _ | omega | decide, by first | exact Nat.zero_le _ | omega | decide⟩) ?_
        refine lv_iconst (v := nI 3) hx hb dX2_whose_37 (by decide) ?_
        refine lv_icmp_gt (tgt := 62) hx hb dX2_whose_38 (by decide) (fun c_7 => ?_) (fun c_7 => ?_)
        · refine lv_iinc (v := nI (k + 1)) (lv' := [(3, .int (nI (k + 1))), (0, .ref (ad 0)), (1, .int x), (2, .int n)]) hx hb dX2_whose_62 hl (k := 3) rfl (n_inc k 1) (by decide) rfl (fun ls hl => ?_)
          refine lv_goto (tgt := 11) hx hb dX2_whose_65 (by decide) ?_
          exact ih11 (k + 1) n (by omega) (by first | assumption | omega | rfl) (by first | assumption | omega | rfl) (by rw [pif_t (by assumption)] at hq ⊢; refine Eq.trans ?_ ((it_s (by omega)).symm.trans hq); congr 1; rw [mWhoF_none]; first | (rw [pif_t (by assumption)]) | (rw [pif_f (by first | assumption | exact Int32.not_lt.mpr (by assumption)), pif_f (by assumption)]) | (rw [pif_f (by first | assumption | exact Int32.not_lt.mpr (by assumption)), pif_t (by assumption), pif_f (by assumption)])) ls (lv_sub hl [1, 2, 3, 0] rfl)
        refine lv_aload_n hx hb dX2_whose_41 rfl (lv_at hl 0 rfl) ?_
        refine lv_iload_n hx hb dX2_whose_42 rfl (lv_at hl 3 rfl) ?_
        refine c_read (va_runV (As := [.int (nI k)]) (rest := []) ⟨hx, hb, hml, hown, hts⟩ (met_X2_canBe l G ad M Z V (nI k) nb en (by omega) ne ee (by omega)) (cv_X2_X2_canBe hts ⟨Nat.le_of_ble_eq_true rfl, Nat.le_of_ble_eq_true rfl⟩) (cP.preV hK hw.1 (hw.1.recv hK)) rfl rfl hl.1 rfl (lv_room (Nat.le_of_ble_eq_true rfl)) dX2_whose_43 ⟨by first | exact Nat.zero_le _ | omega | decide, by first | exact Nat.zero_le _ | omega | decide⟩) ?_
        refine b_if_ne (tgt := 52) hx hb dX2_whose_46 (by decide) (fun c_8 => ?_) (fun c_8 => ?_)
        · refine lv_iload_n hx hb dX2_whose_52 rfl (lv_at hl 2 rfl) ?_
          refine lv_iload_n hx hb dX2_whose_53 rfl (lv_at hl 1 rfl) ?_
          refine lv_icmp_ne (tgt := 59) hx hb dX2_whose_54 (by decide) (fun c_9 => ?_) (fun c_9 => ?_)
          · refine lv_iinc (v := n + Int32.ofInt 1) (lv' := [(2, .int (n + Int32.ofInt 1)), (0, .ref (ad 0)), (1, .int x), (3, .int (nI k))]) hx hb dX2_whose_59 hl (k := 2) rfl rfl (by decide) rfl (fun ls hl => ?_)
            refine lv_iinc (v := nI (k + 1)) (lv' := [(3, .int (nI (k + 1))), (2, .int (n + Int32.ofInt 1)), (0, .ref (ad 0)), (1, .int x)]) hx hb dX2_whose_62 hl (k := 3) rfl (n_inc k 1) (by decide) rfl (fun ls hl => ?_)
            refine lv_goto (tgt := 11) hx hb dX2_whose_65 (by decide) ?_
            exact ih11 (k + 1) (n + Int32.ofInt 1) (by omega) (by first | assumption | omega | rfl) (by first | assumption | omega | rfl) (by rw [pif_t (by assumption)] at hq ⊢; refine Eq.trans ?_ ((it_s (by omega)).symm.trans hq); congr 1; rw [mWhoF_none]; first | (rw [pif_t (by assumption)]) | (rw [pif_f (by first | assumption | exact Int32.not_lt.mpr (by assumption)), pif_f (by assumption)]) | (rw [pif_f (by first | assumption | exact Int32.not_lt.mpr (by assumption)), pif_t (by assumption), pif_f (by assumption)])) ls (lv_sub hl [2, 3, 1, 0] rfl)
          refine lv_iload_n hx hb dX2_whose_57 rfl (lv_at hl 3 rfl) ?_
          exact c_rret (v := nI k) (by unfold mWhose; rw [pif_f (by first | assumption | exact Int32.not_lt.mpr (by assumption) | exact Int32.not_le.mpr (by assumption)), ← hq, pif_t (by assumption), it_s (by omega), mWhoF_none, pif_f (by first | assumption | exact Int32.not_lt.mpr (by assumption) | exact Int32.not_le.mpr (by assumption)), pif_t (by assumption), pif_t (by assumption), mWho_some]; rfl) hx hb hr rfl hlocks dX2_whose_58 rfl rfl
        refine lv_goto (tgt := 62) hx hb dX2_whose_49 (by decide) ?_
        refine lv_iinc (v := nI (k + 1)) (lv' := [(3, .int (nI (k + 1))), (0, .ref (ad 0)), (1, .int x), (2, .int n)]) hx hb dX2_whose_62 hl (k := 3) rfl (n_inc k 1) (by decide) rfl (fun ls hl => ?_)
        refine lv_goto (tgt := 11) hx hb dX2_whose_65 (by decide) ?_
        exact ih11 (k + 1) n (by omega) (by first | assumption | omega | rfl) (by first | assumption | omega | rfl) (by rw [pif_t (by assumption)] at hq ⊢; refine Eq.trans ?_ ((it_s (by omega)).symm.trans hq); congr 1; rw [mWhoF_none]; first | (rw [pif_t (by assumption)]) | (rw [pif_f (by first | assumption | exact Int32.not_lt.mpr (by assumption)), pif_f (by assumption)]) | (rw [pif_f (by first | assumption | exact Int32.not_lt.mpr (by assumption)), pif_t (by assumption), pif_f (by assumption)])) ls (lv_sub hl [1, 2, 3, 0] rfl)
    exact L11_2 _ 1 (nI 0) (Nat.lt_succ_self _) (by omega) Nat.one_le_two_pow rfl ls (lv_sub hl [2, 3, 1, 0] rfl)
  refine lv_iconst (v := (-1)) hx hb dX2_whose_5 (by decide) ?_
  exact c_rret (v := (-1)) (by unfold mWhose; rw [pif_t (by first | assumption | exact Int32.not_le.mp (by assumption))]) hx hb hr rfl hlocks dX2_whose_6 rfl rfl
set_option maxHeartbeats 4000000 in
set_option maxRecDepth 100000 in
theorem met_X2_common (l : Launch) (G : gG) (a b : Nat) (ha : a < 2 ^ 63) (hb0 : b < 2 ^ 63) : Met l yX2_common (ws_ yX2_common cX2_common 10 (some .long)) ({ frames := 0, cells := 0, slots := 0, locals := 0 } : Room) (cP G [.long (lN a), .long (lN b)] (fun _ => True)) (cR (some (.long (lN (Nat.gcd a b))))) 0 0 (fun _ => False) := by
  refine c_start (by decide) (Nat.le_of_ble_eq_true rfl) ?_
  intro p e s m below meth c hx hb hr hlocks hml hown hts hB hK ls hl
  have hl : lv_has ls 10 [(0, .long (lN a)), (2, .long (lN b))] := hl
  refine lv_lload_n hx hb dX2_common_0 rfl (lv_at hl 0 rfl) ?_
  refine lv_lstore (lv' := [(4, .long (lN a)), (0, .long (lN a)), (2, .long (lN b))]) hx hb dX2_common_1 hl (by decide) rfl (fun ls hl => ?_)
  refine lv_lload_n hx hb dX2_common_3 rfl (lv_at hl 2 rfl) ?_
  refine lv_lstore (lv' := [(6, .long (lN b)), (4, .long (lN a)), (0, .long (lN a)), (2, .long (lN b))]) hx hb dX2_common_4 hl (by decide) rfl (fun ls hl => ?_)
  have L_6 : ∀ (fuel : Nat) (i : Nat) (j : Nat), j < fuel → (i < 2 ^ 63) → (j < 2 ^ 63) → (Nat.gcd i j = Nat.gcd a b) → ∀ (ls : Array Slot), lv_has ls 10 [(0, .long (lN a)), (2, .long (lN b)), (4, .long (lN i)), (6, .long (lN j))] → W p l e ({ frames := 0, cells := 0, slots := 0, locals := 0 } : Room) s m ([.long (lN a), .long (lN b)] : List Value).toArray below meth c s.heap [] 0 0 (MQ below (cR (some (.long (lN (Nat.gcd a b))))) ([.long (lN a), .long (lN b)] : List Value).toArray s 0 0 (fun _ => False)) (F0 m 6 ls []) := by
    intro fuel
    induction fuel with
    | zero => intro i j hf; exact absurd hf (Nat.not_lt_zero _)
    | succ fuel ih =>
      intro i j hf hi hj hg ls hl
      have ih6 := ih
      refine lv_lload hx hb dX2_common_6 (lv_at hl 3 rfl) ?_
      refine lv_lconst (v := lN 0) hx hb dX2_common_8 (by decide) ?_
      refine l_cmp_eq (tgt := 31) hx hb dX2_common_9 dX2_common_10 (by decide) (fun c_1 => ?_) (fun c_1 => ?_)
      · refine lv_lload hx hb dX2_common_31 (lv_at hl 2 rfl) ?_
        exact c_rlret (v := lN i) (by have e9 := (pk_lEQ hj (by decide)).mp c_1; subst e9; rw [← hg, Nat.gcd_zero_right]) hx hb hr hlocks dX2_common_33 rfl rfl
      have hj0 : 0 < j := Nat.pos_of_ne_zero (fun q9 => c_1 (by rw [q9]))
      refine lv_lload hx hb dX2_common_13 (lv_at hl 2 rfl) ?_
      refine lv_lload hx hb dX2_common_15 (lv_at hl 3 rfl) ?_
      refine lv_lrem hx hb dX2_common_17 (fun q9 => by have := (pk_lEQ hj (by decide)).mp (q9.trans (show (0 : Int64) = lN 0 from rfl)); omega) ?_
      rw [pk_lRem hi hj0 hj]
      refine lv_lstore (lv' := [(8, .long (lN (i % j))), (0, .long (lN a)), (2, .long (lN b)), (4, .long (lN i)), (6, .long (lN j))]) hx hb dX2_common_18 hl (by decide) rfl (fun ls hl => ?_)
      refine lv_lload hx hb dX2_common_20 (lv_at hl 4 rfl) ?_
      refine lv_lstore (lv' := [(4, .long (lN j)), (8, .long (lN (i % j))), (0, .long (lN a)), (2, .long (lN b)), (6, .long (lN j))]) hx hb dX2_common_22 hl (by decide) rfl (fun ls hl => ?_)
      refine lv_lload hx hb dX2_common_24 (lv_at hl 1 rfl) ?_
      refine lv_lstore (lv' := [(6, .long (lN (i % j))), (4, .long (lN j)), (8, .long (lN (i % j))), (0, .long (lN a)), (2, .long (lN b))]) hx hb dX2_common_26 hl (by decide) rfl (fun ls hl => ?_)
      refine lv_goto (tgt := 6) hx hb dX2_common_28 (by decide) ?_
      exact ih6 j (i % j) (by have := Nat.mod_lt i (show 0 < j by omega); omega) hj (by have := Nat.mod_lt i (show 0 < j by omega); omega) (by rw [← hg, Nat.gcd_comm i j, Nat.gcd_rec j i, Nat.gcd_comm]) ls (lv_sub hl [3, 4, 1, 0] rfl)
  exact L_6 _ a b (Nat.lt_succ_self _) (by first | assumption | omega | rfl) (by first | assumption | omega | rfl) rfl ls (lv_sub hl [2, 3, 1, 0] rfl)
set_option maxHeartbeats 4000000 in
set_option maxRecDepth 100000 in
theorem met_X2_coughs (l : Launch) (G : gG) (ad : Nat → Nat) (M Z : Nat → Nat → Int32) (V : Nat → Nat → Int64) (x y z w : Int32) (nb : Nat) (en : M 0 0 = nI nb) (hn : nb ≤ 6) : Met l yX2_coughs (ws_ yX2_coughs cX2_coughs 9 (some .int)) ({ frames := 2, cells := 0, slots := 0, locals := 43 } : Room) (cP G [.ref (ad 0), .int x, .int y, .int z, .int w] (mH G ad M Z V)) (cR (some (.int (mCough nb x y z w)))) 0 0 (fun _ => False) := by
  refine c_start (by decide) (Nat.le_of_ble_eq_true rfl) ?_
  intro p e s m below meth c hx hb hr hlocks hml hown hts hB hK ls hl
  have hw := MS.of hB
  have hl : lv_has ls 9 [(0, .ref (ad 0)), (1, .int x), (2, .int y), (3, .int z), (4, .int w)] := hl
  refine lv_iload_n hx hb dX2_coughs_0 rfl (lv_at hl 1 rfl) ?_
  refine lv_iconst (v := nI 0) hx hb dX2_coughs_1 (by decide) ?_
  refine lv_sipush (v := nI 9999) hx hb dX2_coughs_2 (by decide) ?_
  refine c_read (va_runS (As := [.int x, .int (nI 0), .int (nI 9999)]) (rest := []) ⟨hx, hb, hml, hown, hts⟩ (met_X2_isIn l G x (nI 0) (nI 9999)) (cs_X2_X2_isIn hts ⟨Nat.le_of_ble_eq_true rfl, Nat.le_of_ble_eq_true rfl⟩) (cP.pre hK trivial) rfl rfl hl.1 rfl (lv_room (Nat.le_of_ble_eq_true rfl)) dX2_coughs_5 ⟨by first | exact Nat.zero_le _ | omega | decide, by first | exact Nat.zero_le _ | omega | decide⟩) ?_
  refine b_if_eq (tgt := 40) hx hb dX2_coughs_8 (by decide) (fun c_1 => ?_) (fun c_1 => ?_)
  · refine lv_iconst (v := (-1)) hx hb dX2_coughs_40 (by decide) ?_
    exact c_rret (v := (-1)) (by unfold mCough; rw [pif_f (fun h9 => by first | exact absurd h9.1 (by assumption) | exact absurd h9.2.1 (by assumption) | exact absurd h9.2.2.1 (by assumption) | exact absurd h9.2.2.2 (by assumption))]) hx hb hr rfl hlocks dX2_coughs_41 rfl rfl
  refine lv_iload_n hx hb dX2_coughs_11 rfl (lv_at hl 2 rfl) ?_
  refine lv_iconst (v := nI 1) hx hb dX2_coughs_12 (by decide) ?_
  refine lv_bipush (v := nI 30) hx hb dX2_coughs_13 (by decide) ?_
  refine c_read (va_runS (As := [.int y, .int (nI 1), .int (nI 30)]) (rest := []) ⟨hx, hb, hml, hown, hts⟩ (met_X2_isIn l G y (nI 1) (nI 30)) (cs_X2_X2_isIn hts ⟨Nat.le_of_ble_eq_true rfl, Nat.le_of_ble_eq_true rfl⟩) (cP.pre hK trivial) rfl rfl hl.1 rfl (lv_room (Nat.le_of_ble_eq_true rfl)) dX2_coughs_15 ⟨by first | exact Nat.zero_le _ | omega | decide, by first | exact Nat.zero_le _ | omega | decide⟩) ?_
  refine b_if_eq (tgt := 40) hx hb dX2_coughs_18 (by decide) (fun c_2 => ?_) (fun c_2 => ?_)
  · refine lv_iconst (v := (-1)) hx hb dX2_coughs_40 (by decide) ?_
    exact c_rret (v := (-1)) (by unfold mCough; rw [pif_f (fun h9 => by first | exact absurd h9.1 (by assumption) | exact absurd h9.2.1 (by assumption) | exact absurd h9.2.2.1 (by assumption) | exact absurd h9.2.2.2 (by assumption))]) hx hb hr rfl hlocks dX2_coughs_41 rfl rfl
  obtain ⟨jy, h_jy, rfl⟩ := in_rng (by omega) (by omega) c_2
  have k_jy : (nI jy).toNatClampNeg = jy := nI_clamp (by omega)
  refine lv_iload_n hx hb dX2_coughs_21 rfl (lv_at hl 3 rfl) ?_
  refine lv_iconst (v := nI 1) hx hb dX2_coughs_22 (by decide) ?_
  refine lv_bipush (v := nI 10) hx hb dX2_coughs_23 (by decide) ?_
  refine c_read (va_runS (As := [.int z, .int (nI 1), .int (nI 10)]) (rest := []) ⟨hx, hb, hml, hown, hts⟩ (met_X2_isIn l G z (nI 1) (nI 10)) (cs_X2_X2_isIn hts ⟨Nat.le_of_ble_eq_true rfl, Nat.le_of_ble_eq_true rfl⟩) (cP.pre hK trivial) rfl rfl hl.1 rfl (lv_room (Nat.le_of_ble_eq_true rfl)) dX2_coughs_25 ⟨by first | exact Nat.zero_le _ | omega | decide, by first | exact Nat.zero_le _ | omega | decide⟩) ?_
  refine b_if_eq (tgt := 40) hx hb dX2_coughs_28 (by decide) (fun c_3 => ?_) (fun c_3 => ?_)
  · refine lv_iconst (v := (-1)) hx hb dX2_coughs_40 (by decide) ?_
    exact c_rret (v := (-1)) (by unfold mCough; rw [pif_f (fun h9 => by first | exact absurd h9.1 (by assumption) | exact absurd h9.2.1 (by assumption) | exact absurd h9.2.2.1 (by assumption) | exact absurd h9.2.2.2 (by assumption))]) hx hb hr rfl hlocks dX2_coughs_41 rfl rfl
  refine lv_aload_n hx hb dX2_coughs_31 rfl (lv_at hl 0 rfl) ?_
  refine lv_iload hx hb dX2_coughs_32 (lv_at hl 4 rfl) ?_
  refine c_read (va_runV (As := [.int w]) (rest := []) ⟨hx, hb, hml, hown, hts⟩ (met_X2_isBlower l G ad M Z V w nb en (by omega)) (cv_X2_X2_isBlower hts ⟨Nat.le_of_ble_eq_true rfl, Nat.le_of_ble_eq_true rfl⟩) (cP.preV hK hw.1 (hw.1.recv hK)) rfl rfl hl.1 rfl (lv_room (Nat.le_of_ble_eq_true rfl)) dX2_coughs_34 ⟨by first | exact Nat.zero_le _ | omega | decide, by first | exact Nat.zero_le _ | omega | decide⟩) ?_
  refine b_if_ne (tgt := 42) hx hb dX2_coughs_37 (by decide) (fun c_4 => ?_) (fun c_4 => ?_)
  · obtain ⟨jw, h_jw, rfl⟩ := vp_in_of c_4 (by omega)
    have k_jw : (nI jw).toNatClampNeg = jw := nI_clamp (by omega)
    refine lv_iload_n hx hb dX2_coughs_42 rfl (lv_at hl 1 rfl) ?_
    refine lv_bipush (v := nI 7) hx hb dX2_coughs_43 (by decide) ?_
    refine lv_imul hx hb dX2_coughs_45 ?_
    refine lv_iconst (v := nI 5) hx hb dX2_coughs_46 (by decide) ?_
    refine lv_iadd hx hb dX2_coughs_47 ?_
    refine lv_istore (lv' := [(5, .int ((x * (nI 7)) + (nI 5))), (0, .ref (ad 0)), (1, .int x), (2, .int (nI jy)), (3, .int z), (4, .int (nI jw))]) hx hb dX2_coughs_48 hl (by decide) rfl (fun ls hl => ?_)
    refine lv_iconst (v := nI 0) hx hb dX2_coughs_50 (by decide) ?_
    refine lv_istore (lv' := [(6, .int (nI 0)), (5, .int ((x * (nI 7)) + (nI 5))), (0, .ref (ad 0)), (1, .int x), (2, .int (nI jy)), (3, .int z), (4, .int (nI jw))]) hx hb dX2_coughs_51 hl (by decide) rfl (fun ls hl => ?_)
    refine lv_iconst (v := nI 0) hx hb dX2_coughs_53 (by decide) ?_
    refine lv_istore (lv' := [(7, .int (nI 0)), (6, .int (nI 0)), (5, .int ((x * (nI 7)) + (nI 5))), (0, .ref (ad 0)), (1, .int x), (2, .int (nI jy)), (3, .int z), (4, .int (nI jw))]) hx hb dX2_coughs_54 hl (by decide) rfl (fun ls hl => ?_)
    have L56_5 : ∀ (fuel : Nat) (h : Nat) (u : Int32) (lost : Int32), jy - h < fuel → (h ≤ jy) → (it (mCoughF nb jw z) (jy - h) h (u, lost) = it (mCoughF nb jw z) (jy - 0) 0 (x * nI 7 + nI 5, nI 0)) → ∀ (ls : Array Slot), lv_has ls 9 [(0, .ref (ad 0)), (1, .int x), (2, .int (nI jy)), (3, .int z), (4, .int (nI jw)), (5, .int u), (6, .int lost), (7, .int (nI h))] → W p l e ({ frames := 2, cells := 0, slots := 0, locals := 43 } : Room) s m ([.ref (ad 0), .int x, .int (nI jy), .int z, .int (nI jw)] : List Value).toArray below meth c s.heap [] 0 0 (MQ below (cR (some (.int (mCough nb x (nI jy) z (nI jw))))) ([.ref (ad 0), .int x, .int (nI jy), .int z, .int (nI jw)] : List Value).toArray s 0 0 (fun _ => False)) (F0 m 56 ls []) := by
      intro fuel
      induction fuel with
      | zero => intro h u lost hf; exact absurd hf (Nat.not_lt_zero _)
      | succ fuel ih =>
        intro h u lost hf hi_h hq ls hl
        have ih56 := ih
        refine lv_iload hx hb dX2_coughs_56 (lv_at hl 7 rfl) ?_
        refine lv_iload_n hx hb dX2_coughs_58 rfl (lv_at hl 2 rfl) ?_
        refine n_icmp_ge (tgt := 129) hx hb dX2_coughs_59 (by decide) (by omega) (by omega) (fun c_6 => ?_) (fun c_6 => ?_)
        · refine lv_iload hx hb dX2_coughs_129 (lv_at hl 6 rfl) ?_
          exact c_rret (v := lost) (by unfold mCough; rw [pif_t ⟨by assumption, by first | assumption | exact rng_in (by omega) h_jy, by assumption, by assumption⟩, show cl (nI jw) = jw from k_jw, show cl (nI jy) = jy from k_jy, ← hq, it_z (by omega)]) hx hb hr rfl hlocks dX2_coughs_131 rfl rfl
        refine lv_iconst (v := nI 0) hx hb dX2_coughs_62 (by decide) ?_
        refine lv_istore (lv' := [(8, .int (nI 0)), (0, .ref (ad 0)), (1, .int x), (2, .int (nI jy)), (3, .int z), (4, .int (nI jw)), (5, .int u), (6, .int lost), (7, .int (nI h))]) hx hb dX2_coughs_63 hl (by decide) rfl (fun ls hl => ?_)
        have L65_7 : ∀ (fuel : Nat) (b : Nat) (u1 : Int32) (lost1 : Int32), nb - b < fuel → (b ≤ nb) → (it (fun b st => (mCoughX st.1, mCough1 b jw z st.1 st.2)) (nb - b) b (u1, lost1) = mCoughF nb jw z h (u, lost)) → ∀ (ls : Array Slot), lv_has ls 9 [(0, .ref (ad 0)), (1, .int x), (2, .int (nI jy)), (3, .int z), (4, .int (nI jw)), (5, .int u1), (6, .int lost1), (7, .int (nI h)), (8, .int (nI b))] → W p l e ({ frames := 2, cells := 0, slots := 0, locals := 43 } : Room) s m ([.ref (ad 0), .int x, .int (nI jy), .int z, .int (nI jw)] : List Value).toArray below meth c s.heap [] 0 0 (MQ below (cR (some (.int (mCough nb x (nI jy) z (nI jw))))) ([.ref (ad 0), .int x, .int (nI jy), .int z, .int (nI jw)] : List Value).toArray s 0 0 (fun _ => False)) (F0 m 65 ls []) := by
          intro fuel
          induction fuel with
          | zero => intro b u1 lost1 hf; exact absurd hf (Nat.not_lt_zero _)
          | succ fuel ih =>
            intro b u1 lost1 hf hi_b hqb ls hl
            have ih65 := ih
            refine lv_iload hx hb dX2_coughs_65 (lv_at hl 8 rfl) ?_
            refine lv_aload_n hx hb dX2_coughs_67 rfl (lv_at hl 0 rfl) ?_
            refine m_g_a hx hb hts hown hK hw dX2_coughs_68 ?_
            refine lv_iconst (v := nI 0) hx hb dX2_coughs_71 (by decide) ?_
            refine m_l_a (j := 0) (v := nI nb) hx hb hK hw en (by decide) dX2_coughs_72 ?_
            refine n_icmp_ge (tgt := 123) hx hb dX2_coughs_73 (by decide) (by omega) (by omega) (fun c_8 => ?_) (fun c_8 => ?_)
            · have hz : (u1, lost1) = mCoughF nb jw z h (u, lost) := (it_z (by omega)).symm.trans hqb
              refine lv_iinc (v := nI (h + 1)) (lv' := [(7, .int (nI (h + 1))), (0, .ref (ad 0)), (1, .int x), (2, .int (nI jy)), (3, .int z), (4, .int (nI jw)), (5, .int u1), (6, .int lost1), (8, .int (nI b))]) hx hb dX2_coughs_123 hl (k := 7) rfl (n_inc h 1) (by decide) rfl (fun ls hl => ?_)
              refine lv_goto (tgt := 56) hx hb dX2_coughs_126 (by decide) ?_
              exact ih56 (h + 1) u1 lost1 (by omega) (by first | assumption | omega | rfl) (by rw [hz]; exact (it_s (by omega)).symm.trans hq) ls (lv_sub hl [1, 2, 3, 4, 5, 6, 7, 0] rfl)
            refine lv_iload hx hb dX2_coughs_76 (lv_at hl 6 rfl) ?_
            refine lv_iload hx hb dX2_coughs_78 (lv_at hl 8 rfl) ?_
            refine lv_iload hx hb dX2_coughs_80 (lv_at hl 4 rfl) ?_
            refine n_icmp_ne (tgt := 98) hx hb dX2_coughs_82 (by decide) (by omega) (by omega) (fun c_9 => ?_) (fun c_9 => ?_)
            · refine lv_iconst (v := nI 0) hx hb dX2_coughs_98 (by decide) ?_
              refine lv_iadd hx hb dX2_coughs_99 ?_
              refine lv_istore (lv' := [(6, .int (lost1 + (nI 0))), (0, .ref (ad 0)), (1, .int x), (2, .int (nI jy)), (3, .int z), (4, .int (nI jw)), (5, .int u1), (7, .int (nI h)), (8, .int (nI b))]) hx hb dX2_coughs_100 hl (by decide) rfl (fun ls hl => ?_)
              refine lv_iload hx hb dX2_coughs_102 (lv_at hl 6 rfl) ?_
              refine lv_sipush (v := nI 181) hx hb dX2_coughs_104 (by decide) ?_
              refine lv_imul hx hb dX2_coughs_107 ?_
              refine lv_bipush (v := nI 37) hx hb dX2_coughs_108 (by decide) ?_
              refine lv_iadd hx hb dX2_coughs_110 ?_
              refine lv_sipush (v := nI 30103) hx hb dX2_coughs_111 (by decide) ?_
              refine lv_irem hx hb dX2_coughs_114 (by decide) ?_
              refine lv_istore (lv' := [(5, .int (((u1 * (nI 181)) + (nI 37)) - ((u1 * (nI 181)) + (nI 37)) / (nI 30103) * (nI 30103))), (6, .int (lost1 + (nI 0))), (0, .ref (ad 0)), (1, .int x), (2, .int (nI jy)), (3, .int z), (4, .int (nI jw)), (7, .int (nI h)), (8, .int (nI b))]) hx hb dX2_coughs_115 hl (by decide) rfl (fun ls hl => ?_)
              refine lv_iinc (v := nI (b + 1)) (lv' := [(8, .int (nI (b + 1))), (5, .int (((u1 * (nI 181)) + (nI 37)) - ((u1 * (nI 181)) + (nI 37)) / (nI 30103) * (nI 30103))), (6, .int (lost1 + (nI 0))), (0, .ref (ad 0)), (1, .int x), (2, .int (nI jy)), (3, .int z), (4, .int (nI jw)), (7, .int (nI h))]) hx hb dX2_coughs_117 hl (k := 8) rfl (n_inc b 1) (by decide) rfl (fun ls hl => ?_)
              refine lv_goto (tgt := 65) hx hb dX2_coughs_120 (by decide) ?_
              exact ih65 (b + 1) (((u1 * (nI 181)) + (nI 37)) - ((u1 * (nI 181)) + (nI 37)) / (nI 30103) * (nI 30103)) (lost1 + (nI 0)) (by omega) (by first | assumption | omega | rfl) (by refine Eq.trans ?_ ((it_s (by omega)).symm.trans hqb); congr 1; unfold mCough1; first | (rw [pif_t ⟨by assumption, by first | assumption | exact Int32.not_le.mp (by assumption)⟩]; rfl) | (rw [pif_f (fun h9 => by first | exact absurd h9.1 (by assumption) | exact absurd h9.2 (by assumption) | exact absurd h9.2 (Int32.not_lt.mpr (by assumption)))]; rfl)) ls (lv_sub hl [3, 4, 5, 6, 7, 1, 2, 8, 0] rfl)
            refine lv_iload hx hb dX2_coughs_85 (lv_at hl 5 rfl) ?_
            refine lv_bipush (v := nI 10) hx hb dX2_coughs_87 (by decide) ?_
            refine lv_irem hx hb dX2_coughs_89 (by decide) ?_
            refine lv_iload_n hx hb dX2_coughs_90 rfl (lv_at hl 3 rfl) ?_
            refine lv_icmp_ge (tgt := 98) hx hb dX2_coughs_91 (by decide) (fun c_10 => ?_) (fun c_10 => ?_)
            · refine lv_iconst (v := nI 0) hx hb dX2_coughs_98 (by decide) ?_
              refine lv_iadd hx hb dX2_coughs_99 ?_
              refine lv_istore (lv' := [(6, .int (lost1 + (nI 0))), (0, .ref (ad 0)), (1, .int x), (2, .int (nI jy)), (3, .int z), (4, .int (nI jw)), (5, .int u1), (7, .int (nI h)), (8, .int (nI b))]) hx hb dX2_coughs_100 hl (by decide) rfl (fun ls hl => ?_)
              refine lv_iload hx hb dX2_coughs_102 (lv_at hl 6 rfl) ?_
              refine lv_sipush (v := nI 181) hx hb dX2_coughs_104 (by decide) ?_
              refine lv_imul hx hb dX2_coughs_107 ?_
              refine lv_bipush (v := nI 37) hx hb dX2_coughs_108 (by decide) ?_
              refine lv_iadd hx hb dX2_coughs_110 ?_
              refine lv_sipush (v := nI 30103) hx hb dX2_coughs_111 (by decide) ?_
              refine lv_irem hx hb dX2_coughs_114 (by decide) ?_
              refine lv_istore (lv' := [(5, .int (((u1 * (nI 181)) + (nI 37)) - ((u1 * (nI 181)) + (nI 37)) / (nI 30103) * (nI 30103))), (6, .int (lost1 + (nI 0))), (0, .ref (ad 0)), (1, .int x), (2, .int (nI jy)), (3, .int z), (4, .int (nI jw)), (7, .int (nI h)), (8, .int (nI b))]) hx hb dX2_coughs_115 hl (by decide) rfl (fun ls hl => ?_)
              refine lv_iinc (v := nI (b + 1)) (lv' := [(8, .int (nI (b + 1))), (5, .int (((u1 * (nI 181)) + (nI 37)) - ((u1 * (nI 181)) + (nI 37)) / (nI 30103) * (nI 30103))), (6, .int (lost1 + (nI 0))), (0, .ref (ad 0)), (1, .int x), (2, .int (nI jy)), (3, .int z), (4, .int (nI jw)), (7, .int (nI h))]) hx hb dX2_coughs_117 hl (k := 8) rfl (n_inc b 1) (by decide) rfl (fun ls hl => ?_)
              refine lv_goto (tgt := 65) hx hb dX2_coughs_120 (by decide) ?_
              exact ih65 (b + 1) (((u1 * (nI 181)) + (nI 37)) - ((u1 * (nI 181)) + (nI 37)) / (nI 30103) * (nI 30103)) (lost1 + (nI 0)) (by omega) (by first | assumption | omega | rfl) (by refine Eq.trans ?_ ((it_s (by omega)).symm.trans hqb); congr 1; unfold mCough1; first | (rw [pif_t ⟨by assumption, by first | assumption | exact Int32.not_le.mp (by assumption)⟩]; rfl) | (rw [pif_f (fun h9 => by first | exact absurd h9.1 (by assumption) | exact absurd h9.2 (by assumption) | exact absurd h9.2 (Int32.not_lt.mpr (by assumption)))]; rfl)) ls (lv_sub hl [3, 4, 5, 6, 7, 1, 2, 8, 0] rfl)
            refine lv_iconst (v := nI 1) hx hb dX2_coughs_94 (by decide) ?_
            refine lv_goto (tgt := 99) hx hb dX2_coughs_95 (by decide) ?_
            refine lv_iadd hx hb dX2_coughs_99 ?_
            refine lv_istore (lv' := [(6, .int (lost1 + (nI 1))), (0, .ref (ad 0)), (1, .int x), (2, .int (nI jy)), (3, .int z), (4, .int (nI jw)), (5, .int u1), (7, .int (nI h)), (8, .int (nI b))]) hx hb dX2_coughs_100 hl (by decide) rfl (fun ls hl => ?_)
            refine lv_iload hx hb dX2_coughs_102 (lv_at hl 6 rfl) ?_
            refine lv_sipush (v := nI 181) hx hb dX2_coughs_104 (by decide) ?_
            refine lv_imul hx hb dX2_coughs_107 ?_
            refine lv_bipush (v := nI 37) hx hb dX2_coughs_108 (by decide) ?_
            refine lv_iadd hx hb dX2_coughs_110 ?_
            refine lv_sipush (v := nI 30103) hx hb dX2_coughs_111 (by decide) ?_
            refine lv_irem hx hb dX2_coughs_114 (by decide) ?_
            refine lv_istore (lv' := [(5, .int (((u1 * (nI 181)) + (nI 37)) - ((u1 * (nI 181)) + (nI 37)) / (nI 30103) * (nI 30103))), (6, .int (lost1 + (nI 1))), (0, .ref (ad 0)), (1, .int x), (2, .int (nI jy)), (3, .int z), (4, .int (nI jw)), (7, .int (nI h)), (8, .int (nI b))]) hx hb dX2_coughs_115 hl (by decide) rfl (fun ls hl => ?_)
            refine lv_iinc (v := nI (b + 1)) (lv' := [(8, .int (nI (b + 1))), (5, .int (((u1 * (nI 181)) + (nI 37)) - ((u1 * (nI 181)) + (nI 37)) / (nI 30103) * (nI 30103))), (6, .int (lost1 + (nI 1))), (0, .ref (ad 0)), (1, .int x), (2, .int (nI jy)), (3, .int z), (4, .int (nI jw)), (7, .int (nI h))]) hx hb dX2_coughs_117 hl (k := 8) rfl (n_inc b 1) (by decide) rfl (fun ls hl => ?_)
            refine lv_goto (tgt := 65) hx hb dX2_coughs_120 (by decide) ?_
            exact ih65 (b + 1) (((u1 * (nI 181)) + (nI 37)) - ((u1 * (nI 181)) + (nI 37)) / (nI 30103) * (nI 30103)) (lost1 + (nI 1)) (by omega) (by first | assumption | omega | rfl) (by refine Eq.trans ?_ ((it_s (by omega)).symm.trans hqb); congr 1; unfold mCough1; first | (rw [pif_t ⟨by assumption, by first | assumption | exact Int32.not_le.mp (by assumption)⟩]; rfl) | (rw [pif_f (fun h9 => by first | exact absurd h9.1 (by assumption) | exact absurd h9.2 (by assumption) | exact absurd h9.2 (Int32.not_lt.mpr (by assumption)))]; rfl)) ls (lv_sub hl [3, 4, 5, 6, 7, 1, 2, 8, 0] rfl)
        exact L65_7 _ 0 u lost (Nat.lt_succ_self _) (by first | assumption | omega | rfl) rfl ls (lv_sub hl [1, 2, 3, 4, 5, 6, 7, 8, 0] rfl)
    exact L56_5 _ 0 ((x * (nI 7)) + (nI 5)) (nI 0) (Nat.lt_succ_self _) (by first | assumption | omega | rfl) rfl ls (lv_sub hl [3, 4, 5, 6, 7, 2, 1, 0] rfl)
  refine lv_iconst (v := (-1)) hx hb dX2_coughs_40 (by decide) ?_
  exact c_rret (v := (-1)) (by unfold mCough; rw [pif_f (fun h9 => by first | exact absurd h9.1 (by assumption) | exact absurd h9.2.1 (by assumption) | exact absurd h9.2.2.1 (by assumption) | exact absurd h9.2.2.2 (by assumption))]) hx hb hr rfl hlocks dX2_coughs_41 rfl rfl
