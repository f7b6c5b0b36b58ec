/-- the steps' rows, one place down -/
def mShift (M : Nat → Nat → Int32) : Nat → Nat → Int32 := up2 (it (fun i M => up2 M 0 (410 + i) (M 0 (526 + i))) 3364 0 M) 0 6 (nI 29)
def mSave (M : Nat → Nat → Int32) (n : Nat) : Nat → Nat → Int32 :=
  up2 (it (fun i M => up2 M 0 (410 + 116 * n + 16 + i) (M 0 (150 + i))) 100 0 (it (fun b M => up2 (up2 M 0 (410 + 116 * n + 4 + b) (M 0 (10 + 5 * b + 2))) 0 (410 + 116 * n + 10 + b) (M 0 (10 + 5 * b + 3))) 6 0
    (up2 (up2 (up2 (up2 M 0 (410 + 116 * n) (M 0 3)) 0 (410 + 116 * n + 1) (M 0 2)) 0 (410 + 116 * n + 2) (M 0 9)) 0 (410 + 116 * n + 3) (M 0 0)))) 0 6 (nI (n + 1))
def mKeep (M : Nat → Nat → Int32) (n : Nat) : Nat → Nat → Int32 := if n = 30 then mSave (mShift M) 29 else mSave M n
def mKeepC (M : Nat → Nat → Int32) : Nat → Nat → Int32 := mKeep M (cl (M 0 6))
theorem mKeepC_of {M : Nat → Nat → Int32} {n : Nat} (h : M 0 6 = nI n) (hn : n < 2 ^ 31) : mKeepC M = mKeep M n := by
  unfold mKeepC cl
  rw [h, nI_clamp hn]
theorem it_inv {σ : Type} {f : Nat → σ → σ} (P : σ → Prop) (hs : ∀ i s, P s → P (f i s)) : ∀ (n i : Nat) (s : σ), P s → P (it f n i s)
  | 0, i, s, h => by rw [it_0]; exact h
  | n + 1, i, s, h => by rw [it_succ]; exact it_inv P hs n (i + 1) (f i s) (hs i s h)
theorem mSave_lo {M : Nat → Nat → Int32} {n j : Nat} (h : j < 410) (h6 : j ≠ 6) : mSave M n 0 j = M 0 j := by
  unfold mSave
  rw [up2_ne (Or.inr h6)]
  refine it_inv (fun M' : Nat → Nat → Int32 => M' 0 j = M 0 j) (fun i M' e => ?_) _ _ _ (it_inv (fun M' : Nat → Nat → Int32 => M' 0 j = M 0 j) (fun i M' e => ?_) _ _ _ ?_)
  · rw [up2_ne (Or.inr (by omega))]; exact e
  · rw [up2_ne (Or.inr (by omega)), up2_ne (Or.inr (by omega))]; exact e
  · rw [up2_ne (Or.inr (by omega)), up2_ne (Or.inr (by omega)), up2_ne (Or.inr (by omega)), up2_ne (Or.inr (by omega))]
theorem mSave_k {M : Nat → Nat → Int32} {n k j : Nat} (h : k ≠ 0) : mSave M n k j = M k j := by
  unfold mSave
  rw [up2_ne (Or.inl h)]
  refine it_inv (fun M' : Nat → Nat → Int32 => M' k j = M k j) (fun i M' e => ?_) _ _ _ (it_inv (fun M' : Nat → Nat → Int32 => M' k j = M k j) (fun i M' e => ?_) _ _ _ ?_)
  · rw [up2_ne (Or.inl h)]; exact e
  · rw [up2_ne (Or.inl h), up2_ne (Or.inl h)]; exact e
  · rw [up2_ne (Or.inl h), up2_ne (Or.inl h), up2_ne (Or.inl h), up2_ne (Or.inl h)]
theorem mShift_lo {M : Nat → Nat → Int32} {j : Nat} (h : j < 410) (h6 : j ≠ 6) : mShift M 0 j = M 0 j := by
  unfold mShift
  rw [up2_ne (Or.inr h6)]
  refine it_inv (fun M' : Nat → Nat → Int32 => M' 0 j = M 0 j) (fun i M' e => ?_) _ _ _ rfl
  rw [up2_ne (Or.inr (by omega))]; exact e
theorem mShift_k {M : Nat → Nat → Int32} {k j : Nat} (h : k ≠ 0) : mShift M k j = M k j := by
  unfold mShift
  rw [up2_ne (Or.inl h)]
  refine it_inv (fun M' : Nat → Nat → Int32 => M' k j = M k j) (fun i M' e => ?_) _ _ _ rfl
  rw [up2_ne (Or.inl h)]; exact e
theorem mKeepC_lo {M : Nat → Nat → Int32} {j : Nat} (h : j < 410) (h6 : j ≠ 6) : mKeepC M 0 j = M 0 j := by
  unfold mKeepC mKeep
  split
  · rw [mSave_lo h h6, mShift_lo h h6]
  · exact mSave_lo h h6
theorem mKeepC_k {M : Nat → Nat → Int32} {k j : Nat} (h : k ≠ 0) : mKeepC M k j = M k j := by
  unfold mKeepC mKeep
  split
  · rw [mSave_k h, mShift_k h]
  · exact mSave_k h
theorem mKeepC_6 {M : Nat → Nat → Int32} {n : Nat} (h : M 0 6 = nI n) (hn : n ≤ 30) : mKeepC M 0 6 = nI (min n 29 + 1) := by
  rw [mKeepC_of h (by omega)]
  unfold mKeep
  split
  · next e => subst e; exact up2_at
  · next e => rw [show min n 29 = n by omega]; exact up2_at
set_option maxHeartbeats 4000000 in
set_option maxRecDepth 100000 in
theorem met_X2_keep (l : Launch) (G : gG) (ad : Nat → Nat) (M Z : Nat → Nat → Int32) (V : Nat → Nat → Int64) (ns : Nat) (es : M 0 6 = nI ns) (hs : ns ≤ 30) : Met l yX2_keep (ws_ yX2_keep cX2_keep 3 none) ({ frames := 1, cells := 0, slots := 0, locals := 22 } : Room) (cP G [.ref (ad 0)] (mH G ad M Z V)) (cQ none (mH G ad (mKeepC M) Z V) (mA ad)) 0 0 (mA ad) := by
  refine c_start (by decide) (Nat.le_of_ble_eq_true rfl) ?_
  intro p e s m below meth c hx hb hr hlocks hml hown hts hB hK ls hl
  have hw := MS.of hB
  have hl : lv_has ls 3 [(0, .ref (ad 0))] := hl
  have J_58 : ∀ (n1 : Nat) (Mj : Nat → Nat → Int32), (n1 ≤ 29) → (Mj 0 6 = nI n1) → (mSave Mj n1 = mKeep M ns) → ∀ (H : Heap) (locs : List Loc), MS G ad s.heap Mj Z V H locs → ∀ (ls : Array Slot), lv_has ls 3 [(0, .ref (ad 0))] → W p l e ({ frames := 1, cells := 0, slots := 0, locals := 22 } : Room) s m ([.ref (ad 0)] : List Value).toArray below meth c H locs 0 0 (MQ below (cQ none (mH G ad (mKeepC M) Z V) (mA ad)) ([.ref (ad 0)] : List Value).toArray s 0 0 (mA ad)) (F0 m 58 ls []) := by
    intro n1 Mj h1 e1 hJ H locs hw ls hl
    refine lv_sipush (v := nI 410) hx hb dX2_keep_58 (by decide) ?_
    refine lv_bipush (v := nI 116) hx hb dX2_keep_61 (by decide) ?_
    refine lv_aload_n hx hb dX2_keep_63 rfl (lv_at hl 0 rfl) ?_
    refine m_g_a hx hb hts hown hK hw dX2_keep_64 ?_
    refine lv_bipush (v := nI 6) hx hb dX2_keep_67 (by decide) ?_
    refine m_l_a (j := 6) (v := nI n1) hx hb hK hw e1 (by decide) dX2_keep_69 ?_
    refine n_imul hx hb dX2_keep_70 ?_
    refine n_iadd hx hb dX2_keep_71 ?_
    refine lv_istore_n (lv' := [(1, .int (nI (410 + 116 * n1))), (0, .ref (ad 0))]) hx hb dX2_keep_72 rfl hl (by decide) rfl (fun ls hl => ?_)
    refine lv_aload_n hx hb dX2_keep_73 rfl (lv_at hl 1 rfl) ?_
    refine m_g_a hx hb hts hown hK hw dX2_keep_74 ?_
    refine lv_iload_n hx hb dX2_keep_77 rfl (lv_at hl 0 rfl) ?_
    refine lv_aload_n hx hb dX2_keep_78 rfl (lv_at hl 1 rfl) ?_
    refine m_g_a hx hb hts hown hK hw dX2_keep_79 ?_
    refine lv_iconst (v := nI 3) hx hb dX2_keep_82 (by decide) ?_
    refine m_l_a (j := 3) (v := Mj 0 3) hx hb hK hw rfl (by decide) dX2_keep_83 ?_
    refine m_s_a (j := 410 + 116 * n1) hx hb hK hw (by omega) dX2_keep_84 (fun H locs hw => ?_)
    refine lv_aload_n hx hb dX2_keep_85 rfl (lv_at hl 1 rfl) ?_
    refine m_g_a hx hb hts hown hK hw dX2_keep_86 ?_
    refine lv_iload_n hx hb dX2_keep_89 rfl (lv_at hl 0 rfl) ?_
    refine lv_iconst (v := nI 1) hx hb dX2_keep_90 (by decide) ?_
    refine n_iadd hx hb dX2_keep_91 ?_
    refine lv_aload_n hx hb dX2_keep_92 rfl (lv_at hl 1 rfl) ?_
    refine m_g_a hx hb hts hown hK hw dX2_keep_93 ?_
    refine lv_iconst (v := nI 2) hx hb dX2_keep_96 (by decide) ?_
    refine m_l_a (j := 2) (v := Mj 0 2) hx hb hK hw ((up2_ne (Or.inr (by omega))).trans rfl) (by decide) dX2_keep_97 ?_
    refine m_s_a (j := 410 + 116 * n1 + 1) hx hb hK hw (by omega) dX2_keep_98 (fun H locs hw => ?_)
    refine lv_aload_n hx hb dX2_keep_99 rfl (lv_at hl 1 rfl) ?_
    refine m_g_a hx hb hts hown hK hw dX2_keep_100 ?_
    refine lv_iload_n hx hb dX2_keep_103 rfl (lv_at hl 0 rfl) ?_
    refine lv_iconst (v := nI 2) hx hb dX2_keep_104 (by decide) ?_
    refine n_iadd hx hb dX2_keep_105 ?_
    refine lv_aload_n hx hb dX2_keep_106 rfl (lv_at hl 1 rfl) ?_
    refine m_g_a hx hb hts hown hK hw dX2_keep_107 ?_
    refine lv_bipush (v := nI 9) hx hb dX2_keep_110 (by decide) ?_
    refine m_l_a (j := 9) (v := Mj 0 9) hx hb hK hw ((up2_ne (Or.inr (by omega))).trans ((up2_ne (Or.inr (by omega))).trans rfl)) (by decide) dX2_keep_112 ?_
    refine m_s_a (j := 410 + 116 * n1 + 2) hx hb hK hw (by omega) dX2_keep_113 (fun H locs hw => ?_)
    refine lv_aload_n hx hb dX2_keep_114 rfl (lv_at hl 1 rfl) ?_
    refine m_g_a hx hb hts hown hK hw dX2_keep_115 ?_
    refine lv_iload_n hx hb dX2_keep_118 rfl (lv_at hl 0 rfl) ?_
    refine lv_iconst (v := nI 3) hx hb dX2_keep_119 (by decide) ?_
    refine n_iadd hx hb dX2_keep_120 ?_
    refine lv_aload_n hx hb dX2_keep_121 rfl (lv_at hl 1 rfl) ?_
    refine m_g_a hx hb hts hown hK hw dX2_keep_122 ?_
    refine lv_iconst (v := nI 0) hx hb dX2_keep_125 (by decide) ?_
    refine m_l_a (j := 0) (v := Mj 0 0) hx hb hK hw ((up2_ne (Or.inr (by omega))).trans ((up2_ne (Or.inr (by omega))).trans ((up2_ne (Or.inr (by omega))).trans rfl))) (by decide) dX2_keep_126 ?_
    refine m_s_a (j := 410 + 116 * n1 + 3) hx hb hK hw (by omega) dX2_keep_127 (fun H locs hw => ?_)
    refine lv_iconst (v := nI 0) hx hb dX2_keep_128 (by decide) ?_
    refine lv_istore_n (lv' := [(2, .int (nI 0)), (1, .int (nI (410 + 116 * n1))), (0, .ref (ad 0))]) hx hb dX2_keep_129 rfl hl (by decide) rfl (fun ls hl => ?_)
    have L_130 : ∀ (fuel : Nat) (b : Nat) (M2 : Nat → Nat → Int32), 6 - b < fuel → (b ≤ 6) → (it (fun i9 M9 => (up2 (up2 M9 0 (410 + 116 * n1 + 4 + i9) (M9 0 (10 + 5 * i9 + 2))) 0 (410 + 116 * n1 + 10 + i9) (M9 0 (10 + 5 * i9 + 3)))) (6 - b) b M2 = (it (fun i9 M9 => (up2 (up2 M9 0 (410 + 116 * n1 + 4 + i9) (M9 0 (10 + 5 * i9 + 2))) 0 (410 + 116 * n1 + 10 + i9) (M9 0 (10 + 5 * i9 + 3)))) (6 - 0) 0 (up2 (up2 (up2 (up2 Mj 0 (410 + 116 * n1) (Mj 0 3)) 0 (410 + 116 * n1 + 1) (Mj 0 2)) 0 (410 + 116 * n1 + 2) (Mj 0 9)) 0 (410 + 116 * n1 + 3) (Mj 0 0)))) → (M2 0 6 = nI n1) → ∀ (H : Heap) (locs : List Loc), MS G ad s.heap M2 Z V H locs → ∀ (ls : Array Slot), lv_has ls 3 [(0, .ref (ad 0)), (1, .int (nI (410 + 116 * n1))), (2, .int (nI b))] → W p l e ({ frames := 1, cells := 0, slots := 0, locals := 22 } : Room) s m ([.ref (ad 0)] : List Value).toArray below meth c H locs 0 0 (MQ below (cQ none (mH G ad (mKeepC M) Z V) (mA ad)) ([.ref (ad 0)] : List Value).toArray s 0 0 (mA ad)) (F0 m 130 ls []) := by
      intro fuel
      induction fuel with
      | zero => intro b M2 hf; exact absurd hf (Nat.not_lt_zero _)
      | succ fuel ih =>
        intro b M2 hf hi_M2 hM_M2 hf0_M2 H locs hw ls hl
        have ih130 := ih
        refine lv_iload_n hx hb dX2_keep_130 rfl (lv_at hl 2 rfl) ?_
        refine lv_bipush (v := nI 6) hx hb dX2_keep_131 (by decide) ?_
        refine n_icmp_ge (tgt := 175) hx hb dX2_keep_133 (by decide) (by omega) (by decide) (fun c_1 => ?_) (fun c_1 => ?_)
        · obtain rfl : M2 = (it (fun i9 M9 => (up2 (up2 M9 0 (410 + 116 * n1 + 4 + i9) (M9 0 (10 + 5 * i9 + 2))) 0 (410 + 116 * n1 + 10 + i9) (M9 0 (10 + 5 * i9 + 3)))) (6 - 0) 0 (up2 (up2 (up2 (up2 Mj 0 (410 + 116 * n1) (Mj 0 3)) 0 (410 + 116 * n1 + 1) (Mj 0 2)) 0 (410 + 116 * n1 + 2) (Mj 0 9)) 0 (410 + 116 * n1 + 3) (Mj 0 0))) := (it_z (by omega)).symm.trans hM_M2
          refine lv_iconst (v := nI 0) hx hb dX2_keep_175 (by decide) ?_
          refine lv_istore_n (lv' := [(2, .int (nI 0)), (0, .ref (ad 0)), (1, .int (nI (410 + 116 * n1)))]) hx hb dX2_keep_176 rfl hl (by decide) rfl (fun ls hl => ?_)
          have L177_2 : ∀ (fuel : Nat) (i : Nat) (M3 : Nat → Nat → Int32), 100 - i < fuel → (i ≤ 100) → (it (fun i9 M9 => (up2 M9 0 (410 + 116 * n1 + 16 + i9) (M9 0 (150 + i9)))) (100 - i) i M3 = (it (fun i9 M9 => (up2 M9 0 (410 + 116 * n1 + 16 + i9) (M9 0 (150 + i9)))) (100 - 0) 0 (it (fun i9 M9 => (up2 (up2 M9 0 (410 + 116 * n1 + 4 + i9) (M9 0 (10 + 5 * i9 + 2))) 0 (410 + 116 * n1 + 10 + i9) (M9 0 (10 + 5 * i9 + 3)))) (6 - 0) 0 (up2 (up2 (up2 (up2 Mj 0 (410 + 116 * n1) (Mj 0 3)) 0 (410 + 116 * n1 + 1) (Mj 0 2)) 0 (410 + 116 * n1 + 2) (Mj 0 9)) 0 (410 + 116 * n1 + 3) (Mj 0 0))))) → (M3 0 6 = nI n1) → ∀ (H : Heap) (locs : List Loc), MS G ad s.heap M3 Z V H locs → ∀ (ls : Array Slot), lv_has ls 3 [(0, .ref (ad 0)), (1, .int (nI (410 + 116 * n1))), (2, .int (nI i))] → W p l e ({ frames := 1, cells := 0, slots := 0, locals := 22 } : Room) s m ([.ref (ad 0)] : List Value).toArray below meth c H locs 0 0 (MQ below (cQ none (mH G ad (mKeepC M) Z V) (mA ad)) ([.ref (ad 0)] : List Value).toArray s 0 0 (mA ad)) (F0 m 177 ls []) := by
            intro fuel
            induction fuel with
            | zero => intro i M3 hf; exact absurd hf (Nat.not_lt_zero _)
            | succ fuel ih =>
              intro i M3 hf hi_M3 hM_M3 hf0_M3 H locs hw ls hl
              have ih177 := ih
              refine lv_iload_n hx hb dX2_keep_177 rfl (lv_at hl 2 rfl) ?_
              refine lv_bipush (v := nI 100) hx hb dX2_keep_178 (by decide) ?_
              refine n_icmp_ge (tgt := 210) hx hb dX2_keep_180 (by decide) (by omega) (by decide) (fun c_3 => ?_) (fun c_3 => ?_)
              · obtain rfl : M3 = (it (fun i9 M9 => (up2 M9 0 (410 + 116 * n1 + 16 + i9) (M9 0 (150 + i9)))) (100 - 0) 0 (it (fun i9 M9 => (up2 (up2 M9 0 (410 + 116 * n1 + 4 + i9) (M9 0 (10 + 5 * i9 + 2))) 0 (410 + 116 * n1 + 10 + i9) (M9 0 (10 + 5 * i9 + 3)))) (6 - 0) 0 (up2 (up2 (up2 (up2 Mj 0 (410 + 116 * n1) (Mj 0 3)) 0 (410 + 116 * n1 + 1) (Mj 0 2)) 0 (410 + 116 * n1 + 2) (Mj 0 9)) 0 (410 + 116 * n1 + 3) (Mj 0 0)))) := (it_z (by omega)).symm.trans hM_M3
                refine lv_aload_n hx hb dX2_keep_210 rfl (lv_at hl 0 rfl) ?_
                refine m_g_a hx hb hts hown hK hw dX2_keep_211 ?_
                refine lv_bipush (v := nI 6) hx hb dX2_keep_214 (by decide) ?_
                refine lv_dup2_11 hx hb dX2_keep_216 rfl rfl ?_
                refine m_l_a (j := 6) (v := nI n1) hx hb hK hw hf0_M3 (by decide) dX2_keep_217 ?_
                refine lv_iconst (v := nI 1) hx hb dX2_keep_218 (by decide) ?_
                refine n_iadd hx hb dX2_keep_219 ?_
                refine m_s_a (j := 6) hx hb hK hw (by decide) dX2_keep_220 (fun H locs hw => ?_)
                exact c_vret hx hb hr hlocks (mH.to (hJ.trans (mKeepC_of es (by omega)).symm) rfl rfl hw.1) hw.2 dX2_keep_221
              refine lv_aload_n hx hb dX2_keep_183 rfl (lv_at hl 0 rfl) ?_
              refine m_g_a hx hb hts hown hK hw dX2_keep_184 ?_
              refine lv_iload_n hx hb dX2_keep_187 rfl (lv_at hl 1 rfl) ?_
              refine lv_bipush (v := nI 16) hx hb dX2_keep_188 (by decide) ?_
              refine n_iadd hx hb dX2_keep_190 ?_
              refine lv_iload_n hx hb dX2_keep_191 rfl (lv_at hl 2 rfl) ?_
              refine n_iadd hx hb dX2_keep_192 ?_
              refine lv_aload_n hx hb dX2_keep_193 rfl (lv_at hl 0 rfl) ?_
              refine m_g_a hx hb hts hown hK hw dX2_keep_194 ?_
              refine lv_sipush (v := nI 150) hx hb dX2_keep_197 (by decide) ?_
              refine lv_iload_n hx hb dX2_keep_200 rfl (lv_at hl 2 rfl) ?_
              refine n_iadd hx hb dX2_keep_201 ?_
              refine m_l_a (j := 150 + i) (v := M3 0 (150 + i)) hx hb hK hw rfl (by omega) dX2_keep_202 ?_
              refine m_s_a (j := 410 + 116 * n1 + 16 + i) hx hb hK hw (by omega) dX2_keep_203 (fun H locs hw => ?_)
              refine lv_iinc (v := nI (i + 1)) (lv' := [(2, .int (nI (i + 1))), (0, .ref (ad 0)), (1, .int (nI (410 + 116 * n1)))]) hx hb dX2_keep_204 hl (k := 2) rfl (n_inc i 1) (by decide) rfl (fun ls hl => ?_)
              refine lv_goto (tgt := 177) hx hb dX2_keep_207 (by decide) ?_
              exact ih177 (i + 1) (up2 M3 0 (410 + 116 * n1 + 16 + i) (M3 0 (150 + i))) (by omega) (by omega) ((it_s (by omega)).symm.trans hM_M3) ((up2_ne (Or.inr (by omega))).trans hf0_M3) _ _ hw ls (lv_sub hl [1, 2, 0] rfl)
          exact L177_2 _ 0 (it (fun i9 M9 => (up2 (up2 M9 0 (410 + 116 * n1 + 4 + i9) (M9 0 (10 + 5 * i9 + 2))) 0 (410 + 116 * n1 + 10 + i9) (M9 0 (10 + 5 * i9 + 3)))) (6 - 0) 0 (up2 (up2 (up2 (up2 Mj 0 (410 + 116 * n1) (Mj 0 3)) 0 (410 + 116 * n1 + 1) (Mj 0 2)) 0 (410 + 116 * n1 + 2) (Mj 0 9)) 0 (410 + 116 * n1 + 3) (Mj 0 0))) (Nat.lt_succ_self _) (by omega) rfl hf0_M2 _ _ hw ls (lv_sub hl [1, 2, 0] rfl)
        refine lv_aload_n hx hb dX2_keep_136 rfl (lv_at hl 0 rfl) ?_
        refine m_g_a hx hb hts hown hK hw dX2_keep_137 ?_
        refine lv_iload_n hx hb dX2_keep_140 rfl (lv_at hl 1 rfl) ?_
        refine lv_iconst (v := nI 4) hx hb dX2_keep_141 (by decide) ?_
        refine n_iadd hx hb dX2_keep_142 ?_
        refine lv_iload_n hx hb dX2_keep_143 rfl (lv_at hl 2 rfl) ?_
        refine n_iadd hx hb dX2_keep_144 ?_
        refine lv_aload_n hx hb dX2_keep_145 rfl (lv_at hl 0 rfl) ?_
        refine lv_iload_n hx hb dX2_keep_146 rfl (lv_at hl 2 rfl) ?_
        refine lv_iconst (v := nI 2) hx hb dX2_keep_147 (by decide) ?_
        refine c_read (va_runV (As := [.int (nI b), .int (nI 2)]) (rest := [.int (nI (410 + 116 * n1 + 4 + b)), .ref (ad 1)]) ⟨hx, hb, hml, hown, hts⟩ (met_X2_get l G ad M2 Z V b 2 (M2 0 (10 + 5 * b + 2)) (by omega) rfl) (cv_X2_X2_get hts ⟨Nat.le_of_ble_eq_true rfl, Nat.le_of_ble_eq_true rfl⟩) (cP.preV hK hw.1 (hw.1.recv hK)) rfl rfl hl.1 rfl (lv_room (Nat.le_of_ble_eq_true rfl)) dX2_keep_148 ⟨by first | exact Nat.zero_le _ | omega | decide, by first | exact Nat.zero_le _ | omega | decide⟩) ?_
        refine m_s_a (j := 410 + 116 * n1 + 4 + b) hx hb hK hw (by omega) dX2_keep_151 (fun H locs hw => ?_)
        refine lv_aload_n hx hb dX2_keep_152 rfl (lv_at hl 0 rfl) ?_
        refine m_g_a hx hb hts hown hK hw dX2_keep_153 ?_
        refine lv_iload_n hx hb dX2_keep_156 rfl (lv_at hl 1 rfl) ?_
        refine lv_bipush (v := nI 10) hx hb dX2_keep_157 (by decide) ?_
        refine n_iadd hx hb dX2_keep_159 ?_
        refine lv_iload_n hx hb dX2_keep_160 rfl (lv_at hl 2 rfl) ?_
        refine n_iadd hx hb dX2_keep_161 ?_
        refine lv_aload_n hx hb dX2_keep_162 rfl (lv_at hl 0 rfl) ?_
        refine lv_iload_n hx hb dX2_keep_163 rfl (lv_at hl 2 rfl) ?_
        refine lv_iconst (v := nI 3) hx hb dX2_keep_164 (by decide) ?_
        refine c_read (va_runV (As := [.int (nI b), .int (nI 3)]) (rest := [.int (nI (410 + 116 * n1 + 10 + b)), .ref (ad 1)]) ⟨hx, hb, hml, hown, hts⟩ (met_X2_get l G ad (up2 M2 0 (410 + 116 * n1 + 4 + b) (M2 0 (10 + 5 * b + 2))) Z V b 3 (M2 0 (10 + 5 * b + 3)) (by omega) ((up2_ne (Or.inr (by omega))).trans rfl)) (cv_X2_X2_get hts ⟨Nat.le_of_ble_eq_true rfl, Nat.le_of_ble_eq_true rfl⟩) (cP.preV hK hw.1 (hw.1.recv hK)) rfl rfl hl.1 rfl (lv_room (Nat.le_of_ble_eq_true rfl)) dX2_keep_165 ⟨by first | exact Nat.zero_le _ | omega | decide, by first | exact Nat.zero_le _ | omega | decide⟩) ?_
        refine m_s_a (j := 410 + 116 * n1 + 10 + b) hx hb hK hw (by omega) dX2_keep_168 (fun H locs hw => ?_)
        refine lv_iinc (v := nI (b + 1)) (lv' := [(2, .int (nI (b + 1))), (0, .ref (ad 0)), (1, .int (nI (410 + 116 * n1)))]) hx hb dX2_keep_169 hl (k := 2) rfl (n_inc b 1) (by decide) rfl (fun ls hl => ?_)
        refine lv_goto (tgt := 130) hx hb dX2_keep_172 (by decide) ?_
        exact ih130 (b + 1) (up2 (up2 M2 0 (410 + 116 * n1 + 4 + b) (M2 0 (10 + 5 * b + 2))) 0 (410 + 116 * n1 + 10 + b) (M2 0 (10 + 5 * b + 3))) (by omega) (by omega) ((it_s (by omega)).symm.trans hM_M2) ((up2_ne (Or.inr (by omega))).trans ((up2_ne (Or.inr (by omega))).trans hf0_M2)) _ _ hw ls (lv_sub hl [1, 2, 0] rfl)
    exact L_130 _ 0 (up2 (up2 (up2 (up2 Mj 0 (410 + 116 * n1) (Mj 0 3)) 0 (410 + 116 * n1 + 1) (Mj 0 2)) 0 (410 + 116 * n1 + 2) (Mj 0 9)) 0 (410 + 116 * n1 + 3) (Mj 0 0)) (Nat.lt_succ_self _) (by omega) rfl ((up2_ne (Or.inr (by omega))).trans ((up2_ne (Or.inr (by omega))).trans ((up2_ne (Or.inr (by omega))).trans ((up2_ne (Or.inr (by omega))).trans e1)))) _ _ hw ls (lv_sub hl [2, 1, 0] rfl)
  refine lv_aload_n hx hb dX2_keep_0 rfl (lv_at hl 0 rfl) ?_
  refine m_g_a hx hb hts hown hK hw dX2_keep_1 ?_
  refine lv_bipush (v := nI 6) hx hb dX2_keep_4 (by decide) ?_
  refine m_l_a (j := 6) (v := nI ns) hx hb hK hw es (by decide) dX2_keep_6 ?_
  refine lv_bipush (v := nI 30) hx hb dX2_keep_7 (by decide) ?_
  refine n_icmp_ne (tgt := 58) hx hb dX2_keep_9 (by decide) (by omega) (by decide) (fun c_4 => ?_) (fun c_4 => ?_)
  · exact J_58 ns M  (by omega) es (by unfold mKeep; rw [if_neg c_4]) _ _ hw ls (lv_sub hl [0] rfl)
  subst c_4
  refine lv_iconst (v := nI 0) hx hb dX2_keep_12 (by decide) ?_
  refine lv_istore_n (lv' := [(1, .int (nI 0)), (0, .ref (ad 0))]) hx hb dX2_keep_13 rfl hl (by decide) rfl (fun ls hl => ?_)
  have L14_5 : ∀ (fuel : Nat) (i : Nat) (M1 : Nat → Nat → Int32), 3364 - i < fuel → (i ≤ 3364) → (it (fun i9 M9 => (up2 M9 0 (410 + i9) (M9 0 (526 + i9)))) (3364 - i) i M1 = (it (fun i9 M9 => (up2 M9 0 (410 + i9) (M9 0 (526 + i9)))) (3364 - 0) 0 M)) → (M1 0 6 = nI 30) → ∀ (H : Heap) (locs : List Loc), MS G ad s.heap M1 Z V H locs → ∀ (ls : Array Slot), lv_has ls 3 [(0, .ref (ad 0)), (1, .int (nI i))] → W p l e ({ frames := 1, cells := 0, slots := 0, locals := 22 } : Room) s m ([.ref (ad 0)] : List Value).toArray below meth c H locs 0 0 (MQ below (cQ none (mH G ad (mKeepC M) Z V) (mA ad)) ([.ref (ad 0)] : List Value).toArray s 0 0 (mA ad)) (F0 m 14 ls []) := by
    intro fuel
    induction fuel with
    | zero => intro i M1 hf; exact absurd hf (Nat.not_lt_zero _)
    | succ fuel ih =>
      intro i M1 hf hi_M1 hM_M1 hf0_M1 H locs hw ls hl
      have ih14 := ih
      refine lv_iload_n hx hb dX2_keep_14 rfl (lv_at hl 1 rfl) ?_
      refine lv_sipush (v := nI 3364) hx hb dX2_keep_15 (by decide) ?_
      refine n_icmp_ge (tgt := 47) hx hb dX2_keep_18 (by decide) (by omega) (by decide) (fun c_6 => ?_) (fun c_6 => ?_)
      · obtain rfl : M1 = (it (fun i9 M9 => (up2 M9 0 (410 + i9) (M9 0 (526 + i9)))) (3364 - 0) 0 M) := (it_z (by omega)).symm.trans hM_M1
        refine lv_aload_n hx hb dX2_keep_47 rfl (lv_at hl 0 rfl) ?_
        refine m_g_a hx hb hts hown hK hw dX2_keep_48 ?_
        refine lv_bipush (v := nI 6) hx hb dX2_keep_51 (by decide) ?_
        refine lv_dup2_11 hx hb dX2_keep_53 rfl rfl ?_
        refine m_l_a (j := 6) (v := nI 30) hx hb hK hw hf0_M1 (by decide) dX2_keep_54 ?_
        refine lv_iconst (v := nI 1) hx hb dX2_keep_55 (by decide) ?_
        refine n_isub hx hb (by decide) dX2_keep_56 ?_
        refine m_s_a (j := 6) hx hb hK hw (by decide) dX2_keep_57 (fun H locs hw => ?_)
        exact J_58 29 (up2 (it (fun i9 M9 => (up2 M9 0 (410 + i9) (M9 0 (526 + i9)))) (3364 - 0) 0 M) 0 6 (nI 29))  (by decide) up2_at (by unfold mKeep; rw [if_pos rfl]; rfl) _ _ hw ls (lv_sub hl [0] rfl)
      refine lv_aload_n hx hb dX2_keep_21 rfl (lv_at hl 0 rfl) ?_
      refine m_g_a hx hb hts hown hK hw dX2_keep_22 ?_
      refine lv_sipush (v := nI 410) hx hb dX2_keep_25 (by decide) ?_
      refine lv_iload_n hx hb dX2_keep_28 rfl (lv_at hl 1 rfl) ?_
      refine n_iadd hx hb dX2_keep_29 ?_
      refine lv_aload_n hx hb dX2_keep_30 rfl (lv_at hl 0 rfl) ?_
      refine m_g_a hx hb hts hown hK hw dX2_keep_31 ?_
      refine lv_sipush (v := nI 526) hx hb dX2_keep_34 (by decide) ?_
      refine lv_iload_n hx hb dX2_keep_37 rfl (lv_at hl 1 rfl) ?_
      refine n_iadd hx hb dX2_keep_38 ?_
      refine m_l_a (j := 526 + i) (v := M1 0 (526 + i)) hx hb hK hw rfl (by omega) dX2_keep_39 ?_
      refine m_s_a (j := 410 + i) hx hb hK hw (by omega) dX2_keep_40 (fun H locs hw => ?_)
      refine lv_iinc (v := nI (i + 1)) (lv' := [(1, .int (nI (i + 1))), (0, .ref (ad 0))]) hx hb dX2_keep_41 hl (k := 1) rfl (n_inc i 1) (by decide) rfl (fun ls hl => ?_)
      refine lv_goto (tgt := 14) hx hb dX2_keep_44 (by decide) ?_
      exact ih14 (i + 1) (up2 M1 0 (410 + i) (M1 0 (526 + i))) (by omega) (by omega) ((it_s (by omega)).symm.trans hM_M1) ((up2_ne (Or.inr (by omega))).trans hf0_M1) _ _ hw ls (lv_sub hl [1, 0] rfl)
  exact L14_5 _ 0 M (Nat.lt_succ_self _) (by omega) rfl es _ _ hw ls (lv_sub hl [1, 0] rfl)
