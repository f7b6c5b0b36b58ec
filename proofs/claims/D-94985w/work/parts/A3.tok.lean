/-! THE TOKENS: the component's sort of a token, and what the twin makes of it -/
/-- n letters from s on as a number -/
def pkN (f : Nat → Nat) : Nat → Nat
  | 0 => 0
  | n + 1 => pkN f n * 256 + f n
theorem pkN_lt {f : Nat → Nat} : ∀ n, (∀ k, k < n → f k < 256) → pkN f n < 256 ^ n
  | 0, _ => Nat.zero_lt_one
  | n + 1, h => by
    have h1 := pkN_lt n (fun k hk => h k (by omega))
    have h2 := h n (by omega)
    have h3 : 256 ^ (n + 1) = 256 ^ n * 256 := Nat.pow_succ ..
    unfold pkN
    omega
theorem pkN_inj {f g : Nat → Nat} : ∀ n m, (∀ k, k < n → 1 ≤ f k ∧ f k < 256) → (∀ k, k < m → 1 ≤ g k ∧ g k < 256) → pkN f n = pkN g m → n = m ∧ ∀ k, k < n → f k = g k
  | 0, 0, _, _, _ => ⟨rfl, fun k hk => absurd hk (Nat.not_lt_zero k)⟩
  | 0, m + 1, _, h2, e => by
    have := h2 m (by omega)
    unfold pkN at e
    omega
  | n + 1, 0, h1, _, e => by
    have := h1 n (by omega)
    unfold pkN at e
    omega
  | n + 1, m + 1, h1, h2, e => by
    have a1 := h1 n (by omega)
    have a2 := h2 m (by omega)
    have e : pkN f n * 256 + f n = pkN g m * 256 + g m := e
    obtain ⟨e1, e2⟩ := pkN_inj n m (fun k hk => h1 k (by omega)) (fun k hk => h2 k (by omega)) (by omega)
    subst e1
    refine ⟨rfl, fun k hk => ?_⟩
    by_cases c : k = n
    · subst c; omega
    · exact e2 k (by omega)
theorem pkN_congr {f g : Nat → Nat} : ∀ n, (∀ k, k < n → f k = g k) → pkN f n = pkN g n
  | 0, _ => rfl
  | n + 1, h => by
    unfold pkN
    rw [pkN_congr n (fun k hk => h k (by omega)), h n (by omega)]
theorem lN_inj {a b : Nat} (ha : a < 2 ^ 64) (hb : b < 2 ^ 64) (h : lN a = lN b) : a = b := by
  have h1 : (lN a).toBitVec.toNat = (lN b).toBitVec.toNat := by rw [h]
  have e : ∀ c : Nat, (lN c).toBitVec.toNat = c % 2 ^ 64 := fun c => rfl
  rw [e, e, Nat.mod_eq_of_lt ha, Nat.mod_eq_of_lt hb] at h1
  exact h1
theorem w8_nat {a c : Nat} (ha : a < 2 ^ 48) (hc : c < 256) : w8 (lN a) c = lN (a * 256 + c) := by
  have h8 : ((nI 8).toInt64 &&& 63) = (8 : Int64) := by decide +kernel
  unfold w8
  rw [h8]
  apply Int64.toBitVec_inj.mp
  rw [Int64.toBitVec_or, Int64.toBitVec_shiftLeft]
  have h9 : ((8 : Int64).toBitVec.smod 64) = 8#64 := by decide +kernel
  rw [h9]
  apply BitVec.eq_of_toNat_eq
  have e : ∀ c : Nat, (lN c).toBitVec.toNat = c % 2 ^ 64 := fun c => rfl
  rw [BitVec.toNat_or, BitVec.shiftLeft_eq', BitVec.toNat_shiftLeft, e, e, e]
  have h7 : (8#64).toNat = 8 := rfl
  rw [h7, Nat.mod_eq_of_lt (show a < 2 ^ 64 by omega), Nat.mod_eq_of_lt (show c < 2 ^ 64 by omega), Nat.mod_eq_of_lt (show a * 256 + c < 2 ^ 64 by omega)]
  have h6 : a <<< 8 = a * 256 := by rw [Nat.shiftLeft_eq]
  rw [Nat.mod_eq_of_lt (show a <<< 8 < 2 ^ 64 by omega)]
  have h5 := Nat.shiftLeft_add_eq_or_of_lt (i := 8) (show c < 2 ^ 8 by omega) a
  omega
/-- the twin's letters are the bytes from the token's beginning on -/
theorem wrdL_pk {tp : Nat → Nat} {s : Nat} : ∀ (n q : Nat), s ≤ q → scn lLet tp n q - s ≤ 7 → (∀ k, s ≤ k → k < q → tp k < 256) → wrdL tp s n q (lN (pkN (fun k => tp (s + k)) (q - s))) = lN (pkN (fun k => tp (s + k)) (scn lLet tp n q - s))
  | 0, q, _, _, _ => rfl
  | n + 1, q, hq, h7, hb => by
    unfold wrdL scn at *
    by_cases c : lLet (tp q) = true
    · rw [if_pos c] at h7 ⊢
      rw [if_pos c]
      have hg := scn_ge lLet tp n (q + 1)
      have ht : tp q < 256 := by
        have : lLet (tp q) = true := c
        simp [lLet] at this
        omega
      have hlt : pkN (fun k => tp (s + k)) (q - s) < 256 ^ (q - s) := pkN_lt _ (fun k hk => hb (s + k) (by omega) (by omega))
      have hle : 256 ^ (q - s) ≤ 256 ^ 6 := Nat.pow_le_pow_right (by decide) (by omega)
      have h6 : 256 ^ 6 = 2 ^ 48 := by decide
      rw [if_pos (by omega), w8_nat (by omega) ht]
      have e : pkN (fun k => tp (s + k)) (q - s) * 256 + tp q = pkN (fun k => tp (s + k)) (q + 1 - s) := by
        rw [show q + 1 - s = (q - s) + 1 by omega]
        show _ = pkN _ (q - s) * 256 + tp (s + (q - s))
        rw [show s + (q - s) = q by omega]
      rw [e]
      exact wrdL_pk n (q + 1) (by omega) h7 (fun k h1 h2 => by
        by_cases e9 : k = q
        · rw [e9]; exact ht
        · exact hb k h1 (by omega))
    · rw [if_neg c, if_neg c]
/-- the token's bytes are this word's -/
def wEq (tp : Nat → Nat) (s e : Nat) (w : List Nat) : Prop := e - s = w.length ∧ ∀ k, k < w.length → tp (s + k) = w.getD k 0
def wd (i : Nat) : List Nat := [[115, 109, 111, 107, 101], [99, 111, 115, 116], [98, 114, 105, 116, 116, 108, 101], [115, 104, 97, 114, 101], [98, 101, 103, 105, 110], [98, 108, 111, 119], [119, 97, 105, 116], [98, 121], [103, 105, 118, 101], [105, 102], [101, 110, 100], [111, 114], [97, 110, 100], [110, 111, 116], [104, 111, 117, 114], [98, 108, 111, 119, 101, 114], [108, 117, 110, 103, 115], [118, 111, 105, 99, 101], [98, 101, 97, 100, 115], [107, 105, 110, 100], [119, 97, 110, 116], [119, 111, 114, 116, 104], [98, 114, 101, 97, 116, 104, 115], [113, 117, 97, 114, 114, 101, 108, 115], [109, 97, 110, 121]].getD i []
theorem wd_ok : ∀ i, i < 25 → (1 ≤ (wd i).length ∧ (wd i).length ≤ 8) ∧ ∀ k, k < (wd i).length → 97 ≤ (wd i).getD k 0 ∧ (wd i).getD k 0 ≤ 122 := by decide +kernel
theorem wd_inj : ∀ i, i < 25 → ∀ j, j < 25 → wd i = wd j → i = j := by decide +kernel
theorem wEq_uniq {tp : Nat → Nat} {s e : Nat} {w w' : List Nat} (h : wEq tp s e w) (h' : wEq tp s e w') : w = w' := by
  refine List.ext_getElem (h.1.symm.trans h'.1) (fun k h1 h2 => ?_)
  have e1 := h.2 k h1
  have e2 := h'.2 k h2
  rw [List.getD_eq_getElem?_getD, List.getElem?_eq_getElem h1] at e1
  rw [List.getD_eq_getElem?_getD, List.getElem?_eq_getElem h2] at e2
  exact e1.symm.trans e2
/-- the sort of a word: the last of the first n words that it is -/
noncomputable def wst (tp : Nat → Nat) (s e : Nat) : Nat → Nat
  | 0 => 302
  | n + 1 => pif (wEq tp s e (wd n)) (200 + n) (wst tp s e n)
theorem wst_or {tp : Nat → Nat} {s e : Nat} : ∀ n, wst tp s e n = 302 ∨ ∃ i, i < n ∧ wst tp s e n = 200 + i ∧ wEq tp s e (wd i)
  | 0 => Or.inl rfl
  | n + 1 => by
    by_cases c : wEq tp s e (wd n)
    · exact Or.inr ⟨n, by omega, pif_t c, c⟩
    · rcases wst_or (tp := tp) (s := s) (e := e) n with h | ⟨i, h1, h2, h3⟩
      · exact Or.inl ((pif_f c).trans h)
      · exact Or.inr ⟨i, by omega, (pif_f c).trans h2, h3⟩
theorem wst_eq {tp : Nat → Nat} {s e i : Nat} (h : wEq tp s e (wd i)) : ∀ n, i < n → n ≤ 25 → wst tp s e n = 200 + i
  | 0, hi, _ => absurd hi (Nat.not_lt_zero i)
  | n + 1, hi, hn => by
    by_cases c : wEq tp s e (wd n)
    · have := wd_inj i (by omega) n (by omega) (wEq_uniq h c)
      subst this
      exact pif_t c
    · have hin : i ≠ n := fun q => c (q ▸ h)
      exact (pif_f c).trans (wst_eq h n (by omega) (by omega))
def sgn (c : Nat) : Bool := c == 60 || c == 62 || c == 61 || c == 35 || c == 43 || c == 45 || c == 42 || c == 47 || c == 40 || c == 41 || c == 59 || c == 63 || c == 58
/-- the component's sort of the token from p on -/
noncomputable def cst (tp : Nat → Nat) (t p : Nat) : Nat :=
  if lxS tp t p < t then (if lLet (tp (lxS tp t p)) then wst tp (lxS tp t p) (lxQ tp t p) 25 else if lDig (tp (lxS tp t p)) then 300 else if (tp (lxS tp t p) = 60 ∨ tp (lxS tp t p) = 62) ∧ lxS tp t p + 1 < t ∧ tp (lxS tp t p + 1) = 61 then (if tp (lxS tp t p) = 60 then 303 else 304) else if sgn (tp (lxS tp t p)) then tp (lxS tp t p) else 302) else 301
theorem sgn_i {c : Nat} : sgn c = true ↔ c = 60 ∨ c = 62 ∨ c = 61 ∨ c = 35 ∨ c = 43 ∨ c = 45 ∨ c = 42 ∨ c = 47 ∨ c = 40 ∨ c = 41 ∨ c = 59 ∨ c = 63 ∨ c = 58 := by
  simp [sgn, or_assoc]
theorem lSign_i {c : Nat} : lSign c = true ↔ c = 60 ∨ c = 62 ∨ c = 61 ∨ c = 35 ∨ c = 43 ∨ c = 45 ∨ c = 42 ∨ c = 47 ∨ c = 40 ∨ c = 41 ∨ c = 59 ∨ c = 44 ∨ c = 63 ∨ c = 58 := by
  simp [lSign, or_assoc]
theorem lDig_i {c : Nat} : lDig c = true ↔ 48 ≤ c ∧ c ≤ 57 := by simp [lDig]
theorem lLet_i {c : Nat} : lLet c = true ↔ (97 ≤ c ∧ c ≤ 122) ∨ (65 ≤ c ∧ c ≤ 90) := by simp [lLet]
/-- the component's sort by the twin's token -/
theorem cst_by (tp : Nat → Nat) (t p : Nat) : (lxT tp t p = 0 ∧ cst tp t p = 301) ∨ (lxT tp t p = 1 ∧ cst tp t p = 300) ∨ (lxT tp t p = 2 ∧ cst tp t p = wst tp (lxS tp t p) (lxQ tp t p) 25 ∧ lxS tp t p < t ∧ lLet (tp (lxS tp t p)) = true) ∨ (lxT tp t p = 3 ∧ cst tp t p = 302) ∨ (lxT tp t p = 4 ∧ cst tp t p = 303) ∨ (lxT tp t p = 5 ∧ cst tp t p = 304) ∨ (lxT tp t p = 44 ∧ cst tp t p = 302) ∨ (cst tp t p = lxT tp t p ∧ sgn (lxT tp t p) = true) := by
  unfold cst lxT
  dsimp only
  generalize hs : lxS tp t p = s
  by_cases h : s < t
  · rw [if_pos h, if_pos h]
    generalize hc : tp s = c
    by_cases h1 : lDig c = true
    · have h2 : ¬ lLet c = true := fun q => by have a := lDig_i.mp h1; have b := lLet_i.mp q; omega
      rw [if_pos h1, if_neg h2, if_pos h1]
      exact Or.inr (Or.inl ⟨rfl, rfl⟩)
    · by_cases h2 : lLet c = true
      · rw [if_neg h1, if_pos h2, if_pos h2]
        exact Or.inr (Or.inr (Or.inl ⟨rfl, rfl, h, h2⟩))
      · rw [if_neg h1, if_neg h2, if_neg h2, if_neg h1]
        by_cases h3 : (c = 60 ∨ c = 62) ∧ s + 1 < t ∧ tp (s + 1) = 61
        · rw [if_pos h3, if_pos h3]
          by_cases h4 : c = 60
          · rw [if_pos h4, if_pos h4]; exact Or.inr (Or.inr (Or.inr (Or.inr (Or.inl ⟨rfl, rfl⟩))))
          · rw [if_neg h4, if_neg h4]; exact Or.inr (Or.inr (Or.inr (Or.inr (Or.inr (Or.inl ⟨rfl, rfl⟩)))))
        · rw [if_neg h3, if_neg h3]
          by_cases h4 : sgn c = true
          · have h5 : lSign c = true := by rw [sgn_i] at h4; rw [lSign_i]; omega
            rw [if_pos h4, if_pos h5]
            exact Or.inr (Or.inr (Or.inr (Or.inr (Or.inr (Or.inr (Or.inr ⟨rfl, h4⟩))))))
          · rw [if_neg h4]
            by_cases h5 : lSign c = true
            · rw [if_pos h5]
              have h6 : c = 44 := by rw [lSign_i] at h5; rw [sgn_i] at h4; omega
              exact Or.inr (Or.inr (Or.inr (Or.inr (Or.inr (Or.inr (Or.inl ⟨h6, rfl⟩))))))
            · rw [if_neg h5]
              exact Or.inr (Or.inr (Or.inr (Or.inl ⟨rfl, rfl⟩)))
  · rw [if_neg h, if_neg h]
    exact Or.inl ⟨rfl, rfl⟩
theorem cst_lt (tp : Nat → Nat) (t p : Nat) : cst tp t p < 305 := by
  rcases cst_by tp t p with ⟨_, e⟩ | ⟨_, e⟩ | ⟨_, e, _⟩ | ⟨_, e⟩ | ⟨_, e⟩ | ⟨_, e⟩ | ⟨_, e⟩ | ⟨e, h⟩
  all_goals try omega
  · rcases wst_or (tp := tp) (s := lxS tp t p) (e := lxQ tp t p) 25 with h | ⟨i, h1, h2, _⟩ <;> omega
  · rw [sgn_i] at h; omega
theorem cst_w {tp : Nat → Nat} {t p : Nat} (h : 200 ≤ cst tp t p) (h2 : cst tp t p ≤ 224) : ∃ i, i < 25 ∧ cst tp t p = 200 + i ∧ lxT tp t p = 2 ∧ wEq tp (lxS tp t p) (lxQ tp t p) (wd i) ∧ lxS tp t p < t ∧ lLet (tp (lxS tp t p)) = true := by
  rcases cst_by tp t p with ⟨_, e⟩ | ⟨_, e⟩ | ⟨h3, e, h4, h5⟩ | ⟨_, e⟩ | ⟨_, e⟩ | ⟨_, e⟩ | ⟨_, e⟩ | ⟨e, h9⟩
  all_goals try omega
  · rcases wst_or (tp := tp) (s := lxS tp t p) (e := lxQ tp t p) 25 with h9 | ⟨i, h6, h7, h8⟩
    · omega
    · exact ⟨i, h6, by omega, h3, h8, h4, h5⟩
  · rw [sgn_i] at h9; omega
theorem scn_all {f : Nat → Bool} {tp : Nat → Nat} : ∀ (n q k : Nat), q ≤ k → k < scn f tp n q → f (tp k) = true
  | 0, q, k, h1, h2 => by unfold scn at h2; omega
  | n + 1, q, k, h1, h2 => by
    unfold scn at h2
    by_cases c : f (tp q) = true
    · rw [if_pos c] at h2
      by_cases e : k = q
      · rw [e]; exact c
      · exact scn_all n (q + 1) k (by omega) h2
    · rw [if_neg c] at h2; omega
/-- where letters stand: the end of the token -/
theorem lxQ_let {tp : Nat → Nat} {t p : Nat} (h : lxS tp t p < t) (hl : lLet (tp (lxS tp t p)) = true) : lxQ tp t p = scn lLet tp (t - lxS tp t p) (lxS tp t p) := by
  have hd : ¬ lDig (tp (lxS tp t p)) = true := fun q => by have a := lDig_i.mp q; have b := lLet_i.mp hl; omega
  unfold lxQ
  dsimp only
  rw [if_pos h, if_neg hd, if_pos hl]
theorem lxT_let {tp : Nat → Nat} {t p : Nat} (h : lxT tp t p = 2) : lxS tp t p < t ∧ lLet (tp (lxS tp t p)) = true := by
  rcases cst_by tp t p with ⟨e, _⟩ | ⟨e, _⟩ | ⟨_, _, h4, h5⟩ | ⟨e, _⟩ | ⟨e, _⟩ | ⟨e, _⟩ | ⟨e, _⟩ | ⟨_, h9⟩
  all_goals try omega
  · exact ⟨h4, h5⟩
  · rw [sgn_i] at h9; omega
/-- a word of seven letters at most: by its letters, by its number -/
theorem lxW_iff {tp : Nat → Nat} {t p : Nat} (h2 : lxT tp t p = 2) {w : List Nat} (h1 : 1 ≤ w.length) (h7 : w.length ≤ 7) (hw : ∀ k, k < w.length → 97 ≤ w.getD k 0 ∧ w.getD k 0 ≤ 122) {C : Int64} (hC : C = lN (pkN (fun k => w.getD k 0) w.length)) : lxW tp t p = C ↔ wEq tp (lxS tp t p) (lxQ tp t p) w := by
  obtain ⟨hs, hl⟩ := lxT_let h2
  have hq := lxQ_let hs hl
  have hle : scn lLet tp (t - lxS tp t p) (lxS tp t p) ≥ lxS tp t p := scn_ge _ _ _ _
  have hall : ∀ k, k < lxQ tp t p - lxS tp t p → 1 ≤ tp (lxS tp t p + k) ∧ tp (lxS tp t p + k) < 256 := fun k hk => by
    have := lLet_i.mp (scn_all (f := lLet) (tp := tp) (t - lxS tp t p) (lxS tp t p) (lxS tp t p + k) (by omega) (by omega))
    omega
  have hlw : pkN (fun k => w.getD k 0) w.length < 256 ^ w.length := pkN_lt _ (fun k hk => by have := hw k hk; omega)
  have hp7 : 256 ^ w.length ≤ 256 ^ 7 := Nat.pow_le_pow_right (by decide) h7
  have h256 : (256 : Nat) ^ 7 < 2 ^ 64 := by decide
  have hpos : 1 ≤ pkN (fun k => w.getD k 0) w.length := by
    obtain ⟨j, hj⟩ : ∃ j, w.length = j + 1 := ⟨w.length - 1, by omega⟩
    have := hw j (by omega)
    rw [hj]
    unfold pkN
    omega
  unfold lxW
  by_cases c : lxQ tp t p - lxS tp t p ≤ 7
  · rw [if_pos c]
    have e := wrdL_pk (tp := tp) (s := lxS tp t p) (t - lxS tp t p) (lxS tp t p) (Nat.le_refl _) (by rw [← hq]; exact c) (fun k h8 h9 => by omega)
    rw [Nat.sub_self] at e
    have e0 : pkN (fun k => tp (lxS tp t p + k)) 0 = 0 := rfl
    rw [e0, ← hq] at e
    rw [e, hC]
    have hlq : pkN (fun k => tp (lxS tp t p + k)) (lxQ tp t p - lxS tp t p) < 256 ^ (lxQ tp t p - lxS tp t p) := pkN_lt _ (fun k hk => (hall k hk).2)
    have hpq : 256 ^ (lxQ tp t p - lxS tp t p) ≤ 256 ^ 7 := Nat.pow_le_pow_right (by decide) c
    constructor
    · intro h
      have h9 := lN_inj (by omega) (by omega) h
      obtain ⟨a1, a2⟩ := pkN_inj _ _ hall (fun k hk => by have := hw k hk; omega) h9
      exact ⟨a1, fun k hk => a2 k (by omega)⟩
    · rintro ⟨a1, a2⟩
      rw [a1, pkN_congr w.length a2]
  · rw [if_neg c]
    constructor
    · intro h
      rw [hC] at h
      have := lN_inj (by decide) (by omega) h
      omega
    · rintro ⟨a1, _⟩
      omega
theorem wc_0 : (w8 (w8 (w8 (w8 (lN 115) 109) 111) 107) 101 : Int64) = lN (pkN (fun k => (wd 0).getD k 0) (wd 0).length) := by decide +kernel
theorem wc_1 : (w8 (w8 (w8 (lN 99) 111) 115) 116 : Int64) = lN (pkN (fun k => (wd 1).getD k 0) (wd 1).length) := by decide +kernel
theorem wc_2 : ((w8 (w8 (lN 98) 114) 105) <<< ((nI 32).toInt64 &&& 63) ||| (w8 (w8 (w8 (lN 116) 116) 108) 101) : Int64) = lN (pkN (fun k => (wd 2).getD k 0) (wd 2).length) := by decide +kernel
theorem wc_3 : (w8 (w8 (w8 (w8 (lN 115) 104) 97) 114) 101 : Int64) = lN (pkN (fun k => (wd 3).getD k 0) (wd 3).length) := by decide +kernel
theorem wc_4 : (w8 (w8 (w8 (w8 (lN 98) 101) 103) 105) 110 : Int64) = lN (pkN (fun k => (wd 4).getD k 0) (wd 4).length) := by decide +kernel
theorem wc_5 : (w8 (w8 (w8 (lN 98) 108) 111) 119 : Int64) = lN (pkN (fun k => (wd 5).getD k 0) (wd 5).length) := by decide +kernel
theorem wc_6 : (w8 (w8 (w8 (lN 119) 97) 105) 116 : Int64) = lN (pkN (fun k => (wd 6).getD k 0) (wd 6).length) := by decide +kernel
theorem wc_7 : ((25209 : Int64) : Int64) = lN (pkN (fun k => (wd 7).getD k 0) (wd 7).length) := by decide +kernel
theorem wc_8 : (w8 (w8 (w8 (lN 103) 105) 118) 101 : Int64) = lN (pkN (fun k => (wd 8).getD k 0) (wd 8).length) := by decide +kernel
theorem wc_9 : ((26982 : Int64) : Int64) = lN (pkN (fun k => (wd 9).getD k 0) (wd 9).length) := by decide +kernel
theorem wc_10 : (w8 (w8 (lN 101) 110) 100 : Int64) = lN (pkN (fun k => (wd 10).getD k 0) (wd 10).length) := by decide +kernel
theorem wc_11 : ((28530 : Int64) : Int64) = lN (pkN (fun k => (wd 11).getD k 0) (wd 11).length) := by decide +kernel
theorem wc_12 : (w8 (w8 (lN 97) 110) 100 : Int64) = lN (pkN (fun k => (wd 12).getD k 0) (wd 12).length) := by decide +kernel
theorem wc_13 : (w8 (w8 (lN 110) 111) 116 : Int64) = lN (pkN (fun k => (wd 13).getD k 0) (wd 13).length) := by decide +kernel
theorem wc_14 : (w8 (w8 (w8 (lN 104) 111) 117) 114 : Int64) = lN (pkN (fun k => (wd 14).getD k 0) (wd 14).length) := by decide +kernel
theorem wc_15 : (w8 (w8 (w8 (w8 (w8 (lN 98) 108) 111) 119) 101) 114 : Int64) = lN (pkN (fun k => (wd 15).getD k 0) (wd 15).length) := by decide +kernel
theorem wc_16 : (w8 (w8 (w8 (w8 (lN 108) 117) 110) 103) 115 : Int64) = lN (pkN (fun k => (wd 16).getD k 0) (wd 16).length) := by decide +kernel
theorem wc_17 : (w8 (w8 (w8 (w8 (lN 118) 111) 105) 99) 101 : Int64) = lN (pkN (fun k => (wd 17).getD k 0) (wd 17).length) := by decide +kernel
theorem wc_18 : (w8 (w8 (w8 (w8 (lN 98) 101) 97) 100) 115 : Int64) = lN (pkN (fun k => (wd 18).getD k 0) (wd 18).length) := by decide +kernel
theorem wc_19 : (w8 (w8 (w8 (lN 107) 105) 110) 100 : Int64) = lN (pkN (fun k => (wd 19).getD k 0) (wd 19).length) := by decide +kernel
theorem wc_20 : (w8 (w8 (w8 (lN 119) 97) 110) 116 : Int64) = lN (pkN (fun k => (wd 20).getD k 0) (wd 20).length) := by decide +kernel
theorem wc_21 : (w8 (w8 (w8 (w8 (lN 119) 111) 114) 116) 104 : Int64) = lN (pkN (fun k => (wd 21).getD k 0) (wd 21).length) := by decide +kernel
theorem wc_22 : ((w8 (w8 (lN 98) 114) 101) <<< ((nI 32).toInt64 &&& 63) ||| (w8 (w8 (w8 (lN 97) 116) 104) 115) : Int64) = lN (pkN (fun k => (wd 22).getD k 0) (wd 22).length) := by decide +kernel
-- word 23
theorem wc_24 : (w8 (w8 (w8 (lN 109) 97) 110) 121 : Int64) = lN (pkN (fun k => (wd 24).getD k 0) (wd 24).length) := by decide +kernel
def wcv (i : Nat) : Int64 := if i = 0 then w8 (w8 (w8 (w8 (lN 115) 109) 111) 107) 101 else if i = 1 then w8 (w8 (w8 (lN 99) 111) 115) 116 else if i = 2 then (w8 (w8 (lN 98) 114) 105) <<< ((nI 32).toInt64 &&& 63) ||| (w8 (w8 (w8 (lN 116) 116) 108) 101) else if i = 3 then w8 (w8 (w8 (w8 (lN 115) 104) 97) 114) 101 else if i = 4 then w8 (w8 (w8 (w8 (lN 98) 101) 103) 105) 110 else if i = 5 then w8 (w8 (w8 (lN 98) 108) 111) 119 else if i = 6 then w8 (w8 (w8 (lN 119) 97) 105) 116 else if i = 7 then (25209 : Int64) else if i = 8 then w8 (w8 (w8 (lN 103) 105) 118) 101 else if i = 9 then (26982 : Int64) else if i = 10 then w8 (w8 (lN 101) 110) 100 else if i = 11 then (28530 : Int64) else if i = 12 then w8 (w8 (lN 97) 110) 100 else if i = 13 then w8 (w8 (lN 110) 111) 116 else if i = 14 then w8 (w8 (w8 (lN 104) 111) 117) 114 else if i = 15 then w8 (w8 (w8 (w8 (w8 (lN 98) 108) 111) 119) 101) 114 else if i = 16 then w8 (w8 (w8 (w8 (lN 108) 117) 110) 103) 115 else if i = 17 then w8 (w8 (w8 (w8 (lN 118) 111) 105) 99) 101 else if i = 18 then w8 (w8 (w8 (w8 (lN 98) 101) 97) 100) 115 else if i = 19 then w8 (w8 (w8 (lN 107) 105) 110) 100 else if i = 20 then w8 (w8 (w8 (lN 119) 97) 110) 116 else if i = 21 then w8 (w8 (w8 (w8 (lN 119) 111) 114) 116) 104 else if i = 22 then (w8 (w8 (lN 98) 114) 101) <<< ((nI 32).toInt64 &&& 63) ||| (w8 (w8 (w8 (lN 97) 116) 104) 115) else if i = 24 then w8 (w8 (w8 (lN 109) 97) 110) 121 else 0
theorem wcv_all : ((List.range 25).all fun i => (List.range 25).all fun j => decide (i = j) || (decide (i = 23) || (decide (j = 23) || ! decide (wcv i = wcv j)))) = true := by decide +kernel
theorem wcv_ne (i : Nat) (hi : i < 25) (j : Nat) (hj : j < 25) (n1 : i ≠ j) (n2 : i ≠ 23) (n3 : j ≠ 23) : wcv i ≠ wcv j := by
  have h := List.all_eq_true.mp (List.all_eq_true.mp wcv_all i (List.mem_range.mpr hi)) j (List.mem_range.mpr hj)
  rw [decide_eq_false n1, decide_eq_false n2, decide_eq_false n3, Bool.false_or, Bool.false_or, Bool.false_or] at h
  intro c
  rw [decide_eq_true c] at h
  exact absurd h Bool.false_ne_true
theorem tw_0 {tp : Nat → Nat} {t p : Nat} : (lxT tp t p = 2 ∧ lxW tp t p = w8 (w8 (w8 (w8 (lN 115) 109) 111) 107) 101) ↔ cst tp t p = 200 := by
  constructor
  · rintro ⟨h, e⟩
    obtain ⟨a, b⟩ := wd_ok 0 (by decide)
    have hw := (lxW_iff h a.1 (by decide) b wc_0).mp e
    rcases cst_by tp t p with ⟨q, _⟩ | ⟨q, _⟩ | ⟨_, q, _⟩ | ⟨q, _⟩ | ⟨q, _⟩ | ⟨q, _⟩ | ⟨q, _⟩ | ⟨q, h9⟩
    all_goals try omega
    · rw [q]; exact wst_eq hw 25 (by decide) (by decide)
    · rw [sgn_i] at h9; omega
  · intro e
    obtain ⟨j, h1, h2, h3, h4, -⟩ := cst_w (tp := tp) (t := t) (p := p) (by omega) (by omega)
    obtain rfl : j = 0 := by omega
    obtain ⟨a, b⟩ := wd_ok 0 (by decide)
    exact ⟨h3, (lxW_iff h3 a.1 (by decide) b wc_0).mpr h4⟩
theorem tw_1 {tp : Nat → Nat} {t p : Nat} : (lxT tp t p = 2 ∧ lxW tp t p = w8 (w8 (w8 (lN 99) 111) 115) 116) ↔ cst tp t p = 201 := by
  constructor
  · rintro ⟨h, e⟩
    obtain ⟨a, b⟩ := wd_ok 1 (by decide)
    have hw := (lxW_iff h a.1 (by decide) b wc_1).mp e
    rcases cst_by tp t p with ⟨q, _⟩ | ⟨q, _⟩ | ⟨_, q, _⟩ | ⟨q, _⟩ | ⟨q, _⟩ | ⟨q, _⟩ | ⟨q, _⟩ | ⟨q, h9⟩
    all_goals try omega
    · rw [q]; exact wst_eq hw 25 (by decide) (by decide)
    · rw [sgn_i] at h9; omega
  · intro e
    obtain ⟨j, h1, h2, h3, h4, -⟩ := cst_w (tp := tp) (t := t) (p := p) (by omega) (by omega)
    obtain rfl : j = 1 := by omega
    obtain ⟨a, b⟩ := wd_ok 1 (by decide)
    exact ⟨h3, (lxW_iff h3 a.1 (by decide) b wc_1).mpr h4⟩
theorem tw_2 {tp : Nat → Nat} {t p : Nat} : (lxT tp t p = 2 ∧ lxW tp t p = (w8 (w8 (lN 98) 114) 105) <<< ((nI 32).toInt64 &&& 63) ||| (w8 (w8 (w8 (lN 116) 116) 108) 101)) ↔ cst tp t p = 202 := by
  constructor
  · rintro ⟨h, e⟩
    obtain ⟨a, b⟩ := wd_ok 2 (by decide)
    have hw := (lxW_iff h a.1 (by decide) b wc_2).mp e
    rcases cst_by tp t p with ⟨q, _⟩ | ⟨q, _⟩ | ⟨_, q, _⟩ | ⟨q, _⟩ | ⟨q, _⟩ | ⟨q, _⟩ | ⟨q, _⟩ | ⟨q, h9⟩
    all_goals try omega
    · rw [q]; exact wst_eq hw 25 (by decide) (by decide)
    · rw [sgn_i] at h9; omega
  · intro e
    obtain ⟨j, h1, h2, h3, h4, -⟩ := cst_w (tp := tp) (t := t) (p := p) (by omega) (by omega)
    obtain rfl : j = 2 := by omega
    obtain ⟨a, b⟩ := wd_ok 2 (by decide)
    exact ⟨h3, (lxW_iff h3 a.1 (by decide) b wc_2).mpr h4⟩
theorem tw_3 {tp : Nat → Nat} {t p : Nat} : (lxT tp t p = 2 ∧ lxW tp t p = w8 (w8 (w8 (w8 (lN 115) 104) 97) 114) 101) ↔ cst tp t p = 203 := by
  constructor
  · rintro ⟨h, e⟩
    obtain ⟨a, b⟩ := wd_ok 3 (by decide)
    have hw := (lxW_iff h a.1 (by decide) b wc_3).mp e
    rcases cst_by tp t p with ⟨q, _⟩ | ⟨q, _⟩ | ⟨_, q, _⟩ | ⟨q, _⟩ | ⟨q, _⟩ | ⟨q, _⟩ | ⟨q, _⟩ | ⟨q, h9⟩
    all_goals try omega
    · rw [q]; exact wst_eq hw 25 (by decide) (by decide)
    · rw [sgn_i] at h9; omega
  · intro e
    obtain ⟨j, h1, h2, h3, h4, -⟩ := cst_w (tp := tp) (t := t) (p := p) (by omega) (by omega)
    obtain rfl : j = 3 := by omega
    obtain ⟨a, b⟩ := wd_ok 3 (by decide)
    exact ⟨h3, (lxW_iff h3 a.1 (by decide) b wc_3).mpr h4⟩
theorem tw_4 {tp : Nat → Nat} {t p : Nat} : (lxT tp t p = 2 ∧ lxW tp t p = w8 (w8 (w8 (w8 (lN 98) 101) 103) 105) 110) ↔ cst tp t p = 204 := by
  constructor
  · rintro ⟨h, e⟩
    obtain ⟨a, b⟩ := wd_ok 4 (by decide)
    have hw := (lxW_iff h a.1 (by decide) b wc_4).mp e
    rcases cst_by tp t p with ⟨q, _⟩ | ⟨q, _⟩ | ⟨_, q, _⟩ | ⟨q, _⟩ | ⟨q, _⟩ | ⟨q, _⟩ | ⟨q, _⟩ | ⟨q, h9⟩
    all_goals try omega
    · rw [q]; exact wst_eq hw 25 (by decide) (by decide)
    · rw [sgn_i] at h9; omega
  · intro e
    obtain ⟨j, h1, h2, h3, h4, -⟩ := cst_w (tp := tp) (t := t) (p := p) (by omega) (by omega)
    obtain rfl : j = 4 := by omega
    obtain ⟨a, b⟩ := wd_ok 4 (by decide)
    exact ⟨h3, (lxW_iff h3 a.1 (by decide) b wc_4).mpr h4⟩
theorem tw_5 {tp : Nat → Nat} {t p : Nat} : (lxT tp t p = 2 ∧ lxW tp t p = w8 (w8 (w8 (lN 98) 108) 111) 119) ↔ cst tp t p = 205 := by
  constructor
  · rintro ⟨h, e⟩
    obtain ⟨a, b⟩ := wd_ok 5 (by decide)
    have hw := (lxW_iff h a.1 (by decide) b wc_5).mp e
    rcases cst_by tp t p with ⟨q, _⟩ | ⟨q, _⟩ | ⟨_, q, _⟩ | ⟨q, _⟩ | ⟨q, _⟩ | ⟨q, _⟩ | ⟨q, _⟩ | ⟨q, h9⟩
    all_goals try omega
    · rw [q]; exact wst_eq hw 25 (by decide) (by decide)
    · rw [sgn_i] at h9; omega
  · intro e
    obtain ⟨j, h1, h2, h3, h4, -⟩ := cst_w (tp := tp) (t := t) (p := p) (by omega) (by omega)
    obtain rfl : j = 5 := by omega
    obtain ⟨a, b⟩ := wd_ok 5 (by decide)
    exact ⟨h3, (lxW_iff h3 a.1 (by decide) b wc_5).mpr h4⟩
theorem tw_6 {tp : Nat → Nat} {t p : Nat} : (lxT tp t p = 2 ∧ lxW tp t p = w8 (w8 (w8 (lN 119) 97) 105) 116) ↔ cst tp t p = 206 := by
  constructor
  · rintro ⟨h, e⟩
    obtain ⟨a, b⟩ := wd_ok 6 (by decide)
    have hw := (lxW_iff h a.1 (by decide) b wc_6).mp e
    rcases cst_by tp t p with ⟨q, _⟩ | ⟨q, _⟩ | ⟨_, q, _⟩ | ⟨q, _⟩ | ⟨q, _⟩ | ⟨q, _⟩ | ⟨q, _⟩ | ⟨q, h9⟩
    all_goals try omega
    · rw [q]; exact wst_eq hw 25 (by decide) (by decide)
    · rw [sgn_i] at h9; omega
  · intro e
    obtain ⟨j, h1, h2, h3, h4, -⟩ := cst_w (tp := tp) (t := t) (p := p) (by omega) (by omega)
    obtain rfl : j = 6 := by omega
    obtain ⟨a, b⟩ := wd_ok 6 (by decide)
    exact ⟨h3, (lxW_iff h3 a.1 (by decide) b wc_6).mpr h4⟩
theorem tw_7 {tp : Nat → Nat} {t p : Nat} : (lxT tp t p = 2 ∧ lxW tp t p = (25209 : Int64)) ↔ cst tp t p = 207 := by
  constructor
  · rintro ⟨h, e⟩
    obtain ⟨a, b⟩ := wd_ok 7 (by decide)
    have hw := (lxW_iff h a.1 (by decide) b wc_7).mp e
    rcases cst_by tp t p with ⟨q, _⟩ | ⟨q, _⟩ | ⟨_, q, _⟩ | ⟨q, _⟩ | ⟨q, _⟩ | ⟨q, _⟩ | ⟨q, _⟩ | ⟨q, h9⟩
    all_goals try omega
    · rw [q]; exact wst_eq hw 25 (by decide) (by decide)
    · rw [sgn_i] at h9; omega
  · intro e
    obtain ⟨j, h1, h2, h3, h4, -⟩ := cst_w (tp := tp) (t := t) (p := p) (by omega) (by omega)
    obtain rfl : j = 7 := by omega
    obtain ⟨a, b⟩ := wd_ok 7 (by decide)
    exact ⟨h3, (lxW_iff h3 a.1 (by decide) b wc_7).mpr h4⟩
theorem tw_8 {tp : Nat → Nat} {t p : Nat} : (lxT tp t p = 2 ∧ lxW tp t p = w8 (w8 (w8 (lN 103) 105) 118) 101) ↔ cst tp t p = 208 := by
  constructor
  · rintro ⟨h, e⟩
    obtain ⟨a, b⟩ := wd_ok 8 (by decide)
    have hw := (lxW_iff h a.1 (by decide) b wc_8).mp e
    rcases cst_by tp t p with ⟨q, _⟩ | ⟨q, _⟩ | ⟨_, q, _⟩ | ⟨q, _⟩ | ⟨q, _⟩ | ⟨q, _⟩ | ⟨q, _⟩ | ⟨q, h9⟩
    all_goals try omega
    · rw [q]; exact wst_eq hw 25 (by decide) (by decide)
    · rw [sgn_i] at h9; omega
  · intro e
    obtain ⟨j, h1, h2, h3, h4, -⟩ := cst_w (tp := tp) (t := t) (p := p) (by omega) (by omega)
    obtain rfl : j = 8 := by omega
    obtain ⟨a, b⟩ := wd_ok 8 (by decide)
    exact ⟨h3, (lxW_iff h3 a.1 (by decide) b wc_8).mpr h4⟩
theorem tw_9 {tp : Nat → Nat} {t p : Nat} : (lxT tp t p = 2 ∧ lxW tp t p = (26982 : Int64)) ↔ cst tp t p = 209 := by
  constructor
  · rintro ⟨h, e⟩
    obtain ⟨a, b⟩ := wd_ok 9 (by decide)
    have hw := (lxW_iff h a.1 (by decide) b wc_9).mp e
    rcases cst_by tp t p with ⟨q, _⟩ | ⟨q, _⟩ | ⟨_, q, _⟩ | ⟨q, _⟩ | ⟨q, _⟩ | ⟨q, _⟩ | ⟨q, _⟩ | ⟨q, h9⟩
    all_goals try omega
    · rw [q]; exact wst_eq hw 25 (by decide) (by decide)
    · rw [sgn_i] at h9; omega
  · intro e
    obtain ⟨j, h1, h2, h3, h4, -⟩ := cst_w (tp := tp) (t := t) (p := p) (by omega) (by omega)
    obtain rfl : j = 9 := by omega
    obtain ⟨a, b⟩ := wd_ok 9 (by decide)
    exact ⟨h3, (lxW_iff h3 a.1 (by decide) b wc_9).mpr h4⟩
theorem tw_10 {tp : Nat → Nat} {t p : Nat} : (lxT tp t p = 2 ∧ lxW tp t p = w8 (w8 (lN 101) 110) 100) ↔ cst tp t p = 210 := by
  constructor
  · rintro ⟨h, e⟩
    obtain ⟨a, b⟩ := wd_ok 10 (by decide)
    have hw := (lxW_iff h a.1 (by decide) b wc_10).mp e
    rcases cst_by tp t p with ⟨q, _⟩ | ⟨q, _⟩ | ⟨_, q, _⟩ | ⟨q, _⟩ | ⟨q, _⟩ | ⟨q, _⟩ | ⟨q, _⟩ | ⟨q, h9⟩
    all_goals try omega
    · rw [q]; exact wst_eq hw 25 (by decide) (by decide)
    · rw [sgn_i] at h9; omega
  · intro e
    obtain ⟨j, h1, h2, h3, h4, -⟩ := cst_w (tp := tp) (t := t) (p := p) (by omega) (by omega)
    obtain rfl : j = 10 := by omega
    obtain ⟨a, b⟩ := wd_ok 10 (by decide)
    exact ⟨h3, (lxW_iff h3 a.1 (by decide) b wc_10).mpr h4⟩
theorem tw_11 {tp : Nat → Nat} {t p : Nat} : (lxT tp t p = 2 ∧ lxW tp t p = (28530 : Int64)) ↔ cst tp t p = 211 := by
  constructor
  · rintro ⟨h, e⟩
    obtain ⟨a, b⟩ := wd_ok 11 (by decide)
    have hw := (lxW_iff h a.1 (by decide) b wc_11).mp e
    rcases cst_by tp t p with ⟨q, _⟩ | ⟨q, _⟩ | ⟨_, q, _⟩ | ⟨q, _⟩ | ⟨q, _⟩ | ⟨q, _⟩ | ⟨q, _⟩ | ⟨q, h9⟩
    all_goals try omega
    · rw [q]; exact wst_eq hw 25 (by decide) (by decide)
    · rw [sgn_i] at h9; omega
  · intro e
    obtain ⟨j, h1, h2, h3, h4, -⟩ := cst_w (tp := tp) (t := t) (p := p) (by omega) (by omega)
    obtain rfl : j = 11 := by omega
    obtain ⟨a, b⟩ := wd_ok 11 (by decide)
    exact ⟨h3, (lxW_iff h3 a.1 (by decide) b wc_11).mpr h4⟩
theorem tw_12 {tp : Nat → Nat} {t p : Nat} : (lxT tp t p = 2 ∧ lxW tp t p = w8 (w8 (lN 97) 110) 100) ↔ cst tp t p = 212 := by
  constructor
  · rintro ⟨h, e⟩
    obtain ⟨a, b⟩ := wd_ok 12 (by decide)
    have hw := (lxW_iff h a.1 (by decide) b wc_12).mp e
    rcases cst_by tp t p with ⟨q, _⟩ | ⟨q, _⟩ | ⟨_, q, _⟩ | ⟨q, _⟩ | ⟨q, _⟩ | ⟨q, _⟩ | ⟨q, _⟩ | ⟨q, h9⟩
    all_goals try omega
    · rw [q]; exact wst_eq hw 25 (by decide) (by decide)
    · rw [sgn_i] at h9; omega
  · intro e
    obtain ⟨j, h1, h2, h3, h4, -⟩ := cst_w (tp := tp) (t := t) (p := p) (by omega) (by omega)
    obtain rfl : j = 12 := by omega
    obtain ⟨a, b⟩ := wd_ok 12 (by decide)
    exact ⟨h3, (lxW_iff h3 a.1 (by decide) b wc_12).mpr h4⟩
theorem tw_13 {tp : Nat → Nat} {t p : Nat} : (lxT tp t p = 2 ∧ lxW tp t p = w8 (w8 (lN 110) 111) 116) ↔ cst tp t p = 213 := by
  constructor
  · rintro ⟨h, e⟩
    obtain ⟨a, b⟩ := wd_ok 13 (by decide)
    have hw := (lxW_iff h a.1 (by decide) b wc_13).mp e
    rcases cst_by tp t p with ⟨q, _⟩ | ⟨q, _⟩ | ⟨_, q, _⟩ | ⟨q, _⟩ | ⟨q, _⟩ | ⟨q, _⟩ | ⟨q, _⟩ | ⟨q, h9⟩
    all_goals try omega
    · rw [q]; exact wst_eq hw 25 (by decide) (by decide)
    · rw [sgn_i] at h9; omega
  · intro e
    obtain ⟨j, h1, h2, h3, h4, -⟩ := cst_w (tp := tp) (t := t) (p := p) (by omega) (by omega)
    obtain rfl : j = 13 := by omega
    obtain ⟨a, b⟩ := wd_ok 13 (by decide)
    exact ⟨h3, (lxW_iff h3 a.1 (by decide) b wc_13).mpr h4⟩
theorem tw_14 {tp : Nat → Nat} {t p : Nat} : (lxT tp t p = 2 ∧ lxW tp t p = w8 (w8 (w8 (lN 104) 111) 117) 114) ↔ cst tp t p = 214 := by
  constructor
  · rintro ⟨h, e⟩
    obtain ⟨a, b⟩ := wd_ok 14 (by decide)
    have hw := (lxW_iff h a.1 (by decide) b wc_14).mp e
    rcases cst_by tp t p with ⟨q, _⟩ | ⟨q, _⟩ | ⟨_, q, _⟩ | ⟨q, _⟩ | ⟨q, _⟩ | ⟨q, _⟩ | ⟨q, _⟩ | ⟨q, h9⟩
    all_goals try omega
    · rw [q]; exact wst_eq hw 25 (by decide) (by decide)
    · rw [sgn_i] at h9; omega
  · intro e
    obtain ⟨j, h1, h2, h3, h4, -⟩ := cst_w (tp := tp) (t := t) (p := p) (by omega) (by omega)
    obtain rfl : j = 14 := by omega
    obtain ⟨a, b⟩ := wd_ok 14 (by decide)
    exact ⟨h3, (lxW_iff h3 a.1 (by decide) b wc_14).mpr h4⟩
theorem tw_15 {tp : Nat → Nat} {t p : Nat} : (lxT tp t p = 2 ∧ lxW tp t p = w8 (w8 (w8 (w8 (w8 (lN 98) 108) 111) 119) 101) 114) ↔ cst tp t p = 215 := by
  constructor
  · rintro ⟨h, e⟩
    obtain ⟨a, b⟩ := wd_ok 15 (by decide)
    have hw := (lxW_iff h a.1 (by decide) b wc_15).mp e
    rcases cst_by tp t p with ⟨q, _⟩ | ⟨q, _⟩ | ⟨_, q, _⟩ | ⟨q, _⟩ | ⟨q, _⟩ | ⟨q, _⟩ | ⟨q, _⟩ | ⟨q, h9⟩
    all_goals try omega
    · rw [q]; exact wst_eq hw 25 (by decide) (by decide)
    · rw [sgn_i] at h9; omega
  · intro e
    obtain ⟨j, h1, h2, h3, h4, -⟩ := cst_w (tp := tp) (t := t) (p := p) (by omega) (by omega)
    obtain rfl : j = 15 := by omega
    obtain ⟨a, b⟩ := wd_ok 15 (by decide)
    exact ⟨h3, (lxW_iff h3 a.1 (by decide) b wc_15).mpr h4⟩
theorem tw_16 {tp : Nat → Nat} {t p : Nat} : (lxT tp t p = 2 ∧ lxW tp t p = w8 (w8 (w8 (w8 (lN 108) 117) 110) 103) 115) ↔ cst tp t p = 216 := by
  constructor
  · rintro ⟨h, e⟩
    obtain ⟨a, b⟩ := wd_ok 16 (by decide)
    have hw := (lxW_iff h a.1 (by decide) b wc_16).mp e
    rcases cst_by tp t p with ⟨q, _⟩ | ⟨q, _⟩ | ⟨_, q, _⟩ | ⟨q, _⟩ | ⟨q, _⟩ | ⟨q, _⟩ | ⟨q, _⟩ | ⟨q, h9⟩
    all_goals try omega
    · rw [q]; exact wst_eq hw 25 (by decide) (by decide)
    · rw [sgn_i] at h9; omega
  · intro e
    obtain ⟨j, h1, h2, h3, h4, -⟩ := cst_w (tp := tp) (t := t) (p := p) (by omega) (by omega)
    obtain rfl : j = 16 := by omega
    obtain ⟨a, b⟩ := wd_ok 16 (by decide)
    exact ⟨h3, (lxW_iff h3 a.1 (by decide) b wc_16).mpr h4⟩
theorem tw_17 {tp : Nat → Nat} {t p : Nat} : (lxT tp t p = 2 ∧ lxW tp t p = w8 (w8 (w8 (w8 (lN 118) 111) 105) 99) 101) ↔ cst tp t p = 217 := by
  constructor
  · rintro ⟨h, e⟩
    obtain ⟨a, b⟩ := wd_ok 17 (by decide)
    have hw := (lxW_iff h a.1 (by decide) b wc_17).mp e
    rcases cst_by tp t p with ⟨q, _⟩ | ⟨q, _⟩ | ⟨_, q, _⟩ | ⟨q, _⟩ | ⟨q, _⟩ | ⟨q, _⟩ | ⟨q, _⟩ | ⟨q, h9⟩
    all_goals try omega
    · rw [q]; exact wst_eq hw 25 (by decide) (by decide)
    · rw [sgn_i] at h9; omega
  · intro e
    obtain ⟨j, h1, h2, h3, h4, -⟩ := cst_w (tp := tp) (t := t) (p := p) (by omega) (by omega)
    obtain rfl : j = 17 := by omega
    obtain ⟨a, b⟩ := wd_ok 17 (by decide)
    exact ⟨h3, (lxW_iff h3 a.1 (by decide) b wc_17).mpr h4⟩
theorem tw_18 {tp : Nat → Nat} {t p : Nat} : (lxT tp t p = 2 ∧ lxW tp t p = w8 (w8 (w8 (w8 (lN 98) 101) 97) 100) 115) ↔ cst tp t p = 218 := by
  constructor
  · rintro ⟨h, e⟩
    obtain ⟨a, b⟩ := wd_ok 18 (by decide)
    have hw := (lxW_iff h a.1 (by decide) b wc_18).mp e
    rcases cst_by tp t p with ⟨q, _⟩ | ⟨q, _⟩ | ⟨_, q, _⟩ | ⟨q, _⟩ | ⟨q, _⟩ | ⟨q, _⟩ | ⟨q, _⟩ | ⟨q, h9⟩
    all_goals try omega
    · rw [q]; exact wst_eq hw 25 (by decide) (by decide)
    · rw [sgn_i] at h9; omega
  · intro e
    obtain ⟨j, h1, h2, h3, h4, -⟩ := cst_w (tp := tp) (t := t) (p := p) (by omega) (by omega)
    obtain rfl : j = 18 := by omega
    obtain ⟨a, b⟩ := wd_ok 18 (by decide)
    exact ⟨h3, (lxW_iff h3 a.1 (by decide) b wc_18).mpr h4⟩
theorem tw_19 {tp : Nat → Nat} {t p : Nat} : (lxT tp t p = 2 ∧ lxW tp t p = w8 (w8 (w8 (lN 107) 105) 110) 100) ↔ cst tp t p = 219 := by
  constructor
  · rintro ⟨h, e⟩
    obtain ⟨a, b⟩ := wd_ok 19 (by decide)
    have hw := (lxW_iff h a.1 (by decide) b wc_19).mp e
    rcases cst_by tp t p with ⟨q, _⟩ | ⟨q, _⟩ | ⟨_, q, _⟩ | ⟨q, _⟩ | ⟨q, _⟩ | ⟨q, _⟩ | ⟨q, _⟩ | ⟨q, h9⟩
    all_goals try omega
    · rw [q]; exact wst_eq hw 25 (by decide) (by decide)
    · rw [sgn_i] at h9; omega
  · intro e
    obtain ⟨j, h1, h2, h3, h4, -⟩ := cst_w (tp := tp) (t := t) (p := p) (by omega) (by omega)
    obtain rfl : j = 19 := by omega
    obtain ⟨a, b⟩ := wd_ok 19 (by decide)
    exact ⟨h3, (lxW_iff h3 a.1 (by decide) b wc_19).mpr h4⟩
theorem tw_20 {tp : Nat → Nat} {t p : Nat} : (lxT tp t p = 2 ∧ lxW tp t p = w8 (w8 (w8 (lN 119) 97) 110) 116) ↔ cst tp t p = 220 := by
  constructor
  · rintro ⟨h, e⟩
    obtain ⟨a, b⟩ := wd_ok 20 (by decide)
    have hw := (lxW_iff h a.1 (by decide) b wc_20).mp e
    rcases cst_by tp t p with ⟨q, _⟩ | ⟨q, _⟩ | ⟨_, q, _⟩ | ⟨q, _⟩ | ⟨q, _⟩ | ⟨q, _⟩ | ⟨q, _⟩ | ⟨q, h9⟩
    all_goals try omega
    · rw [q]; exact wst_eq hw 25 (by decide) (by decide)
    · rw [sgn_i] at h9; omega
  · intro e
    obtain ⟨j, h1, h2, h3, h4, -⟩ := cst_w (tp := tp) (t := t) (p := p) (by omega) (by omega)
    obtain rfl : j = 20 := by omega
    obtain ⟨a, b⟩ := wd_ok 20 (by decide)
    exact ⟨h3, (lxW_iff h3 a.1 (by decide) b wc_20).mpr h4⟩
theorem tw_21 {tp : Nat → Nat} {t p : Nat} : (lxT tp t p = 2 ∧ lxW tp t p = w8 (w8 (w8 (w8 (lN 119) 111) 114) 116) 104) ↔ cst tp t p = 221 := by
  constructor
  · rintro ⟨h, e⟩
    obtain ⟨a, b⟩ := wd_ok 21 (by decide)
    have hw := (lxW_iff h a.1 (by decide) b wc_21).mp e
    rcases cst_by tp t p with ⟨q, _⟩ | ⟨q, _⟩ | ⟨_, q, _⟩ | ⟨q, _⟩ | ⟨q, _⟩ | ⟨q, _⟩ | ⟨q, _⟩ | ⟨q, h9⟩
    all_goals try omega
    · rw [q]; exact wst_eq hw 25 (by decide) (by decide)
    · rw [sgn_i] at h9; omega
  · intro e
    obtain ⟨j, h1, h2, h3, h4, -⟩ := cst_w (tp := tp) (t := t) (p := p) (by omega) (by omega)
    obtain rfl : j = 21 := by omega
    obtain ⟨a, b⟩ := wd_ok 21 (by decide)
    exact ⟨h3, (lxW_iff h3 a.1 (by decide) b wc_21).mpr h4⟩
theorem tw_22 {tp : Nat → Nat} {t p : Nat} : (lxT tp t p = 2 ∧ lxW tp t p = (w8 (w8 (lN 98) 114) 101) <<< ((nI 32).toInt64 &&& 63) ||| (w8 (w8 (w8 (lN 97) 116) 104) 115)) ↔ cst tp t p = 222 := by
  constructor
  · rintro ⟨h, e⟩
    obtain ⟨a, b⟩ := wd_ok 22 (by decide)
    have hw := (lxW_iff h a.1 (by decide) b wc_22).mp e
    rcases cst_by tp t p with ⟨q, _⟩ | ⟨q, _⟩ | ⟨_, q, _⟩ | ⟨q, _⟩ | ⟨q, _⟩ | ⟨q, _⟩ | ⟨q, _⟩ | ⟨q, h9⟩
    all_goals try omega
    · rw [q]; exact wst_eq hw 25 (by decide) (by decide)
    · rw [sgn_i] at h9; omega
  · intro e
    obtain ⟨j, h1, h2, h3, h4, -⟩ := cst_w (tp := tp) (t := t) (p := p) (by omega) (by omega)
    obtain rfl : j = 22 := by omega
    obtain ⟨a, b⟩ := wd_ok 22 (by decide)
    exact ⟨h3, (lxW_iff h3 a.1 (by decide) b wc_22).mpr h4⟩
theorem tw_24 {tp : Nat → Nat} {t p : Nat} : (lxT tp t p = 2 ∧ lxW tp t p = w8 (w8 (w8 (lN 109) 97) 110) 121) ↔ cst tp t p = 224 := by
  constructor
  · rintro ⟨h, e⟩
    obtain ⟨a, b⟩ := wd_ok 24 (by decide)
    have hw := (lxW_iff h a.1 (by decide) b wc_24).mp e
    rcases cst_by tp t p with ⟨q, _⟩ | ⟨q, _⟩ | ⟨_, q, _⟩ | ⟨q, _⟩ | ⟨q, _⟩ | ⟨q, _⟩ | ⟨q, _⟩ | ⟨q, h9⟩
    all_goals try omega
    · rw [q]; exact wst_eq hw 25 (by decide) (by decide)
    · rw [sgn_i] at h9; omega
  · intro e
    obtain ⟨j, h1, h2, h3, h4, -⟩ := cst_w (tp := tp) (t := t) (p := p) (by omega) (by omega)
    obtain rfl : j = 24 := by omega
    obtain ⟨a, b⟩ := wd_ok 24 (by decide)
    exact ⟨h3, (lxW_iff h3 a.1 (by decide) b wc_24).mpr h4⟩
theorem tw_23 {tp : Nat → Nat} {t p : Nat} : (lxT tp t p = 2 ∧ qrl tp t p) ↔ cst tp t p = 223 := by
  have hq : qrl tp t p ↔ wEq tp (lxS tp t p) (lxQ tp t p) (wd 23) := by
    have h8 : (wd 23).length = 8 := by decide
    unfold wEq
    rw [h8]
    constructor
    · rintro ⟨a0, a1, a2, a3, a4, a5, a6, a7, a8⟩
      refine ⟨a0, fun k hk => ?_⟩
      rcases (by omega : k = 0 ∨ k = 1 ∨ k = 2 ∨ k = 3 ∨ k = 4 ∨ k = 5 ∨ k = 6 ∨ k = 7) with rfl | rfl | rfl | rfl | rfl | rfl | rfl | rfl
      · exact a1
      · exact a2
      · exact a3
      · exact a4
      · exact a5
      · exact a6
      · exact a7
      · exact a8
    · rintro ⟨a0, a1⟩
      exact ⟨a0, a1 0 (by decide), a1 1 (by decide), a1 2 (by decide), a1 3 (by decide), a1 4 (by decide), a1 5 (by decide), a1 6 (by decide), a1 7 (by decide)⟩
  constructor
  · rintro ⟨h, e⟩
    have hw := hq.mp e
    rcases cst_by tp t p with ⟨q, _⟩ | ⟨q, _⟩ | ⟨_, q, _⟩ | ⟨q, _⟩ | ⟨q, _⟩ | ⟨q, _⟩ | ⟨q, _⟩ | ⟨q, h9⟩
    all_goals try omega
    · rw [q]; exact wst_eq hw 25 (by decide) (by decide)
    · rw [sgn_i] at h9; omega
  · intro e
    obtain ⟨j, h1, h2, h3, h4, -⟩ := cst_w (tp := tp) (t := t) (p := p) (by omega) (by omega)
    obtain rfl : j = 23 := by omega
    exact ⟨h3, hq.mpr h4⟩
/-- the clause's word -/
theorem soO_by (tp : Nat → Nat) (t p : Nat) : (∃ i, i < 7 ∧ cst tp t p = 200 + i ∧ soO tp t p = some i) ∨ ((cst tp t p < 200 ∨ 206 < cst tp t p) ∧ soO tp t p = none) := by
  unfold soO
  by_cases c0 : lxT tp t p = 2 ∧ lxW tp t p = w8 (w8 (w8 (w8 (lN 115) 109) 111) 107) 101
  · rw [if_pos c0]; exact Or.inl ⟨0, by decide, tw_0.mp c0, rfl⟩
  rw [if_neg c0]
  by_cases c1 : lxT tp t p = 2 ∧ lxW tp t p = w8 (w8 (w8 (lN 99) 111) 115) 116
  · rw [if_pos c1]; exact Or.inl ⟨1, by decide, tw_1.mp c1, rfl⟩
  rw [if_neg c1]
  by_cases c2 : lxT tp t p = 2 ∧ lxW tp t p = (w8 (w8 (lN 98) 114) 105) <<< ((nI 32).toInt64 &&& 63) ||| (w8 (w8 (w8 (lN 116) 116) 108) 101)
  · rw [if_pos c2]; exact Or.inl ⟨2, by decide, tw_2.mp c2, rfl⟩
  rw [if_neg c2]
  by_cases c3 : lxT tp t p = 2 ∧ lxW tp t p = w8 (w8 (w8 (w8 (lN 115) 104) 97) 114) 101
  · rw [if_pos c3]; exact Or.inl ⟨3, by decide, tw_3.mp c3, rfl⟩
  rw [if_neg c3]
  by_cases c4 : lxT tp t p = 2 ∧ lxW tp t p = w8 (w8 (w8 (w8 (lN 98) 101) 103) 105) 110
  · rw [if_pos c4]; exact Or.inl ⟨4, by decide, tw_4.mp c4, rfl⟩
  rw [if_neg c4]
  by_cases c5 : lxT tp t p = 2 ∧ lxW tp t p = w8 (w8 (w8 (lN 98) 108) 111) 119
  · rw [if_pos c5]; exact Or.inl ⟨5, by decide, tw_5.mp c5, rfl⟩
  rw [if_neg c5]
  by_cases c6 : lxT tp t p = 2 ∧ lxW tp t p = w8 (w8 (w8 (lN 119) 97) 105) 116
  · rw [if_pos c6]; exact Or.inl ⟨6, by decide, tw_6.mp c6, rfl⟩
  rw [if_neg c6]
  refine Or.inr ⟨?_, rfl⟩
  rw [tw_0] at c0
  rw [tw_1] at c1
  rw [tw_2] at c2
  rw [tw_3] at c3
  rw [tw_4] at c4
  rw [tw_5] at c5
  rw [tw_6] at c6
  omega
/-- the name -/
theorem nmO_by (tp : Nat → Nat) (t p : Nat) : (∃ i, i < 11 ∧ cst tp t p = 214 + i ∧ nmO tp t p = some i) ∨ ((cst tp t p < 214 ∨ 224 < cst tp t p) ∧ nmO tp t p = none) := by
  unfold nmO
  by_cases h2 : lxT tp t p = 2
  · rw [if_pos h2]
    by_cases c0 : lxW tp t p = w8 (w8 (w8 (lN 104) 111) 117) 114
    · rw [if_pos c0]; exact Or.inl ⟨0, by decide, tw_14.mp ⟨h2, c0⟩, rfl⟩
    rw [if_neg c0]
    by_cases c1 : lxW tp t p = w8 (w8 (w8 (w8 (w8 (lN 98) 108) 111) 119) 101) 114
    · rw [if_pos c1]; exact Or.inl ⟨1, by decide, tw_15.mp ⟨h2, c1⟩, rfl⟩
    rw [if_neg c1]
    by_cases c2 : lxW tp t p = w8 (w8 (w8 (w8 (lN 108) 117) 110) 103) 115
    · rw [if_pos c2]; exact Or.inl ⟨2, by decide, tw_16.mp ⟨h2, c2⟩, rfl⟩
    rw [if_neg c2]
    by_cases c3 : lxW tp t p = w8 (w8 (w8 (w8 (lN 118) 111) 105) 99) 101
    · rw [if_pos c3]; exact Or.inl ⟨3, by decide, tw_17.mp ⟨h2, c3⟩, rfl⟩
    rw [if_neg c3]
    by_cases c4 : lxW tp t p = w8 (w8 (w8 (w8 (lN 98) 101) 97) 100) 115
    · rw [if_pos c4]; exact Or.inl ⟨4, by decide, tw_18.mp ⟨h2, c4⟩, rfl⟩
    rw [if_neg c4]
    by_cases c5 : lxW tp t p = w8 (w8 (w8 (lN 107) 105) 110) 100
    · rw [if_pos c5]; exact Or.inl ⟨5, by decide, tw_19.mp ⟨h2, c5⟩, rfl⟩
    rw [if_neg c5]
    by_cases c6 : lxW tp t p = w8 (w8 (w8 (lN 119) 97) 110) 116
    · rw [if_pos c6]; exact Or.inl ⟨6, by decide, tw_20.mp ⟨h2, c6⟩, rfl⟩
    rw [if_neg c6]
    by_cases c7 : lxW tp t p = w8 (w8 (w8 (w8 (lN 119) 111) 114) 116) 104
    · rw [if_pos c7]; exact Or.inl ⟨7, by decide, tw_21.mp ⟨h2, c7⟩, rfl⟩
    rw [if_neg c7]
    by_cases c8 : lxW tp t p = (w8 (w8 (lN 98) 114) 101) <<< ((nI 32).toInt64 &&& 63) ||| (w8 (w8 (w8 (lN 97) 116) 104) 115)
    · rw [if_pos c8]; exact Or.inl ⟨8, by decide, tw_22.mp ⟨h2, c8⟩, rfl⟩
    rw [if_neg c8]
    by_cases c9 : qrl tp t p
    · rw [if_pos c9]; exact Or.inl ⟨9, by decide, tw_23.mp ⟨h2, c9⟩, rfl⟩
    rw [if_neg c9]
    by_cases c10 : lxW tp t p = w8 (w8 (w8 (lN 109) 97) 110) 121
    · rw [if_pos c10]; exact Or.inl ⟨10, by decide, tw_24.mp ⟨h2, c10⟩, rfl⟩
    rw [if_neg c10]
    refine Or.inr ⟨?_, rfl⟩
    have d0 : ¬ cst tp t p = 214 := fun q => c0 (tw_14.mpr q).2
    have d1 : ¬ cst tp t p = 215 := fun q => c1 (tw_15.mpr q).2
    have d2 : ¬ cst tp t p = 216 := fun q => c2 (tw_16.mpr q).2
    have d3 : ¬ cst tp t p = 217 := fun q => c3 (tw_17.mpr q).2
    have d4 : ¬ cst tp t p = 218 := fun q => c4 (tw_18.mpr q).2
    have d5 : ¬ cst tp t p = 219 := fun q => c5 (tw_19.mpr q).2
    have d6 : ¬ cst tp t p = 220 := fun q => c6 (tw_20.mpr q).2
    have d7 : ¬ cst tp t p = 221 := fun q => c7 (tw_21.mpr q).2
    have d8 : ¬ cst tp t p = 222 := fun q => c8 (tw_22.mpr q).2
    have d9 : ¬ cst tp t p = 223 := fun q => c9 (tw_23.mpr q).2
    have d10 : ¬ cst tp t p = 224 := fun q => c10 (tw_24.mpr q).2
    omega
  · rw [if_neg h2]
    refine Or.inr ⟨?_, rfl⟩
    have d0 : ¬ cst tp t p = 214 := fun q => h2 (tw_14.mpr q).1
    have d1 : ¬ cst tp t p = 215 := fun q => h2 (tw_15.mpr q).1
    have d2 : ¬ cst tp t p = 216 := fun q => h2 (tw_16.mpr q).1
    have d3 : ¬ cst tp t p = 217 := fun q => h2 (tw_17.mpr q).1
    have d4 : ¬ cst tp t p = 218 := fun q => h2 (tw_18.mpr q).1
    have d5 : ¬ cst tp t p = 219 := fun q => h2 (tw_19.mpr q).1
    have d6 : ¬ cst tp t p = 220 := fun q => h2 (tw_20.mpr q).1
    have d7 : ¬ cst tp t p = 221 := fun q => h2 (tw_21.mpr q).1
    have d8 : ¬ cst tp t p = 222 := fun q => h2 (tw_22.mpr q).1
    have d9 : ¬ cst tp t p = 223 := fun q => h2 (tw_23.mpr q).1
    have d10 : ¬ cst tp t p = 224 := fun q => h2 (tw_24.mpr q).1
    omega
/-- a sign -/
theorem cst_sg {tp : Nat → Nat} {t p c : Nat} (hc : sgn c = true) : lxT tp t p = c ↔ cst tp t p = c := by
  rw [sgn_i] at hc
  rcases cst_by tp t p with ⟨q, e⟩ | ⟨q, e⟩ | ⟨q, e, _⟩ | ⟨q, e⟩ | ⟨q, e⟩ | ⟨q, e⟩ | ⟨q, e⟩ | ⟨q, h9⟩
  all_goals try omega
  · rcases wst_or (tp := tp) (s := lxS tp t p) (e := lxQ tp t p) 25 with h | ⟨i, h1, h2, _⟩ <;> omega
theorem cst_0 {tp : Nat → Nat} {t p : Nat} : lxT tp t p = 0 ↔ cst tp t p = 301 := by
  rcases cst_by tp t p with ⟨q, e⟩ | ⟨q, e⟩ | ⟨q, e, _⟩ | ⟨q, e⟩ | ⟨q, e⟩ | ⟨q, e⟩ | ⟨q, e⟩ | ⟨q, h9⟩
  all_goals try omega
  · rcases wst_or (tp := tp) (s := lxS tp t p) (e := lxQ tp t p) 25 with h | ⟨i, h1, h2, _⟩ <;> omega
  · rw [sgn_i] at h9; omega
theorem cst_1 {tp : Nat → Nat} {t p : Nat} : lxT tp t p = 1 ↔ cst tp t p = 300 := by
  rcases cst_by tp t p with ⟨q, e⟩ | ⟨q, e⟩ | ⟨q, e, _⟩ | ⟨q, e⟩ | ⟨q, e⟩ | ⟨q, e⟩ | ⟨q, e⟩ | ⟨q, h9⟩
  all_goals try omega
  · rcases wst_or (tp := tp) (s := lxS tp t p) (e := lxQ tp t p) 25 with h | ⟨i, h1, h2, _⟩ <;> omega
  · rw [sgn_i] at h9; omega
theorem cst_4 {tp : Nat → Nat} {t p : Nat} : lxT tp t p = 4 ↔ cst tp t p = 303 := by
  rcases cst_by tp t p with ⟨q, e⟩ | ⟨q, e⟩ | ⟨q, e, _⟩ | ⟨q, e⟩ | ⟨q, e⟩ | ⟨q, e⟩ | ⟨q, e⟩ | ⟨q, h9⟩
  all_goals try omega
  · rcases wst_or (tp := tp) (s := lxS tp t p) (e := lxQ tp t p) 25 with h | ⟨i, h1, h2, _⟩ <;> omega
  · rw [sgn_i] at h9; omega
theorem cst_5 {tp : Nat → Nat} {t p : Nat} : lxT tp t p = 5 ↔ cst tp t p = 304 := by
  rcases cst_by tp t p with ⟨q, e⟩ | ⟨q, e⟩ | ⟨q, e, _⟩ | ⟨q, e⟩ | ⟨q, e⟩ | ⟨q, e⟩ | ⟨q, e⟩ | ⟨q, h9⟩
  all_goals try omega
  · rcases wst_or (tp := tp) (s := lxS tp t p) (e := lxQ tp t p) 25 with h | ⟨i, h1, h2, _⟩ <;> omega
  · rw [sgn_i] at h9; omega
/-- the words within a sum -/
theorem cst_if {tp : Nat → Nat} {t p : Nat} : tW tp t p wIf ↔ cst tp t p = 209 := tw_9
theorem cst_end {tp : Nat → Nat} {t p : Nat} : tW tp t p wEnd ↔ cst tp t p = 210 := tw_10
theorem cst_or {tp : Nat → Nat} {t p : Nat} : tW tp t p wOr ↔ cst tp t p = 211 := tw_11
theorem cst_and {tp : Nat → Nat} {t p : Nat} : tW tp t p wAnd ↔ cst tp t p = 212 := tw_12
theorem cst_not {tp : Nat → Nat} {t p : Nat} : tW tp t p wNot ↔ cst tp t p = 213 := tw_13
theorem nmO_no {tp : Nat → Nat} {t p : Nat} (h : cst tp t p < 214 ∨ 224 < cst tp t p) : nmO tp t p = none := by
  rcases nmO_by tp t p with ⟨i, h1, h2, _⟩ | ⟨_, e⟩
  · omega
  · exact e
theorem nmO_yes {tp : Nat → Nat} {t p : Nat} (h : 214 ≤ cst tp t p) (h2 : cst tp t p ≤ 224) : nmO tp t p = some (cst tp t p - 214) := by
  rcases nmO_by tp t p with ⟨i, h1, h3, e⟩ | ⟨h9, _⟩
  · rw [e]; exact congrArg some (by omega)
  · omega
theorem soO_no {tp : Nat → Nat} {t p : Nat} (h : cst tp t p < 200 ∨ 206 < cst tp t p) : soO tp t p = none := by
  rcases soO_by tp t p with ⟨i, h1, h2, _⟩ | ⟨_, e⟩
  · omega
  · exact e
theorem soO_yes {tp : Nat → Nat} {t p : Nat} (h : 200 ≤ cst tp t p) (h2 : cst tp t p ≤ 206) : soO tp t p = some (cst tp t p - 200) := by
  rcases soO_by tp t p with ⟨i, h1, h3, e⟩ | ⟨h9, _⟩
  · rw [e]; exact congrArg some (by omega)
  · omega
theorem nop_of {tp : Nat → Nat} {t k q : Nat} (h1 : cst tp t q ≠ 42) (h2 : cst tp t q ≠ 47) (h3 : k = 5 → cst tp t q ≠ 43 ∧ cst tp t q ≠ 45) : nop tp t k q :=
  ⟨fun h => h1 ((cst_sg (by decide)).mp h), fun h => h2 ((cst_sg (by decide)).mp h), fun e => ⟨fun h => (h3 e).1 ((cst_sg (by decide)).mp h), fun h => (h3 e).2 ((cst_sg (by decide)).mp h)⟩⟩
/-- the component's comparison signs -/
theorem cpO_by {tp : Nat → Nat} {t q : Nat} : (∃ x, cpO (lxT tp t q) = some x ∧ (10 ≤ x ∧ x ≤ 15) ∧ cmc x = nI (cst tp t q)) ∨ (cpO (lxT tp t q) = none ∧ cst tp t q ≠ 60 ∧ cst tp t q ≠ 62 ∧ cst tp t q ≠ 61 ∧ cst tp t q ≠ 35 ∧ cst tp t q ≠ 303 ∧ cst tp t q ≠ 304) := by
  have a0 := cst_sg (tp := tp) (t := t) (p := q) (c := 60) (by decide)
  have a2 := cst_sg (tp := tp) (t := t) (p := q) (c := 62) (by decide)
  have a4 := cst_sg (tp := tp) (t := t) (p := q) (c := 61) (by decide)
  have a5 := cst_sg (tp := tp) (t := t) (p := q) (c := 35) (by decide)
  have a1 := cst_4 (tp := tp) (t := t) (p := q)
  have a3 := cst_5 (tp := tp) (t := t) (p := q)
  unfold cpO
  by_cases c0 : lxT tp t q = 60
  · rw [if_pos c0]; exact Or.inl ⟨10, rfl, by decide, by rw [a0.mp c0]; decide⟩
  by_cases c1 : lxT tp t q = 4
  · rw [if_neg c0, if_pos c1]; exact Or.inl ⟨11, rfl, by decide, by rw [a1.mp c1]; decide⟩
  by_cases c2 : lxT tp t q = 62
  · rw [if_neg c0, if_neg c1, if_pos c2]; exact Or.inl ⟨12, rfl, by decide, by rw [a2.mp c2]; decide⟩
  by_cases c3 : lxT tp t q = 5
  · rw [if_neg c0, if_neg c1, if_neg c2, if_pos c3]; exact Or.inl ⟨13, rfl, by decide, by rw [a3.mp c3]; decide⟩
  by_cases c4 : lxT tp t q = 61
  · rw [if_neg c0, if_neg c1, if_neg c2, if_neg c3, if_pos c4]; exact Or.inl ⟨14, rfl, by decide, by rw [a4.mp c4]; decide⟩
  by_cases c5 : lxT tp t q = 35
  · rw [if_neg c0, if_neg c1, if_neg c2, if_neg c3, if_neg c4, if_pos c5]; exact Or.inl ⟨15, rfl, by decide, by rw [a5.mp c5]; decide⟩
  rw [if_neg c0, if_neg c1, if_neg c2, if_neg c3, if_neg c4, if_neg c5]
  exact Or.inr ⟨rfl, fun h => c0 (a0.mpr h), fun h => c2 (a2.mpr h), fun h => c4 (a4.mpr h), fun h => c5 (a5.mpr h), fun h => c1 (a1.mpr h), fun h => c3 (a3.mpr h)⟩
