/-- a choice by a proposition -/
noncomputable def pif {α : Type} (c : Prop) (a b : α) : α := @ite _ c (Classical.propDecidable c) a b
theorem pif_t {α : Type} {c : Prop} {a b : α} (h : c) : pif c a b = a := if_pos h
theorem pif_f {α : Type} {c : Prop} {a b : α} (h : ¬ c) : pif c a b = b := if_neg h
theorem pif_true {α : Type} {a b : α} : pif True a b = a := if_pos trivial
theorem pif_false {α : Type} {a b : α} : pif False a b = b := if_neg (fun h => h)
theorem bI_pif (c : Prop) : bI c = pif c 1 0 := rfl
theorem bI_true : bI True = 1 := bI_t trivial
theorem bI_false : bI False = 0 := bI_f (fun h => h)
theorem bI_fit (P : Prop) : fits .boolean (.int (bI P)) = true := by
  by_cases h : P
  · rw [bI_t h]; rfl
  · rw [bI_f h]; rfl
theorem bI_vnar (P : Prop) : vp_nar .boolean (bI P) = bI P := by
  by_cases h : P
  · rw [bI_t h]; rfl
  · rw [bI_f h]; rfl
theorem MS.mk {G : gG} {ad : Nat → Nat} {H0 H : Heap} {M Z : Nat → Nat → Int32} {V : Nat → Nat → Int64} {locs : List Loc} (h : mH G ad M Z V H) (hS : va_S (mA ad) H0 H locs) : MS G ad H0 M Z V H locs := ⟨h, hS⟩
theorem mH.to {G : gG} {ad : Nat → Nat} {H : Heap} {M M' Z Z' : Nat → Nat → Int32} {V V' : Nat → Nat → Int64} (hM : M = M') (hZ : Z = Z') (hV : V = V') (h : mH G ad M Z V H) : mH G ad M' Z' V' H := by subst hM; subst hZ; subst hV; exact h
theorem n_dec {a : Nat} (h : 1 ≤ a) : nI a + Int32.ofInt (-1) = nI (a - 1) := by
  show nI a + (-1) = _
  have := pk_m1 (a - 1)
  rw [Nat.sub_add_cancel h] at this
  exact this
/-- in range, as the methods ask it -/
theorem in_vp {b : Int32} {n : Nat} (h : n < 2 ^ 31) : (nI 0 ≤ b ∧ b ≤ nI n - nI 1) ↔ vp_in b n := by
  rw [vp_in_iff]
  cases n with
  | zero =>
    constructor
    · rintro ⟨h1, h2⟩
      have e : nI 0 - nI 1 = (-1 : Int32) := by decide
      rw [e] at h2
      have h3 : (0 : Int32) ≤ (-1 : Int32) := Int32.le_trans (show (0 : Int32) ≤ b from h1) h2
      exact absurd h3 (by decide)
    · rintro ⟨h1, h2⟩
      omega
  | succ k =>
    have e : nI (k + 1) - nI 1 = nI k := pk_sub (show 1 ≤ k + 1 by omega)
    rw [e, Int32.le_iff_toInt_le, Int32.le_iff_toInt_le, nI_toInt (show k < 2 ^ 31 by omega), nI_toInt (show 0 < 2 ^ 31 by decide)]
    omega
theorem in_const {b : Int32} {n : Nat} (h : n + 1 < 2 ^ 31) : (nI 0 ≤ b ∧ b ≤ nI n) ↔ vp_in b (n + 1) := by
  rw [vp_in_iff, Int32.le_iff_toInt_le, Int32.le_iff_toInt_le, nI_toInt (show n < 2 ^ 31 by omega), nI_toInt (show 0 < 2 ^ 31 by decide)]
  omega
section BP
variable {p : Program} {l : Launch} {e : Env} {R : Room} {s : State} {m : MethodId} {args : Array Value} {below : List Frame} {meth : Method} {c : Code} {H : Heap} {locs : List Loc} {cells slots : Nat} {Q : State → Prop}
variable {cc : ByteArray} {pc : Nat} {ls : Array Slot} {rest st0 : List Value}
theorem b_icmp1_ne (hx : p.tables.exec = Jvm.exec) (hb : c.code = cc) {P : Prop} {off : Int} {tgt : Nat} (hdg : decode cc pc = .ok (.if_icmp .ne off, 3)) (ht : (pc : Int) + off = (tgt : Int))
    (kt : ¬ P → W p l e R s m args below meth c H locs cells slots Q (F0 m tgt ls rest)) (kf : P → W p l e R s m args below meth c H locs cells slots Q (F0 m (pc + 3) ls rest)) : W p l e R s m args below meth c H locs cells slots Q (F0 m pc ls (.int (nI 1) :: .int (bI P) :: rest)) :=
  lv_icmp_ne hx hb hdg ht (fun h => kt (fun q => h (bI_t q))) (fun h => kf (Classical.byContradiction fun q => by rw [bI_f q] at h; exact absurd h (by decide)))
theorem b_icmp1_eq (hx : p.tables.exec = Jvm.exec) (hb : c.code = cc) {P : Prop} {off : Int} {tgt : Nat} (hdg : decode cc pc = .ok (.if_icmp .eq off, 3)) (ht : (pc : Int) + off = (tgt : Int))
    (kt : P → W p l e R s m args below meth c H locs cells slots Q (F0 m tgt ls rest)) (kf : ¬ P → W p l e R s m args below meth c H locs cells slots Q (F0 m (pc + 3) ls rest)) : W p l e R s m args below meth c H locs cells slots Q (F0 m pc ls (.int (nI 1) :: .int (bI P) :: rest)) :=
  lv_icmp_eq hx hb hdg ht (fun h => kt (Classical.byContradiction fun q => by rw [bI_f q] at h; exact absurd h (by decide))) (fun h => kf (fun q => h (bI_t q)))
theorem l_cmp_vals (x y : Int64) : (y < x ∧ lg_cmp x y = 1) ∨ (x = y ∧ lg_cmp x y = 0) ∨ (x < y ∧ lg_cmp x y = -1) := by
  by_cases h1 : y < x
  · exact Or.inl ⟨h1, by simp [lg_cmp, h1]⟩
  · by_cases h2 : x = y
    · exact Or.inr (Or.inl ⟨h2, by subst h2; simp [lg_cmp]⟩)
    · refine Or.inr (Or.inr ⟨?_, by simp [lg_cmp, h1, h2]⟩)
      rcases Int64.lt_or_le x y with q | q
      · exact q
      · rcases Int64.lt_or_eq_of_le q with q2 | q2
        · exact absurd q2 h1
        · exact absurd q2.symm h2
theorem l_ne_of_lt {x y : Int64} (h : x < y) : ¬ x = y := fun e => by subst e; exact absurd h (Int64.lt_irrefl)
theorem l_asym {x y : Int64} (h : x < y) : ¬ y < x := Int64.lt_asymm h
theorem l_cmp_eq (hx : p.tables.exec = Jvm.exec) (hb : c.code = cc) {x y : Int64} {off : Int} {tgt : Nat} (hdg : decode cc pc = .ok (.lcmp, 1)) (hd2 : decode cc (pc + 1) = .ok (.ifCond .eq off, 3)) (ht : ((pc + 1 : Nat) : Int) + off = (tgt : Int))
    (kt : x = y → W p l e R s m args below meth c H locs cells slots Q (F0 m tgt ls rest)) (kf : ¬ x = y → W p l e R s m args below meth c H locs cells slots Q (F0 m (pc + 1 + 3) ls rest)) : W p l e R s m args below meth c H locs cells slots Q (F0 m pc ls (.long y :: .long x :: rest)) := by
  refine W.lcmp hx hb hdg (lv_if_eq hx hb hd2 ht (fun h => kt ?_) (fun h => kf ?_))
  · rcases l_cmp_vals x y with ⟨h1, h2⟩ | ⟨h1, h2⟩ | ⟨h1, h2⟩
    · rw [h2] at h; exact absurd h (by decide)
    · exact h1
    · rw [h2] at h; exact absurd h (by decide)
  · rcases l_cmp_vals x y with ⟨h1, h2⟩ | ⟨h1, h2⟩ | ⟨h1, h2⟩
    · exact fun e => l_ne_of_lt h1 e.symm
    · exact absurd h2 h
    · exact l_ne_of_lt h1
theorem l_cmp_ne (hx : p.tables.exec = Jvm.exec) (hb : c.code = cc) {x y : Int64} {off : Int} {tgt : Nat} (hdg : decode cc pc = .ok (.lcmp, 1)) (hd2 : decode cc (pc + 1) = .ok (.ifCond .ne off, 3)) (ht : ((pc + 1 : Nat) : Int) + off = (tgt : Int))
    (kt : ¬ x = y → W p l e R s m args below meth c H locs cells slots Q (F0 m tgt ls rest)) (kf : x = y → W p l e R s m args below meth c H locs cells slots Q (F0 m (pc + 1 + 3) ls rest)) : W p l e R s m args below meth c H locs cells slots Q (F0 m pc ls (.long y :: .long x :: rest)) := by
  refine W.lcmp hx hb hdg (lv_if_ne hx hb hd2 ht (fun h => kt ?_) (fun h => kf ?_))
  · rcases l_cmp_vals x y with ⟨h1, h2⟩ | ⟨h1, h2⟩ | ⟨h1, h2⟩
    · exact fun e => l_ne_of_lt h1 e.symm
    · exact absurd h2 h
    · exact l_ne_of_lt h1
  · rcases l_cmp_vals x y with ⟨h1, h2⟩ | ⟨h1, h2⟩ | ⟨h1, h2⟩
    · rw [h2] at h; exact absurd h (by decide)
    · exact h1
    · rw [h2] at h; exact absurd h (by decide)
theorem l_cmp_lt (hx : p.tables.exec = Jvm.exec) (hb : c.code = cc) {x y : Int64} {off : Int} {tgt : Nat} (hdg : decode cc pc = .ok (.lcmp, 1)) (hd2 : decode cc (pc + 1) = .ok (.ifCond .lt off, 3)) (ht : ((pc + 1 : Nat) : Int) + off = (tgt : Int))
    (kt : x < y → W p l e R s m args below meth c H locs cells slots Q (F0 m tgt ls rest)) (kf : ¬ x < y → W p l e R s m args below meth c H locs cells slots Q (F0 m (pc + 1 + 3) ls rest)) : W p l e R s m args below meth c H locs cells slots Q (F0 m pc ls (.long y :: .long x :: rest)) := by
  refine W.lcmp hx hb hdg (lv_if_lt hx hb hd2 ht (fun h => kt ?_) (fun h => kf ?_))
  · rcases l_cmp_vals x y with ⟨h1, h2⟩ | ⟨h1, h2⟩ | ⟨h1, h2⟩
    · rw [h2] at h; exact absurd h (by decide)
    · rw [h2] at h; exact absurd h (by decide)
    · exact h1
  · rcases l_cmp_vals x y with ⟨h1, h2⟩ | ⟨h1, h2⟩ | ⟨h1, h2⟩
    · exact l_asym h1
    · subst h1; exact Int64.lt_irrefl
    · rw [h2] at h; exact absurd (by decide) h
theorem l_cmp_ge (hx : p.tables.exec = Jvm.exec) (hb : c.code = cc) {x y : Int64} {off : Int} {tgt : Nat} (hdg : decode cc pc = .ok (.lcmp, 1)) (hd2 : decode cc (pc + 1) = .ok (.ifCond .ge off, 3)) (ht : ((pc + 1 : Nat) : Int) + off = (tgt : Int))
    (kt : ¬ x < y → W p l e R s m args below meth c H locs cells slots Q (F0 m tgt ls rest)) (kf : x < y → W p l e R s m args below meth c H locs cells slots Q (F0 m (pc + 1 + 3) ls rest)) : W p l e R s m args below meth c H locs cells slots Q (F0 m pc ls (.long y :: .long x :: rest)) := by
  refine W.lcmp hx hb hdg (lv_if_ge hx hb hd2 ht (fun h => kt ?_) (fun h => kf ?_))
  · rcases l_cmp_vals x y with ⟨h1, h2⟩ | ⟨h1, h2⟩ | ⟨h1, h2⟩
    · exact l_asym h1
    · subst h1; exact Int64.lt_irrefl
    · rw [h2] at h; exact absurd h (by decide)
  · rcases l_cmp_vals x y with ⟨h1, h2⟩ | ⟨h1, h2⟩ | ⟨h1, h2⟩
    · rw [h2] at h; exact absurd (by decide) h
    · rw [h2] at h; exact absurd (by decide) h
    · exact h1
theorem l_cmp_gt (hx : p.tables.exec = Jvm.exec) (hb : c.code = cc) {x y : Int64} {off : Int} {tgt : Nat} (hdg : decode cc pc = .ok (.lcmp, 1)) (hd2 : decode cc (pc + 1) = .ok (.ifCond .gt off, 3)) (ht : ((pc + 1 : Nat) : Int) + off = (tgt : Int))
    (kt : y < x → W p l e R s m args below meth c H locs cells slots Q (F0 m tgt ls rest)) (kf : ¬ y < x → W p l e R s m args below meth c H locs cells slots Q (F0 m (pc + 1 + 3) ls rest)) : W p l e R s m args below meth c H locs cells slots Q (F0 m pc ls (.long y :: .long x :: rest)) := by
  refine W.lcmp hx hb hdg (lv_if_gt hx hb hd2 ht (fun h => kt ?_) (fun h => kf ?_))
  · rcases l_cmp_vals x y with ⟨h1, h2⟩ | ⟨h1, h2⟩ | ⟨h1, h2⟩
    · exact h1
    · rw [h2] at h; exact absurd h (by decide)
    · rw [h2] at h; exact absurd h (by decide)
  · rcases l_cmp_vals x y with ⟨h1, h2⟩ | ⟨h1, h2⟩ | ⟨h1, h2⟩
    · rw [h2] at h; exact absurd (by decide) h
    · subst h1; exact Int64.lt_irrefl
    · exact l_asym h1
theorem l_cmp_le (hx : p.tables.exec = Jvm.exec) (hb : c.code = cc) {x y : Int64} {off : Int} {tgt : Nat} (hdg : decode cc pc = .ok (.lcmp, 1)) (hd2 : decode cc (pc + 1) = .ok (.ifCond .le off, 3)) (ht : ((pc + 1 : Nat) : Int) + off = (tgt : Int))
    (kt : ¬ y < x → W p l e R s m args below meth c H locs cells slots Q (F0 m tgt ls rest)) (kf : y < x → W p l e R s m args below meth c H locs cells slots Q (F0 m (pc + 1 + 3) ls rest)) : W p l e R s m args below meth c H locs cells slots Q (F0 m pc ls (.long y :: .long x :: rest)) := by
  refine W.lcmp hx hb hdg (lv_if_le hx hb hd2 ht (fun h => kt ?_) (fun h => kf ?_))
  · rcases l_cmp_vals x y with ⟨h1, h2⟩ | ⟨h1, h2⟩ | ⟨h1, h2⟩
    · rw [h2] at h; exact absurd h (by decide)
    · subst h1; exact Int64.lt_irrefl
    · exact l_asym h1
  · rcases l_cmp_vals x y with ⟨h1, h2⟩ | ⟨h1, h2⟩ | ⟨h1, h2⟩
    · exact h1
    · rw [h2] at h; exact absurd (by decide) h
    · rw [h2] at h; exact absurd (by decide) h
end BP
/-- repeated: the body's step at i, n times from i on -/
def it {σ : Type} (f : Nat → σ → σ) (n i : Nat) (s : σ) : σ := if n = 0 then s else it f (n - 1) (i + 1) (f i s)
termination_by n
decreasing_by omega
theorem it_0 {σ : Type} {f : Nat → σ → σ} {i : Nat} {s : σ} : it f 0 i s = s := by rw [it]; simp
theorem it_succ {σ : Type} {f : Nat → σ → σ} {n i : Nat} {s : σ} : it f (n + 1) i s = it f n (i + 1) (f i s) := by
  rw [it]
  simp
theorem it_s {σ : Type} {f : Nat → σ → σ} {n i : Nat} {s : σ} (h : i < n) : it f (n - i) i s = it f (n - (i + 1)) (i + 1) (f i s) := by
  rw [show n - i = (n - (i + 1)) + 1 by omega, it_succ]
theorem it_z {σ : Type} {f : Nat → σ → σ} {n i : Nat} {s : σ} (h : n ≤ i) : it f (n - i) i s = s := by
  rw [show n - i = 0 by omega, it_0]
/-- the sum of f's first n values -/
def sm (f : Nat → Int32) : Nat → Int32
  | 0 => 0
  | n + 1 => sm f n + f n
