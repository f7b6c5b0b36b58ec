/-! one cell at a time; room by what was made; constants; calls by pictures of both heaps (printed by gen/xv_pt.py) -/
theorem xS_mono {A B : Nat → Prop} {H0 H : Heap} {locs : List Loc} (h : va_S A H0 H locs) (hAB : ∀ q, A q → B q) : va_S B H0 H locs := ⟨h.1, fun q h1 h2 => h.2.1 q h1 (fun z => h2 (hAB q z)), fun l hl => hAB _ (h.2.2 l hl)⟩
theorem xS_put {A : Nat → Prop} {H0 H H1 : Heap} {locs locs1 : List Loc} {a : Nat} (h : va_S A H0 H locs) (ha : A a) (hz : H1.size = H.size) (ho : ∀ q, q ≠ a → H1[q]? = H[q]?) (hl : ∀ z ∈ locs1, z ∈ locs ∨ z.base = a) : va_S A H0 H1 locs1 :=
  ⟨by rw [hz]; exact h.1, fun q h1 h2 => (ho q (fun e => h2 (e ▸ ha))).trans (h.2.1 q h1 h2), fun z hz9 => (hl z hz9).elim (fun h9 => h.2.2 z h9) (fun e => by rw [e]; exact ha)⟩
theorem xS_new {A : Nat → Prop} {H0 H H1 : Heap} {locs : List Loc} (h : va_S A H0 H locs) (hz : H.size ≤ H1.size) (ho : ∀ q, q < H.size → H1[q]? = H[q]?) : va_S A H0 H1 locs :=
  ⟨Nat.le_trans h.1 hz, fun q h1 h2 => (ho q (Nat.lt_of_lt_of_le h1 h.1)).trans (h.2.1 q h1 h2), h.2.2⟩
theorem at_lt {D : va_G} {cl : List vw_C} {a : Nat} {e : va_E} {H : Heap} (h : va_at D cl (a, e) H) : a < H.size := va_at.lt h
-- ===== room =====
/-- how many slots -/
def hU (H : Heap) : Nat := (H.toList.map (fun c => c.slots.size)).sum
theorem same_U {s U : State} {locs : List Loc} {k n : Nat} (h : s.sameButNew U locs k n) : hU s.heap + ((U.heap.toList.drop s.heap.size).map (·.slots.size)).sum = hU U.heap := by
  obtain ⟨-, h2, -, -, -, h6⟩ := h
  have e : (U.heap.toList.take s.heap.size).map (fun c => c.slots.size) = s.heap.toList.map (fun c => c.slots.size) := by
    refine List.ext_getElem? (fun i => ?_)
    rw [List.getElem?_map, List.getElem?_map, List.getElem?_take]
    by_cases hi : i < s.heap.size
    · rw [if_pos hi]
      obtain ⟨c9, e1, -, e3, -⟩ := h6 i _ (Array.getElem?_eq_getElem hi)
      rw [Array.getElem?_toList, Array.getElem?_toList, e1, Array.getElem?_eq_getElem hi]
      exact congrArg some e3
    · rw [if_neg hi, Array.getElem?_toList, Array.getElem?_eq_none (by omega)]
  have e2 : hU U.heap = (((U.heap.toList.take s.heap.size) ++ (U.heap.toList.drop s.heap.size)).map (fun c => c.slots.size)).sum := by
    rw [List.take_append_drop]; rfl
  rw [e2, List.map_append, List.sum_append, e]
  rfl
section PT
variable {p : Program} {l : Launch} {e : Env} {R : Room} {s : State} {m : MethodId} {args : Array Value} {below : List Frame} {meth : Method} {c : Code} {H : Heap} {locs : List Loc} {cells slots : Nat} {Q : State → Prop}
variable {cc : ByteArray} {pc : Nat} {ls : Array Slot} {rest st0 : List Value} {G : gG} {A0 A1 : Nat → Prop} {H0 : Heap}
theorem W_own {g : JFrame} (kk : H.size ≤ s.heap.size + cells → hU H ≤ hU s.heap + slots → W p l e R s m args below meth c H locs cells slots Q g) : W p l e R s m args below meth c H locs cells slots Q g := by
  intro T hT X
  have h1 := X.heapSize
  have h2 := same_U X.same
  have h3 := X.same.2.2.2.2.1
  rw [show (T.setVm s.vm).heap = T.heap from rfl, hT] at h2
  rw [show (T.setVm s.vm).heap = T.heap from rfl, hT] at h3
  rw [hT] at h1
  exact kk h1 (by omega) T hT X
theorem W_tight {g : JFrame} {k n : Nat} (h1 : H.size ≤ s.heap.size + k) (h2 : hU H ≤ hU s.heap + n) (kk : W p l e R s m args below meth c H locs k n Q g) : W p l e R s m args below meth c H locs cells slots Q g := by
  intro T hT X
  have h9 := same_U X.same
  rw [show (T.setVm s.vm).heap = T.heap from rfl, hT] at h9
  obtain ⟨a1, a2, a3, a4, a5, a6⟩ := X.same
  refine kk T hT ⟨X.admits, X.cas, X.clock, X.frames, X.room, X.hears, X.method, X.code, X.here, X.tail, X.warmed, X.limits, X.bytes, ⟨a1, a2, ?_, a4, ?_, a6⟩⟩
  · show T.heap.size ≤ _
    rw [hT]; exact h1
  · show ((T.heap.toList.drop s.heap.size).map (·.slots.size)).sum ≤ n
    rw [hT]; omega
-- ===== one cell is written =====
theorem p_put (hx : p.tables.exec = Jvm.exec) (hb : c.code = cc) {own ref C : String} {T : u_T} {N ci index a : Nat} (hts : ∀ w ∈ lw_all, w.before args s = true) (hin : ∀ w ∈ u_ws C T N, w ∈ lw_all) (ty0 : Nat → FieldType) (hty : ∀ k, k < N → parseFieldDescriptor (T k).2.2.1 = some (ty0 k)) (hnm : ∀ a, a < N → ∀ b, b < N → a ≠ b → (T a).2.1 ≠ (T b).2.1) (hown : s.vm.findClass own = some m.cls) (hK : KK G s) {fs : List Value} (hat : va_at (gD G) g_cl (a, .inr (ci, fs)) H) (hc : g_cl[ci]? = some (C, T, N)) (k : Nat) (hk : k < N) (hlink : (Cond.fieldLink own index ref (T k).2.1 (T k).2.2.1).before args s = true) (hsame : ∀ x, s.fieldFound? (T k).1 (T k).2.1 (T k).2.2.1 = some x → s.fieldFound? ref (T k).2.1 (T k).2.2.1 = some x) (hfin : (T k).2.2.2 = false) {ty : FieldType} {v : Value} (hd : parseFieldDescriptor (T k).2.2.1 = some ty) (hn : narrow ty v = v) (hfit : fits ty v = true) (hl : k < fs.length) (hdg : decode cc pc = .ok (.putfield index, 3))
    (kk : ∀ (H1 : Heap) (locs1 : List Loc), va_at (gD G) g_cl (a, .inr (ci, fs.set k v)) H1 → H1.size = H.size → (∀ q, q ≠ a → H1[q]? = H[q]?) → (∀ z ∈ locs1, z ∈ locs ∨ z.base = a) → W p l e R s m args below meth c H1 locs1 cells slots Q (F0 m (pc + 3) ls rest)) : W p l e R s m args below meth c H locs cells slots Q (F0 m pc ls (v :: .ref a :: rest)) := by
  have hap := va_apart (own := own) hts hin ty0 hty hnm hK.1 hc
  obtain ⟨r, h1, cell, q1, q2, q3, q4⟩ := hat
  have hr : r = (C, T, N) := Option.some.inj (h1.symm.trans hc)
  subst hr
  obtain ⟨hS, hfc, kC, hkC, hkind⟩ := hK.1.1 ci _ hc
  obtain ⟨cf, kf, fi, f, hi, hsl⟩ := hS k hk
  have hlay := hts _ (hin _ (u_in_lay hk))
  unfold u_lay at hlay
  rw [if_neg (by rw [hfin]; decide)] at hlay
  have hst := (u_facts hfc hkC (u_lays hts hin hk) hi).1
  have h6 := u_store hfc hkC hkind hlay hi hd hn hfit
  refine W.putK hx hb (f := f) ⟨hown, hlink, ⟨_, _, _, hsame _ hi⟩, hst⟩ (by rw [q2]; exact h6) q1 q3 (by rw [hsl]; exact k2_hasslot (q4 k hk)) rfl rfl hdg fun H' e1 e2 e3 => ?_
  rw [hsl] at e1 ⊢
  exact kk H' _ ⟨_, hc, t_OB.to (V := updV (vp_V fs) k v) ⟨_, e1, q2, q3, t_set q4 hap hk v⟩ (fun j _ => vp_updV_set hl v j)⟩ e2 e3 (fun z hz => (List.mem_append.mp hz).elim Or.inl (fun h9 => Or.inr (by rw [List.mem_singleton.mp h9])))
theorem p_putF (hx : p.tables.exec = Jvm.exec) (hb : c.code = cc) {own ref C : String} {T : u_T} {N ci index a : Nat} (hts : ∀ w ∈ lw_all, w.before args s = true) (hin : ∀ w ∈ u_ws C T N, w ∈ lw_all) (ty0 : Nat → FieldType) (hty : ∀ k, k < N → parseFieldDescriptor (T k).2.2.1 = some (ty0 k)) (hnm : ∀ a, a < N → ∀ b, b < N → a ≠ b → (T a).2.1 ≠ (T b).2.1) (hown : s.vm.findClass own = some m.cls) (hK : KK G s) {fs : List Value} (hat : va_at (gD G) g_cl (a, .inr (ci, fs)) H) (hc : g_cl[ci]? = some (C, T, N)) (k : Nat) (hk : k < N) (hlink : (Cond.fieldLink own index ref (T k).2.1 (T k).2.2.1).before args s = true) (hsame : ∀ x, s.fieldFound? (T k).1 (T k).2.1 (T k).2.2.1 = some x → s.fieldFound? ref (T k).2.1 (T k).2.2.1 = some x) (hfin : (T k).2.2.2 = true) (hin2 : meth.name = "<init>") (hdecl : (T k).1 = own) {ty : FieldType} {v : Value} (hd : parseFieldDescriptor (T k).2.2.1 = some ty) (hn : narrow ty v = v) (hfit : fits ty v = true) (hl : k < fs.length) (hdg : decode cc pc = .ok (.putfield index, 3))
    (kk : ∀ (H1 : Heap) (locs1 : List Loc), va_at (gD G) g_cl (a, .inr (ci, fs.set k v)) H1 → H1.size = H.size → (∀ q, q ≠ a → H1[q]? = H[q]?) → (∀ z ∈ locs1, z ∈ locs ∨ z.base = a) → W p l e R s m args below meth c H1 locs1 cells slots Q (F0 m (pc + 3) ls rest)) : W p l e R s m args below meth c H locs cells slots Q (F0 m pc ls (v :: .ref a :: rest)) := by
  have hap := va_apart (own := own) hts hin ty0 hty hnm hK.1 hc
  obtain ⟨r, h1, cell, q1, q2, q3, q4⟩ := hat
  have hr : r = (C, T, N) := Option.some.inj (h1.symm.trans hc)
  subst hr
  obtain ⟨hS, hfc, kC, hkC, hkind⟩ := hK.1.1 ci _ hc
  obtain ⟨cf, kf, fi, f, hi, hsl⟩ := hS k hk
  have hlay := hts _ (hin _ (u_in_lay hk))
  unfold u_lay at hlay
  rw [if_pos hfin] at hlay
  have hst := (u_facts hfc hkC (u_lays hts hin hk) hi).1
  have hcf : m.cls = cf := by
    obtain ⟨_, _, c', _, _, _, -, -, hf', -, -, -, hown2, -⟩ := Cond.laysFinal_spec hlay
    have e1 : c' = cf := by have := hi.symm.trans hf'; simp at this; exact this.1.symm
    rw [hdecl] at hown2
    rw [← e1]; exact Option.some.inj (hown.symm.trans hown2)
  have h6 := u_fits hfc hkC hkind (Or.inr hlay) hi hd hn hfit
  refine W.putFinK hx hb hown hlink (hsame _ hi) hst hcf hin2 (by rw [q2]; exact h6) q1 q3 (by rw [hsl]; exact k2_hasslot (q4 k hk)) rfl rfl hdg fun H' e1 e2 e3 => ?_
  rw [hsl] at e1 ⊢
  exact kk H' _ ⟨_, hc, t_OB.to (V := updV (vp_V fs) k v) ⟨_, e1, q2, q3, t_set q4 hap hk v⟩ (fun j _ => vp_updV_set hl v j)⟩ e2 e3 (fun z hz => (List.mem_append.mp hz).elim Or.inl (fun h9 => Or.inr (by rw [List.mem_singleton.mp h9])))
/-- a new object -/
theorem p_new (hx : p.tables.exec = Jvm.exec) (hb : c.code = cc) {own C : String} {T : u_T} {N ci index : Nat} (hts : ∀ w ∈ lw_all, w.before args s = true) (hin : ∀ w ∈ u_ws C T N, w ∈ lw_all) (ty : Nat → FieldType) (hty : ∀ k, k < N → parseFieldDescriptor (T k).2.2.1 = some (ty k)) (hown : s.vm.findClass own = some m.cls) (hcl : (Cond.classLink own index C).before args s = true) (hinst : (Cond.instantiable C N).before args s = true) (hini : (Cond.initialized C).before args s = true) (hK : KK G s) (hc : g_cl[ci]? = some (C, T, N)) {fs : List Value} (hfs : ∀ j, j < N → defaultValue (ty j) = vp_V fs j) (hcells : cells + 1 ≤ R.cells) (hslots : slots + N ≤ R.slots) (hdg : decode cc pc = .ok (.new index, 3))
    (kk : ∀ (q : Nat) (H1 : Heap), va_at (gD G) g_cl (q, .inr (ci, fs)) H1 → q = H.size → H1.size = H.size + 1 → (∀ z, z < H.size → H1[z]? = H[z]?) → W p l e R s m args below meth c H1 locs (cells + 1) (slots + N) Q (F0 m (pc + 3) ls (.ref q :: rest))) : W p l e R s m args below meth c H locs cells slots Q (F0 m pc ls rest) := by
  have hKn := hK.1.1 ci _ hc
  refine W.newcK hx hb hown hcl hinst hini rfl hdg hcells hslots hKn.2.1 rfl fun H1 kC hkC e1 z1 o1 => ?_
  exact kk H.size H1 ⟨_, hc, (u_born ty hts hin hKn hkC e1 hty).to hfs⟩ rfl z1 o1
/-- a new array of references -/
theorem p_anew (hx : p.tables.exec = Jvm.exec) (hb : c.code = cc) {own C : String} {index t n : Nat} (hown : s.vm.findClass own = some m.cls) (hclink : (Cond.classLink own index C).before args s = true) (hover : va_AO C s) (hK : KK G s) (ht : (g_ty G.2.2)[t]? = some (G.2.2 t, .object C)) (hn : n < 2 ^ 27) (hcells : cells + 1 ≤ R.cells) (hslots : slots + n ≤ R.slots) (hdg : decode cc pc = .ok (.anewarray index, 3))
    (kk : ∀ (q : Nat) (H1 : Heap), va_at (gD G) g_cl (q, .inl (G.2.2 t, n, .inr (.inr (.inr (.inr (fun _ => none)))))) H1 → q = H.size → H1.size = H.size + 1 → (∀ z, z < H.size → H1[z]? = H[z]?) → W p l e R s m args below meth c H1 locs (cells + 1) (slots + n) Q (F0 m (pc + 3) ls (.ref q :: rest))) : W p l e R s m args below meth c H locs cells slots Q (F0 m pc ls (.int (nI n) :: rest)) := by
  have hN : (nI n).toNatClampNeg = n := nI_clamp (by omega)
  obtain ⟨kA0, comp0, k1, k2, k3, k4⟩ := (hK.1.2 t _ ht).2
  refine W.anew hx hb hown hclink (va_AO.use hover) rfl hdg rfl (nI_pos (by omega)) (by rw [hN]; omega) hcells (by rw [hN]; exact hslots) fun cA kA comp f1 f2 f3 f4 => ?_
  obtain rfl : G.2.2 t = cA := Option.some.inj (k4.symm.trans f1)
  rw [hN]
  refine kk H.size _ ?_ rfl (Array.size_push _) (fun z hz => by rw [Array.getElem?_push, if_neg (Nat.ne_of_lt hz)])
  show (H.push _)[H.size]? = some (vp_cell _ _)
  rw [Array.getElem?_push_size, vp_cell_q, ← arrV_new]
  rfl
/-- a reference is put into an array -/
theorem p_aast (hx : p.tables.exec = Jvm.exec) (hb : c.code = cc) (hK : KK G s) {t j n v a : Nat} {E C : String} {f : Nat → Option Nat} (hat : va_at (gD G) g_cl (a, .inl (G.2.2 t, n, .inr (.inr (.inr (.inr f))))) H) (ht : (g_ty G.2.2)[t]? = some (G.2.2 t, .object E)) (hr : ∃ cellV : Cell, H[v]? = some cellV ∧ cellV.vm.isStatics = false ∧ s.vm.findClass C = some cellV.cls) (hasg : va_Nw (.castable C E) s) (hj : j < n) (hn : n < 2 ^ 31) (hdg : decode cc pc = .ok (.aastore, 1))
    (kk : ∀ (H1 : Heap) (locs1 : List Loc), va_at (gD G) g_cl (a, .inl (G.2.2 t, n, .inr (.inr (.inr (.inr (va_up f j (some v))))))) H1 → H1.size = H.size → (∀ q, q ≠ a → H1[q]? = H[q]?) → (∀ z ∈ locs1, z ∈ locs ∨ z.base = a) → W p l e R s m args below meth c H1 locs1 cells slots Q (F0 m (pc + 1) ls rest)) : W p l e R s m args below meth c H locs cells slots Q (F0 m pc ls (.ref v :: .int (nI j) :: .ref a :: rest)) := by
  obtain ⟨cellV, g1, g3, g2⟩ := hr
  obtain ⟨kA, comp, k1, k2, k3, -⟩ := (hK.1.2 t _ ht).2
  obtain ⟨kE, hkE, -⟩ := Vm.findClass_spec k3
  obtain ⟨kC, hkC, -⟩ := Vm.findClass_spec g2
  have hJ : (nI j).toNatClampNeg = j := nI_clamp (by omega)
  refine W.aast hx hb hat (fun q h => by cases h) (fun h => by cases h) k1 k2 rfl hkE ⟨nI_pos (by omega), by show _ < (arrV _ _ _).slots.size; rw [arrV_size, hJ]; exact hj⟩ g1 (fun q h => by rw [h] at g3; cases g3) hkC (vb_asgC hasg _ _ k3 g2) rfl rfl hdg fun H1 e z oq => ?_
  rw [hJ] at e ⊢
  refine kk H1 _ ?_ z oq (fun z9 hz => (List.mem_append.mp hz).elim Or.inl (fun h9 => Or.inr (by rw [List.mem_singleton.mp h9])))
  show H1[a]? = some (vp_cell _ _)
  rw [e, vp_cell_q, vp_cell_q, arrV_store]
  congr 2
  funext q
  by_cases hq : q = j
  · subst hq
    simp [updV, va_up, va_rf]
  · simp [updV, va_up, hq]
/-- a byte of an array -/
theorem p_bald (hx : p.tables.exec = Jvm.exec) (hb : c.code = cc) (hK : KK G s) {r n j : Nat} {f : Nat → Int32} {v : Int32} (hv : f j = v) (hat : va_at (gD G) g_cl (r, .inl (G.2.2 1, n, .inl f)) H) (hn : n < 2 ^ 31) (hj : j < n) (hdg : decode cc pc = .ok (.baload, 1)) (kk : W p l e R s m args below meth c H locs cells slots Q (F0 m (pc + 1) ls (.int v :: rest))) : W p l e R s m args below meth c H locs cells slots Q (F0 m pc ls (.int (nI j) :: .ref r :: rest)) := by
  refine va_bald (D := gD G) (i := nI j) (f := f) hx hb hK.1 (va_P1 hat) 0 1 rfl rfl (vp_in_nI hj hn) hdg ?_
  rw [nI_clamp (show j < 2 ^ 31 by omega), hv]
  exact kk
end PT
-- ===== what holds all through a run =====
def kLen : List Nat := [5, 4, 7, 5, 5, 4, 4, 2, 4, 2, 3, 2, 3, 3, 4, 6, 5, 5, 5, 4, 4, 5, 7, 8, 4, 13]
def kByt : List (List Int32) := [[115, 109, 111, 107, 101], [99, 111, 115, 116], [98, 114, 105, 116, 116, 108, 101], [115, 104, 97, 114, 101], [98, 101, 103, 105, 110], [98, 108, 111, 119], [119, 97, 105, 116], [98, 121], [103, 105, 118, 101], [105, 102], [101, 110, 100], [111, 114], [97, 110, 100], [110, 111, 116], [104, 111, 117, 114], [98, 108, 111, 119, 101, 114], [108, 117, 110, 103, 115], [118, 111, 105, 99, 101], [98, 101, 97, 100, 115], [107, 105, 110, 100], [119, 97, 110, 116], [119, 111, 114, 116, 104], [98, 114, 101, 97, 116, 104, 115], [113, 117, 97, 114, 114, 101, 108, 115], [109, 97, 110, 121], [60, 62, 61, 35, 43, 45, 42, 47, 40, 41, 59, 63, 58]]
def mayV (j : Nat) : Int32 := if j = 0 then 1 else if j = 1 then 31 else if j = 2 then 1761 else 511
/-- where the constants lie: the words and the signs, their bytes, the small Integers; words, may, cache, empty, the mirror -/
abbrev kK : Type := (Nat → Nat) × (Nat → Nat) × (Nat → Nat) × (Nat → Nat)
def KZh (κ : kK) (A : Nat → Prop) (U : State) (H : Heap) : Prop :=
  (vk_S 26 kLen kByt κ.1 κ.2.1 A U H ∧ vk_R "BreathOnLoan$Tokens" 53 "<>=#+-*/();?:" (κ.1 25) U) ∧
  (va_Z "BreathOnLoan$Tokens" "WORDS" "[Ljava/lang/String;" (.ref (κ.2.2.2 0)) A U H ∧ va_T (.object "java/lang/String") (κ.2.2.2 0) 25 (fun j => .ref (κ.1 j)) A U H) ∧
  va_Z "java/lang/String" "COMPACT_STRINGS" "Z" (.int 1) A U H ∧ va_Zq "jdk/internal/util/Preconditions" "SIOOBE_FORMATTER" "Ljava/util/function/BiFunction;" A U H ∧
  (va_Z "BreathOnLoan$Tokens" "MAY" "[I" (.ref (κ.2.2.2 1)) A U H ∧ va_T .int (κ.2.2.2 1) 4 (fun j => .int (mayV j)) A U H) ∧
  va_Z "java/lang/Integer$IntegerCache" "high" "I" (.int 127) A U H ∧ (va_Z "java/lang/Integer$IntegerCache" "cache" "[Ljava/lang/Integer;" (.ref (κ.2.2.2 2)) A U H ∧ va_T (.object "java/lang/Integer") (κ.2.2.2 2) 256 (fun j => .ref (κ.2.2.1 j)) A U H ∧ vb_C κ.2.2.1 A U H) ∧
  (va_Z "java/util/ArrayList" "DEFAULTCAPACITY_EMPTY_ELEMENTDATA" "[Ljava/lang/Object;" (.ref (κ.2.2.2 3)) A U H ∧ va_T (.object "java/lang/Object") (κ.2.2.2 3) 0 (fun _ => .null) A U H) ∧
  (vq_Zq Bundle.tN "UNASSIGNED_STACK" Bundle.steD A U H ∧ vq_Zq Bundle.tN "SUPPRESSED_SENTINEL" Bundle.listD A U H) ∧ va_Mi "[Ljava/lang/Object;" (κ.2.2.2 4) U ∧ va_Dc U
theorem KZh.kept {κ : kK} {A : Nat → Prop} {U : State} {H H1 : Heap} (h : KZh κ A U H) (hq : ∀ a : Nat, a < H.size → ¬ A a → H1[a]? = H[a]?) : KZh κ A U H1 := by
  obtain ⟨⟨a1, a2⟩, ⟨b1, b2⟩, c1, d1, ⟨e1, e2⟩, f1, ⟨g1, g2, g3⟩, ⟨h1, h2⟩, ⟨i1, i2⟩, j1, k1⟩ := h
  exact ⟨⟨a1.kept hq, a2⟩, ⟨b1.kept hq, b2.kept hq⟩, c1.kept hq, d1.kept hq, ⟨e1.kept hq, e2.kept hq⟩, f1.kept hq, ⟨g1.kept hq, g2.kept hq, g3.kept hq⟩, ⟨h1.kept hq, h2.kept hq⟩, ⟨i1.kept hq, i2.kept hq⟩, j1, k1⟩
theorem KZh.warm {κ : kK} {A : Nat → Prop} {s U : State} {H : Heap} (hW : s.WarmedH U.vm) (h : KZh κ A s H) : KZh κ A U H := by
  have hv := hW.alike
  obtain ⟨⟨a1, a2⟩, ⟨b1, b2⟩, c1, d1, ⟨e1, e2⟩, f1, ⟨g1, g2, g3⟩, ⟨h1, h2⟩, ⟨i1, i2⟩, j1, k1⟩ := h
  exact ⟨⟨a1.moved hv, a2.warm hW⟩, ⟨b1.moved hv, b2.moved hv⟩, c1.moved hv, d1.moved hv, ⟨e1.moved hv, e2.moved hv⟩, f1.moved hv, ⟨g1.moved hv, g2.moved hv, g3.moved hv⟩, ⟨h1.moved hv, h2.moved hv⟩, ⟨i1.moved hv, i2.moved hv⟩, j1.moved hv, k1.moved hv⟩
theorem KZh.calling {κ : kK} {A : Nat → Prop} {U : State} {H : Heap} {g : JFrame} {mk : MethodId} {a : Array Value} (h : KZh κ A U H) : KZh κ A (U.calling g mk a) H := by
  have hv : U.vm.Alike (U.calling g mk a).vm := Vm.Alike.refl U.vm
  obtain ⟨⟨a1, a2⟩, ⟨b1, b2⟩, c1, d1, ⟨e1, e2⟩, f1, ⟨g1, g2, g3⟩, ⟨h1, h2⟩, ⟨i1, i2⟩, j1, k1⟩ := h
  exact ⟨⟨a1.moved hv, a2.same (u := U) rfl⟩, ⟨b1.moved hv, b2.moved hv⟩, c1.moved hv, d1.moved hv, ⟨e1.moved hv, e2.moved hv⟩, f1.moved hv, ⟨g1.moved hv, g2.moved hv, g3.moved hv⟩, ⟨h1.moved hv, h2.moved hv⟩, ⟨i1.moved hv, i2.moved hv⟩, j1.moved hv, k1.moved hv⟩
/-- all that is new since the law's start may be written, nothing else -/
def aZ (z : Nat) : Nat → Prop := fun q => z ≤ q
def KZ (κ : kK) (z : Nat) (U : State) : Prop := KZh κ (aZ z) U U.heap
/-- a contract's start, with the constants -/
def cT (G : gG) (κ : kK) (z : Nat) (av : List Value) (B : Heap → Prop) : Array Value → State → Prop := va_Pc av (fun U => B U.heap ∧ KK G U ∧ KZ κ z U)
theorem cT.blind {G : gG} {κ : kK} {z : Nat} {av : List Value} {B : Heap → Prop} : FrameBlind (cT G κ z av B) := fun _ _ _ _ h => ⟨h.1, h.2.1, KK.calling h.2.2.1, h.2.2.2.calling⟩
theorem cT.kz {κ : kK} {z : Nat} {s U : State} {H : Heap} {locs : List Loc} (hZ : KZ κ z s) (hS : va_S (aZ z) s.heap H locs) (hU : U.heap = H) (hW : s.WarmedH U.vm) : KZ κ z U := by
  unfold KZ
  rw [hU]
  exact (KZh.kept hZ hS.2.1).warm hW
theorem cT.pre {G : gG} {κ : kK} {z : Nat} {av : List Value} {B : Heap → Prop} {s : State} {H : Heap} {locs : List Loc} (hK : KK G s) (hZ : KZ κ z s) (hS : va_S (aZ z) s.heap H locs) (hB : B H) : PreS s H (cT G κ z av B) av := ⟨cT.blind, fun U hU hW => ⟨rfl, by rw [hU]; exact hB, KK.warm hW hK, cT.kz hZ hS hU hW⟩⟩
theorem cT.preV {G : gG} {κ : kK} {z : Nat} {b : Nat} {As : List Value} {B : Heap → Prop} {s : State} {H : Heap} {C : String} {locs : List Loc} (hK : KK G s) (hZ : KZ κ z s) (hS : va_S (aZ z) s.heap H locs) (hB : B H) (hr : ∃ cellB : Cell, H[b]? = some cellB ∧ cellB.vm.isStatics = false ∧ s.vm.findClass C = some cellB.cls) : PreV s H C b (cT G κ z (.ref b :: As) B) As :=
  ⟨cT.blind, hr, fun U hU hW => ⟨rfl, by rw [hU]; exact hB, KK.warm hW hK, cT.kz hZ hS hU hW⟩⟩
/-- a contract's end, by pictures of both heaps -/
def tQ (B : Option Value → Heap → Heap → Prop) (A : Nat → Prop) : Array Value → State → Outcome → State → Prop := fun _ st oc t => ∃ v, oc = .returned v ∧ B v st.heap t.heap ∧ va_F A st t
def tX (B : Nat → Heap → Heap → Prop) (A : Nat → Prop) : String → Addr → State → State → Prop := fun E q st t => E = RX5 ∧ B q st.heap t.heap ∧ va_F A st t
section CT
variable {p : Program} {l : Launch} {e : Env} {R : Room} {s : State} {m : MethodId} {args : Array Value} {below : List Frame} {meth : Method} {c : Code} {H : Heap} {locs : List Loc} {cells slots : Nat} {Q : State → Prop}
variable {cc : ByteArray} {pc : Nat} {ls : Array Slot} {rest st0 : List Value} {G : gG} {A0 A1 : Nat → Prop} {H0 : Heap}
variable {mc ms : Nat} {free : Addr → Prop} {a : Array Value} {BQ : Option Value → Heap → Heap → Prop} {BX : Nat → Heap → Heap → Prop}
theorem t_call (hr : vq_Run p l e R s m args below meth c H locs cells slots mc ms (F0 m pc ls st0) rest (tQ BQ A1 a) (tX BX A1) free) (hS : va_S A0 H0 H locs) (hA : ∀ q, q < H.size → A1 q → A0 q) (hf : ∀ q, free q → A0 q)
    (kx : ∀ (q9 : Nat) (ce : Cell) (H1 : Heap) (locs1 : List Loc), BX q9 H H1 → H.size ≤ H1.size → (∀ q : Nat, q < H.size → ¬ A1 q → H1[q]? = H[q]?) → va_S A0 H0 H1 locs1 → H1[q9]? = some ce → ce.vm = .none → s.vm.findClass RX5 = some ce.cls → vq_W p l e R s m args below meth c H1 locs1 (cells + mc) (slots + ms) Q (F0 m pc ls rest) q9)
    (kk : ∀ (v : Option Value) (H1 : Heap) (locs1 : List Loc), BQ v H H1 → H.size ≤ H1.size → (∀ q : Nat, q < H.size → ¬ A1 q → H1[q]? = H[q]?) → va_S A0 H0 H1 locs1 → W p l e R s m args below meth c H1 locs1 (cells + mc) (slots + ms) Q (F0 m (pc + 3) ls (v.toList ++ rest))) : W p l e R s m args below meth c H locs cells slots Q (F0 m pc ls st0) := by
  intro T hT X
  rcases hr T hT X with ⟨v', st₀, t, T', L, h0, X', hL, e1, e2, ⟨v, hv, hb, hF⟩, st⟩ | ⟨q, st₀, t, T', L, E, ce, h0, X', hL, e1, e2, ⟨rfl, hb, hF⟩, hce, hcv, hcl, st⟩
  · cases hv
    obtain ⟨k1, k2, k3⟩ := vq_keep h0 e1 hS hA hf hL hF
    rw [h0, ← e1] at hb
    obtain ⟨t2, a1, b1⟩ := kk v' T'.heap (locs ++ L) hb k1 k2 k3 T' rfl X'
    exact ⟨t2, st t2 a1, b1⟩
  · obtain ⟨k1, k2, k3⟩ := vq_keep h0 e1 hS hA hf hL hF
    rw [h0, ← e1] at hb
    obtain ⟨t2, a1, b1⟩ := kx q ce T'.heap (locs ++ L) hb k1 k2 k3 (by rw [e1]; exact hce) hcv hcl T' rfl X'
    exact ⟨t2, st.trans a1, b1⟩
theorem t_callR (hr : va_Run p l e R s m args below meth c H locs cells slots mc ms (F0 m pc ls st0) rest (tQ BQ A1 a) free) (hS : va_S A0 H0 H locs) (hA : ∀ q, q < H.size → A1 q → A0 q) (hf : ∀ q, free q → A0 q)
    (kk : ∀ (v : Option Value) (H1 : Heap) (locs1 : List Loc), BQ v H H1 → H.size ≤ H1.size → (∀ q : Nat, q < H.size → ¬ A1 q → H1[q]? = H[q]?) → va_S A0 H0 H1 locs1 → W p l e R s m args below meth c H1 locs1 (cells + mc) (slots + ms) Q (F0 m (pc + 3) ls (v.toList ++ rest))) : W p l e R s m args below meth c H locs cells slots Q (F0 m pc ls st0) := by
  intro T hT X
  obtain ⟨v', st₀, t, T', L, h0, X', hL, e1, e2, ⟨v, hv, hb, hF⟩, st⟩ := hr T hT X
  cases hv
  obtain ⟨k1, k2, k3⟩ := vq_keep h0 e1 hS hA hf hL hF
  rw [h0, ← e1] at hb
  obtain ⟨t2, a1, b1⟩ := kk v' T'.heap (locs ++ L) hb k1 k2 k3 T' rfl X'
  exact ⟨t2, st t2 a1, b1⟩
theorem t_aret {v : Value} (hx : p.tables.exec = Jvm.exec) (hb : c.code = cc) {rt : FieldType} (hr : meth.sig.returnType = some rt) (hrt : (∃ n, rt = .object n) ∨ ∃ t, rt = .array t) (hvv : v = .null ∨ ∃ a, v = .ref a) (hlocks : meth.locks = false) (hB : BQ (some v) s.heap H) (hS : va_S A1 s.heap H locs) (hdg : decode cc pc = .ok (.areturn, 1)) : W p l e R s m args below meth c H locs cells slots (MQ below (tQ BQ A1) args s cells slots A1) (F0 m pc ls [v]) :=
  W.aret hx hb hr hrt hvv (fun t ht _ => ⟨_, rfl, by rw [ht]; exact hB, hS.F ht⟩) hS.2.2 hdg hlocks
theorem t_iret {v : Int32} (hx : p.tables.exec = Jvm.exec) (hb : c.code = cc) {ty : FieldType} (hr : meth.sig.returnType = some ty) (hn : narrow ty (.int v) = .int v) (hlocks : meth.locks = false) (hB : BQ (some (.int v)) s.heap H) (hS : va_S A1 s.heap H locs) (hdg : decode cc pc = .ok (.ireturn, 1)) : W p l e R s m args below meth c H locs cells slots (MQ below (tQ BQ A1) args s cells slots A1) (F0 m pc ls [.int v]) :=
  W.zret hx hb hr hn (fun t ht _ => ⟨_, rfl, by rw [ht]; exact hB, hS.F ht⟩) hS.2.2 hdg hlocks
theorem t_vret (hx : p.tables.exec = Jvm.exec) (hb : c.code = cc) (hr : meth.sig.returnType = none) (hlocks : meth.locks = false) (hB : BQ none s.heap H) (hS : va_S A1 s.heap H locs) (hdg : decode cc pc = .ok (.return_, 1)) : W p l e R s m args below meth c H locs cells slots (MQ below (tQ BQ A1) args s cells slots A1) (F0 m pc ls []) :=
  W.vret hx hb hr (fun t ht _ => ⟨_, rfl, by rw [ht]; exact hB, hS.F ht⟩) hS.2.2 hdg hlocks
/-- it is thrown out of here -/
theorem t_out {q : Nat} {ce : Cell} (hout : ∀ x ∈ c.exceptionTable.toList, False) (hlocks : meth.locks = false) (hcell : H[q]? = some ce) (hv : ce.vm = .none) (hcl : s.vm.findClass RX5 = some ce.cls) (hB : BX q s.heap H) (hS : va_S A1 s.heap H locs) {Qc : Array Value → State → Outcome → State → Prop} (hc : cells ≤ mc) (hs : slots ≤ ms) : vq_W p l e R s m args below meth c H locs cells slots (vq_MQ below Qc (tX BX A1) args s mc ms A1) (F0 m pc ls rest) q :=
  vq_out (fun x hx => (hout x hx).elim) hlocks hcell hv hcl (fun t ht _ => ⟨rfl, by rw [ht]; exact hB, hS.F ht⟩) hS.2.2 hc hs
end CT
/-- a method's walk from its entry: it may throw -/
theorem t_start {l : Launch} {y : MethodName} {cc : ByteArray} {maxL : Nat} {ret : Option FieldType} {rm : Room} {G : gG} {κ : kK} {z : Nat} {av : List Value} {B : Heap → Prop} {Qc : Array Value → State → Outcome → State → Prop} {XC : String → Addr → State → State → Prop} {mc ms : Nat} {free : Addr → Prop} (hy : plainName y.cls = true) (hlen : (lg_sl av).length ≤ maxL)
    (body : ∀ (p : Program) (e : Env) (s : State) (m : MethodId) (below : List Frame) (meth : Method) (c : Code), p.tables.exec = Jvm.exec → c.code = cc → meth.sig.returnType = ret → meth.locks = false → c.maxLocals = maxL → s.vm.findClass y.cls = some m.cls → (∀ w ∈ lw_all, w.before av.toArray s = true) → B s.heap → KK G s → KZ κ z s → (∀ x ∈ c.exceptionTable.toList, False) → ∀ ls : Array Slot, lv_has ls maxL (lv_args 0 av) → W p l e rm s m av.toArray below meth c s.heap [] 0 0 (vq_MQ below Qc XC av.toArray s mc ms free) (F0 m 0 ls [])) :
    vq_Met l y (ws_ y cc maxL ret) rm (cT G κ z av B) Qc XC mc ms free := by
  refine vq_ofW (cc := cc) (maxL := maxL) (ret := ret) hy rfl ?_
  intro p e s m args below meth c s₁ Bd hml htab hv
  obtain ⟨rfl, hB, hK, hZ⟩ := hv
  have hts := atoms_spec (ws := ws_ y cc maxL ret) Bd.pre
  rw [lg_entry_eq]
  exact body p e s m below meth c Bd.exec Bd.bytes Bd.returns Bd.notSynchronized hml (findClass_of_methodNamed Bd.named) (fun w h => hts w (List.mem_cons_of_mem _ h)) hB hK hZ htab _ (lv_entry av hlen)
/-- .. it doesn't throw -/
theorem t_startR {l : Launch} {y : MethodName} {cc : ByteArray} {maxL : Nat} {ret : Option FieldType} {rm : Room} {G : gG} {κ : kK} {z : Nat} {av : List Value} {B : Heap → Prop} {Qc : Array Value → State → Outcome → State → Prop} {mc ms : Nat} {free : Addr → Prop} (hy : plainName y.cls = true) (hlen : (lg_sl av).length ≤ maxL)
    (body : ∀ (p : Program) (e : Env) (s : State) (m : MethodId) (below : List Frame) (meth : Method) (c : Code), p.tables.exec = Jvm.exec → c.code = cc → meth.sig.returnType = ret → meth.locks = false → c.maxLocals = maxL → s.vm.findClass y.cls = some m.cls → (∀ w ∈ lw_all, w.before av.toArray s = true) → B s.heap → KK G s → KZ κ z s → meth.name = y.name → ∀ ls : Array Slot, lv_has ls maxL (lv_args 0 av) → W p l e rm s m av.toArray below meth c s.heap [] 0 0 (MQ below Qc av.toArray s mc ms free) (F0 m 0 ls [])) :
    Met l y (ws_ y cc maxL ret) rm (cT G κ z av B) Qc mc ms free := by
  refine Met.ofW (cc := cc) (maxL := maxL) (ret := ret) hy rfl ?_
  intro p e s m args below meth c s₁ Bd hml hv
  obtain ⟨rfl, hB, hK, hZ⟩ := hv
  have hts := atoms_spec (ws := ws_ y cc maxL ret) Bd.pre
  rw [lg_entry_eq]
  exact body p e s m below meth c Bd.exec Bd.bytes Bd.returns Bd.notSynchronized hml (findClass_of_methodNamed Bd.named) (fun w h => hts w (List.mem_cons_of_mem _ h)) hB hK hZ (name_of_methodNamed Bd.named Bd.method).1 _ (lv_entry av hlen)
