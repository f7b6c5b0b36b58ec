/-! BASE: what the tables say all through a run, contracts by pictures of the heap, rows for whole numbers -/
abbrev gG : Type := (Nat → ClassId) × (Nat → Nat → Nat) × (Nat → ClassId)
def g_cl : List vw_C := [(RX0, TX0, 17), (RX1, TX1, 8), (RX2, TX2, 32), (RX3, TX3, 8), (RX4, TX4, 3), (RX5, TX5, 8), (RX6, TX6, 5), (RX7, TX7, 3), (RX8, TX8, 1), (RX9, TX9, 1), (RX10, TX10, 1), (RX11, TX11, 3), (RX12, TX12, 2), (RX13, TX13, 3), (RX14, TX14, 1), (RJ2, TJ2, 3), (RJ15, TJ15, 1)]
def g_ty (d : Nat → ClassId) : List (ClassId × FieldType) := [(d 0, .int), (d 1, .byte), (d 2, .long), (d 3, .boolean), (d 4, .array .int), (d 5, .array (.array .int)), (d 6, .object "BreathOnLoan$Text"), (d 7, .object "BreathOnLoan$Sum"), (d 8, .object "java/lang/Object"), (d 9, .object "java/lang/String")]
abbrev gD (G : gG) : va_G := (G.1, G.2.1)
/-- words of the tables that ride beside the lists, each with its own law -/
def g_nwOk : Cond → Bool
  | .fieldLinkNest .. => true
  | .methodLinkNest .. => true
  | .castable .. => true
  | .declares .. => true
  | _ => false
def g_NW (U : State) : Prop := ∀ w ∈ lw_tbl, g_nwOk w = true → va_Nw w U
theorem g_nw_warm {w : Cond} (hw : g_nwOk w = true) {s U : State} (hW : s.WarmedH U.vm) (h : va_Nw w s) : va_Nw w U := by
  cases w with
  | fieldLinkNest a i b n d h2 => exact va_Nw.warmF hW h
  | methodLinkNest a i x h2 => exact va_Nw.warmM hW h
  | castable C T => exact va_Nw.warmC hW h
  | declares x => exact va_Nw.warmD hW h
  | _ => cases hw
theorem g_nw_tab {w : Cond} (hw : g_nwOk w = true) : w.onTables = true := by
  cases w with
  | fieldLinkNest a i b n d h2 => rfl
  | methodLinkNest a i x h2 => rfl
  | castable C T => rfl
  | declares x => rfl
  | _ => cases hw
/-- calls through an interface: receiver's class, the interface's method, the method that runs -/
def g_fw : List (String × MethodName × MethodName) :=
  [(RX8, ⟨"BreathOnLoan$Sum", "of", "([I)J"⟩, ⟨RX8, "of", "([I)J"⟩), (RX9, ⟨"BreathOnLoan$Sum", "of", "([I)J"⟩, ⟨RX9, "of", "([I)J"⟩), (RX7, ⟨"BreathOnLoan$Sum", "of", "([I)J"⟩, ⟨RX7, "of", "([I)J"⟩), (RX13, ⟨"BreathOnLoan$Sum", "of", "([I)J"⟩, ⟨RX13, "of", "([I)J"⟩), (RX14, ⟨"BreathOnLoan$Sum", "of", "([I)J"⟩, ⟨RX14, "of", "([I)J"⟩),
   (RX10, ⟨"BreathOnLoan$Asked", "is", "([I)Z"⟩, ⟨RX10, "is", "([I)Z"⟩), (RX11, ⟨"BreathOnLoan$Asked", "is", "([I)Z"⟩, ⟨RX11, "is", "([I)Z"⟩), (RX12, ⟨"BreathOnLoan$Asked", "is", "([I)Z"⟩, ⟨RX12, "is", "([I)Z"⟩)]
def g_FW (U : State) : Prop := ∀ q ∈ g_fw, va_Fw q.1 q.2.1 q.2.2 U
def g_ao : List String := ["BreathOnLoan$Text", "BreathOnLoan$Sum", "java/lang/Object", "java/lang/String"]
def g_AOA (t : FieldType) (U : State) : Prop := (Cond.arrayOver (.array t)).before #[] U = true
theorem g_AOA.moved {t : FieldType} {u U : State} (hvm : u.vm.Alike U.vm) (h : g_AOA t u) : g_AOA t U := by
  have h' := h
  unfold g_AOA Cond.before Cond.holds at h'
  simp only [Cond.value, beq_iff_eq] at h'
  cases hc : u.vm.findClass (FieldType.array t).toString with
  | none => simp [hc] at h'
  | some comp =>
    simp only [hc, Option.bind_some, Option.bind_eq_some_iff, Option.map_eq_some_iff] at h'
    obtain ⟨c, h2, k, hk, hb⟩ := h'
    obtain ⟨k', hk', he⟩ := hvm.2.2 _ _ hk
    have hi : (U.vm.classes.findIdx? fun (x : Class) => match x.kind with | .array component _ => component == comp | _ => false) = some c := by
      refine Eq.trans (va_idx_bare U.vm comp).symm ?_
      first | rw [hvm.bare_eq] | rw [← hvm.bare_eq]
      exact Eq.trans (va_idx_bare u.vm comp) h2
    have f1 : U.vm.findClass (FieldType.array t).toString = some comp := by rw [hvm.findClass]; exact hc
    unfold g_AOA Cond.before Cond.holds
    simp only [Cond.value]
    rw [f1, Option.bind_some]
    refine (congrArg (fun o : Option Nat => (o.bind (fun c => (U.vm.classes[c]?).map fun (k : Class) => match k.kind with | .array _ ty => decide (ty = FieldType.array t) && decide (U.vm.findClass ("[" ++ (FieldType.array t).toString) = some c) | _ => false) == some true)) hi).trans ?_
    rw [Option.bind_some, hk', Option.map_some, he]
    rw [hvm.findClass]
    exact beq_iff_eq.mpr (congrArg some hb)
def KK (G : gG) (U : State) : Prop := va_K (gD G) g_cl (g_ty G.2.2) U ∧ g_NW U ∧ g_FW U ∧ (∀ C ∈ g_ao, va_AO C U) ∧ g_AOA .int U ∧ g_AOA (.array .int) U
theorem KK.warm {G : gG} {s U : State} (hW : s.WarmedH U.vm) (h : KK G s) : KK G U := by
  refine ⟨va_K.moved hW.alike h.1, fun w hw hk => g_nw_warm hk hW (h.2.1 w hw hk), fun q hq => ?_, fun C hC => va_AO.moved hW.alike (h.2.2.2.1 C hC), g_AOA.moved hW.alike h.2.2.2.2.1, g_AOA.moved hW.alike h.2.2.2.2.2⟩
  refine va_Fw.moved ?_ hW.alike (h.2.2.1 q hq)
  have : ∀ q ∈ g_fw, q.2.1.cls ≠ "java/lang/invoke/MethodHandle" ∧ q.2.1.cls ≠ "java/lang/invoke/VarHandle" := by decide +kernel
  exact this q hq
theorem KK.calling {G : gG} {U : State} {g : JFrame} {mk : MethodId} {a : Array Value} (h : KK G U) : KK G (U.calling g mk a) := by
  have hal : U.vm.Alike (U.calling g mk a).vm := Vm.Alike.refl U.vm
  refine ⟨va_K.moved hal h.1, fun w hw hk => va_Nw.same (u := U) (U := U.calling g mk a) (g_nw_tab hk) rfl (h.2.1 w hw hk), fun q hq => ?_, fun C hC => va_AO.moved hal (h.2.2.2.1 C hC), g_AOA.moved hal h.2.2.2.2.1, g_AOA.moved hal h.2.2.2.2.2⟩
  refine va_Fw.moved ?_ hal (h.2.2.1 q hq)
  have : ∀ q ∈ g_fw, q.2.1.cls ≠ "java/lang/invoke/MethodHandle" ∧ q.2.1.cls ≠ "java/lang/invoke/VarHandle" := by decide +kernel
  exact this q hq
/-- a contract's start: the arguments, a picture of the heap -/
def cP (G : gG) (av : List Value) (B : Heap → Prop) : Array Value → State → Prop := va_Pc av (fun U => B U.heap ∧ KK G U)
theorem cP.blind {G : gG} {av : List Value} {B : Heap → Prop} : FrameBlind (cP G av B) := fun _ _ _ _ h => ⟨h.1, h.2.1, KK.calling h.2.2⟩
theorem cP.pre {G : gG} {av : List Value} {B : Heap → Prop} {s : State} {H : Heap} (hK : KK G s) (hB : B H) : PreS s H (cP G av B) av := ⟨cP.blind, fun U hU hW => ⟨rfl, by rw [hU]; exact hB, KK.warm hW hK⟩⟩
theorem cP.preV {G : gG} {b : Nat} {As : List Value} {B : Heap → Prop} {s : State} {H : Heap} {C : String} (hK : KK G s) (hB : B H) (hr : ∃ cellB : Cell, H[b]? = some cellB ∧ cellB.vm.isStatics = false ∧ s.vm.findClass C = some cellB.cls) : PreV s H C b (cP G (.ref b :: As) B) As :=
  ⟨cP.blind, hr, fun U hU hW => ⟨rfl, by rw [hU]; exact hB, KK.warm hW hK⟩⟩
/-- a contract's end: the answer, a picture of the heap, the frame -/
def cQ (v : Option Value) (B : Heap → Prop) (A : Nat → Prop) : Array Value → State → Outcome → State → Prop := fun _ st oc t => oc = .returned v ∧ B t.heap ∧ va_F A st t
/-- the end of a method that only reads -/
def cR (v : Option Value) : Array Value → State → Outcome → State → Prop := fun _ st oc t => oc = .returned v ∧ t.heap = st.heap
/-- the boolean of a proposition -/
noncomputable def bI (c : Prop) : Int32 := @ite _ c (Classical.propDecidable c) 1 0
theorem bI_t {c : Prop} (h : c) : bI c = 1 := by unfold bI; exact if_pos h
theorem bI_f {c : Prop} (h : ¬ c) : bI c = 0 := by unfold bI; exact if_neg h
theorem bI_congr {c d : Prop} (h : c ↔ d) : bI c = bI d := by rw [propext h]
section BR
variable {p : Program} {l : Launch} {e : Env} {R : Room} {s : State} {m : MethodId} {args : Array Value} {below : List Frame} {meth : Method} {c : Code} {H : Heap} {locs : List Loc} {cells slots : Nat} {Q : State → Prop}
variable {cc : ByteArray} {pc : Nat} {ls : Array Slot} {rest st0 : List Value} {A0 A1 : Nat → Prop} {H0 : Heap} {mc ms : Nat} {free : Addr → Prop} {a : Array Value}
theorem c_call {v : Option Value} {B : Heap → Prop} (hr : va_Run p l e R s m args below meth c H locs cells slots mc ms (F0 m pc ls st0) rest (cQ v B A1 a) free) (hS : va_S A0 H0 H locs) (hA : ∀ q, q < H.size → A1 q → A0 q) (hf : ∀ q, free q → A0 q)
    (kk : ∀ (H1 : Heap) (locs1 : List Loc), B H1 → H.size ≤ H1.size → (∀ q : Nat, q < H.size → ¬ A1 q → H1[q]? = H[q]?) → va_S A0 H0 H1 locs1 → W p l e R s m args below meth c H1 locs1 (cells + mc) (slots + ms) Q (F0 m (pc + 3) ls (v.toList ++ rest))) : W p l e R s m args below meth c H locs cells slots Q (F0 m pc ls st0) := by
  intro T hT X
  obtain ⟨v', st₀, t, T', L, h0, X', hL, e1, e2, ⟨hv, hb, hz, hk⟩, st⟩ := hr T hT X
  cases hv
  rw [h0] at hz hk
  obtain ⟨t2, a1, b1⟩ := kk T'.heap (locs ++ L) (by rw [e1]; exact hb) (by rw [e1]; exact hz) (fun q h1 h2 => by rw [e1]; exact hk q h1 h2)
    ⟨Nat.le_trans hS.1 (by rw [e1]; exact hz), fun q h1 h2 => by rw [e1, hk q (Nat.lt_of_lt_of_le h1 hS.1) (fun z => h2 (hA q (Nat.lt_of_lt_of_le h1 hS.1) z))]; exact hS.2.1 q h1 h2, fun q hq => by
      rcases List.mem_append.mp hq with h | h
      · exact hS.2.2 q h
      · exact hf _ (hL q h)⟩ T' rfl X'
  exact ⟨t2, st t2 a1, b1⟩
theorem c_read {v : Option Value} (hr : va_Run p l e R s m args below meth c H locs cells slots 0 0 (F0 m pc ls st0) rest (cR v a) (fun _ => False))
    (kk : W p l e R s m args below meth c H locs cells slots Q (F0 m (pc + 3) ls (v.toList ++ rest))) : W p l e R s m args below meth c H locs cells slots Q (F0 m pc ls st0) := by
  intro T hT X
  obtain ⟨v', st₀, t, T', L, h0, X', hL, e1, e2, ⟨hv, hh⟩, st⟩ := hr T hT X
  cases hv
  obtain ⟨t2, a1, b1⟩ := kk T' (by rw [e1, hh, h0]) (Stand.forget X' (fun q h => (hL q h).elim))
  exact ⟨t2, st t2 a1, b1⟩
-- ===== whole numbers that are natural =====
theorem n_lit (n : Nat) (h : n < 2 ^ 31) : Int32.ofInt (n : Int) = nI n := by
  show Int32.ofInt (n : Int) = Int32.ofNat n
  exact Int32.ofInt_eq_ofNat
theorem n_iadd (hx : p.tables.exec = Jvm.exec) (hb : c.code = cc) {a b : Nat} (hdg : decode cc pc = .ok (.iadd, 1)) (k : W p l e R s m args below meth c H locs cells slots Q (F0 m (pc + 1) ls (.int (nI (a + b)) :: rest))) : W p l e R s m args below meth c H locs cells slots Q (F0 m pc ls (.int (nI b) :: .int (nI a) :: rest)) :=
  lv_iadd hx hb hdg (by rw [nI_add]; exact k)
theorem n_imul (hx : p.tables.exec = Jvm.exec) (hb : c.code = cc) {a b : Nat} (hdg : decode cc pc = .ok (.imul, 1)) (k : W p l e R s m args below meth c H locs cells slots Q (F0 m (pc + 1) ls (.int (nI (a * b)) :: rest))) : W p l e R s m args below meth c H locs cells slots Q (F0 m pc ls (.int (nI b) :: .int (nI a) :: rest)) :=
  lv_imul hx hb hdg (by rw [pk_mul]; exact k)
theorem n_isub (hx : p.tables.exec = Jvm.exec) (hb : c.code = cc) {a b : Nat} (h : b ≤ a) (hdg : decode cc pc = .ok (.isub, 1)) (k : W p l e R s m args below meth c H locs cells slots Q (F0 m (pc + 1) ls (.int (nI (a - b)) :: rest))) : W p l e R s m args below meth c H locs cells slots Q (F0 m pc ls (.int (nI b) :: .int (nI a) :: rest)) :=
  lv_isub hx hb hdg (by rw [pk_sub h]; exact k)
theorem n_idiv (hx : p.tables.exec = Jvm.exec) (hb : c.code = cc) {a b : Nat} (ha : a < 2 ^ 31) (h0 : 0 < b) (hb2 : b < 2 ^ 31) (hdg : decode cc pc = .ok (.idiv, 1)) (k : W p l e R s m args below meth c H locs cells slots Q (F0 m (pc + 1) ls (.int (nI (a / b)) :: rest))) : W p l e R s m args below meth c H locs cells slots Q (F0 m pc ls (.int (nI b) :: .int (nI a) :: rest)) :=
  lv_idiv hx hb hdg (nI_ne0 h0 hb2) (by rw [pk_div ha h0 hb2]; exact k)
theorem n_irem (hx : p.tables.exec = Jvm.exec) (hb : c.code = cc) {a b : Nat} (ha : a < 2 ^ 31) (h0 : 0 < b) (hb2 : b < 2 ^ 31) (hdg : decode cc pc = .ok (.irem, 1)) (k : W p l e R s m args below meth c H locs cells slots Q (F0 m (pc + 1) ls (.int (nI (a % b)) :: rest))) : W p l e R s m args below meth c H locs cells slots Q (F0 m pc ls (.int (nI b) :: .int (nI a) :: rest)) :=
  lv_irem hx hb hdg (nI_ne0 h0 hb2) (by rw [pk_rem ha h0 hb2]; exact k)
theorem n_inc (a k : Nat) : nI a + Int32.ofInt (k : Int) = nI (a + k) := by
  rw [show Int32.ofInt (k : Int) = nI k from Int32.ofInt_eq_ofNat, nI_add]
theorem n_icmp_eq (hx : p.tables.exec = Jvm.exec) (hb : c.code = cc) {a b : Nat} {off : Int} {tgt : Nat} (hdg : decode cc pc = .ok (.if_icmp .eq off, 3)) (ht : (pc : Int) + off = (tgt : Int)) (ha : a < 2 ^ 31) (hb2 : b < 2 ^ 31)
    (kt : a = b → W p l e R s m args below meth c H locs cells slots Q (F0 m tgt ls rest)) (kf : ¬ a = b → W p l e R s m args below meth c H locs cells slots Q (F0 m (pc + 3) ls rest)) : W p l e R s m args below meth c H locs cells slots Q (F0 m pc ls (.int (nI b) :: .int (nI a) :: rest)) :=
  lv_icmp_eq hx hb hdg ht (fun h => kt ((nI_eq ha hb2).mp h)) (fun h => kf (fun q => h (by rw [q])))
theorem n_icmp_ne (hx : p.tables.exec = Jvm.exec) (hb : c.code = cc) {a b : Nat} {off : Int} {tgt : Nat} (hdg : decode cc pc = .ok (.if_icmp .ne off, 3)) (ht : (pc : Int) + off = (tgt : Int)) (ha : a < 2 ^ 31) (hb2 : b < 2 ^ 31)
    (kt : ¬ a = b → W p l e R s m args below meth c H locs cells slots Q (F0 m tgt ls rest)) (kf : a = b → W p l e R s m args below meth c H locs cells slots Q (F0 m (pc + 3) ls rest)) : W p l e R s m args below meth c H locs cells slots Q (F0 m pc ls (.int (nI b) :: .int (nI a) :: rest)) :=
  lv_icmp_ne hx hb hdg ht (fun h => kt (fun q => h (by rw [q]))) (fun h => kf ((nI_eq ha hb2).mp h))
theorem n_icmp_lt (hx : p.tables.exec = Jvm.exec) (hb : c.code = cc) {a b : Nat} {off : Int} {tgt : Nat} (hdg : decode cc pc = .ok (.if_icmp .lt off, 3)) (ht : (pc : Int) + off = (tgt : Int)) (ha : a < 2 ^ 31) (hb2 : b < 2 ^ 31)
    (kt : a < b → W p l e R s m args below meth c H locs cells slots Q (F0 m tgt ls rest)) (kf : b ≤ a → W p l e R s m args below meth c H locs cells slots Q (F0 m (pc + 3) ls rest)) : W p l e R s m args below meth c H locs cells slots Q (F0 m pc ls (.int (nI b) :: .int (nI a) :: rest)) :=
  lv_icmp_lt hx hb hdg ht (fun h => kt ((nI_ltI ha hb2).mp h)) (fun h => kf (Nat.le_of_not_lt (fun q => h ((nI_ltI ha hb2).mpr q))))
theorem n_icmp_ge (hx : p.tables.exec = Jvm.exec) (hb : c.code = cc) {a b : Nat} {off : Int} {tgt : Nat} (hdg : decode cc pc = .ok (.if_icmp .ge off, 3)) (ht : (pc : Int) + off = (tgt : Int)) (ha : a < 2 ^ 31) (hb2 : b < 2 ^ 31)
    (kt : b ≤ a → W p l e R s m args below meth c H locs cells slots Q (F0 m tgt ls rest)) (kf : a < b → W p l e R s m args below meth c H locs cells slots Q (F0 m (pc + 3) ls rest)) : W p l e R s m args below meth c H locs cells slots Q (F0 m pc ls (.int (nI b) :: .int (nI a) :: rest)) :=
  lv_icmp_ge hx hb hdg ht (fun h => kt ((nI_leI hb2 ha).mp h)) (fun h => kf (Nat.lt_of_not_le (fun q => h ((nI_leI hb2 ha).mpr q))))
theorem n_icmp_gt (hx : p.tables.exec = Jvm.exec) (hb : c.code = cc) {a b : Nat} {off : Int} {tgt : Nat} (hdg : decode cc pc = .ok (.if_icmp .gt off, 3)) (ht : (pc : Int) + off = (tgt : Int)) (ha : a < 2 ^ 31) (hb2 : b < 2 ^ 31)
    (kt : b < a → W p l e R s m args below meth c H locs cells slots Q (F0 m tgt ls rest)) (kf : a ≤ b → W p l e R s m args below meth c H locs cells slots Q (F0 m (pc + 3) ls rest)) : W p l e R s m args below meth c H locs cells slots Q (F0 m pc ls (.int (nI b) :: .int (nI a) :: rest)) :=
  lv_icmp_gt hx hb hdg ht (fun h => kt ((nI_ltI hb2 ha).mp h)) (fun h => kf (Nat.le_of_not_lt (fun q => h ((nI_ltI hb2 ha).mpr q))))
theorem n_icmp_le (hx : p.tables.exec = Jvm.exec) (hb : c.code = cc) {a b : Nat} {off : Int} {tgt : Nat} (hdg : decode cc pc = .ok (.if_icmp .le off, 3)) (ht : (pc : Int) + off = (tgt : Int)) (ha : a < 2 ^ 31) (hb2 : b < 2 ^ 31)
    (kt : a ≤ b → W p l e R s m args below meth c H locs cells slots Q (F0 m tgt ls rest)) (kf : b < a → W p l e R s m args below meth c H locs cells slots Q (F0 m (pc + 3) ls rest)) : W p l e R s m args below meth c H locs cells slots Q (F0 m pc ls (.int (nI b) :: .int (nI a) :: rest)) :=
  lv_icmp_le hx hb hdg ht (fun h => kt ((nI_leI ha hb2).mp h)) (fun h => kf (Nat.lt_of_not_le (fun q => h ((nI_leI ha hb2).mpr q))))
theorem n_if_eq (hx : p.tables.exec = Jvm.exec) (hb : c.code = cc) {a : Nat} {off : Int} {tgt : Nat} (hdg : decode cc pc = .ok (.ifCond .eq off, 3)) (ht : (pc : Int) + off = (tgt : Int)) (ha : a < 2 ^ 31)
    (kt : a = 0 → W p l e R s m args below meth c H locs cells slots Q (F0 m tgt ls rest)) (kf : 0 < a → W p l e R s m args below meth c H locs cells slots Q (F0 m (pc + 3) ls rest)) : W p l e R s m args below meth c H locs cells slots Q (F0 m pc ls (.int (nI a) :: rest)) :=
  lv_if_eq hx hb hdg ht (fun h => kt ((nI_eq ha (by decide)).mp (h.trans nI_0.symm))) (fun h => kf (Nat.pos_of_ne_zero (fun q => h (by rw [q]; exact nI_0))))
theorem n_if_ne (hx : p.tables.exec = Jvm.exec) (hb : c.code = cc) {a : Nat} {off : Int} {tgt : Nat} (hdg : decode cc pc = .ok (.ifCond .ne off, 3)) (ht : (pc : Int) + off = (tgt : Int)) (ha : a < 2 ^ 31)
    (kt : 0 < a → W p l e R s m args below meth c H locs cells slots Q (F0 m tgt ls rest)) (kf : a = 0 → W p l e R s m args below meth c H locs cells slots Q (F0 m (pc + 3) ls rest)) : W p l e R s m args below meth c H locs cells slots Q (F0 m pc ls (.int (nI a) :: rest)) :=
  lv_if_ne hx hb hdg ht (fun h => kt (Nat.pos_of_ne_zero (fun q => h (by rw [q]; exact nI_0)))) (fun h => kf ((nI_eq ha (by decide)).mp (h.trans nI_0.symm)))
theorem n_if_le (hx : p.tables.exec = Jvm.exec) (hb : c.code = cc) {a : Nat} {off : Int} {tgt : Nat} (hdg : decode cc pc = .ok (.ifCond .le off, 3)) (ht : (pc : Int) + off = (tgt : Int)) (ha : a < 2 ^ 31)
    (kt : a = 0 → W p l e R s m args below meth c H locs cells slots Q (F0 m tgt ls rest)) (kf : 0 < a → W p l e R s m args below meth c H locs cells slots Q (F0 m (pc + 3) ls rest)) : W p l e R s m args below meth c H locs cells slots Q (F0 m pc ls (.int (nI a) :: rest)) :=
  lv_if_le hx hb hdg ht (fun h => kt (Nat.le_zero.mp ((nI_leI ha (by decide)).mp (by rw [nI_0]; exact h)))) (fun h => kf (Nat.pos_of_ne_zero (fun q => h (by rw [q, nI_0]; exact Int32.le_refl 0))))
theorem n_if_gt (hx : p.tables.exec = Jvm.exec) (hb : c.code = cc) {a : Nat} {off : Int} {tgt : Nat} (hdg : decode cc pc = .ok (.ifCond .gt off, 3)) (ht : (pc : Int) + off = (tgt : Int)) (ha : a < 2 ^ 31)
    (kt : 0 < a → W p l e R s m args below meth c H locs cells slots Q (F0 m tgt ls rest)) (kf : a = 0 → W p l e R s m args below meth c H locs cells slots Q (F0 m (pc + 3) ls rest)) : W p l e R s m args below meth c H locs cells slots Q (F0 m pc ls (.int (nI a) :: rest)) :=
  lv_if_gt hx hb hdg ht (fun h => kt ((nI_ltI (by decide) ha).mp (by rw [nI_0]; exact h))) (fun h => kf (Nat.eq_zero_of_not_pos (fun q => h (by have := (nI_ltI (by decide) ha).mpr q; rw [nI_0] at this; exact this))))
theorem n_if_lt (hx : p.tables.exec = Jvm.exec) (hb : c.code = cc) {a : Nat} {off : Int} {tgt : Nat} (hdg : decode cc pc = .ok (.ifCond .lt off, 3)) (ht : (pc : Int) + off = (tgt : Int)) (ha : a < 2 ^ 31)
    (kf : W p l e R s m args below meth c H locs cells slots Q (F0 m (pc + 3) ls rest)) : W p l e R s m args below meth c H locs cells slots Q (F0 m pc ls (.int (nI a) :: rest)) :=
  lv_if_lt hx hb hdg ht (fun h => absurd h (nI_pos ha)) (fun _ => kf)
theorem n_if_ge (hx : p.tables.exec = Jvm.exec) (hb : c.code = cc) {a : Nat} {off : Int} {tgt : Nat} (hdg : decode cc pc = .ok (.ifCond .ge off, 3)) (ht : (pc : Int) + off = (tgt : Int)) (ha : a < 2 ^ 31)
    (kt : W p l e R s m args below meth c H locs cells slots Q (F0 m tgt ls rest)) : W p l e R s m args below meth c H locs cells slots Q (F0 m pc ls (.int (nI a) :: rest)) :=
  lv_if_ge hx hb hdg ht (fun _ => kt) (fun h => absurd (nI_pos' ha) h)
-- ===== booleans =====
theorem b_if_eq (hx : p.tables.exec = Jvm.exec) (hb : c.code = cc) {P : Prop} {off : Int} {tgt : Nat} (hdg : decode cc pc = .ok (.ifCond .eq off, 3)) (ht : (pc : Int) + off = (tgt : Int))
    (kt : ¬ P → W p l e R s m args below meth c H locs cells slots Q (F0 m tgt ls rest)) (kf : P → W p l e R s m args below meth c H locs cells slots Q (F0 m (pc + 3) ls rest)) : W p l e R s m args below meth c H locs cells slots Q (F0 m pc ls (.int (bI P) :: rest)) :=
  lv_if_eq hx hb hdg ht (fun h => kt (fun q => by rw [bI_t q] at h; exact absurd h (by decide))) (fun h => kf (Classical.byContradiction fun q => h (bI_f q)))
theorem b_if_ne (hx : p.tables.exec = Jvm.exec) (hb : c.code = cc) {P : Prop} {off : Int} {tgt : Nat} (hdg : decode cc pc = .ok (.ifCond .ne off, 3)) (ht : (pc : Int) + off = (tgt : Int))
    (kt : P → W p l e R s m args below meth c H locs cells slots Q (F0 m tgt ls rest)) (kf : ¬ P → W p l e R s m args below meth c H locs cells slots Q (F0 m (pc + 3) ls rest)) : W p l e R s m args below meth c H locs cells slots Q (F0 m pc ls (.int (bI P) :: rest)) :=
  lv_if_ne hx hb hdg ht (fun h => kt (Classical.byContradiction fun q => h (bI_f q))) (fun h => kf (fun q => by rw [bI_t q] at h; exact absurd h (by decide)))
-- ===== ends =====
theorem c_iret {v v' : Int32} (hv : v = v') (hx : p.tables.exec = Jvm.exec) (hb : c.code = cc) {ty : FieldType} (hr : meth.sig.returnType = some ty) (hn : narrow ty (.int v) = .int v) (hlocks : meth.locks = false) {B : Heap → Prop} {A : Nat → Prop} (hB : B H) (hS : va_S A s.heap H locs) (hdg : decode cc pc = .ok (.ireturn, 1)) : W p l e R s m args below meth c H locs cells slots (MQ below (cQ (some (.int v')) B A) args s cells slots A) (F0 m pc ls [.int v]) :=
  W.zret hx hb hr hn (fun t ht _ => ⟨by rw [hv], by rw [ht]; exact hB, hS.F ht⟩) hS.2.2 hdg hlocks
theorem c_rret {v v' : Int32} (hv : v = v') (hx : p.tables.exec = Jvm.exec) (hb : c.code = cc) {ty : FieldType} (hr : meth.sig.returnType = some ty) (hn : narrow ty (.int v) = .int v) (hlocks : meth.locks = false) (hdg : decode cc pc = .ok (.ireturn, 1)) (hH : H = s.heap) (hl : locs = []) : W p l e R s m args below meth c H locs cells slots (MQ below (cR (some (.int v'))) args s cells slots (fun _ => False)) (F0 m pc ls [.int v]) :=
  W.zret hx hb hr hn (fun t ht _ => ⟨by rw [hv], by rw [ht]; exact hH⟩) (by rw [hl]; intro q hq; cases hq) hdg hlocks
theorem c_vret (hx : p.tables.exec = Jvm.exec) (hb : c.code = cc) (hr : meth.sig.returnType = none) (hlocks : meth.locks = false) {B : Heap → Prop} {A : Nat → Prop} (hB : B H) (hS : va_S A s.heap H locs) (hdg : decode cc pc = .ok (.return_, 1)) : W p l e R s m args below meth c H locs cells slots (MQ below (cQ none B A) args s cells slots A) (F0 m pc ls []) :=
  W.vret hx hb hr (fun t ht _ => ⟨rfl, by rw [ht]; exact hB, hS.F ht⟩) hS.2.2 hdg hlocks
theorem c_lret {v v' : Int64} (hv : v = v') (hx : p.tables.exec = Jvm.exec) (hb : c.code = cc) (hr : meth.sig.returnType = some .long) (hlocks : meth.locks = false) {B : Heap → Prop} {A : Nat → Prop} (hB : B H) (hS : va_S A s.heap H locs) (hdg : decode cc pc = .ok (.lreturn, 1)) : W p l e R s m args below meth c H locs cells slots (MQ below (cQ (some (.long v')) B A) args s cells slots A) (F0 m pc ls [.long v]) :=
  W.lret hx hb hr (fun t ht _ => ⟨by rw [hv], by rw [ht]; exact hB, hS.F ht⟩) hS.2.2 hdg hlocks
theorem c_rlret {v v' : Int64} (hv : v = v') (hx : p.tables.exec = Jvm.exec) (hb : c.code = cc) (hr : meth.sig.returnType = some .long) (hlocks : meth.locks = false) (hdg : decode cc pc = .ok (.lreturn, 1)) (hH : H = s.heap) (hl : locs = []) : W p l e R s m args below meth c H locs cells slots (MQ below (cR (some (.long v'))) args s cells slots (fun _ => False)) (F0 m pc ls [.long v]) :=
  W.lret hx hb hr (fun t ht _ => ⟨by rw [hv], by rw [ht]; exact hH⟩) (by rw [hl]; intro q hq; cases hq) hdg hlocks
end BR
/-- two steps: array k, place j -/
def up2 {α : Type} (M : Nat → Nat → α) (k j : Nat) (x : α) : Nat → Nat → α := fun k' => if k' = k then (fun j' => if j' = j then x else M k j') else M k'
theorem up2_at {α : Type} {M : Nat → Nat → α} {k j : Nat} {x : α} : up2 M k j x k j = x := by simp [up2]
theorem up2_ne {α : Type} {M : Nat → Nat → α} {k j k' j' : Nat} {x : α} (h : k' ≠ k ∨ j' ≠ j) : up2 M k j x k' j' = M k' j' := by
  unfold up2
  by_cases hk : k' = k
  · subst hk
    rcases h with h | h
    · exact absurd rfl h
    · simp [h]
  · simp [hk]
theorem up2_eq {α : Type} (M : Nat → Nat → α) (k j k' j' : Nat) (x : α) : up2 M k j x k' j' = if k' = k ∧ j' = j then x else M k' j' := by
  unfold up2
  by_cases hk : k' = k
  · subst hk
    by_cases hj : j' = j <;> simp [hj]
  · simp [hk]
