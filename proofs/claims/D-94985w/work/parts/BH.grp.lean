/-! The eight functions together, by the brackets that are open (hand-written) -/
theorem g_step (l : Launch) (G : gG) (κ : kK) (z : Nat) (tp : Nat → Nat) (Xb : Nat → Int32) (r ta t kd o d : Nat) (hXb : ∀ j, j < t → Xb j = sb (tp j) ∧ tp j < 256) (ht : t ≤ 300) (hra : r ≠ ta) (hz : z ≤ r) (hst : l.stackTraces = false) (hkd : kd < 4) (hod : o + d = 8)
    (ihs : ∀ d1, d = d1 + 1 → g_sum l G κ z tp Xb r ta t kd (o + 1) d1) (iho : ∀ d1, d = d1 + 1 → g_one l G κ z tp Xb r ta t kd (o + 1) d1) (iha : ∀ d1, d = d1 + 1 → g_ask l G κ z tp Xb r ta t kd (o + 1) d1) (ihe : ∀ d1, d = d1 + 1 → g_either l G κ z tp Xb r ta t kd (o + 1) d1) :
    g_sum l G κ z tp Xb r ta t kd o d ∧ g_one l G κ z tp Xb r ta t kd o d ∧ g_ask l G κ z tp Xb r ta t kd o d ∧ g_either l G κ z tp Xb r ta t kd o d := by
  have hc := met_X3_choice l G κ z tp Xb r ta t kd o d hXb ht hra hz hst hod ihe ihs
  have h1 := met_X3_one l G κ z tp Xb r ta t kd o d hXb ht hra hz hst hod hkd hc ihs iho
  have hp := met_X3_product l G κ z tp Xb r ta t kd o d hXb ht hra hz hst hod h1
  have hs := met_X3_sum l G κ z tp Xb r ta t kd o d hXb ht hra hz hst hod hp
  have ha := met_X3_ask l G κ z tp Xb r ta t kd o d hXb ht hra hz hst hod hs iha
  have hb := met_X3_both l G κ z tp Xb r ta t kd o d hXb ht hra hz hst hod ha
  have he := met_X3_either l G κ z tp Xb r ta t kd o d hXb ht hra hz hst hod hb
  exact ⟨hs, h1, ha, he⟩
theorem g_all (l : Launch) (G : gG) (κ : kK) (z : Nat) (tp : Nat → Nat) (Xb : Nat → Int32) (r ta t kd : Nat) (hXb : ∀ j, j < t → Xb j = sb (tp j) ∧ tp j < 256) (ht : t ≤ 300) (hra : r ≠ ta) (hz : z ≤ r) (hst : l.stackTraces = false) (hkd : kd < 4) : ∀ d o, o + d = 8 → g_sum l G κ z tp Xb r ta t kd o d ∧ g_one l G κ z tp Xb r ta t kd o d ∧ g_ask l G κ z tp Xb r ta t kd o d ∧ g_either l G κ z tp Xb r ta t kd o d
  | 0, o, h => g_step l G κ z tp Xb r ta t kd o 0 hXb ht hra hz hst hkd h (fun d1 e => absurd e (by omega)) (fun d1 e => absurd e (by omega)) (fun d1 e => absurd e (by omega)) (fun d1 e => absurd e (by omega))
  | d + 1, o, h => by
    have ih := g_all l G κ z tp Xb r ta t kd hXb ht hra hz hst hkd d (o + 1) (by omega)
    refine g_step l G κ z tp Xb r ta t kd o (d + 1) hXb ht hra hz hst hkd h (fun d1 e => ?_) (fun d1 e => ?_) (fun d1 e => ?_) (fun d1 e => ?_)
    all_goals obtain rfl : d = d1 := by omega
    · exact ih.1
    · exact ih.2.1
    · exact ih.2.2.1
    · exact ih.2.2.2
/-- a clause's sum is read: nothing is open -/
theorem met_sum0 (l : Launch) (G : gG) (κ : kK) (z : Nat) (tp : Nat → Nat) (Xb : Nat → Int32) (r ta t kd : Nat) (hXb : ∀ j, j < t → Xb j = sb (tp j) ∧ tp j < 256) (ht : t ≤ 300) (hra : r ≠ ta) (hz : z ≤ r) (hst : l.stackTraces = false) (hkd : kd < 4) : g_sum l G κ z tp Xb r ta t kd 0 8 := (g_all l G κ z tp Xb r ta t kd hXb ht hra hz hst hkd 8 0 rfl).1
