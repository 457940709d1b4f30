/-! the law: small laws for its cases -/
set_option maxRecDepth 100000
theorem rng_n {x : Int32} {a b : Nat} (ha : a < 2147483648) (hb : b < 2147483648) (h : nI a ≤ x ∧ x ≤ nI b) : ∃ n, a ≤ n ∧ n ≤ b ∧ x = nI n := by
  obtain ⟨n, n1, n2⟩ := nI_i32 (Int32.le_trans (nI_pos' (n := a) (by omega)) h.1) h.2 hb
  subst n2
  exact ⟨n, nn_le ha (by omega) h.1, n1, rfl⟩
theorem idx_n {y c : Int32} {n m : Nat} (h : 0 ≤ y ∧ y ≤ c - 1) (hc : c = nI m) (hm : m ≤ n) (hn : n < 1000 := by decide) : ∃ i, i < n ∧ y = nI i := by
  subst hc
  cases m with
  | zero => exact absurd (Int32.le_trans h.1 h.2) (by decide)
  | succ m =>
    rw [show nI (m + 1) - 1 = nI m from nI_s (a := m + 1) (b := 1) (by omega)] at h
    obtain ⟨i, i1, i2⟩ := nI_i32 h.1 h.2 (by omega)
    exact ⟨i, by omega, i2⟩
theorem nr_s {c : Int32} {m : Nat} (h : c = nI m) (hm : m ≤ 6) (h0 : ¬ c = 0) : ∃ n, c = nI (n + 1) ∧ n ≤ 5 := by
  cases m with
  | zero => exact absurd h h0
  | succ m => exact ⟨m, h, by omega⟩
theorem grp_n {a b c : Nat} (h1 : 2 ≤ a) (h2 : a < 6) (h3 : 2 ≤ b) (h4 : b < 6) (h5 : 2 ≤ c) (h6 : c < 6) : ∃ t, 2 ≤ t ∧ t < 6 ∧ t ≠ a ∧ t ≠ b ∧ t ≠ c := by
  by_cases q2 : 2 ≠ a ∧ 2 ≠ b ∧ 2 ≠ c
  · exact ⟨2, by omega, by omega, q2.1, q2.2.1, q2.2.2⟩
  · by_cases q3 : 3 ≠ a ∧ 3 ≠ b ∧ 3 ≠ c
    · exact ⟨3, by omega, by omega, q3.1, q3.2.1, q3.2.2⟩
    · by_cases q4 : 4 ≠ a ∧ 4 ≠ b ∧ 4 ≠ c
      · exact ⟨4, by omega, by omega, q4.1, q4.2.1, q4.2.2⟩
      · exact ⟨5, by omega, by omega, by omega, by omega, by omega⟩
theorem pos_n {y : Int32} (h : 0 ≤ y) : ∃ i, i < 2147483648 ∧ y = nI i := nI_of (Int32.not_lt.mpr h)
theorem lg_refl (x : Int64) : lg_cmp x x = 0 := by
  unfold lg_cmp
  simp
theorem upd_tx {f : Nat → Int32} {n : Nat} {x : Int32} (h : ∀ q, 0 ≤ f q ∧ f q ≤ 127) (hx : 0 ≤ x ∧ x ≤ 127) : ∀ q, 0 ≤ upd f n x q ∧ upd f n x q ≤ 127 := by
  intro q
  by_cases z : q = n
  · subst z; rw [pk_us]; exact hx
  · rw [pk_un z]; exact h q
theorem cpy_at {g f : Nat → Int32} {n c : Nat} (h : c < 1310) : cpy g f (1310 * n) 0 1310 (1310 * n + c) = f c := by
  unfold cpy
  rw [if_pos (by omega), show 0 + (1310 * n + c - 1310 * n) = c by omega]
theorem cpy_no {g f : Nat → Int32} {a c : Nat} (h : ¬ (1310 * a ≤ c ∧ c < 1310 * a + 1310)) : cpy g f (1310 * a) 0 1310 c = g c := by
  unfold cpy
  rw [if_neg h]
theorem cpy_at0 {g f : Nat → Int32} {n c : Nat} (h : c < 1310) : cpy f g 0 (1310 * n) 1310 c = g (1310 * n + c) := by
  unfold cpy
  rw [if_pos (by omega), Nat.sub_zero]
theorem msR.g {M : gM} {G : gG} {ms mc : Nat} {g : Nat → Int32} (h : msR M G ms g mc) : ∀ k, k < 4 * mc → g k = nI (evC g k) := by
  obtain ⟨an, C, md, -, -, -, hR⟩ := h
  exact hR.2.2.1
theorem msR.e {M : gM} {G : gG} {ms mc : Nat} {g : Nat → Int32} (h : msR M G ms g mc) : okE (evC g) mc := by
  obtain ⟨an, C, md, -, -, -, hR⟩ := h
  exact hR.2.1
/-- the loop's condition -/
theorem lp_c {L j : Nat} (hL : L ≤ 384) (hj : j ≤ 64) : nI L - 6 < nI (6 * j) ↔ L < 6 * j + 6 := by
  have e1 : (nI L).toInt = L := nI_toInt (by omega)
  have e2 : (nI (6 * j)).toInt = ((6 * j : Nat) : Int) := nI_toInt (by omega)
  have e3 : (nI L - 6).toInt = (L : Int) - 6 := by
    rw [Int32.toInt_sub, e1]
    show ((L : Int) - (6 : Int32).toInt).bmod (2 ^ 32) = _
    rw [show (6 : Int32).toInt = 6 from rfl, Int.bmod_eq_of_le (by omega) (by omega)]
  rw [Int32.lt_iff_toInt_lt, e2, e3]
  omega
