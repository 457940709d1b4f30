/-! requests of a text, as the reader takes them; what is read is a frame -/
set_option maxRecDepth 100000
def wqD (h : Nat → Int32) (q : Nat) (no id : Int32) : Nat × Option rqR :=
  if h q = 82 then (if 0 ≤ h (q + 1) - 48 ∧ h (q + 1) - 48 ≤ 4 then (q + 2, some (no, id, 1, h (q + 1) - 48, 0)) else (q + 1, none))
  else if (hxG h q 8 0 0).1 % 2 = 1 then (q + (hxG h q 8 0 0).1, none) else (q + (hxG h q 8 0 0).1, some (no, id, 0, nI ((hxG h q 8 0 0).1 / 2), (hxG h q 8 0 0).2))
def wqT (h : Nat → Int32) (q : Nat) : Nat × Option rqR :=
  if 0 ≤ h q - 48 ∧ h q - 48 ≤ 3 then
    (if h (q + 1) = 58 then
      (if hexF (h (q + 2)) < 0 then (q + 2, none) else if hexF (h (q + 2)) ≤ 7 then
        (if hexF (h (q + 3)) < 0 then (q + 3, none) else
          (if hexF (h (q + 4)) < 0 then (q + 4, none) else
            (if h (q + 5) = 35 then wqD h (q + 6) (h q - 48) (idT h (q + 2)) else (q + 5, none))))
        else (q + 2, none))
      else (q + 1, none))
    else (q, none)
def rqM (h : Nat → Int32) (w : Nat × Option rqR) : Nat × Option rqR := match w.2 with
  | none => (w.1, none)
  | some t => rqE h w.1 t
theorem rqT_w {h : Nat → Int32} {q : Nat} : rqT h q = rqM h (wqT h q) := by
  unfold rqT wqT
  by_cases h1 : 0 ≤ h q - 48 ∧ h q - 48 ≤ 3
  · rw [if_pos h1, if_pos h1]
    by_cases h2 : h (q + 1) = 58
    · rw [if_pos h2, if_pos h2]
      by_cases h3 : hexF (h (q + 2)) < 0
      · rw [if_pos h3, if_pos h3]; rfl
      · rw [if_neg h3, if_neg h3]
        by_cases h4 : hexF (h (q + 2)) ≤ 7
        · rw [if_pos h4, if_pos h4]
          by_cases h5 : hexF (h (q + 3)) < 0
          · rw [if_pos h5, if_pos h5]; rfl
          · rw [if_neg h5, if_neg h5]
            by_cases h6 : hexF (h (q + 4)) < 0
            · rw [if_pos h6, if_pos h6]; rfl
            · rw [if_neg h6, if_neg h6]
              by_cases h7 : h (q + 5) = 35
              · rw [if_pos h7, if_pos h7]
                unfold rqD wqD
                by_cases h8 : h (q + 6) = 82
                · rw [if_pos h8, if_pos h8]
                  by_cases h9 : 0 ≤ h (q + 6 + 1) - 48 ∧ h (q + 6 + 1) - 48 ≤ 4
                  · rw [if_pos h9, if_pos h9]; rfl
                  · rw [if_neg h9, if_neg h9]; rfl
                · rw [if_neg h8, if_neg h8]
                  by_cases h9 : (hxG h (q + 6) 8 0 0).1 % 2 = 1
                  · rw [if_pos h9, if_pos h9]; rfl
                  · rw [if_neg h9, if_neg h9]; rfl
              · rw [if_neg h7, if_neg h7]; rfl
        · rw [if_neg h4, if_neg h4]; rfl
    · rw [if_neg h2, if_neg h2]; rfl
  · rw [if_neg h1, if_neg h1]; rfl
theorem rqM_n {h : Nat → Int32} {w : Nat × Option rqR} (e : w.2 = none) : rqM h w = (w.1, none) := by
  obtain ⟨a, b⟩ := w
  cases e; rfl
theorem rqM_s {h : Nat → Int32} {w : Nat × Option rqR} {t : rqR} (e : w.2 = some t) : rqM h w = rqE h w.1 t := by
  obtain ⟨a, b⟩ := w
  cases e; rfl
theorem wqT_le {h : Nat → Int32} {q : Nat} : (wqT h q).1 ≤ q + 15 := by
  have h1 := rqT_le (h := h) (q := q)
  rw [rqT_w] at h1
  cases e : (wqT h q).2 with
  | none => rw [rqM_n e] at h1; exact h1
  | some t =>
    rw [rqM_s e] at h1
    unfold rqE at h1
    split at h1
    · have h2 : (wqT h q).1 + 1 ≤ q + 15 := h1
      omega
    · exact h1
/-- the reader's fault: no request, or no ';' behind it -/
theorem rqT_n {h : Nat → Int32} {q : Nat} (e : (wqT h q).2 = none) : rqT h q = ((wqT h q).1, none) := by rw [rqT_w, rqM_n e]
theorem rqT_e {h : Nat → Int32} {q : Nat} {t : rqR} (e : (wqT h q).2 = some t) (h9 : h (wqT h q).1 = 59) : rqT h q = ((wqT h q).1 + 1, some t) := by
  rw [rqT_w, rqM_s e]; unfold rqE; rw [if_pos h9]
theorem rqT_ne {h : Nat → Int32} {q : Nat} {t : rqR} (e : (wqT h q).2 = some t) (h9 : ¬ h (wqT h q).1 = 59) : rqT h q = ((wqT h q).1, none) := by
  rw [rqT_w, rqM_s e]; unfold rqE; rw [if_neg h9]
def wsT (h : Nat → Int32) (lc : Nat) : Nat → Nat → List rqR
  | 0, _ => []
  | F + 1, p => if p < lc then (match (rqT h p).2 with
    | none => []
    | some t => t :: wsT h lc F (rqT h p).1) else []
theorem wsT_go {h : Nat → Int32} {lc F p : Nat} {t : rqR} (h1 : p < lc) (ht : (rqT h p).2 = some t) (hF : 1 ≤ F) : t :: wsT h lc (F - 1) (rqT h p).1 = wsT h lc F p := by
  obtain ⟨F, rfl⟩ : ∃ z, F = z + 1 := ⟨F - 1, by omega⟩
  simp only [wsT, if_pos h1, ht, Nat.add_sub_cancel]
theorem wsT_end {h : Nat → Int32} {lc p : Nat} (h1 : lc ≤ p) : (F : Nat) → wsT h lc F p = []
  | 0 => rfl
  | F + 1 => by simp only [wsT, if_neg (Nat.not_lt.mpr h1)]
theorem ld_ws {h : Nat → Int32} {lc : Nat} (hl : lc ≤ 120) : (F p : Nat) → (s : (Nat → Int32) × Nat) → fltT h lc F p = -5 → ldT h lc F p s = (wsT h lc F p).foldl (fun s t => ldS s.1 s.2 t) s
  | 0, p, s, _ => rfl
  | F + 1, p, s, he => by
    by_cases h1 : p < lc
    · obtain ⟨h2, h3⟩ := fltT_ok h1 hl (by omega) he
      obtain ⟨t, ht⟩ := Option.isSome_iff_exists.mp h2
      rw [← ldT_go h1 ht (by omega), ← wsT_go h1 ht (by omega), List.foldl_cons]
      exact ld_ws hl F _ _ h3
    · rw [ldT_end (by omega), wsT_end (by omega)]; rfl
/-! what is read is a frame -/
theorem hexF_n {c : Int32} (h : ¬ hexF c < 0) : ∃ x, x ≤ 15 ∧ hexF c = nI x := by
  unfold hexF at *
  split at h
  · rename_i h1
    rw [if_pos h1]
    obtain ⟨m, m1, m2⟩ := nI_i32 (n := 57) (y := c) (Int32.le_trans (by decide) h1.1) h1.2 (by decide)
    subst m2
    have h2 := nn_le (a := 48) (by omega) (by omega) h1.1
    exact ⟨m - 48, by omega, nI_s (a := m) (b := 48) (by omega)⟩
  · rename_i h1
    rw [if_neg h1]
    split at h
    · rename_i h3
      rw [if_pos h3]
      obtain ⟨m, m1, m2⟩ := nI_i32 (n := 102) (y := c) (Int32.le_trans (by decide) h3.1) h3.2 (by decide)
      subst m2
      have h2 := nn_le (a := 97) (by omega) (by omega) h3.1
      refine ⟨m - 97 + 10, by omega, ?_⟩
      rw [show nI m - 97 = nI (m - 97) from nI_s (a := m) (b := 97) (by omega)]
      exact nI_a (a := m - 97) (b := 10) rfl
    · exact absurd (by decide) h
theorem hexF_15 {c : Int32} : hexF c ≤ 15 := by
  by_cases h : hexF c < 0
  · exact Int32.le_of_lt (Int32.lt_trans h (by decide))
  · obtain ⟨x, h1, h2⟩ := hexF_n h
    rw [h2]; exact nI_le (a := x) (b := 15) h1 (by omega)
theorem or_n {w x : Nat} (hw : w < 268435456) (hx : x < 16) : nI w <<< ((4 : Int32) &&& 31) ||| nI x = nI (16 * w + x) := by
  rw [pk_shlN ((4 : Int32) &&& 31) 4 (by decide) (by omega)]
  apply Int32.toBitVec_inj.mp
  apply BitVec.eq_of_toNat_eq
  rw [Int32.toBitVec_or, BitVec.toNat_or, pk_tn (by omega), pk_tn (by omega), pk_tn (by omega)]
  rw [← Nat.shiftLeft_eq, ← Nat.shiftLeft_add_eq_or_of_lt (by omega), Nat.shiftLeft_eq]
  omega
theorem hxG_v {h : Nat → Int32} {q : Nat} : (F n w : Nat) → n + F ≤ 8 → w < 16 ^ n → ∃ w', w' < 16 ^ (hxG h q F n (nI w)).1 ∧ (hxG h q F n (nI w)).2 = nI w'
  | 0, n, w, _, hw => ⟨w, hw, rfl⟩
  | F + 1, n, w, hn, hw => by
    simp only [hxG]
    by_cases hc : 0 ≤ hexF (h (q + n))
    · rw [if_pos hc]
      obtain ⟨x, h1, h2⟩ := hexF_n (Int32.not_lt.mpr hc)
      have hp : (16 : Nat) ^ n ≤ 16 ^ 7 := Nat.pow_le_pow_right (by omega) (by omega)
      rw [h2, or_n (by omega) (by omega)]
      refine hxG_v F (n + 1) (16 * w + x) (by omega) ?_
      rw [Nat.pow_succ]; omega
    · rw [if_neg hc]; exact ⟨w, hw, rfl⟩
theorem ushr_0 {w n : Nat} (hn : n ≤ 3) (hw : w < 256 ^ n) : ushr (nI w) (8 * nI n) = 0 := by
  rcases (show n = 0 ∨ n = 1 ∨ n = 2 ∨ n = 3 by omega) with rfl | rfl | rfl | rfl
  · have e : w = 0 := by simpa using hw
    subst e; decide
  · show ((nI w).toUInt32 >>> ((8 : Int32).toUInt32 &&& Int32.toUInt32 31)).toInt32 = 0
    rw [pk_ushrN (by omega) 8 8 (by decide), Nat.div_eq_of_lt (by omega)]; rfl
  · show ((nI w).toUInt32 >>> ((16 : Int32).toUInt32 &&& Int32.toUInt32 31)).toInt32 = 0
    rw [pk_ushrN (by omega) 16 16 (by decide), Nat.div_eq_of_lt (by omega)]; rfl
  · show ((nI w).toUInt32 >>> ((24 : Int32).toUInt32 &&& Int32.toUInt32 31)).toInt32 = 0
    rw [pk_ushrN (by omega) 24 24 (by decide), Nat.div_eq_of_lt (by omega)]; rfl
theorem idT_ok {h : Nat → Int32} {q : Nat} (h1 : ¬ hexF (h q) < 0) (h2 : hexF (h q) ≤ 7) (h3 : ¬ hexF (h (q + 1)) < 0) (h4 : ¬ hexF (h (q + 2)) < 0) : 0 ≤ idT h q ∧ idT h q ≤ 2047 := by
  obtain ⟨a, a1, a2⟩ := hexF_n h1
  obtain ⟨b, b1, b2⟩ := hexF_n h3
  obtain ⟨c, c1, c2⟩ := hexF_n h4
  rw [a2] at h2
  have a3 := nn_le (b := 7) (by omega) (by omega) h2
  have e : idT h q = nI (16 * (16 * a + b) + c) := by
    unfold idT
    rw [a2, b2, c2, Int32.zero_add, show (16 : Int32) * nI a = nI (16 * a) from nI_m (a := 16) rfl, nI_a (a := 16 * a) (b := b) rfl, show (16 : Int32) * nI (16 * a + b) = nI (16 * (16 * a + b)) from nI_m (a := 16) rfl, nI_a (a := 16 * (16 * a + b)) (b := c) rfl]
  rw [e]
  exact ⟨nI_pos' (by omega), nI_le (a := 16 * (16 * a + b) + c) (b := 2047) (by omega) (by omega)⟩
def okR (t : rqR) : Prop := (∃ k, k < 4 ∧ t.1 = nI k) ∧ (t.2.2.1 = 0 ∨ t.2.2.1 = 1) ∧ okF t.2.1 (decide (t.2.2.1 = 1)) t.2.2.2.1 t.2.2.2.2
theorem wqT_ok {h : Nat → Int32} {q : Nat} {t : rqR} (e : (wqT h q).2 = some t) : okR t := by
  unfold wqT at e
  split at e
  · rename_i h1
    split at e
    · split at e
      · cases e
      · rename_i h3
        split at e
        · rename_i h4
          split at e
          · cases e
          · rename_i h5
            split at e
            · cases e
            · rename_i h6
              split at e
              · have hid := idT_ok h3 h4 h5 h6
                have hk := nk_of h1
                unfold wqD at e
                split at e
                · split at e
                  · rename_i h8
                    cases Option.some.inj e
                    refine ⟨hk, Or.inr rfl, hid, h8, Or.inr ?_, fun z => z.2 rfl⟩
                    obtain ⟨m, m1, m2⟩ := nI_i32 (n := 4) h8.1 h8.2 (by decide)
                    show ushr 0 (8 * (h (q + 6 + 1) - 48)) = 0
                    rw [m2]
                    rcases (show m = 0 ∨ m = 1 ∨ m = 2 ∨ m = 3 ∨ m = 4 by omega) with rfl | rfl | rfl | rfl | rfl <;> decide
                  · cases e
                · split at e
                  · cases e
                  · rename_i h8
                    cases Option.some.inj e
                    have h9 := hxG_le (h := h) (q := q + 6) 8 0 0
                    obtain ⟨w, w1, w2⟩ := hxG_v (h := h) (q := q + 6) 8 0 0 (by omega) (by decide)
                    obtain ⟨n, hn⟩ : ∃ z, z = (hxG h (q + 6) 8 0 0).1 := ⟨_, rfl⟩
                    have w1' : w < 16 ^ (hxG h (q + 6) 8 0 0).1 := w1
                    have w2' : (hxG h (q + 6) 8 0 0).2 = nI w := w2
                    rw [← hn] at h8 h9 w1'
                    refine ⟨hk, Or.inl rfl, hid, ⟨nI_pos' (by omega), ?_⟩, ?_, fun z => absurd z.1 (by decide)⟩
                    · show nI ((hxG h (q + 6) 8 0 0).1 / 2) ≤ 4
                      rw [← hn]; exact nI_le (a := n / 2) (b := 4) (by omega) (by omega)
                    · show nI ((hxG h (q + 6) 8 0 0).1 / 2) = 4 ∨ ushr (hxG h (q + 6) 8 0 0).2 (8 * nI ((hxG h (q + 6) 8 0 0).1 / 2)) = 0
                      rw [← hn, w2']
                      by_cases h10 : n / 2 = 4
                      · left; rw [h10]; rfl
                      · right
                        refine ushr_0 (by omega) ?_
                        rw [show n = 2 * (n / 2) by omega, Nat.pow_mul] at w1'
                        exact w1'
              · cases e
        · cases e
    · cases e
  · cases e
/-- what was read so far, and what is still to be read -/
theorem rqT_okR {h : Nat → Int32} {q : Nat} {t : rqR} (e : (rqT h q).2 = some t) : okR t := by
  rw [rqT_w] at e
  cases e1 : (wqT h q).2 with
  | none => rw [rqM_n e1] at e; cases e
  | some t' =>
    rw [rqM_s e1] at e
    obtain ⟨-, -, e3⟩ := rqE_some e
    rw [e3]; exact wqT_ok e1
