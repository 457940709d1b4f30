/-! the answers: remove -/
set_option maxRecDepth 100000
theorem trem_mem {C : List (Int32 × Nat)} {k : Int32} {e : Int32 × Nat} : e ∈ trem C k ↔ e ∈ C ∧ ¬ e.1 = k := by
  unfold trem
  rw [List.mem_filter, decide_eq_true_eq]
theorem trem_no {C : List (Int32 × Nat)} {k : Int32} (h : ∀ e ∈ C, ¬ e.1 = k) : trem C k = C := by
  unfold trem
  exact List.filter_eq_self.mpr (fun e he => decide_eq_true (h e he))
theorem trem_len {k : Int32} : ∀ (C : List (Int32 × Nat)), srtC C → (∃ e ∈ C, e.1 = k) → (trem C k).length + 1 = C.length
  | [], _, h => by obtain ⟨e, he, -⟩ := h; cases he
  | d :: C, hs, h => by
    have hp := List.pairwise_cons.mp hs
    by_cases h2 : d.1 = k
    · have e : trem (d :: C) k = C := by
        unfold trem
        rw [List.filter_cons_of_neg (by simp [h2])]
        exact trem_no (fun e he z => i32lt_ne (hp.1 e he) (h2.trans z.symm))
      rw [e, List.length_cons]
    · have e : trem (d :: C) k = d :: trem C k := by
        unfold trem
        rw [List.filter_cons_of_pos (by simp [h2])]
      have h3 : ∃ e ∈ C, e.1 = k := by
        obtain ⟨e, he, q⟩ := h
        rcases List.mem_cons.mp he with a | a
        · exact absurd (a ▸ q) h2
        · exact ⟨e, a, q⟩
      rw [e, List.length_cons, List.length_cons, trem_len C hp.2 h3]
theorem rA.rem {f : Nat → Int32} {k : Nat} {C : List (Int32 × Nat)} {ad : Nat → Int32 × Int32} {id : Int32} (h : rA f k C ad) : rA (T_rAns f k id C.length) k (trem C id) ad := by
  have h0 := h
  obtain ⟨h1, h2, h3, h4, h5, h6, h7⟩ := h
  rcases rA.ans (id := id) h0 with ⟨g1, g2⟩ | ⟨p0, m, g1, g2, g3, g4, hid, -, -, hm0⟩
  · have eT : T_rAns f k id C.length = f := by unfold T_rAns; rw [if_pos g2]
    rw [eT, trem_no (tget_none g1)]
    exact h0
  · have hm : (ansT f k id C.length 0).toNatClampNeg = m := by rw [g3]; exact nI_clamp (by omega)
    have eT : T_rAns f k id C.length = cpT (upd f (256 * k + 25) (nI (C.length - 1))) 3 (256 * k + 3 * m + 74) (3 * (C.length - 1) - 3 * m) := by unfold T_rAns; rw [if_neg g4, hm]
    have hl := trem_len (k := id) C h1 ⟨_, hm0, rfl⟩
    rw [eT]
    have rd : ∀ i a, a < 3 → i < C.length - 1 → cpT (upd f (256 * k + 25) (nI (C.length - 1))) 3 (256 * k + 3 * m + 74) (3 * (C.length - 1) - 3 * m) (256 * k + 3 * i + (74 + a)) = f (256 * k + 3 * (if m ≤ i then i + 1 else i) + (74 + a)) := by
      intro i a ha hi
      rw [cpT_rd (by omega)]
      by_cases z : m ≤ i
      · rw [if_pos z, if_pos (by omega), pk_un (by omega)]
        congr 1
        omega
      · rw [if_neg z, if_neg (by omega), pk_un (by omega)]
    have r0 : ∀ i, i < C.length - 1 → cpT (upd f (256 * k + 25) (nI (C.length - 1))) 3 (256 * k + 3 * m + 74) (3 * (C.length - 1) - 3 * m) (256 * k + 3 * i + 74) = f (256 * k + 3 * (if m ≤ i then i + 1 else i) + 74) := fun i hi => rd i 0 (by omega) hi
    have r1 : ∀ i, i < C.length - 1 → cpT (upd f (256 * k + 25) (nI (C.length - 1))) 3 (256 * k + 3 * m + 74) (3 * (C.length - 1) - 3 * m) (256 * k + 3 * i + 75) = f (256 * k + 3 * (if m ≤ i then i + 1 else i) + 75) := fun i hi => rd i 1 (by omega) hi
    have r2 : ∀ i, i < C.length - 1 → cpT (upd f (256 * k + 25) (nI (C.length - 1))) 3 (256 * k + 3 * m + 74) (3 * (C.length - 1) - 3 * m) (256 * k + 3 * i + 76) = f (256 * k + 3 * (if m ≤ i then i + 1 else i) + 76) := fun i hi => rd i 2 (by omega) hi
    have ph : ∀ i, i < C.length - 1 → (if m ≤ i then i + 1 else i) < C.length ∧ (if m ≤ i then i + 1 else i) ≠ m := fun i hi => by split <;> omega
    refine ⟨?_, by omega, ?_, fun e he => ?_, fun i hi => ?_, fun i j hi hj hij => ?_, fun e he => h7 e (trem_mem.mp he).1⟩
    · unfold trem; exact h1.sublist List.filter_sublist
    · rw [cpT_rd (by omega), if_neg (by omega), show (trem C id).length = C.length - 1 by omega]
      exact pk_us
    · obtain ⟨a1, a2⟩ := trem_mem.mp he
      obtain ⟨i, hi, q⟩ := h4 e a1
      have him : ¬ i = m := fun z => a2 (by rw [← q.1, z]; exact hid)
      rcases Nat.lt_or_ge i m with z | z
      · refine ⟨i, by omega, ?_⟩
        rw [r0 i (by omega), r1 i (by omega), r2 i (by omega), if_neg (by omega)]
        exact q
      · refine ⟨i - 1, by omega, ?_⟩
        rw [r0 (i - 1) (by omega), r1 (i - 1) (by omega), r2 (i - 1) (by omega), if_pos (by omega), show i - 1 + 1 = i by omega]
        exact q
    · have hi' : i < C.length - 1 := by omega
      rw [r0 i hi']
      obtain ⟨e, he, q⟩ := h5 _ (ph i hi').1
      refine ⟨e, trem_mem.mpr ⟨he, fun w => (ph i hi').2 (h6 _ m (ph i hi').1 g2 ?_)⟩, q⟩
      rw [q, w, hid]
    · have hi' : i < C.length - 1 := by omega
      have hj' : j < C.length - 1 := by omega
      rw [r0 i hi', r0 j hj'] at hij
      have := h6 _ _ (ph i hi').1 (ph j hj').1 hij
      split at this <;> split at this <;> omega
theorem loc_sAw {k m : Nat} {F f : Nat → Int32} {id ln da : Int32} (h : loc k F f) (hm : m ≤ 3) : loc k (T_sAw F k m id ln da) f := ((h.u (by omega) (by omega)).u (by omega) (by omega)).u (by omega) (by omega)
theorem sAns_o {f : Nat → Int32} {k n : Nat} {id ln da : Int32} (hn : n ≤ 4) : (∀ c, c < 256 → c ≠ 25 → (c < 74 ∨ 86 ≤ c) → T_sAns f k id ln da n (256 * k + c) = f (256 * k + c)) ∧ loc k (T_sAns f k id ln da n) f := by
  unfold T_sAns
  by_cases h1 : ansT f k id n 0 < 0
  · rw [if_pos h1]
    by_cases h2 : n = 4
    · rw [if_pos h2]; exact ⟨fun c _ _ _ => rfl, loc.rf⟩
    · rw [if_neg h2]
      exact ⟨fun c a b d => by rw [sAw_o (by omega) (by omega), pk_un (by omega)], loc_sAw (loc.rf.u (by omega) (by omega)) (by omega)⟩
  · rw [if_neg h1]
    rcases ansT_spec (f := f) (k := k) (id := id) n 0 with ⟨m', a1, a2, a3, a4⟩ | ⟨a1, a2⟩
    · have hm : (ansT f k id n 0).toNatClampNeg = m' := by rw [a4]; exact nI_clamp (by omega)
      rw [hm]
      exact ⟨fun c a b d => sAw_o (by omega) (by omega), loc_sAw loc.rf (by omega)⟩
    · rw [a2] at h1; exact absurd (by decide) h1
theorem rAns_o {f : Nat → Int32} {k n : Nat} {id : Int32} (hn : n ≤ 4) : (∀ c, c < 256 → c ≠ 25 → (c < 74 ∨ 86 ≤ c) → T_rAns f k id n (256 * k + c) = f (256 * k + c)) ∧ loc k (T_rAns f k id n) f := by
  unfold T_rAns
  by_cases h1 : ansT f k id n 0 < 0
  · rw [if_pos h1]; exact ⟨fun c _ _ _ => rfl, loc.rf⟩
  · rw [if_neg h1]
    rcases ansT_spec (f := f) (k := k) (id := id) n 0 with ⟨m', a1, a2, a3, a4⟩ | ⟨a1, a2⟩
    · have hm : (ansT f k id n 0).toNatClampNeg = m' := by rw [a4]; exact nI_clamp (by omega)
      rw [hm]
      exact ⟨fun c a b d => by rw [cpT_rd (by omega), if_neg (by omega), pk_un (by omega)], loc_cp (loc.rf.u (by omega) (by omega)) _ (by omega) (by omega)⟩
    · rw [a2] at h1; exact absurd (by decide) h1
theorem relN.answ {f F : Nat → Int32} {k q : Nat} {x : NS} {C : List (Int32 × Nat)} {ad : Nat → Int32 × Int32} (h : relN f k q x) (hA : rA F k C ad) (hF : ∀ c, c < 256 → c ≠ 25 → (c < 74 ∨ 86 ≤ c) → F (256 * k + c) = f (256 * k + c)) : relN F k q (x.ph, x.cu, x.g, x.s, x.e, x.W, x.R, C, ad) := by
  obtain ⟨V, ⟨c1, k2, kW, kR, kA, k6, k7⟩, gF, gP, gB⟩ := h
  refine ⟨V, ⟨c1.fr (fun c hc => hF c (by omega) (by omega) (by omega)), ?_, kW.fr (fun c hc => hF c (by omega) (by omega) (by omega)), kR.fr (fun c hc => hF c (by omega) (by omega) (by omega)), hA, k6, ?_⟩, gF.fr kW.2.2.2.2.1 (fun c hc => hF c (by omega) (by omega) (by omega)), gP.fr (fun c hc => hF c (by omega) (by omega) (by omega)), gB.fr (fun c hc => hF c (by omega) (by omega) (by omega))⟩
  · rw [hF 13 (by omega) (by omega) (by omega)]; exact k2
  · rw [hF 19 (by omega) (by omega) (by omega)]; exact k7
