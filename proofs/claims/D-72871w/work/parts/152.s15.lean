/-! the number of sent frames: it stays or grows by one in a bit time -/
set_option maxRecDepth 100000
theorem iteA {p : Prop} [Decidable p] {F G : Nat → Int32} {j : Nat} {P : Int32 → Prop} (h1 : P (F j)) (h2 : P (G j)) : P ((if p then F else G) j) := by
  by_cases h : p
  · rw [if_pos h]; exact h1
  · rw [if_neg h]; exact h2
theorem g22_F2 {g : Nat → Int32} {kd : Nat} {pl : Int32} : cF2 g kd pl 22 = g 22 := by
  unfold cF2
  exact iteA (P := fun z => z = g 22) rfl (iteA (P := fun z => z = g 22) (iteA (P := fun z => z = g 22) rfl rfl) rfl)
theorem g22_fail {g : Nat → Int32} {kd : Nat} {pl ol : Int32} : cFailG g kd pl ol 22 = g 22 := by
  unfold cFailG
  exact iteA (P := fun z => z = g 22) g22_F2 g22_F2
theorem g22_run {g : Nat → Int32} {sm : Int32} : cRunG g sm 22 = g 22 := rfl
theorem g22_st {g s : Nat → Int32} {sm pl ol : Int32} : cStG g s sm pl ol 22 = g 22 := by
  unfold cStG
  refine iteA (P := fun z => z = g 22) (iteA (P := fun z => z = g 22) (iteA (P := fun z => z = g 22) rfl g22_fail) (iteA (P := fun z => z = g 22) rfl g22_fail)) (iteA (P := fun z => z = g 22) (iteA (P := fun z => z = g 22) g22_fail rfl) (iteA (P := fun z => z = g 22) rfl (iteA (P := fun z => z = g 22) g22_fail (iteA (P := fun z => z = g 22) (iteA (P := fun z => z = g 22) g22_fail rfl) g22_fail))))
abbrev inc1 (a : Int32) : Int32 → Prop := fun z => z = a ∨ z = a + 1
theorem g22_acc {g s : Nat → Int32} {pl : Int32} {W R : List pqE} {C : List (Int32 × Nat)} : cAccG g s pl W R C 22 = g 22 := by
  unfold cAccG
  exact iteA (P := fun z => z = g 22) (iteA (P := fun z => z = g 22) (iteA (P := fun z => z = g 22) rfl rfl) (iteA (P := fun z => z = g 22) rfl rfl)) rfl
theorem g22_tl {g s : Nat → Int32} {sm pl ol : Int32} {W R : List pqE} {C : List (Int32 × Nat)} : inc1 (g 22) (cTlG g s sm pl ol W R C 22) := by
  unfold cTlG
  refine iteA (P := inc1 (g 22)) (Or.inl rfl) (iteA (P := inc1 (g 22)) (Or.inl rfl) (iteA (P := inc1 (g 22)) ?_ (iteA (P := inc1 (g 22)) (Or.inl g22_acc) (Or.inl g22_fail))))
  unfold cFinG
  exact iteA (P := inc1 (g 22)) (Or.inl rfl) (Or.inr rfl)
theorem g22_act {x : NS} {sm pl ol rv : Int32} {ca y : Nat} : inc1 (x.g 22) ((nAct x sm pl ol rv ca y).g 22) := by
  unfold nAct
  by_cases h1 : x.ph = 1
  · rw [if_pos h1]
    show inc1 (x.g 22) (cSilG x.g sm rv 22)
    unfold cSilG
    exact iteA (P := inc1 (x.g 22)) (iteA (P := inc1 (x.g 22)) (Or.inl rfl) (Or.inl rfl)) (Or.inl rfl)
  rw [if_neg h1]
  by_cases h2 : x.ph = 2
  · rw [if_pos h2]
    show inc1 (x.g 22) (cLisG x.g sm 22)
    unfold cLisG
    exact iteA (P := inc1 (x.g 22)) (Or.inl rfl) (Or.inl rfl)
  rw [if_neg h2]
  by_cases h3 : x.ph = 3
  · rw [if_pos h3]
    show inc1 (x.g 22) (cRdyG x.g sm pl ol 22)
    unfold cRdyG
    exact iteA (P := inc1 (x.g 22)) (Or.inl rfl) (iteA (P := inc1 (x.g 22)) (Or.inl g22_fail) (Or.inl rfl))
  rw [if_neg h3]
  by_cases h4 : x.ph = 4
  · rw [if_pos h4]
    show inc1 (x.g 22) (cBsyG x.g x.s sm pl ol x.W x.R x.C 22)
    unfold cBsyG
    exact iteA (P := inc1 (x.g 22)) (Or.inl g22_st) g22_tl
  rw [if_neg h4]
  by_cases h5 : x.ph = 5
  · rw [if_pos h5]
    show inc1 (x.g 22) (cFlagG x.g true 22)
    unfold cFlagG
    exact iteA (P := inc1 (x.g 22)) (Or.inl rfl) (Or.inl rfl)
  rw [if_neg h5]
  by_cases h6 : x.ph = 6
  · rw [if_pos h6]
    show inc1 (x.g 22) (cFlagG x.g false 22)
    unfold cFlagG
    exact iteA (P := inc1 (x.g 22)) (Or.inl rfl) (Or.inl rfl)
  rw [if_neg h6]
  by_cases h7 : x.ph = 7
  · rw [if_pos h7]
    show inc1 (x.g 22) (cDelG x.g sm pl ol 22)
    unfold cDelG
    exact iteA (P := inc1 (x.g 22)) (iteA (P := inc1 (x.g 22)) (Or.inl rfl) (Or.inl rfl)) (iteA (P := inc1 (x.g 22)) (Or.inl rfl) (iteA (P := inc1 (x.g 22)) (iteA (P := inc1 (x.g 22)) (Or.inl rfl) (iteA (P := inc1 (x.g 22)) (Or.inl rfl) (Or.inl rfl))) (Or.inl g22_fail)))
  rw [if_neg h7]
  by_cases h8 : x.ph = 8
  · rw [if_pos h8]
    show inc1 (x.g 22) (cIntG x.g sm pl 22)
    unfold cIntG
    exact iteA (P := inc1 (x.g 22)) (iteA (P := inc1 (x.g 22)) (Or.inl rfl) (Or.inl rfl)) (iteA (P := inc1 (x.g 22)) (Or.inl rfl) (Or.inl rfl))
  rw [if_neg h8]
  by_cases h9 : x.ph = 9
  · rw [if_pos h9]
    show inc1 (x.g 22) (cSusG x.g sm 22)
    unfold cSusG
    exact iteA (P := inc1 (x.g 22)) (Or.inl rfl) (iteA (P := inc1 (x.g 22)) (Or.inl rfl) (Or.inl rfl))
  rw [if_neg h9]
  exact Or.inl rfl
theorem fresh_y (W : List pqE) : ∃ y : Nat, ∀ e ∈ W, e.1 ≠ y := by
  induction W with
  | nil => exact ⟨0, fun e he => by cases he⟩
  | cons a W ih =>
    have key : ∀ W : List pqE, ∃ y : Nat, ∀ e ∈ W, e.1 < y := by
      intro W
      induction W with
      | nil => exact ⟨0, fun e he => by cases he⟩
      | cons b W ih2 =>
        obtain ⟨y, hy⟩ := ih2
        refine ⟨y + b.1 + 1, fun e he => ?_⟩
        rcases List.mem_cons.mp he with rfl | he
        · omega
        · have := hy e he; omega
    obtain ⟨y, hy⟩ := key (a :: W)
    exact ⟨y, fun e he z => by have := hy e he; omega⟩
theorem sent_step {f : Nat → Int32} {q : Nat} {x0 x1 x2 x3 : NS} {D : List dsE} {hs : Nat → Int32} {tn : Nat} {pl ol rv : Int32} (h : relB f q x0 x1 x2 x3 D hs tn pl ol rv) (hq : q < 1000000) : ∀ k, k < 4 → ∃ n, n ≤ q ∧ f (256 * k + 14) = nI n ∧ (T_bit f (256 * k + 14) = nI n ∨ T_bit f (256 * k + 14) = nI (n + 1)) := by
  have h0 := h
  obtain ⟨⟨r0, r1, r2, r3⟩, -⟩ := h0
  obtain ⟨ca0, d0, pn0, ln0, hc0⟩ := r0.cur
  obtain ⟨ca1, d1, pn1, ln1, hc1⟩ := r1.cur
  obtain ⟨ca2, d2, pn2, ln2, hc2⟩ := r2.cur
  obtain ⟨ca3, d3, pn3, ln3, hc3⟩ := r3.cur
  obtain ⟨y0, hy0⟩ := fresh_y (nDr x0 (T_drv f 0)).W
  obtain ⟨y1, hy1⟩ := fresh_y (nDr x1 (T_drv f 1)).W
  obtain ⟨y2, hy2⟩ := fresh_y (nDr x2 (T_drv f 2)).W
  obtain ⟨y3, hy3⟩ := fresh_y (nDr x3 (T_drv f 3)).W
  have hS := sim_step (y0 := y0) (y1 := y1) (y2 := y2) (y3 := y3) h hq rfl rfl rfl rfl (nDr_cu hc0) (nDr_cu hc1) (nDr_cu hc2) (nDr_cu hc3) (fun _ => hy0) (fun _ => hy1) (fun _ => hy2) (fun _ => hy3)
  have one : ∀ {k : Nat} {x : NS} {v sm : Int32} {ca y : Nat}, relN f k q x → relN (T_bit f) k (q + 1) (nAct (nDr x v) sm pl ol rv ca y) → ∃ n, n ≤ q ∧ f (256 * k + 14) = nI n ∧ (T_bit f (256 * k + 14) = nI n ∨ T_bit f (256 * k + 14) = nI (n + 1)) := by
    intro k x v sm ca y ⟨V, a⟩ ⟨V', b⟩
    obtain ⟨⟨n, n1, n2⟩, n3⟩ := a.1.1.2.2.2.2.2.1
    have e : T_bit f (256 * k + 14) = (nAct (nDr x v) sm pl ol rv ca y).g 22 := b.1.1.2.2.2.2.2.1.2
    have g : (nDr x v).g 22 = x.g 22 := by show (nDrvX x).g 22 = x.g 22; rw [nDrvX_g]
    have z := g22_act (x := nDr x v) (sm := sm) (pl := pl) (ol := ol) (rv := rv) (ca := ca) (y := y)
    rw [g, ← n3, n1] at z
    refine ⟨n, n2, n1, ?_⟩
    rw [e]
    rcases z with z | z
    · exact Or.inl z
    · exact Or.inr (z.trans (nI_1 n))
  intro k hk
  rcases (show k = 0 ∨ k = 1 ∨ k = 2 ∨ k = 3 by omega) with rfl | rfl | rfl | rfl
  · exact one r0 hS.1.1
  · exact one r1 hS.1.2.1
  · exact one r2 hS.1.2.2.1
  · exact one r3 hS.1.2.2.2
